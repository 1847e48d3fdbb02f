/-! SturmRootsModel -/
set_option maxRecDepth 100000
def RX4 : String := "SturmRootsModel"
def TX4 : u_T := fun k => match k with
  | 0 => ("SturmRootsModel", "thrown", "I", false)
  | 1 => ("SturmRootsModel", "slots", "[[I", true)
  | 2 => ("SturmRootsModel", "t", "[I", true)
  | 3 => ("SturmRootsModel", "u", "[I", true)
  | 4 => ("SturmRootsModel", "v", "[I", true)
  | 5 => ("SturmRootsModel", "w", "[I", true)
  | 6 => ("SturmRootsModel", "x", "[I", true)
  | 7 => ("SturmRootsModel", "y", "[I", true)
  | 8 => ("SturmRootsModel", "one", "[[I", true)
  | 9 => ("SturmRootsModel", "other", "[[I", true)
  | 10 => ("SturmRootsModel", "third", "[[I", true)
  | 11 => ("SturmRootsModel", "common", "[[I", true)
  | 12 => ("SturmRootsModel", "free", "[[I", true)
  | 13 => ("SturmRootsModel", "halves", "[[[I", true)
  | 14 => ("SturmRootsModel", "came", "[I", true)
  | 15 => ("SturmRootsModel", "round", "[[I", true)
  | 16 => ("SturmRootsModel", "made", "[J", true)
  | 17 => ("SturmRootsModel", "here", "[[I", true)
  | 18 => ("SturmRootsModel", "row", "[[[I", true)
  | 19 => ("SturmRootsModel", "length", "I", false)
  | 20 => ("SturmRootsModel", "kept", "[I", true)
  | 21 => ("SturmRootsModel", "keptFree", "[[I", true)
  | 22 => ("SturmRootsModel", "level", "[I", false)
  | 23 => ("SturmRootsModel", "low", "[I", false)
  | 24 => ("SturmRootsModel", "high", "[I", false)
  | 25 => ("SturmRootsModel", "roots", "[I", false)
  | _ => ("SturmRootsModel", "many", "I", false)
def tyX4 : Nat → FieldType := fun k => match k with
  | 0 => .int
  | 1 => .array (.array .int)
  | 2 => .array .int
  | 3 => .array .int
  | 4 => .array .int
  | 5 => .array .int
  | 6 => .array .int
  | 7 => .array .int
  | 8 => .array (.array .int)
  | 9 => .array (.array .int)
  | 10 => .array (.array .int)
  | 11 => .array (.array .int)
  | 12 => .array (.array .int)
  | 13 => .array (.array (.array .int))
  | 14 => .array .int
  | 15 => .array (.array .int)
  | 16 => .array .long
  | 17 => .array (.array .int)
  | 18 => .array (.array (.array .int))
  | 19 => .int
  | 20 => .array .int
  | 21 => .array (.array .int)
  | 22 => .array .int
  | 23 => .array .int
  | 24 => .array .int
  | 25 => .array .int
  | _ => .int
abbrev wsX40 : List Cond := u_ws RX4 TX4 27
set_option maxRecDepth 100000 in
theorem nmX4 : ∀ a, a < 27 → ∀ b, b < 27 → a ≠ b → (TX4 a).2.1 ≠ (TX4 b).2.1 := by decide +kernel
set_option maxRecDepth 100000 in
theorem tyX4_ok : ∀ k, k < 27 → parseFieldDescriptor (TX4 k).2.2.1 = some (tyX4 k) := by decide +kernel
abbrev cX4_init : ByteArray := prog_6_method_1_code
def yX4_init : MethodName := ⟨RX4, "<init>", "()V"⟩
def dkwX4_init_10 : List UInt8 := [16, 64, 188, 10, 181, 0, 84, 177]
abbrev dktX4_init_10 : List UInt8 := dkwX4_init_10 ++ []
def dkwX4_init_9 : List UInt8 := [16, 64, 188, 10, 181, 0, 75, 42, 16, 64, 188, 10, 181, 0, 78, 42, 16, 64, 188, 10, 181, 0, 81, 42]
abbrev dktX4_init_9 : List UInt8 := dkwX4_init_9 ++ dktX4_init_10
def dkwX4_init_8 : List UInt8 := [181, 0, 66, 42, 16, 7, 188, 10, 181, 0, 69, 42, 16, 7, 16, 48, 197, 0, 9, 2, 181, 0, 72, 42]
abbrev dktX4_init_8 : List UInt8 := dkwX4_init_8 ++ dktX4_init_9
def dkwX4_init_7 : List UInt8 := [16, 7, 16, 48, 197, 0, 9, 2, 181, 0, 63, 42, 16, 8, 16, 7, 16, 48, 197, 0, 48, 3]
abbrev dktX4_init_7 : List UInt8 := dkwX4_init_7 ++ dktX4_init_8
def dkwX4_init_6 : List UInt8 := [181, 0, 53, 42, 16, 7, 16, 48, 197, 0, 9, 2, 181, 0, 56, 42, 16, 14, 188, 11, 181, 0, 59, 42]
abbrev dktX4_init_6 : List UInt8 := dkwX4_init_6 ++ dktX4_init_7
def dkwX4_init_5 : List UInt8 := [181, 0, 45, 42, 17, 0, 160, 16, 7, 16, 48, 197, 0, 48, 3, 181, 0, 50, 42, 17, 0, 160, 188, 10]
abbrev dktX4_init_5 : List UInt8 := dkwX4_init_5 ++ dktX4_init_6
def dkwX4_init_4 : List UInt8 := [181, 0, 39, 42, 16, 7, 16, 48, 197, 0, 9, 2, 181, 0, 42, 42, 16, 7, 16, 48, 197, 0, 9, 2]
abbrev dktX4_init_4 : List UInt8 := dkwX4_init_4 ++ dktX4_init_5
def dkwX4_init_3 : List UInt8 := [181, 0, 33, 42, 16, 7, 16, 48, 197, 0, 9, 2, 181, 0, 36, 42, 16, 7, 16, 48, 197, 0, 9, 2]
abbrev dktX4_init_3 : List UInt8 := dkwX4_init_3 ++ dktX4_init_4
def dkwX4_init_2 : List UInt8 := [16, 48, 188, 10, 181, 0, 27, 42, 16, 48, 188, 10, 181, 0, 30, 42, 16, 7, 16, 48, 197, 0, 9, 2]
abbrev dktX4_init_2 : List UInt8 := dkwX4_init_2 ++ dktX4_init_3
def dkwX4_init_1 : List UInt8 := [16, 48, 188, 10, 181, 0, 18, 42, 16, 48, 188, 10, 181, 0, 21, 42, 16, 48, 188, 10, 181, 0, 24, 42]
abbrev dktX4_init_1 : List UInt8 := dkwX4_init_1 ++ dktX4_init_2
def dkwX4_init_0 : List UInt8 := [42, 183, 0, 1, 42, 8, 16, 7, 197, 0, 9, 2, 181, 0, 11, 42, 16, 48, 188, 10, 181, 0, 14, 42]
abbrev dktX4_init_0 : List UInt8 := dkwX4_init_0 ++ dktX4_init_1
theorem dksX4_init_0 : cX4_init.data.toList.drop 0 = dktX4_init_0 := by decide +kernel
theorem dksX4_init_1 : cX4_init.data.toList.drop 24 = dktX4_init_1 := dk_seg dksX4_init_0 24 rfl rfl
theorem dksX4_init_2 : cX4_init.data.toList.drop 48 = dktX4_init_2 := dk_seg dksX4_init_1 24 rfl rfl
theorem dksX4_init_3 : cX4_init.data.toList.drop 72 = dktX4_init_3 := dk_seg dksX4_init_2 24 rfl rfl
theorem dksX4_init_4 : cX4_init.data.toList.drop 96 = dktX4_init_4 := dk_seg dksX4_init_3 24 rfl rfl
theorem dksX4_init_5 : cX4_init.data.toList.drop 120 = dktX4_init_5 := dk_seg dksX4_init_4 24 rfl rfl
theorem dksX4_init_6 : cX4_init.data.toList.drop 144 = dktX4_init_6 := dk_seg dksX4_init_5 24 rfl rfl
theorem dksX4_init_7 : cX4_init.data.toList.drop 168 = dktX4_init_7 := dk_seg dksX4_init_6 24 rfl rfl
theorem dksX4_init_8 : cX4_init.data.toList.drop 190 = dktX4_init_8 := dk_seg dksX4_init_7 22 rfl rfl
theorem dksX4_init_9 : cX4_init.data.toList.drop 214 = dktX4_init_9 := dk_seg dksX4_init_8 24 rfl rfl
theorem dksX4_init_10 : cX4_init.data.toList.drop 238 = dktX4_init_10 := dk_seg dksX4_init_9 24 rfl rfl
theorem dX4_init_0 : decode cX4_init 0 = .ok (.aload_n 0, 1) := dk_42 (dk_at dksX4_init_0 0 rfl rfl)
theorem dX4_init_1 : decode cX4_init 1 = .ok (.invokespecial 1, 3) := dk_183 0 1 (dk_at dksX4_init_0 1 rfl rfl)
theorem dX4_init_4 : decode cX4_init 4 = .ok (.aload_n 0, 1) := dk_42 (dk_at dksX4_init_0 4 rfl rfl)
theorem dX4_init_5 : decode cX4_init 5 = .ok (.iconst 5, 1) := dk_8 (dk_at dksX4_init_0 5 rfl rfl)
theorem dX4_init_6 : decode cX4_init 6 = .ok (.bipush 7, 2) := dk_16 7 (dk_at dksX4_init_0 6 rfl rfl)
theorem dX4_init_8 : decode cX4_init 8 = .ok (.multianewarray 9 2, 4) := by decide +kernel
theorem dX4_init_12 : decode cX4_init 12 = .ok (.putfield 11, 3) := dk_181 0 11 (dk_at dksX4_init_0 12 rfl rfl)
theorem dX4_init_15 : decode cX4_init 15 = .ok (.aload_n 0, 1) := dk_42 (dk_at dksX4_init_0 15 rfl rfl)
theorem dX4_init_16 : decode cX4_init 16 = .ok (.bipush 48, 2) := dk_16 48 (dk_at dksX4_init_0 16 rfl rfl)
theorem dX4_init_18 : decode cX4_init 18 = .ok (.newarray .int, 2) := dk_188_10 (dk_at dksX4_init_0 18 rfl rfl)
theorem dX4_init_20 : decode cX4_init 20 = .ok (.putfield 14, 3) := dk_181 0 14 (dk_at dksX4_init_0 20 rfl rfl)
theorem dX4_init_23 : decode cX4_init 23 = .ok (.aload_n 0, 1) := dk_42 (dk_at dksX4_init_0 23 rfl rfl)
theorem dX4_init_24 : decode cX4_init 24 = .ok (.bipush 48, 2) := dk_16 48 (dk_at dksX4_init_1 0 rfl rfl)
theorem dX4_init_26 : decode cX4_init 26 = .ok (.newarray .int, 2) := dk_188_10 (dk_at dksX4_init_1 2 rfl rfl)
theorem dX4_init_28 : decode cX4_init 28 = .ok (.putfield 18, 3) := dk_181 0 18 (dk_at dksX4_init_1 4 rfl rfl)
theorem dX4_init_31 : decode cX4_init 31 = .ok (.aload_n 0, 1) := dk_42 (dk_at dksX4_init_1 7 rfl rfl)
theorem dX4_init_32 : decode cX4_init 32 = .ok (.bipush 48, 2) := dk_16 48 (dk_at dksX4_init_1 8 rfl rfl)
theorem dX4_init_34 : decode cX4_init 34 = .ok (.newarray .int, 2) := dk_188_10 (dk_at dksX4_init_1 10 rfl rfl)
theorem dX4_init_36 : decode cX4_init 36 = .ok (.putfield 21, 3) := dk_181 0 21 (dk_at dksX4_init_1 12 rfl rfl)
theorem dX4_init_39 : decode cX4_init 39 = .ok (.aload_n 0, 1) := dk_42 (dk_at dksX4_init_1 15 rfl rfl)
theorem dX4_init_40 : decode cX4_init 40 = .ok (.bipush 48, 2) := dk_16 48 (dk_at dksX4_init_1 16 rfl rfl)
theorem dX4_init_42 : decode cX4_init 42 = .ok (.newarray .int, 2) := dk_188_10 (dk_at dksX4_init_1 18 rfl rfl)
theorem dX4_init_44 : decode cX4_init 44 = .ok (.putfield 24, 3) := dk_181 0 24 (dk_at dksX4_init_1 20 rfl rfl)
theorem dX4_init_47 : decode cX4_init 47 = .ok (.aload_n 0, 1) := dk_42 (dk_at dksX4_init_1 23 rfl rfl)
theorem dX4_init_48 : decode cX4_init 48 = .ok (.bipush 48, 2) := dk_16 48 (dk_at dksX4_init_2 0 rfl rfl)
theorem dX4_init_50 : decode cX4_init 50 = .ok (.newarray .int, 2) := dk_188_10 (dk_at dksX4_init_2 2 rfl rfl)
theorem dX4_init_52 : decode cX4_init 52 = .ok (.putfield 27, 3) := dk_181 0 27 (dk_at dksX4_init_2 4 rfl rfl)
theorem dX4_init_55 : decode cX4_init 55 = .ok (.aload_n 0, 1) := dk_42 (dk_at dksX4_init_2 7 rfl rfl)
theorem dX4_init_56 : decode cX4_init 56 = .ok (.bipush 48, 2) := dk_16 48 (dk_at dksX4_init_2 8 rfl rfl)
theorem dX4_init_58 : decode cX4_init 58 = .ok (.newarray .int, 2) := dk_188_10 (dk_at dksX4_init_2 10 rfl rfl)
theorem dX4_init_60 : decode cX4_init 60 = .ok (.putfield 30, 3) := dk_181 0 30 (dk_at dksX4_init_2 12 rfl rfl)
theorem dX4_init_63 : decode cX4_init 63 = .ok (.aload_n 0, 1) := dk_42 (dk_at dksX4_init_2 15 rfl rfl)
theorem dX4_init_64 : decode cX4_init 64 = .ok (.bipush 7, 2) := dk_16 7 (dk_at dksX4_init_2 16 rfl rfl)
theorem dX4_init_66 : decode cX4_init 66 = .ok (.bipush 48, 2) := dk_16 48 (dk_at dksX4_init_2 18 rfl rfl)
theorem dX4_init_68 : decode cX4_init 68 = .ok (.multianewarray 9 2, 4) := by decide +kernel
theorem dX4_init_72 : decode cX4_init 72 = .ok (.putfield 33, 3) := dk_181 0 33 (dk_at dksX4_init_3 0 rfl rfl)
theorem dX4_init_75 : decode cX4_init 75 = .ok (.aload_n 0, 1) := dk_42 (dk_at dksX4_init_3 3 rfl rfl)
theorem dX4_init_76 : decode cX4_init 76 = .ok (.bipush 7, 2) := dk_16 7 (dk_at dksX4_init_3 4 rfl rfl)
theorem dX4_init_78 : decode cX4_init 78 = .ok (.bipush 48, 2) := dk_16 48 (dk_at dksX4_init_3 6 rfl rfl)
theorem dX4_init_80 : decode cX4_init 80 = .ok (.multianewarray 9 2, 4) := by decide +kernel
theorem dX4_init_84 : decode cX4_init 84 = .ok (.putfield 36, 3) := dk_181 0 36 (dk_at dksX4_init_3 12 rfl rfl)
theorem dX4_init_87 : decode cX4_init 87 = .ok (.aload_n 0, 1) := dk_42 (dk_at dksX4_init_3 15 rfl rfl)
theorem dX4_init_88 : decode cX4_init 88 = .ok (.bipush 7, 2) := dk_16 7 (dk_at dksX4_init_3 16 rfl rfl)
theorem dX4_init_90 : decode cX4_init 90 = .ok (.bipush 48, 2) := dk_16 48 (dk_at dksX4_init_3 18 rfl rfl)
theorem dX4_init_92 : decode cX4_init 92 = .ok (.multianewarray 9 2, 4) := by decide +kernel
theorem dX4_init_96 : decode cX4_init 96 = .ok (.putfield 39, 3) := dk_181 0 39 (dk_at dksX4_init_4 0 rfl rfl)
theorem dX4_init_99 : decode cX4_init 99 = .ok (.aload_n 0, 1) := dk_42 (dk_at dksX4_init_4 3 rfl rfl)
theorem dX4_init_100 : decode cX4_init 100 = .ok (.bipush 7, 2) := dk_16 7 (dk_at dksX4_init_4 4 rfl rfl)
theorem dX4_init_102 : decode cX4_init 102 = .ok (.bipush 48, 2) := dk_16 48 (dk_at dksX4_init_4 6 rfl rfl)
theorem dX4_init_104 : decode cX4_init 104 = .ok (.multianewarray 9 2, 4) := by decide +kernel
theorem dX4_init_108 : decode cX4_init 108 = .ok (.putfield 42, 3) := dk_181 0 42 (dk_at dksX4_init_4 12 rfl rfl)
theorem dX4_init_111 : decode cX4_init 111 = .ok (.aload_n 0, 1) := dk_42 (dk_at dksX4_init_4 15 rfl rfl)
theorem dX4_init_112 : decode cX4_init 112 = .ok (.bipush 7, 2) := dk_16 7 (dk_at dksX4_init_4 16 rfl rfl)
theorem dX4_init_114 : decode cX4_init 114 = .ok (.bipush 48, 2) := dk_16 48 (dk_at dksX4_init_4 18 rfl rfl)
theorem dX4_init_116 : decode cX4_init 116 = .ok (.multianewarray 9 2, 4) := by decide +kernel
theorem dX4_init_120 : decode cX4_init 120 = .ok (.putfield 45, 3) := dk_181 0 45 (dk_at dksX4_init_5 0 rfl rfl)
theorem dX4_init_123 : decode cX4_init 123 = .ok (.aload_n 0, 1) := dk_42 (dk_at dksX4_init_5 3 rfl rfl)
theorem dX4_init_124 : decode cX4_init 124 = .ok (.sipush 160, 3) := dk_17 0 160 (dk_at dksX4_init_5 4 rfl rfl)
theorem dX4_init_127 : decode cX4_init 127 = .ok (.bipush 7, 2) := dk_16 7 (dk_at dksX4_init_5 7 rfl rfl)
theorem dX4_init_129 : decode cX4_init 129 = .ok (.bipush 48, 2) := dk_16 48 (dk_at dksX4_init_5 9 rfl rfl)
theorem dX4_init_131 : decode cX4_init 131 = .ok (.multianewarray 48 3, 4) := by decide +kernel
theorem dX4_init_135 : decode cX4_init 135 = .ok (.putfield 50, 3) := dk_181 0 50 (dk_at dksX4_init_5 15 rfl rfl)
theorem dX4_init_138 : decode cX4_init 138 = .ok (.aload_n 0, 1) := dk_42 (dk_at dksX4_init_5 18 rfl rfl)
theorem dX4_init_139 : decode cX4_init 139 = .ok (.sipush 160, 3) := dk_17 0 160 (dk_at dksX4_init_5 19 rfl rfl)
theorem dX4_init_142 : decode cX4_init 142 = .ok (.newarray .int, 2) := dk_188_10 (dk_at dksX4_init_5 22 rfl rfl)
theorem dX4_init_144 : decode cX4_init 144 = .ok (.putfield 53, 3) := dk_181 0 53 (dk_at dksX4_init_6 0 rfl rfl)
theorem dX4_init_147 : decode cX4_init 147 = .ok (.aload_n 0, 1) := dk_42 (dk_at dksX4_init_6 3 rfl rfl)
theorem dX4_init_148 : decode cX4_init 148 = .ok (.bipush 7, 2) := dk_16 7 (dk_at dksX4_init_6 4 rfl rfl)
theorem dX4_init_150 : decode cX4_init 150 = .ok (.bipush 48, 2) := dk_16 48 (dk_at dksX4_init_6 6 rfl rfl)
theorem dX4_init_152 : decode cX4_init 152 = .ok (.multianewarray 9 2, 4) := by decide +kernel
theorem dX4_init_156 : decode cX4_init 156 = .ok (.putfield 56, 3) := dk_181 0 56 (dk_at dksX4_init_6 12 rfl rfl)
theorem dX4_init_159 : decode cX4_init 159 = .ok (.aload_n 0, 1) := dk_42 (dk_at dksX4_init_6 15 rfl rfl)
theorem dX4_init_160 : decode cX4_init 160 = .ok (.bipush 14, 2) := dk_16 14 (dk_at dksX4_init_6 16 rfl rfl)
theorem dX4_init_162 : decode cX4_init 162 = .ok (.newarray .long, 2) := dk_188_11 (dk_at dksX4_init_6 18 rfl rfl)
theorem dX4_init_164 : decode cX4_init 164 = .ok (.putfield 59, 3) := dk_181 0 59 (dk_at dksX4_init_6 20 rfl rfl)
theorem dX4_init_167 : decode cX4_init 167 = .ok (.aload_n 0, 1) := dk_42 (dk_at dksX4_init_6 23 rfl rfl)
theorem dX4_init_168 : decode cX4_init 168 = .ok (.bipush 7, 2) := dk_16 7 (dk_at dksX4_init_7 0 rfl rfl)
theorem dX4_init_170 : decode cX4_init 170 = .ok (.bipush 48, 2) := dk_16 48 (dk_at dksX4_init_7 2 rfl rfl)
theorem dX4_init_172 : decode cX4_init 172 = .ok (.multianewarray 9 2, 4) := by decide +kernel
theorem dX4_init_176 : decode cX4_init 176 = .ok (.putfield 63, 3) := dk_181 0 63 (dk_at dksX4_init_7 8 rfl rfl)
theorem dX4_init_179 : decode cX4_init 179 = .ok (.aload_n 0, 1) := dk_42 (dk_at dksX4_init_7 11 rfl rfl)
theorem dX4_init_180 : decode cX4_init 180 = .ok (.bipush 8, 2) := dk_16 8 (dk_at dksX4_init_7 12 rfl rfl)
theorem dX4_init_182 : decode cX4_init 182 = .ok (.bipush 7, 2) := dk_16 7 (dk_at dksX4_init_7 14 rfl rfl)
theorem dX4_init_184 : decode cX4_init 184 = .ok (.bipush 48, 2) := dk_16 48 (dk_at dksX4_init_7 16 rfl rfl)
theorem dX4_init_186 : decode cX4_init 186 = .ok (.multianewarray 48 3, 4) := by decide +kernel
theorem dX4_init_190 : decode cX4_init 190 = .ok (.putfield 66, 3) := dk_181 0 66 (dk_at dksX4_init_8 0 rfl rfl)
theorem dX4_init_193 : decode cX4_init 193 = .ok (.aload_n 0, 1) := dk_42 (dk_at dksX4_init_8 3 rfl rfl)
theorem dX4_init_194 : decode cX4_init 194 = .ok (.bipush 7, 2) := dk_16 7 (dk_at dksX4_init_8 4 rfl rfl)
theorem dX4_init_196 : decode cX4_init 196 = .ok (.newarray .int, 2) := dk_188_10 (dk_at dksX4_init_8 6 rfl rfl)
theorem dX4_init_198 : decode cX4_init 198 = .ok (.putfield 69, 3) := dk_181 0 69 (dk_at dksX4_init_8 8 rfl rfl)
theorem dX4_init_201 : decode cX4_init 201 = .ok (.aload_n 0, 1) := dk_42 (dk_at dksX4_init_8 11 rfl rfl)
theorem dX4_init_202 : decode cX4_init 202 = .ok (.bipush 7, 2) := dk_16 7 (dk_at dksX4_init_8 12 rfl rfl)
theorem dX4_init_204 : decode cX4_init 204 = .ok (.bipush 48, 2) := dk_16 48 (dk_at dksX4_init_8 14 rfl rfl)
theorem dX4_init_206 : decode cX4_init 206 = .ok (.multianewarray 9 2, 4) := by decide +kernel
theorem dX4_init_210 : decode cX4_init 210 = .ok (.putfield 72, 3) := dk_181 0 72 (dk_at dksX4_init_8 20 rfl rfl)
theorem dX4_init_213 : decode cX4_init 213 = .ok (.aload_n 0, 1) := dk_42 (dk_at dksX4_init_8 23 rfl rfl)
theorem dX4_init_214 : decode cX4_init 214 = .ok (.bipush 64, 2) := dk_16 64 (dk_at dksX4_init_9 0 rfl rfl)
theorem dX4_init_216 : decode cX4_init 216 = .ok (.newarray .int, 2) := dk_188_10 (dk_at dksX4_init_9 2 rfl rfl)
theorem dX4_init_218 : decode cX4_init 218 = .ok (.putfield 75, 3) := dk_181 0 75 (dk_at dksX4_init_9 4 rfl rfl)
theorem dX4_init_221 : decode cX4_init 221 = .ok (.aload_n 0, 1) := dk_42 (dk_at dksX4_init_9 7 rfl rfl)
theorem dX4_init_222 : decode cX4_init 222 = .ok (.bipush 64, 2) := dk_16 64 (dk_at dksX4_init_9 8 rfl rfl)
theorem dX4_init_224 : decode cX4_init 224 = .ok (.newarray .int, 2) := dk_188_10 (dk_at dksX4_init_9 10 rfl rfl)
theorem dX4_init_226 : decode cX4_init 226 = .ok (.putfield 78, 3) := dk_181 0 78 (dk_at dksX4_init_9 12 rfl rfl)
theorem dX4_init_229 : decode cX4_init 229 = .ok (.aload_n 0, 1) := dk_42 (dk_at dksX4_init_9 15 rfl rfl)
theorem dX4_init_230 : decode cX4_init 230 = .ok (.bipush 64, 2) := dk_16 64 (dk_at dksX4_init_9 16 rfl rfl)
theorem dX4_init_232 : decode cX4_init 232 = .ok (.newarray .int, 2) := dk_188_10 (dk_at dksX4_init_9 18 rfl rfl)
theorem dX4_init_234 : decode cX4_init 234 = .ok (.putfield 81, 3) := dk_181 0 81 (dk_at dksX4_init_9 20 rfl rfl)
theorem dX4_init_237 : decode cX4_init 237 = .ok (.aload_n 0, 1) := dk_42 (dk_at dksX4_init_9 23 rfl rfl)
theorem dX4_init_238 : decode cX4_init 238 = .ok (.bipush 64, 2) := dk_16 64 (dk_at dksX4_init_10 0 rfl rfl)
theorem dX4_init_240 : decode cX4_init 240 = .ok (.newarray .int, 2) := dk_188_10 (dk_at dksX4_init_10 2 rfl rfl)
theorem dX4_init_242 : decode cX4_init 242 = .ok (.putfield 84, 3) := dk_181 0 84 (dk_at dksX4_init_10 4 rfl rfl)
theorem dX4_init_245 : decode cX4_init 245 = .ok (.return_, 1) := dk_177 (dk_at dksX4_init_10 7 rfl rfl)
abbrev cX4_thrown : ByteArray := prog_6_method_2_code
def yX4_thrown : MethodName := ⟨RX4, "thrown", "()I"⟩
theorem dX4_thrown_0 : decode cX4_thrown 0 = .ok (.aload_n 0, 1) := by decide +kernel
theorem dX4_thrown_1 : decode cX4_thrown 1 = .ok (.getfield 87, 3) := by decide +kernel
theorem dX4_thrown_4 : decode cX4_thrown 4 = .ok (.ireturn, 1) := by decide +kernel
abbrev cX4_set : ByteArray := prog_6_method_44_code
def yX4_set : MethodName := ⟨RX4, "set", "(III)I"⟩
def dkwX4_set_2 : List UInt8 := [79, 42, 42, 180, 0, 11, 27, 50, 184, 0, 215, 182, 0, 217, 172]
abbrev dktX4_set_2 : List UInt8 := dkwX4_set_2 ++ []
def dkwX4_set_1 : List UInt8 := [16, 157, 16, 99, 184, 0, 232, 154, 0, 9, 42, 5, 182, 0, 212, 172, 42, 180, 0, 11, 27, 50, 28, 29]
abbrev dktX4_set_1 : List UInt8 := dkwX4_set_1 ++ dktX4_set_2
def dkwX4_set_0 : List UInt8 := [27, 184, 0, 228, 153, 0, 13, 28, 3, 16, 6, 184, 0, 232, 154, 0, 9, 42, 4, 182, 0, 212, 172, 29]
abbrev dktX4_set_0 : List UInt8 := dkwX4_set_0 ++ dktX4_set_1
theorem dksX4_set_0 : cX4_set.data.toList.drop 0 = dktX4_set_0 := by decide +kernel
theorem dksX4_set_1 : cX4_set.data.toList.drop 24 = dktX4_set_1 := dk_seg dksX4_set_0 24 rfl rfl
theorem dksX4_set_2 : cX4_set.data.toList.drop 48 = dktX4_set_2 := dk_seg dksX4_set_1 24 rfl rfl
theorem dX4_set_0 : decode cX4_set 0 = .ok (.iload_n 1, 1) := dk_27 (dk_at dksX4_set_0 0 rfl rfl)
theorem dX4_set_1 : decode cX4_set 1 = .ok (.invokestatic 228, 3) := dk_184 0 228 (dk_at dksX4_set_0 1 rfl rfl)
theorem dX4_set_4 : decode cX4_set 4 = .ok (.ifCond .eq 13, 3) := dk_153 0 13 (dk_at dksX4_set_0 4 rfl rfl)
theorem dX4_set_7 : decode cX4_set 7 = .ok (.iload_n 2, 1) := dk_28 (dk_at dksX4_set_0 7 rfl rfl)
theorem dX4_set_8 : decode cX4_set 8 = .ok (.iconst 0, 1) := dk_3 (dk_at dksX4_set_0 8 rfl rfl)
theorem dX4_set_9 : decode cX4_set 9 = .ok (.bipush 6, 2) := dk_16 6 (dk_at dksX4_set_0 9 rfl rfl)
theorem dX4_set_11 : decode cX4_set 11 = .ok (.invokestatic 232, 3) := dk_184 0 232 (dk_at dksX4_set_0 11 rfl rfl)
theorem dX4_set_14 : decode cX4_set 14 = .ok (.ifCond .ne 9, 3) := dk_154 0 9 (dk_at dksX4_set_0 14 rfl rfl)
theorem dX4_set_17 : decode cX4_set 17 = .ok (.aload_n 0, 1) := dk_42 (dk_at dksX4_set_0 17 rfl rfl)
theorem dX4_set_18 : decode cX4_set 18 = .ok (.iconst 1, 1) := dk_4 (dk_at dksX4_set_0 18 rfl rfl)
theorem dX4_set_19 : decode cX4_set 19 = .ok (.invokevirtual 212, 3) := dk_182 0 212 (dk_at dksX4_set_0 19 rfl rfl)
theorem dX4_set_22 : decode cX4_set 22 = .ok (.ireturn, 1) := dk_172 (dk_at dksX4_set_0 22 rfl rfl)
theorem dX4_set_23 : decode cX4_set 23 = .ok (.iload_n 3, 1) := dk_29 (dk_at dksX4_set_0 23 rfl rfl)
theorem dX4_set_24 : decode cX4_set 24 = .ok (.bipush (-99), 2) := dk_16 157 (dk_at dksX4_set_1 0 rfl rfl)
theorem dX4_set_26 : decode cX4_set 26 = .ok (.bipush 99, 2) := dk_16 99 (dk_at dksX4_set_1 2 rfl rfl)
theorem dX4_set_28 : decode cX4_set 28 = .ok (.invokestatic 232, 3) := dk_184 0 232 (dk_at dksX4_set_1 4 rfl rfl)
theorem dX4_set_31 : decode cX4_set 31 = .ok (.ifCond .ne 9, 3) := dk_154 0 9 (dk_at dksX4_set_1 7 rfl rfl)
theorem dX4_set_34 : decode cX4_set 34 = .ok (.aload_n 0, 1) := dk_42 (dk_at dksX4_set_1 10 rfl rfl)
theorem dX4_set_35 : decode cX4_set 35 = .ok (.iconst 2, 1) := dk_5 (dk_at dksX4_set_1 11 rfl rfl)
theorem dX4_set_36 : decode cX4_set 36 = .ok (.invokevirtual 212, 3) := dk_182 0 212 (dk_at dksX4_set_1 12 rfl rfl)
theorem dX4_set_39 : decode cX4_set 39 = .ok (.ireturn, 1) := dk_172 (dk_at dksX4_set_1 15 rfl rfl)
theorem dX4_set_40 : decode cX4_set 40 = .ok (.aload_n 0, 1) := dk_42 (dk_at dksX4_set_1 16 rfl rfl)
theorem dX4_set_41 : decode cX4_set 41 = .ok (.getfield 11, 3) := dk_180 0 11 (dk_at dksX4_set_1 17 rfl rfl)
theorem dX4_set_44 : decode cX4_set 44 = .ok (.iload_n 1, 1) := dk_27 (dk_at dksX4_set_1 20 rfl rfl)
theorem dX4_set_45 : decode cX4_set 45 = .ok (.aaload, 1) := dk_50 (dk_at dksX4_set_1 21 rfl rfl)
theorem dX4_set_46 : decode cX4_set 46 = .ok (.iload_n 2, 1) := dk_28 (dk_at dksX4_set_1 22 rfl rfl)
theorem dX4_set_47 : decode cX4_set 47 = .ok (.iload_n 3, 1) := dk_29 (dk_at dksX4_set_1 23 rfl rfl)
theorem dX4_set_48 : decode cX4_set 48 = .ok (.iastore, 1) := dk_79 (dk_at dksX4_set_2 0 rfl rfl)
theorem dX4_set_49 : decode cX4_set 49 = .ok (.aload_n 0, 1) := dk_42 (dk_at dksX4_set_2 1 rfl rfl)
theorem dX4_set_50 : decode cX4_set 50 = .ok (.aload_n 0, 1) := dk_42 (dk_at dksX4_set_2 2 rfl rfl)
theorem dX4_set_51 : decode cX4_set 51 = .ok (.getfield 11, 3) := dk_180 0 11 (dk_at dksX4_set_2 3 rfl rfl)
theorem dX4_set_54 : decode cX4_set 54 = .ok (.iload_n 1, 1) := dk_27 (dk_at dksX4_set_2 6 rfl rfl)
theorem dX4_set_55 : decode cX4_set 55 = .ok (.aaload, 1) := dk_50 (dk_at dksX4_set_2 7 rfl rfl)
theorem dX4_set_56 : decode cX4_set 56 = .ok (.invokestatic 215, 3) := dk_184 0 215 (dk_at dksX4_set_2 8 rfl rfl)
theorem dX4_set_59 : decode cX4_set 59 = .ok (.invokevirtual 217, 3) := dk_182 0 217 (dk_at dksX4_set_2 11 rfl rfl)
theorem dX4_set_62 : decode cX4_set 62 = .ok (.ireturn, 1) := dk_172 (dk_at dksX4_set_2 14 rfl rfl)
abbrev cX4_isSlot : ByteArray := prog_6_method_38_code
def yX4_isSlot : MethodName := ⟨RX4, "isSlot", "(I)Z"⟩
def dkwX4_isSlot_0 : List UInt8 := [26, 155, 0, 12, 26, 8, 162, 0, 7, 4, 167, 0, 4, 3, 172]
abbrev dktX4_isSlot_0 : List UInt8 := dkwX4_isSlot_0 ++ []
theorem dksX4_isSlot_0 : cX4_isSlot.data.toList.drop 0 = dktX4_isSlot_0 := by decide +kernel
theorem dX4_isSlot_0 : decode cX4_isSlot 0 = .ok (.iload_n 0, 1) := dk_26 (dk_at dksX4_isSlot_0 0 rfl rfl)
theorem dX4_isSlot_1 : decode cX4_isSlot 1 = .ok (.ifCond .lt 12, 3) := dk_155 0 12 (dk_at dksX4_isSlot_0 1 rfl rfl)
theorem dX4_isSlot_4 : decode cX4_isSlot 4 = .ok (.iload_n 0, 1) := dk_26 (dk_at dksX4_isSlot_0 4 rfl rfl)
theorem dX4_isSlot_5 : decode cX4_isSlot 5 = .ok (.iconst 5, 1) := dk_8 (dk_at dksX4_isSlot_0 5 rfl rfl)
theorem dX4_isSlot_6 : decode cX4_isSlot 6 = .ok (.if_icmp .ge 7, 3) := dk_162 0 7 (dk_at dksX4_isSlot_0 6 rfl rfl)
theorem dX4_isSlot_9 : decode cX4_isSlot 9 = .ok (.iconst 1, 1) := dk_4 (dk_at dksX4_isSlot_0 9 rfl rfl)
theorem dX4_isSlot_10 : decode cX4_isSlot 10 = .ok (.goto 4, 3) := dk_167 0 4 (dk_at dksX4_isSlot_0 10 rfl rfl)
theorem dX4_isSlot_13 : decode cX4_isSlot 13 = .ok (.iconst 0, 1) := dk_3 (dk_at dksX4_isSlot_0 13 rfl rfl)
theorem dX4_isSlot_14 : decode cX4_isSlot 14 = .ok (.ireturn, 1) := dk_172 (dk_at dksX4_isSlot_0 14 rfl rfl)
abbrev cX4_in : ByteArray := prog_6_method_39_code
def yX4_in : MethodName := ⟨RX4, "in", "(III)Z"⟩
def dkwX4_in_0 : List UInt8 := [26, 27, 161, 0, 12, 26, 28, 163, 0, 7, 4, 167, 0, 4, 3, 172]
abbrev dktX4_in_0 : List UInt8 := dkwX4_in_0 ++ []
theorem dksX4_in_0 : cX4_in.data.toList.drop 0 = dktX4_in_0 := by decide +kernel
theorem dX4_in_0 : decode cX4_in 0 = .ok (.iload_n 0, 1) := dk_26 (dk_at dksX4_in_0 0 rfl rfl)
theorem dX4_in_1 : decode cX4_in 1 = .ok (.iload_n 1, 1) := dk_27 (dk_at dksX4_in_0 1 rfl rfl)
theorem dX4_in_2 : decode cX4_in 2 = .ok (.if_icmp .lt 12, 3) := dk_161 0 12 (dk_at dksX4_in_0 2 rfl rfl)
theorem dX4_in_5 : decode cX4_in 5 = .ok (.iload_n 0, 1) := dk_26 (dk_at dksX4_in_0 5 rfl rfl)
theorem dX4_in_6 : decode cX4_in 6 = .ok (.iload_n 2, 1) := dk_28 (dk_at dksX4_in_0 6 rfl rfl)
theorem dX4_in_7 : decode cX4_in 7 = .ok (.if_icmp .gt 7, 3) := dk_163 0 7 (dk_at dksX4_in_0 7 rfl rfl)
theorem dX4_in_10 : decode cX4_in 10 = .ok (.iconst 1, 1) := dk_4 (dk_at dksX4_in_0 10 rfl rfl)
theorem dX4_in_11 : decode cX4_in 11 = .ok (.goto 4, 3) := dk_167 0 4 (dk_at dksX4_in_0 11 rfl rfl)
theorem dX4_in_14 : decode cX4_in 14 = .ok (.iconst 0, 1) := dk_3 (dk_at dksX4_in_0 14 rfl rfl)
theorem dX4_in_15 : decode cX4_in 15 = .ok (.ireturn, 1) := dk_172 (dk_at dksX4_in_0 15 rfl rfl)
abbrev cX4_fails : ByteArray := prog_6_method_3_code
def yX4_fails : MethodName := ⟨RX4, "fails", "(I)I"⟩
def dkwX4_fails_0 : List UInt8 := [42, 27, 181, 0, 87, 3, 172]
abbrev dktX4_fails_0 : List UInt8 := dkwX4_fails_0 ++ []
theorem dksX4_fails_0 : cX4_fails.data.toList.drop 0 = dktX4_fails_0 := by decide +kernel
theorem dX4_fails_0 : decode cX4_fails 0 = .ok (.aload_n 0, 1) := dk_42 (dk_at dksX4_fails_0 0 rfl rfl)
theorem dX4_fails_1 : decode cX4_fails 1 = .ok (.iload_n 1, 1) := dk_27 (dk_at dksX4_fails_0 1 rfl rfl)
theorem dX4_fails_2 : decode cX4_fails 2 = .ok (.putfield 87, 3) := dk_181 0 87 (dk_at dksX4_fails_0 2 rfl rfl)
theorem dX4_fails_5 : decode cX4_fails 5 = .ok (.iconst 0, 1) := dk_3 (dk_at dksX4_fails_0 5 rfl rfl)
theorem dX4_fails_6 : decode cX4_fails 6 = .ok (.ireturn, 1) := dk_172 (dk_at dksX4_fails_0 6 rfl rfl)
abbrev cX4_degree : ByteArray := prog_6_method_23_code
def yX4_degree : MethodName := ⟨RX4, "degree", "([I)I"⟩
def dkwX4_degree_0 : List UInt8 := [16, 6, 60, 27, 155, 0, 15, 42, 27, 46, 154, 0, 9, 132, 1, 255, 167, 255, 243, 27, 172]
abbrev dktX4_degree_0 : List UInt8 := dkwX4_degree_0 ++ []
theorem dksX4_degree_0 : cX4_degree.data.toList.drop 0 = dktX4_degree_0 := by decide +kernel
theorem dX4_degree_0 : decode cX4_degree 0 = .ok (.bipush 6, 2) := dk_16 6 (dk_at dksX4_degree_0 0 rfl rfl)
theorem dX4_degree_2 : decode cX4_degree 2 = .ok (.istore_n 1, 1) := dk_60 (dk_at dksX4_degree_0 2 rfl rfl)
theorem dX4_degree_3 : decode cX4_degree 3 = .ok (.iload_n 1, 1) := dk_27 (dk_at dksX4_degree_0 3 rfl rfl)
theorem dX4_degree_4 : decode cX4_degree 4 = .ok (.ifCond .lt 15, 3) := dk_155 0 15 (dk_at dksX4_degree_0 4 rfl rfl)
theorem dX4_degree_7 : decode cX4_degree 7 = .ok (.aload_n 0, 1) := dk_42 (dk_at dksX4_degree_0 7 rfl rfl)
theorem dX4_degree_8 : decode cX4_degree 8 = .ok (.iload_n 1, 1) := dk_27 (dk_at dksX4_degree_0 8 rfl rfl)
theorem dX4_degree_9 : decode cX4_degree 9 = .ok (.iaload, 1) := dk_46 (dk_at dksX4_degree_0 9 rfl rfl)
theorem dX4_degree_10 : decode cX4_degree 10 = .ok (.ifCond .ne 9, 3) := dk_154 0 9 (dk_at dksX4_degree_0 10 rfl rfl)
theorem dX4_degree_13 : decode cX4_degree 13 = .ok (.iinc 1 (-1), 3) := dk_132 1 255 (dk_at dksX4_degree_0 13 rfl rfl)
theorem dX4_degree_16 : decode cX4_degree 16 = .ok (.goto (-13), 3) := dk_167 255 243 (dk_at dksX4_degree_0 16 rfl rfl)
theorem dX4_degree_19 : decode cX4_degree 19 = .ok (.iload_n 1, 1) := dk_27 (dk_at dksX4_degree_0 19 rfl rfl)
theorem dX4_degree_20 : decode cX4_degree 20 = .ok (.ireturn, 1) := dk_172 (dk_at dksX4_degree_0 20 rfl rfl)
abbrev cX4_tells : ByteArray := prog_6_method_4_code
def yX4_tells : MethodName := ⟨RX4, "tells", "(I)I"⟩
def dkwX4_tells_0 : List UInt8 := [42, 3, 181, 0, 87, 27, 172]
abbrev dktX4_tells_0 : List UInt8 := dkwX4_tells_0 ++ []
theorem dksX4_tells_0 : cX4_tells.data.toList.drop 0 = dktX4_tells_0 := by decide +kernel
theorem dX4_tells_0 : decode cX4_tells 0 = .ok (.aload_n 0, 1) := dk_42 (dk_at dksX4_tells_0 0 rfl rfl)
theorem dX4_tells_1 : decode cX4_tells 1 = .ok (.iconst 0, 1) := dk_3 (dk_at dksX4_tells_0 1 rfl rfl)
theorem dX4_tells_2 : decode cX4_tells 2 = .ok (.putfield 87, 3) := dk_181 0 87 (dk_at dksX4_tells_0 2 rfl rfl)
theorem dX4_tells_5 : decode cX4_tells 5 = .ok (.iload_n 1, 1) := dk_27 (dk_at dksX4_tells_0 5 rfl rfl)
theorem dX4_tells_6 : decode cX4_tells 6 = .ok (.ireturn, 1) := dk_172 (dk_at dksX4_tells_0 6 rfl rfl)
abbrev cX4_coefficient : ByteArray := prog_6_method_45_code
def yX4_coefficient : MethodName := ⟨RX4, "coefficient", "(II)I"⟩
def dkwX4_coefficient_1 : List UInt8 := [28, 46, 182, 0, 217, 167, 0, 8, 42, 4, 182, 0, 212, 172]
abbrev dktX4_coefficient_1 : List UInt8 := dkwX4_coefficient_1 ++ []
def dkwX4_coefficient_0 : List UInt8 := [27, 184, 0, 228, 153, 0, 28, 28, 3, 16, 6, 184, 0, 232, 153, 0, 18, 42, 42, 180, 0, 11, 27, 50]
abbrev dktX4_coefficient_0 : List UInt8 := dkwX4_coefficient_0 ++ dktX4_coefficient_1
theorem dksX4_coefficient_0 : cX4_coefficient.data.toList.drop 0 = dktX4_coefficient_0 := by decide +kernel
theorem dksX4_coefficient_1 : cX4_coefficient.data.toList.drop 24 = dktX4_coefficient_1 := dk_seg dksX4_coefficient_0 24 rfl rfl
theorem dX4_coefficient_0 : decode cX4_coefficient 0 = .ok (.iload_n 1, 1) := dk_27 (dk_at dksX4_coefficient_0 0 rfl rfl)
theorem dX4_coefficient_1 : decode cX4_coefficient 1 = .ok (.invokestatic 228, 3) := dk_184 0 228 (dk_at dksX4_coefficient_0 1 rfl rfl)
theorem dX4_coefficient_4 : decode cX4_coefficient 4 = .ok (.ifCond .eq 28, 3) := dk_153 0 28 (dk_at dksX4_coefficient_0 4 rfl rfl)
theorem dX4_coefficient_7 : decode cX4_coefficient 7 = .ok (.iload_n 2, 1) := dk_28 (dk_at dksX4_coefficient_0 7 rfl rfl)
theorem dX4_coefficient_8 : decode cX4_coefficient 8 = .ok (.iconst 0, 1) := dk_3 (dk_at dksX4_coefficient_0 8 rfl rfl)
theorem dX4_coefficient_9 : decode cX4_coefficient 9 = .ok (.bipush 6, 2) := dk_16 6 (dk_at dksX4_coefficient_0 9 rfl rfl)
theorem dX4_coefficient_11 : decode cX4_coefficient 11 = .ok (.invokestatic 232, 3) := dk_184 0 232 (dk_at dksX4_coefficient_0 11 rfl rfl)
theorem dX4_coefficient_14 : decode cX4_coefficient 14 = .ok (.ifCond .eq 18, 3) := dk_153 0 18 (dk_at dksX4_coefficient_0 14 rfl rfl)
theorem dX4_coefficient_17 : decode cX4_coefficient 17 = .ok (.aload_n 0, 1) := dk_42 (dk_at dksX4_coefficient_0 17 rfl rfl)
theorem dX4_coefficient_18 : decode cX4_coefficient 18 = .ok (.aload_n 0, 1) := dk_42 (dk_at dksX4_coefficient_0 18 rfl rfl)
theorem dX4_coefficient_19 : decode cX4_coefficient 19 = .ok (.getfield 11, 3) := dk_180 0 11 (dk_at dksX4_coefficient_0 19 rfl rfl)
theorem dX4_coefficient_22 : decode cX4_coefficient 22 = .ok (.iload_n 1, 1) := dk_27 (dk_at dksX4_coefficient_0 22 rfl rfl)
theorem dX4_coefficient_23 : decode cX4_coefficient 23 = .ok (.aaload, 1) := dk_50 (dk_at dksX4_coefficient_0 23 rfl rfl)
theorem dX4_coefficient_24 : decode cX4_coefficient 24 = .ok (.iload_n 2, 1) := dk_28 (dk_at dksX4_coefficient_1 0 rfl rfl)
theorem dX4_coefficient_25 : decode cX4_coefficient 25 = .ok (.iaload, 1) := dk_46 (dk_at dksX4_coefficient_1 1 rfl rfl)
theorem dX4_coefficient_26 : decode cX4_coefficient 26 = .ok (.invokevirtual 217, 3) := dk_182 0 217 (dk_at dksX4_coefficient_1 2 rfl rfl)
theorem dX4_coefficient_29 : decode cX4_coefficient 29 = .ok (.goto 8, 3) := dk_167 0 8 (dk_at dksX4_coefficient_1 5 rfl rfl)
theorem dX4_coefficient_32 : decode cX4_coefficient 32 = .ok (.aload_n 0, 1) := dk_42 (dk_at dksX4_coefficient_1 8 rfl rfl)
theorem dX4_coefficient_33 : decode cX4_coefficient 33 = .ok (.iconst 1, 1) := dk_4 (dk_at dksX4_coefficient_1 9 rfl rfl)
theorem dX4_coefficient_34 : decode cX4_coefficient 34 = .ok (.invokevirtual 212, 3) := dk_182 0 212 (dk_at dksX4_coefficient_1 10 rfl rfl)
theorem dX4_coefficient_37 : decode cX4_coefficient 37 = .ok (.ireturn, 1) := dk_172 (dk_at dksX4_coefficient_1 13 rfl rfl)
abbrev cX4_degree_2 : ByteArray := prog_6_method_46_code
def yX4_degree_2 : MethodName := ⟨RX4, "degree", "(I)I"⟩
def dkwX4_degree_2_1 : List UInt8 := [4, 182, 0, 212, 172]
abbrev dktX4_degree_2_1 : List UInt8 := dkwX4_degree_2_1 ++ []
def dkwX4_degree_2_0 : List UInt8 := [27, 184, 0, 228, 153, 0, 19, 42, 42, 180, 0, 11, 27, 50, 184, 0, 215, 182, 0, 217, 167, 0, 8, 42]
abbrev dktX4_degree_2_0 : List UInt8 := dkwX4_degree_2_0 ++ dktX4_degree_2_1
theorem dksX4_degree_2_0 : cX4_degree_2.data.toList.drop 0 = dktX4_degree_2_0 := by decide +kernel
theorem dksX4_degree_2_1 : cX4_degree_2.data.toList.drop 24 = dktX4_degree_2_1 := dk_seg dksX4_degree_2_0 24 rfl rfl
theorem dX4_degree_2_0 : decode cX4_degree_2 0 = .ok (.iload_n 1, 1) := dk_27 (dk_at dksX4_degree_2_0 0 rfl rfl)
theorem dX4_degree_2_1 : decode cX4_degree_2 1 = .ok (.invokestatic 228, 3) := dk_184 0 228 (dk_at dksX4_degree_2_0 1 rfl rfl)
theorem dX4_degree_2_4 : decode cX4_degree_2 4 = .ok (.ifCond .eq 19, 3) := dk_153 0 19 (dk_at dksX4_degree_2_0 4 rfl rfl)
theorem dX4_degree_2_7 : decode cX4_degree_2 7 = .ok (.aload_n 0, 1) := dk_42 (dk_at dksX4_degree_2_0 7 rfl rfl)
theorem dX4_degree_2_8 : decode cX4_degree_2 8 = .ok (.aload_n 0, 1) := dk_42 (dk_at dksX4_degree_2_0 8 rfl rfl)
theorem dX4_degree_2_9 : decode cX4_degree_2 9 = .ok (.getfield 11, 3) := dk_180 0 11 (dk_at dksX4_degree_2_0 9 rfl rfl)
theorem dX4_degree_2_12 : decode cX4_degree_2 12 = .ok (.iload_n 1, 1) := dk_27 (dk_at dksX4_degree_2_0 12 rfl rfl)
theorem dX4_degree_2_13 : decode cX4_degree_2 13 = .ok (.aaload, 1) := dk_50 (dk_at dksX4_degree_2_0 13 rfl rfl)
theorem dX4_degree_2_14 : decode cX4_degree_2 14 = .ok (.invokestatic 215, 3) := dk_184 0 215 (dk_at dksX4_degree_2_0 14 rfl rfl)
theorem dX4_degree_2_17 : decode cX4_degree_2 17 = .ok (.invokevirtual 217, 3) := dk_182 0 217 (dk_at dksX4_degree_2_0 17 rfl rfl)
theorem dX4_degree_2_20 : decode cX4_degree_2 20 = .ok (.goto 8, 3) := dk_167 0 8 (dk_at dksX4_degree_2_0 20 rfl rfl)
theorem dX4_degree_2_23 : decode cX4_degree_2 23 = .ok (.aload_n 0, 1) := dk_42 (dk_at dksX4_degree_2_0 23 rfl rfl)
theorem dX4_degree_2_24 : decode cX4_degree_2 24 = .ok (.iconst 1, 1) := dk_4 (dk_at dksX4_degree_2_1 0 rfl rfl)
theorem dX4_degree_2_25 : decode cX4_degree_2 25 = .ok (.invokevirtual 212, 3) := dk_182 0 212 (dk_at dksX4_degree_2_1 1 rfl rfl)
theorem dX4_degree_2_28 : decode cX4_degree_2 28 = .ok (.ireturn, 1) := dk_172 (dk_at dksX4_degree_2_1 4 rfl rfl)
abbrev cX4_copy : ByteArray := prog_6_method_47_code
def yX4_copy : MethodName := ⟨RX4, "copy", "(II)I"⟩
def dkwX4_copy_2 : List UInt8 := [132, 3, 1, 167, 255, 232, 42, 28, 3, 182, 0, 225, 172]
abbrev dktX4_copy_2 : List UInt8 := dkwX4_copy_2 ++ []
def dkwX4_copy_1 : List UInt8 := [3, 62, 29, 16, 7, 162, 0, 24, 42, 180, 0, 59, 29, 42, 180, 0, 11, 27, 50, 29, 46, 133, 80]
abbrev dktX4_copy_1 : List UInt8 := dkwX4_copy_1 ++ dktX4_copy_2
def dkwX4_copy_0 : List UInt8 := [27, 184, 0, 228, 153, 0, 10, 28, 184, 0, 228, 154, 0, 9, 42, 4, 182, 0, 212, 172, 42, 182, 0, 220]
abbrev dktX4_copy_0 : List UInt8 := dkwX4_copy_0 ++ dktX4_copy_1
theorem dksX4_copy_0 : cX4_copy.data.toList.drop 0 = dktX4_copy_0 := by decide +kernel
theorem dksX4_copy_1 : cX4_copy.data.toList.drop 24 = dktX4_copy_1 := dk_seg dksX4_copy_0 24 rfl rfl
theorem dksX4_copy_2 : cX4_copy.data.toList.drop 47 = dktX4_copy_2 := dk_seg dksX4_copy_1 23 rfl rfl
theorem dX4_copy_0 : decode cX4_copy 0 = .ok (.iload_n 1, 1) := dk_27 (dk_at dksX4_copy_0 0 rfl rfl)
theorem dX4_copy_1 : decode cX4_copy 1 = .ok (.invokestatic 228, 3) := dk_184 0 228 (dk_at dksX4_copy_0 1 rfl rfl)
theorem dX4_copy_4 : decode cX4_copy 4 = .ok (.ifCond .eq 10, 3) := dk_153 0 10 (dk_at dksX4_copy_0 4 rfl rfl)
theorem dX4_copy_7 : decode cX4_copy 7 = .ok (.iload_n 2, 1) := dk_28 (dk_at dksX4_copy_0 7 rfl rfl)
theorem dX4_copy_8 : decode cX4_copy 8 = .ok (.invokestatic 228, 3) := dk_184 0 228 (dk_at dksX4_copy_0 8 rfl rfl)
theorem dX4_copy_11 : decode cX4_copy 11 = .ok (.ifCond .ne 9, 3) := dk_154 0 9 (dk_at dksX4_copy_0 11 rfl rfl)
theorem dX4_copy_14 : decode cX4_copy 14 = .ok (.aload_n 0, 1) := dk_42 (dk_at dksX4_copy_0 14 rfl rfl)
theorem dX4_copy_15 : decode cX4_copy 15 = .ok (.iconst 1, 1) := dk_4 (dk_at dksX4_copy_0 15 rfl rfl)
theorem dX4_copy_16 : decode cX4_copy 16 = .ok (.invokevirtual 212, 3) := dk_182 0 212 (dk_at dksX4_copy_0 16 rfl rfl)
theorem dX4_copy_19 : decode cX4_copy 19 = .ok (.ireturn, 1) := dk_172 (dk_at dksX4_copy_0 19 rfl rfl)
theorem dX4_copy_20 : decode cX4_copy 20 = .ok (.aload_n 0, 1) := dk_42 (dk_at dksX4_copy_0 20 rfl rfl)
theorem dX4_copy_21 : decode cX4_copy 21 = .ok (.invokevirtual 220, 3) := dk_182 0 220 (dk_at dksX4_copy_0 21 rfl rfl)
theorem dX4_copy_24 : decode cX4_copy 24 = .ok (.iconst 0, 1) := dk_3 (dk_at dksX4_copy_1 0 rfl rfl)
theorem dX4_copy_25 : decode cX4_copy 25 = .ok (.istore_n 3, 1) := dk_62 (dk_at dksX4_copy_1 1 rfl rfl)
theorem dX4_copy_26 : decode cX4_copy 26 = .ok (.iload_n 3, 1) := dk_29 (dk_at dksX4_copy_1 2 rfl rfl)
theorem dX4_copy_27 : decode cX4_copy 27 = .ok (.bipush 7, 2) := dk_16 7 (dk_at dksX4_copy_1 3 rfl rfl)
theorem dX4_copy_29 : decode cX4_copy 29 = .ok (.if_icmp .ge 24, 3) := dk_162 0 24 (dk_at dksX4_copy_1 5 rfl rfl)
theorem dX4_copy_32 : decode cX4_copy 32 = .ok (.aload_n 0, 1) := dk_42 (dk_at dksX4_copy_1 8 rfl rfl)
theorem dX4_copy_33 : decode cX4_copy 33 = .ok (.getfield 59, 3) := dk_180 0 59 (dk_at dksX4_copy_1 9 rfl rfl)
theorem dX4_copy_36 : decode cX4_copy 36 = .ok (.iload_n 3, 1) := dk_29 (dk_at dksX4_copy_1 12 rfl rfl)
theorem dX4_copy_37 : decode cX4_copy 37 = .ok (.aload_n 0, 1) := dk_42 (dk_at dksX4_copy_1 13 rfl rfl)
theorem dX4_copy_38 : decode cX4_copy 38 = .ok (.getfield 11, 3) := dk_180 0 11 (dk_at dksX4_copy_1 14 rfl rfl)
theorem dX4_copy_41 : decode cX4_copy 41 = .ok (.iload_n 1, 1) := dk_27 (dk_at dksX4_copy_1 17 rfl rfl)
theorem dX4_copy_42 : decode cX4_copy 42 = .ok (.aaload, 1) := dk_50 (dk_at dksX4_copy_1 18 rfl rfl)
theorem dX4_copy_43 : decode cX4_copy 43 = .ok (.iload_n 3, 1) := dk_29 (dk_at dksX4_copy_1 19 rfl rfl)
theorem dX4_copy_44 : decode cX4_copy 44 = .ok (.iaload, 1) := dk_46 (dk_at dksX4_copy_1 20 rfl rfl)
theorem dX4_copy_45 : decode cX4_copy 45 = .ok (.i2l, 1) := dk_133 (dk_at dksX4_copy_1 21 rfl rfl)
theorem dX4_copy_46 : decode cX4_copy 46 = .ok (.lastore, 1) := dk_80 (dk_at dksX4_copy_1 22 rfl rfl)
theorem dX4_copy_47 : decode cX4_copy 47 = .ok (.iinc 3 1, 3) := dk_132 3 1 (dk_at dksX4_copy_2 0 rfl rfl)
theorem dX4_copy_50 : decode cX4_copy 50 = .ok (.goto (-24), 3) := dk_167 255 232 (dk_at dksX4_copy_2 3 rfl rfl)
theorem dX4_copy_53 : decode cX4_copy 53 = .ok (.aload_n 0, 1) := dk_42 (dk_at dksX4_copy_2 6 rfl rfl)
theorem dX4_copy_54 : decode cX4_copy 54 = .ok (.iload_n 2, 1) := dk_28 (dk_at dksX4_copy_2 7 rfl rfl)
theorem dX4_copy_55 : decode cX4_copy 55 = .ok (.iconst 0, 1) := dk_3 (dk_at dksX4_copy_2 8 rfl rfl)
theorem dX4_copy_56 : decode cX4_copy 56 = .ok (.invokevirtual 225, 3) := dk_182 0 225 (dk_at dksX4_copy_2 9 rfl rfl)
theorem dX4_copy_59 : decode cX4_copy 59 = .ok (.ireturn, 1) := dk_172 (dk_at dksX4_copy_2 12 rfl rfl)
abbrev cX4_clear : ByteArray := prog_6_method_42_code
def yX4_clear : MethodName := ⟨RX4, "clear", "()V"⟩
def dkwX4_clear_1 : List UInt8 := [177]
abbrev dktX4_clear_1 : List UInt8 := dkwX4_clear_1 ++ []
def dkwX4_clear_0 : List UInt8 := [3, 60, 27, 42, 180, 0, 59, 190, 162, 0, 16, 42, 180, 0, 59, 27, 9, 80, 132, 1, 1, 167, 255, 237]
abbrev dktX4_clear_0 : List UInt8 := dkwX4_clear_0 ++ dktX4_clear_1
theorem dksX4_clear_0 : cX4_clear.data.toList.drop 0 = dktX4_clear_0 := by decide +kernel
theorem dksX4_clear_1 : cX4_clear.data.toList.drop 24 = dktX4_clear_1 := dk_seg dksX4_clear_0 24 rfl rfl
theorem dX4_clear_0 : decode cX4_clear 0 = .ok (.iconst 0, 1) := dk_3 (dk_at dksX4_clear_0 0 rfl rfl)
theorem dX4_clear_1 : decode cX4_clear 1 = .ok (.istore_n 1, 1) := dk_60 (dk_at dksX4_clear_0 1 rfl rfl)
theorem dX4_clear_2 : decode cX4_clear 2 = .ok (.iload_n 1, 1) := dk_27 (dk_at dksX4_clear_0 2 rfl rfl)
theorem dX4_clear_3 : decode cX4_clear 3 = .ok (.aload_n 0, 1) := dk_42 (dk_at dksX4_clear_0 3 rfl rfl)
theorem dX4_clear_4 : decode cX4_clear 4 = .ok (.getfield 59, 3) := dk_180 0 59 (dk_at dksX4_clear_0 4 rfl rfl)
theorem dX4_clear_7 : decode cX4_clear 7 = .ok (.arraylength, 1) := dk_190 (dk_at dksX4_clear_0 7 rfl rfl)
theorem dX4_clear_8 : decode cX4_clear 8 = .ok (.if_icmp .ge 16, 3) := dk_162 0 16 (dk_at dksX4_clear_0 8 rfl rfl)
theorem dX4_clear_11 : decode cX4_clear 11 = .ok (.aload_n 0, 1) := dk_42 (dk_at dksX4_clear_0 11 rfl rfl)
theorem dX4_clear_12 : decode cX4_clear 12 = .ok (.getfield 59, 3) := dk_180 0 59 (dk_at dksX4_clear_0 12 rfl rfl)
theorem dX4_clear_15 : decode cX4_clear 15 = .ok (.iload_n 1, 1) := dk_27 (dk_at dksX4_clear_0 15 rfl rfl)
theorem dX4_clear_16 : decode cX4_clear 16 = .ok (.lconst 0, 1) := dk_9 (dk_at dksX4_clear_0 16 rfl rfl)
theorem dX4_clear_17 : decode cX4_clear 17 = .ok (.lastore, 1) := dk_80 (dk_at dksX4_clear_0 17 rfl rfl)
theorem dX4_clear_18 : decode cX4_clear 18 = .ok (.iinc 1 1, 3) := dk_132 1 1 (dk_at dksX4_clear_0 18 rfl rfl)
theorem dX4_clear_21 : decode cX4_clear 21 = .ok (.goto (-19), 3) := dk_167 255 237 (dk_at dksX4_clear_0 21 rfl rfl)
theorem dX4_clear_24 : decode cX4_clear 24 = .ok (.return_, 1) := dk_177 (dk_at dksX4_clear_1 0 rfl rfl)
abbrev cX4_comes : ByteArray := prog_6_method_41_code
def yX4_comes : MethodName := ⟨RX4, "comes", "(II)I"⟩
def dkwX4_comes_4 : List UInt8 := [42, 42, 180, 0, 11, 27, 50, 184, 0, 215, 182, 0, 217, 172]
abbrev dktX4_comes_4 : List UInt8 := dkwX4_comes_4 ++ []
def dkwX4_comes_3 : List UInt8 := [162, 0, 24, 42, 180, 0, 11, 27, 50, 29, 42, 180, 0, 59, 29, 47, 136, 79, 132, 3, 1, 167, 255, 232]
abbrev dktX4_comes_3 : List UInt8 := dkwX4_comes_3 ++ dktX4_comes_4
def dkwX4_comes_2 : List UInt8 := [20, 0, 210, 148, 156, 0, 9, 42, 28, 182, 0, 212, 172, 132, 3, 1, 167, 255, 195, 3, 62, 29, 16, 7]
abbrev dktX4_comes_2 : List UInt8 := dkwX4_comes_2 ++ dktX4_comes_3
def dkwX4_comes_1 : List UInt8 := [148, 154, 0, 29, 42, 180, 0, 59, 29, 47, 20, 0, 208, 148, 157, 0, 16, 42, 180, 0, 59, 29, 47]
abbrev dktX4_comes_1 : List UInt8 := dkwX4_comes_1 ++ dktX4_comes_2
def dkwX4_comes_0 : List UInt8 := [3, 62, 29, 42, 180, 0, 59, 190, 162, 0, 58, 29, 16, 7, 161, 0, 14, 42, 180, 0, 59, 29, 47, 9]
abbrev dktX4_comes_0 : List UInt8 := dkwX4_comes_0 ++ dktX4_comes_1
theorem dksX4_comes_0 : cX4_comes.data.toList.drop 0 = dktX4_comes_0 := by decide +kernel
theorem dksX4_comes_1 : cX4_comes.data.toList.drop 24 = dktX4_comes_1 := dk_seg dksX4_comes_0 24 rfl rfl
theorem dksX4_comes_2 : cX4_comes.data.toList.drop 47 = dktX4_comes_2 := dk_seg dksX4_comes_1 23 rfl rfl
theorem dksX4_comes_3 : cX4_comes.data.toList.drop 71 = dktX4_comes_3 := dk_seg dksX4_comes_2 24 rfl rfl
theorem dksX4_comes_4 : cX4_comes.data.toList.drop 95 = dktX4_comes_4 := dk_seg dksX4_comes_3 24 rfl rfl
theorem dX4_comes_0 : decode cX4_comes 0 = .ok (.iconst 0, 1) := dk_3 (dk_at dksX4_comes_0 0 rfl rfl)
theorem dX4_comes_1 : decode cX4_comes 1 = .ok (.istore_n 3, 1) := dk_62 (dk_at dksX4_comes_0 1 rfl rfl)
theorem dX4_comes_2 : decode cX4_comes 2 = .ok (.iload_n 3, 1) := dk_29 (dk_at dksX4_comes_0 2 rfl rfl)
theorem dX4_comes_3 : decode cX4_comes 3 = .ok (.aload_n 0, 1) := dk_42 (dk_at dksX4_comes_0 3 rfl rfl)
theorem dX4_comes_4 : decode cX4_comes 4 = .ok (.getfield 59, 3) := dk_180 0 59 (dk_at dksX4_comes_0 4 rfl rfl)
theorem dX4_comes_7 : decode cX4_comes 7 = .ok (.arraylength, 1) := dk_190 (dk_at dksX4_comes_0 7 rfl rfl)
theorem dX4_comes_8 : decode cX4_comes 8 = .ok (.if_icmp .ge 58, 3) := dk_162 0 58 (dk_at dksX4_comes_0 8 rfl rfl)
theorem dX4_comes_11 : decode cX4_comes 11 = .ok (.iload_n 3, 1) := dk_29 (dk_at dksX4_comes_0 11 rfl rfl)
theorem dX4_comes_12 : decode cX4_comes 12 = .ok (.bipush 7, 2) := dk_16 7 (dk_at dksX4_comes_0 12 rfl rfl)
theorem dX4_comes_14 : decode cX4_comes 14 = .ok (.if_icmp .lt 14, 3) := dk_161 0 14 (dk_at dksX4_comes_0 14 rfl rfl)
theorem dX4_comes_17 : decode cX4_comes 17 = .ok (.aload_n 0, 1) := dk_42 (dk_at dksX4_comes_0 17 rfl rfl)
theorem dX4_comes_18 : decode cX4_comes 18 = .ok (.getfield 59, 3) := dk_180 0 59 (dk_at dksX4_comes_0 18 rfl rfl)
theorem dX4_comes_21 : decode cX4_comes 21 = .ok (.iload_n 3, 1) := dk_29 (dk_at dksX4_comes_0 21 rfl rfl)
theorem dX4_comes_22 : decode cX4_comes 22 = .ok (.laload, 1) := dk_47 (dk_at dksX4_comes_0 22 rfl rfl)
theorem dX4_comes_23 : decode cX4_comes 23 = .ok (.lconst 0, 1) := dk_9 (dk_at dksX4_comes_0 23 rfl rfl)
theorem dX4_comes_24 : decode cX4_comes 24 = .ok (.lcmp, 1) := dk_148 (dk_at dksX4_comes_1 0 rfl rfl)
theorem dX4_comes_25 : decode cX4_comes 25 = .ok (.ifCond .ne 29, 3) := dk_154 0 29 (dk_at dksX4_comes_1 1 rfl rfl)
theorem dX4_comes_28 : decode cX4_comes 28 = .ok (.aload_n 0, 1) := dk_42 (dk_at dksX4_comes_1 4 rfl rfl)
theorem dX4_comes_29 : decode cX4_comes 29 = .ok (.getfield 59, 3) := dk_180 0 59 (dk_at dksX4_comes_1 5 rfl rfl)
theorem dX4_comes_32 : decode cX4_comes 32 = .ok (.iload_n 3, 1) := dk_29 (dk_at dksX4_comes_1 8 rfl rfl)
theorem dX4_comes_33 : decode cX4_comes 33 = .ok (.laload, 1) := dk_47 (dk_at dksX4_comes_1 9 rfl rfl)
theorem dX4_comes_34 : decode cX4_comes 34 = .ok (.ldc2_w 208, 3) := dk_20 0 208 (dk_at dksX4_comes_1 10 rfl rfl)
theorem dX4_comes_37 : decode cX4_comes 37 = .ok (.lcmp, 1) := dk_148 (dk_at dksX4_comes_1 13 rfl rfl)
theorem dX4_comes_38 : decode cX4_comes 38 = .ok (.ifCond .gt 16, 3) := dk_157 0 16 (dk_at dksX4_comes_1 14 rfl rfl)
theorem dX4_comes_41 : decode cX4_comes 41 = .ok (.aload_n 0, 1) := dk_42 (dk_at dksX4_comes_1 17 rfl rfl)
theorem dX4_comes_42 : decode cX4_comes 42 = .ok (.getfield 59, 3) := dk_180 0 59 (dk_at dksX4_comes_1 18 rfl rfl)
theorem dX4_comes_45 : decode cX4_comes 45 = .ok (.iload_n 3, 1) := dk_29 (dk_at dksX4_comes_1 21 rfl rfl)
theorem dX4_comes_46 : decode cX4_comes 46 = .ok (.laload, 1) := dk_47 (dk_at dksX4_comes_1 22 rfl rfl)
theorem dX4_comes_47 : decode cX4_comes 47 = .ok (.ldc2_w 210, 3) := dk_20 0 210 (dk_at dksX4_comes_2 0 rfl rfl)
theorem dX4_comes_50 : decode cX4_comes 50 = .ok (.lcmp, 1) := dk_148 (dk_at dksX4_comes_2 3 rfl rfl)
theorem dX4_comes_51 : decode cX4_comes 51 = .ok (.ifCond .ge 9, 3) := dk_156 0 9 (dk_at dksX4_comes_2 4 rfl rfl)
theorem dX4_comes_54 : decode cX4_comes 54 = .ok (.aload_n 0, 1) := dk_42 (dk_at dksX4_comes_2 7 rfl rfl)
theorem dX4_comes_55 : decode cX4_comes 55 = .ok (.iload_n 2, 1) := dk_28 (dk_at dksX4_comes_2 8 rfl rfl)
theorem dX4_comes_56 : decode cX4_comes 56 = .ok (.invokevirtual 212, 3) := dk_182 0 212 (dk_at dksX4_comes_2 9 rfl rfl)
theorem dX4_comes_59 : decode cX4_comes 59 = .ok (.ireturn, 1) := dk_172 (dk_at dksX4_comes_2 12 rfl rfl)
theorem dX4_comes_60 : decode cX4_comes 60 = .ok (.iinc 3 1, 3) := dk_132 3 1 (dk_at dksX4_comes_2 13 rfl rfl)
theorem dX4_comes_63 : decode cX4_comes 63 = .ok (.goto (-61), 3) := dk_167 255 195 (dk_at dksX4_comes_2 16 rfl rfl)
theorem dX4_comes_66 : decode cX4_comes 66 = .ok (.iconst 0, 1) := dk_3 (dk_at dksX4_comes_2 19 rfl rfl)
theorem dX4_comes_67 : decode cX4_comes 67 = .ok (.istore_n 3, 1) := dk_62 (dk_at dksX4_comes_2 20 rfl rfl)
theorem dX4_comes_68 : decode cX4_comes 68 = .ok (.iload_n 3, 1) := dk_29 (dk_at dksX4_comes_2 21 rfl rfl)
theorem dX4_comes_69 : decode cX4_comes 69 = .ok (.bipush 7, 2) := dk_16 7 (dk_at dksX4_comes_2 22 rfl rfl)
theorem dX4_comes_71 : decode cX4_comes 71 = .ok (.if_icmp .ge 24, 3) := dk_162 0 24 (dk_at dksX4_comes_3 0 rfl rfl)
theorem dX4_comes_74 : decode cX4_comes 74 = .ok (.aload_n 0, 1) := dk_42 (dk_at dksX4_comes_3 3 rfl rfl)
theorem dX4_comes_75 : decode cX4_comes 75 = .ok (.getfield 11, 3) := dk_180 0 11 (dk_at dksX4_comes_3 4 rfl rfl)
theorem dX4_comes_78 : decode cX4_comes 78 = .ok (.iload_n 1, 1) := dk_27 (dk_at dksX4_comes_3 7 rfl rfl)
theorem dX4_comes_79 : decode cX4_comes 79 = .ok (.aaload, 1) := dk_50 (dk_at dksX4_comes_3 8 rfl rfl)
theorem dX4_comes_80 : decode cX4_comes 80 = .ok (.iload_n 3, 1) := dk_29 (dk_at dksX4_comes_3 9 rfl rfl)
theorem dX4_comes_81 : decode cX4_comes 81 = .ok (.aload_n 0, 1) := dk_42 (dk_at dksX4_comes_3 10 rfl rfl)
theorem dX4_comes_82 : decode cX4_comes 82 = .ok (.getfield 59, 3) := dk_180 0 59 (dk_at dksX4_comes_3 11 rfl rfl)
theorem dX4_comes_85 : decode cX4_comes 85 = .ok (.iload_n 3, 1) := dk_29 (dk_at dksX4_comes_3 14 rfl rfl)
theorem dX4_comes_86 : decode cX4_comes 86 = .ok (.laload, 1) := dk_47 (dk_at dksX4_comes_3 15 rfl rfl)
theorem dX4_comes_87 : decode cX4_comes 87 = .ok (.l2i, 1) := dk_136 (dk_at dksX4_comes_3 16 rfl rfl)
theorem dX4_comes_88 : decode cX4_comes 88 = .ok (.iastore, 1) := dk_79 (dk_at dksX4_comes_3 17 rfl rfl)
theorem dX4_comes_89 : decode cX4_comes 89 = .ok (.iinc 3 1, 3) := dk_132 3 1 (dk_at dksX4_comes_3 18 rfl rfl)
theorem dX4_comes_92 : decode cX4_comes 92 = .ok (.goto (-24), 3) := dk_167 255 232 (dk_at dksX4_comes_3 21 rfl rfl)
theorem dX4_comes_95 : decode cX4_comes 95 = .ok (.aload_n 0, 1) := dk_42 (dk_at dksX4_comes_4 0 rfl rfl)
theorem dX4_comes_96 : decode cX4_comes 96 = .ok (.aload_n 0, 1) := dk_42 (dk_at dksX4_comes_4 1 rfl rfl)
theorem dX4_comes_97 : decode cX4_comes 97 = .ok (.getfield 11, 3) := dk_180 0 11 (dk_at dksX4_comes_4 2 rfl rfl)
theorem dX4_comes_100 : decode cX4_comes 100 = .ok (.iload_n 1, 1) := dk_27 (dk_at dksX4_comes_4 5 rfl rfl)
theorem dX4_comes_101 : decode cX4_comes 101 = .ok (.aaload, 1) := dk_50 (dk_at dksX4_comes_4 6 rfl rfl)
theorem dX4_comes_102 : decode cX4_comes 102 = .ok (.invokestatic 215, 3) := dk_184 0 215 (dk_at dksX4_comes_4 7 rfl rfl)
theorem dX4_comes_105 : decode cX4_comes 105 = .ok (.invokevirtual 217, 3) := dk_182 0 217 (dk_at dksX4_comes_4 10 rfl rfl)
theorem dX4_comes_108 : decode cX4_comes 108 = .ok (.ireturn, 1) := dk_172 (dk_at dksX4_comes_4 13 rfl rfl)
abbrev cX4_add : ByteArray := prog_6_method_48_code
def yX4_add : MethodName := ⟨RX4, "add", "(III)I"⟩
def dkwX4_add_3 : List UInt8 := [167, 255, 219, 42, 29, 5, 182, 0, 225, 172]
abbrev dktX4_add_3 : List UInt8 := dkwX4_add_3 ++ []
def dkwX4_add_2 : List UInt8 := [42, 180, 0, 11, 27, 50, 21, 4, 46, 42, 180, 0, 11, 28, 50, 21, 4, 46, 96, 133, 80, 132, 4, 1]
abbrev dktX4_add_2 : List UInt8 := dkwX4_add_2 ++ dktX4_add_3
def dkwX4_add_1 : List UInt8 := [182, 0, 212, 172, 42, 182, 0, 220, 3, 54, 4, 21, 4, 16, 7, 162, 0, 36, 42, 180, 0, 59, 21, 4]
abbrev dktX4_add_1 : List UInt8 := dkwX4_add_1 ++ dktX4_add_2
def dkwX4_add_0 : List UInt8 := [27, 184, 0, 228, 153, 0, 17, 28, 184, 0, 228, 153, 0, 10, 29, 184, 0, 228, 154, 0, 9, 42, 4]
abbrev dktX4_add_0 : List UInt8 := dkwX4_add_0 ++ dktX4_add_1
theorem dksX4_add_0 : cX4_add.data.toList.drop 0 = dktX4_add_0 := by decide +kernel
theorem dksX4_add_1 : cX4_add.data.toList.drop 23 = dktX4_add_1 := dk_seg dksX4_add_0 23 rfl rfl
theorem dksX4_add_2 : cX4_add.data.toList.drop 47 = dktX4_add_2 := dk_seg dksX4_add_1 24 rfl rfl
theorem dksX4_add_3 : cX4_add.data.toList.drop 71 = dktX4_add_3 := dk_seg dksX4_add_2 24 rfl rfl
theorem dX4_add_0 : decode cX4_add 0 = .ok (.iload_n 1, 1) := dk_27 (dk_at dksX4_add_0 0 rfl rfl)
theorem dX4_add_1 : decode cX4_add 1 = .ok (.invokestatic 228, 3) := dk_184 0 228 (dk_at dksX4_add_0 1 rfl rfl)
theorem dX4_add_4 : decode cX4_add 4 = .ok (.ifCond .eq 17, 3) := dk_153 0 17 (dk_at dksX4_add_0 4 rfl rfl)
theorem dX4_add_7 : decode cX4_add 7 = .ok (.iload_n 2, 1) := dk_28 (dk_at dksX4_add_0 7 rfl rfl)
theorem dX4_add_8 : decode cX4_add 8 = .ok (.invokestatic 228, 3) := dk_184 0 228 (dk_at dksX4_add_0 8 rfl rfl)
theorem dX4_add_11 : decode cX4_add 11 = .ok (.ifCond .eq 10, 3) := dk_153 0 10 (dk_at dksX4_add_0 11 rfl rfl)
theorem dX4_add_14 : decode cX4_add 14 = .ok (.iload_n 3, 1) := dk_29 (dk_at dksX4_add_0 14 rfl rfl)
theorem dX4_add_15 : decode cX4_add 15 = .ok (.invokestatic 228, 3) := dk_184 0 228 (dk_at dksX4_add_0 15 rfl rfl)
theorem dX4_add_18 : decode cX4_add 18 = .ok (.ifCond .ne 9, 3) := dk_154 0 9 (dk_at dksX4_add_0 18 rfl rfl)
theorem dX4_add_21 : decode cX4_add 21 = .ok (.aload_n 0, 1) := dk_42 (dk_at dksX4_add_0 21 rfl rfl)
theorem dX4_add_22 : decode cX4_add 22 = .ok (.iconst 1, 1) := dk_4 (dk_at dksX4_add_0 22 rfl rfl)
theorem dX4_add_23 : decode cX4_add 23 = .ok (.invokevirtual 212, 3) := dk_182 0 212 (dk_at dksX4_add_1 0 rfl rfl)
theorem dX4_add_26 : decode cX4_add 26 = .ok (.ireturn, 1) := dk_172 (dk_at dksX4_add_1 3 rfl rfl)
theorem dX4_add_27 : decode cX4_add 27 = .ok (.aload_n 0, 1) := dk_42 (dk_at dksX4_add_1 4 rfl rfl)
theorem dX4_add_28 : decode cX4_add 28 = .ok (.invokevirtual 220, 3) := dk_182 0 220 (dk_at dksX4_add_1 5 rfl rfl)
theorem dX4_add_31 : decode cX4_add 31 = .ok (.iconst 0, 1) := dk_3 (dk_at dksX4_add_1 8 rfl rfl)
theorem dX4_add_32 : decode cX4_add 32 = .ok (.istore 4, 2) := dk_54 4 (dk_at dksX4_add_1 9 rfl rfl)
theorem dX4_add_34 : decode cX4_add 34 = .ok (.iload 4, 2) := dk_21 4 (dk_at dksX4_add_1 11 rfl rfl)
theorem dX4_add_36 : decode cX4_add 36 = .ok (.bipush 7, 2) := dk_16 7 (dk_at dksX4_add_1 13 rfl rfl)
theorem dX4_add_38 : decode cX4_add 38 = .ok (.if_icmp .ge 36, 3) := dk_162 0 36 (dk_at dksX4_add_1 15 rfl rfl)
theorem dX4_add_41 : decode cX4_add 41 = .ok (.aload_n 0, 1) := dk_42 (dk_at dksX4_add_1 18 rfl rfl)
theorem dX4_add_42 : decode cX4_add 42 = .ok (.getfield 59, 3) := dk_180 0 59 (dk_at dksX4_add_1 19 rfl rfl)
theorem dX4_add_45 : decode cX4_add 45 = .ok (.iload 4, 2) := dk_21 4 (dk_at dksX4_add_1 22 rfl rfl)
theorem dX4_add_47 : decode cX4_add 47 = .ok (.aload_n 0, 1) := dk_42 (dk_at dksX4_add_2 0 rfl rfl)
theorem dX4_add_48 : decode cX4_add 48 = .ok (.getfield 11, 3) := dk_180 0 11 (dk_at dksX4_add_2 1 rfl rfl)
theorem dX4_add_51 : decode cX4_add 51 = .ok (.iload_n 1, 1) := dk_27 (dk_at dksX4_add_2 4 rfl rfl)
theorem dX4_add_52 : decode cX4_add 52 = .ok (.aaload, 1) := dk_50 (dk_at dksX4_add_2 5 rfl rfl)
theorem dX4_add_53 : decode cX4_add 53 = .ok (.iload 4, 2) := dk_21 4 (dk_at dksX4_add_2 6 rfl rfl)
theorem dX4_add_55 : decode cX4_add 55 = .ok (.iaload, 1) := dk_46 (dk_at dksX4_add_2 8 rfl rfl)
theorem dX4_add_56 : decode cX4_add 56 = .ok (.aload_n 0, 1) := dk_42 (dk_at dksX4_add_2 9 rfl rfl)
theorem dX4_add_57 : decode cX4_add 57 = .ok (.getfield 11, 3) := dk_180 0 11 (dk_at dksX4_add_2 10 rfl rfl)
theorem dX4_add_60 : decode cX4_add 60 = .ok (.iload_n 2, 1) := dk_28 (dk_at dksX4_add_2 13 rfl rfl)
theorem dX4_add_61 : decode cX4_add 61 = .ok (.aaload, 1) := dk_50 (dk_at dksX4_add_2 14 rfl rfl)
theorem dX4_add_62 : decode cX4_add 62 = .ok (.iload 4, 2) := dk_21 4 (dk_at dksX4_add_2 15 rfl rfl)
theorem dX4_add_64 : decode cX4_add 64 = .ok (.iaload, 1) := dk_46 (dk_at dksX4_add_2 17 rfl rfl)
theorem dX4_add_65 : decode cX4_add 65 = .ok (.iadd, 1) := dk_96 (dk_at dksX4_add_2 18 rfl rfl)
theorem dX4_add_66 : decode cX4_add 66 = .ok (.i2l, 1) := dk_133 (dk_at dksX4_add_2 19 rfl rfl)
theorem dX4_add_67 : decode cX4_add 67 = .ok (.lastore, 1) := dk_80 (dk_at dksX4_add_2 20 rfl rfl)
theorem dX4_add_68 : decode cX4_add 68 = .ok (.iinc 4 1, 3) := dk_132 4 1 (dk_at dksX4_add_2 21 rfl rfl)
theorem dX4_add_71 : decode cX4_add 71 = .ok (.goto (-37), 3) := dk_167 255 219 (dk_at dksX4_add_3 0 rfl rfl)
theorem dX4_add_74 : decode cX4_add 74 = .ok (.aload_n 0, 1) := dk_42 (dk_at dksX4_add_3 3 rfl rfl)
theorem dX4_add_75 : decode cX4_add 75 = .ok (.iload_n 3, 1) := dk_29 (dk_at dksX4_add_3 4 rfl rfl)
theorem dX4_add_76 : decode cX4_add 76 = .ok (.iconst 2, 1) := dk_5 (dk_at dksX4_add_3 5 rfl rfl)
theorem dX4_add_77 : decode cX4_add 77 = .ok (.invokevirtual 225, 3) := dk_182 0 225 (dk_at dksX4_add_3 6 rfl rfl)
theorem dX4_add_80 : decode cX4_add 80 = .ok (.ireturn, 1) := dk_172 (dk_at dksX4_add_3 9 rfl rfl)
abbrev cX4_multiply : ByteArray := prog_6_method_49_code
def yX4_multiply : MethodName := ⟨RX4, "multiply", "(III)I"⟩
def dkwX4_multiply_4 : List UInt8 := [167, 255, 196, 42, 29, 5, 182, 0, 225, 172]
abbrev dktX4_multiply_4 : List UInt8 := dkwX4_multiply_4 ++ []
def dkwX4_multiply_3 : List UInt8 := [46, 133, 42, 180, 0, 11, 28, 50, 21, 5, 46, 133, 105, 97, 80, 132, 5, 1, 167, 255, 212, 132, 4, 1]
abbrev dktX4_multiply_3 : List UInt8 := dkwX4_multiply_3 ++ dktX4_multiply_4
def dkwX4_multiply_2 : List UInt8 := [16, 7, 162, 0, 43, 42, 180, 0, 59, 21, 4, 21, 5, 96, 92, 47, 42, 180, 0, 11, 27, 50, 21, 4]
abbrev dktX4_multiply_2 : List UInt8 := dkwX4_multiply_2 ++ dktX4_multiply_3
def dkwX4_multiply_1 : List UInt8 := [182, 0, 212, 172, 42, 182, 0, 220, 3, 54, 4, 21, 4, 16, 7, 162, 0, 59, 3, 54, 5, 21, 5]
abbrev dktX4_multiply_1 : List UInt8 := dkwX4_multiply_1 ++ dktX4_multiply_2
def dkwX4_multiply_0 : List UInt8 := [27, 184, 0, 228, 153, 0, 17, 28, 184, 0, 228, 153, 0, 10, 29, 184, 0, 228, 154, 0, 9, 42, 4]
abbrev dktX4_multiply_0 : List UInt8 := dkwX4_multiply_0 ++ dktX4_multiply_1
theorem dksX4_multiply_0 : cX4_multiply.data.toList.drop 0 = dktX4_multiply_0 := by decide +kernel
theorem dksX4_multiply_1 : cX4_multiply.data.toList.drop 23 = dktX4_multiply_1 := dk_seg dksX4_multiply_0 23 rfl rfl
theorem dksX4_multiply_2 : cX4_multiply.data.toList.drop 46 = dktX4_multiply_2 := dk_seg dksX4_multiply_1 23 rfl rfl
theorem dksX4_multiply_3 : cX4_multiply.data.toList.drop 70 = dktX4_multiply_3 := dk_seg dksX4_multiply_2 24 rfl rfl
theorem dksX4_multiply_4 : cX4_multiply.data.toList.drop 94 = dktX4_multiply_4 := dk_seg dksX4_multiply_3 24 rfl rfl
theorem dX4_multiply_0 : decode cX4_multiply 0 = .ok (.iload_n 1, 1) := dk_27 (dk_at dksX4_multiply_0 0 rfl rfl)
theorem dX4_multiply_1 : decode cX4_multiply 1 = .ok (.invokestatic 228, 3) := dk_184 0 228 (dk_at dksX4_multiply_0 1 rfl rfl)
theorem dX4_multiply_4 : decode cX4_multiply 4 = .ok (.ifCond .eq 17, 3) := dk_153 0 17 (dk_at dksX4_multiply_0 4 rfl rfl)
theorem dX4_multiply_7 : decode cX4_multiply 7 = .ok (.iload_n 2, 1) := dk_28 (dk_at dksX4_multiply_0 7 rfl rfl)
theorem dX4_multiply_8 : decode cX4_multiply 8 = .ok (.invokestatic 228, 3) := dk_184 0 228 (dk_at dksX4_multiply_0 8 rfl rfl)
theorem dX4_multiply_11 : decode cX4_multiply 11 = .ok (.ifCond .eq 10, 3) := dk_153 0 10 (dk_at dksX4_multiply_0 11 rfl rfl)
theorem dX4_multiply_14 : decode cX4_multiply 14 = .ok (.iload_n 3, 1) := dk_29 (dk_at dksX4_multiply_0 14 rfl rfl)
theorem dX4_multiply_15 : decode cX4_multiply 15 = .ok (.invokestatic 228, 3) := dk_184 0 228 (dk_at dksX4_multiply_0 15 rfl rfl)
theorem dX4_multiply_18 : decode cX4_multiply 18 = .ok (.ifCond .ne 9, 3) := dk_154 0 9 (dk_at dksX4_multiply_0 18 rfl rfl)
theorem dX4_multiply_21 : decode cX4_multiply 21 = .ok (.aload_n 0, 1) := dk_42 (dk_at dksX4_multiply_0 21 rfl rfl)
theorem dX4_multiply_22 : decode cX4_multiply 22 = .ok (.iconst 1, 1) := dk_4 (dk_at dksX4_multiply_0 22 rfl rfl)
theorem dX4_multiply_23 : decode cX4_multiply 23 = .ok (.invokevirtual 212, 3) := dk_182 0 212 (dk_at dksX4_multiply_1 0 rfl rfl)
theorem dX4_multiply_26 : decode cX4_multiply 26 = .ok (.ireturn, 1) := dk_172 (dk_at dksX4_multiply_1 3 rfl rfl)
theorem dX4_multiply_27 : decode cX4_multiply 27 = .ok (.aload_n 0, 1) := dk_42 (dk_at dksX4_multiply_1 4 rfl rfl)
theorem dX4_multiply_28 : decode cX4_multiply 28 = .ok (.invokevirtual 220, 3) := dk_182 0 220 (dk_at dksX4_multiply_1 5 rfl rfl)
theorem dX4_multiply_31 : decode cX4_multiply 31 = .ok (.iconst 0, 1) := dk_3 (dk_at dksX4_multiply_1 8 rfl rfl)
theorem dX4_multiply_32 : decode cX4_multiply 32 = .ok (.istore 4, 2) := dk_54 4 (dk_at dksX4_multiply_1 9 rfl rfl)
theorem dX4_multiply_34 : decode cX4_multiply 34 = .ok (.iload 4, 2) := dk_21 4 (dk_at dksX4_multiply_1 11 rfl rfl)
theorem dX4_multiply_36 : decode cX4_multiply 36 = .ok (.bipush 7, 2) := dk_16 7 (dk_at dksX4_multiply_1 13 rfl rfl)
theorem dX4_multiply_38 : decode cX4_multiply 38 = .ok (.if_icmp .ge 59, 3) := dk_162 0 59 (dk_at dksX4_multiply_1 15 rfl rfl)
theorem dX4_multiply_41 : decode cX4_multiply 41 = .ok (.iconst 0, 1) := dk_3 (dk_at dksX4_multiply_1 18 rfl rfl)
theorem dX4_multiply_42 : decode cX4_multiply 42 = .ok (.istore 5, 2) := dk_54 5 (dk_at dksX4_multiply_1 19 rfl rfl)
theorem dX4_multiply_44 : decode cX4_multiply 44 = .ok (.iload 5, 2) := dk_21 5 (dk_at dksX4_multiply_1 21 rfl rfl)
theorem dX4_multiply_46 : decode cX4_multiply 46 = .ok (.bipush 7, 2) := dk_16 7 (dk_at dksX4_multiply_2 0 rfl rfl)
theorem dX4_multiply_48 : decode cX4_multiply 48 = .ok (.if_icmp .ge 43, 3) := dk_162 0 43 (dk_at dksX4_multiply_2 2 rfl rfl)
theorem dX4_multiply_51 : decode cX4_multiply 51 = .ok (.aload_n 0, 1) := dk_42 (dk_at dksX4_multiply_2 5 rfl rfl)
theorem dX4_multiply_52 : decode cX4_multiply 52 = .ok (.getfield 59, 3) := dk_180 0 59 (dk_at dksX4_multiply_2 6 rfl rfl)
theorem dX4_multiply_55 : decode cX4_multiply 55 = .ok (.iload 4, 2) := dk_21 4 (dk_at dksX4_multiply_2 9 rfl rfl)
theorem dX4_multiply_57 : decode cX4_multiply 57 = .ok (.iload 5, 2) := dk_21 5 (dk_at dksX4_multiply_2 11 rfl rfl)
theorem dX4_multiply_59 : decode cX4_multiply 59 = .ok (.iadd, 1) := dk_96 (dk_at dksX4_multiply_2 13 rfl rfl)
theorem dX4_multiply_60 : decode cX4_multiply 60 = .ok (.dup2, 1) := dk_92 (dk_at dksX4_multiply_2 14 rfl rfl)
theorem dX4_multiply_61 : decode cX4_multiply 61 = .ok (.laload, 1) := dk_47 (dk_at dksX4_multiply_2 15 rfl rfl)
theorem dX4_multiply_62 : decode cX4_multiply 62 = .ok (.aload_n 0, 1) := dk_42 (dk_at dksX4_multiply_2 16 rfl rfl)
theorem dX4_multiply_63 : decode cX4_multiply 63 = .ok (.getfield 11, 3) := dk_180 0 11 (dk_at dksX4_multiply_2 17 rfl rfl)
theorem dX4_multiply_66 : decode cX4_multiply 66 = .ok (.iload_n 1, 1) := dk_27 (dk_at dksX4_multiply_2 20 rfl rfl)
theorem dX4_multiply_67 : decode cX4_multiply 67 = .ok (.aaload, 1) := dk_50 (dk_at dksX4_multiply_2 21 rfl rfl)
theorem dX4_multiply_68 : decode cX4_multiply 68 = .ok (.iload 4, 2) := dk_21 4 (dk_at dksX4_multiply_2 22 rfl rfl)
theorem dX4_multiply_70 : decode cX4_multiply 70 = .ok (.iaload, 1) := dk_46 (dk_at dksX4_multiply_3 0 rfl rfl)
theorem dX4_multiply_71 : decode cX4_multiply 71 = .ok (.i2l, 1) := dk_133 (dk_at dksX4_multiply_3 1 rfl rfl)
theorem dX4_multiply_72 : decode cX4_multiply 72 = .ok (.aload_n 0, 1) := dk_42 (dk_at dksX4_multiply_3 2 rfl rfl)
theorem dX4_multiply_73 : decode cX4_multiply 73 = .ok (.getfield 11, 3) := dk_180 0 11 (dk_at dksX4_multiply_3 3 rfl rfl)
theorem dX4_multiply_76 : decode cX4_multiply 76 = .ok (.iload_n 2, 1) := dk_28 (dk_at dksX4_multiply_3 6 rfl rfl)
theorem dX4_multiply_77 : decode cX4_multiply 77 = .ok (.aaload, 1) := dk_50 (dk_at dksX4_multiply_3 7 rfl rfl)
theorem dX4_multiply_78 : decode cX4_multiply 78 = .ok (.iload 5, 2) := dk_21 5 (dk_at dksX4_multiply_3 8 rfl rfl)
theorem dX4_multiply_80 : decode cX4_multiply 80 = .ok (.iaload, 1) := dk_46 (dk_at dksX4_multiply_3 10 rfl rfl)
theorem dX4_multiply_81 : decode cX4_multiply 81 = .ok (.i2l, 1) := dk_133 (dk_at dksX4_multiply_3 11 rfl rfl)
theorem dX4_multiply_82 : decode cX4_multiply 82 = .ok (.lmul, 1) := dk_105 (dk_at dksX4_multiply_3 12 rfl rfl)
theorem dX4_multiply_83 : decode cX4_multiply 83 = .ok (.ladd, 1) := dk_97 (dk_at dksX4_multiply_3 13 rfl rfl)
theorem dX4_multiply_84 : decode cX4_multiply 84 = .ok (.lastore, 1) := dk_80 (dk_at dksX4_multiply_3 14 rfl rfl)
theorem dX4_multiply_85 : decode cX4_multiply 85 = .ok (.iinc 5 1, 3) := dk_132 5 1 (dk_at dksX4_multiply_3 15 rfl rfl)
theorem dX4_multiply_88 : decode cX4_multiply 88 = .ok (.goto (-44), 3) := dk_167 255 212 (dk_at dksX4_multiply_3 18 rfl rfl)
theorem dX4_multiply_91 : decode cX4_multiply 91 = .ok (.iinc 4 1, 3) := dk_132 4 1 (dk_at dksX4_multiply_3 21 rfl rfl)
theorem dX4_multiply_94 : decode cX4_multiply 94 = .ok (.goto (-60), 3) := dk_167 255 196 (dk_at dksX4_multiply_4 0 rfl rfl)
theorem dX4_multiply_97 : decode cX4_multiply 97 = .ok (.aload_n 0, 1) := dk_42 (dk_at dksX4_multiply_4 3 rfl rfl)
theorem dX4_multiply_98 : decode cX4_multiply 98 = .ok (.iload_n 3, 1) := dk_29 (dk_at dksX4_multiply_4 4 rfl rfl)
theorem dX4_multiply_99 : decode cX4_multiply 99 = .ok (.iconst 2, 1) := dk_5 (dk_at dksX4_multiply_4 5 rfl rfl)
theorem dX4_multiply_100 : decode cX4_multiply 100 = .ok (.invokevirtual 225, 3) := dk_182 0 225 (dk_at dksX4_multiply_4 6 rfl rfl)
theorem dX4_multiply_103 : decode cX4_multiply 103 = .ok (.ireturn, 1) := dk_172 (dk_at dksX4_multiply_4 9 rfl rfl)
abbrev cX4_derivative : ByteArray := prog_6_method_50_code
def yX4_derivative : MethodName := ⟨RX4, "derivative", "(II)I"⟩
def dkwX4_derivative_2 : List UInt8 := [46, 133, 105, 80, 132, 3, 1, 167, 255, 227, 42, 28, 5, 182, 0, 225, 172]
abbrev dktX4_derivative_2 : List UInt8 := dkwX4_derivative_2 ++ []
def dkwX4_derivative_1 : List UInt8 := [4, 62, 29, 16, 7, 162, 0, 29, 42, 180, 0, 59, 29, 4, 100, 29, 133, 42, 180, 0, 11, 27, 50, 29]
abbrev dktX4_derivative_1 : List UInt8 := dkwX4_derivative_1 ++ dktX4_derivative_2
def dkwX4_derivative_0 : List UInt8 := [27, 184, 0, 228, 153, 0, 10, 28, 184, 0, 228, 154, 0, 9, 42, 4, 182, 0, 212, 172, 42, 182, 0, 220]
abbrev dktX4_derivative_0 : List UInt8 := dkwX4_derivative_0 ++ dktX4_derivative_1
theorem dksX4_derivative_0 : cX4_derivative.data.toList.drop 0 = dktX4_derivative_0 := by decide +kernel
theorem dksX4_derivative_1 : cX4_derivative.data.toList.drop 24 = dktX4_derivative_1 := dk_seg dksX4_derivative_0 24 rfl rfl
theorem dksX4_derivative_2 : cX4_derivative.data.toList.drop 48 = dktX4_derivative_2 := dk_seg dksX4_derivative_1 24 rfl rfl
theorem dX4_derivative_0 : decode cX4_derivative 0 = .ok (.iload_n 1, 1) := dk_27 (dk_at dksX4_derivative_0 0 rfl rfl)
theorem dX4_derivative_1 : decode cX4_derivative 1 = .ok (.invokestatic 228, 3) := dk_184 0 228 (dk_at dksX4_derivative_0 1 rfl rfl)
theorem dX4_derivative_4 : decode cX4_derivative 4 = .ok (.ifCond .eq 10, 3) := dk_153 0 10 (dk_at dksX4_derivative_0 4 rfl rfl)
theorem dX4_derivative_7 : decode cX4_derivative 7 = .ok (.iload_n 2, 1) := dk_28 (dk_at dksX4_derivative_0 7 rfl rfl)
theorem dX4_derivative_8 : decode cX4_derivative 8 = .ok (.invokestatic 228, 3) := dk_184 0 228 (dk_at dksX4_derivative_0 8 rfl rfl)
theorem dX4_derivative_11 : decode cX4_derivative 11 = .ok (.ifCond .ne 9, 3) := dk_154 0 9 (dk_at dksX4_derivative_0 11 rfl rfl)
theorem dX4_derivative_14 : decode cX4_derivative 14 = .ok (.aload_n 0, 1) := dk_42 (dk_at dksX4_derivative_0 14 rfl rfl)
theorem dX4_derivative_15 : decode cX4_derivative 15 = .ok (.iconst 1, 1) := dk_4 (dk_at dksX4_derivative_0 15 rfl rfl)
theorem dX4_derivative_16 : decode cX4_derivative 16 = .ok (.invokevirtual 212, 3) := dk_182 0 212 (dk_at dksX4_derivative_0 16 rfl rfl)
theorem dX4_derivative_19 : decode cX4_derivative 19 = .ok (.ireturn, 1) := dk_172 (dk_at dksX4_derivative_0 19 rfl rfl)
theorem dX4_derivative_20 : decode cX4_derivative 20 = .ok (.aload_n 0, 1) := dk_42 (dk_at dksX4_derivative_0 20 rfl rfl)
theorem dX4_derivative_21 : decode cX4_derivative 21 = .ok (.invokevirtual 220, 3) := dk_182 0 220 (dk_at dksX4_derivative_0 21 rfl rfl)
theorem dX4_derivative_24 : decode cX4_derivative 24 = .ok (.iconst 1, 1) := dk_4 (dk_at dksX4_derivative_1 0 rfl rfl)
theorem dX4_derivative_25 : decode cX4_derivative 25 = .ok (.istore_n 3, 1) := dk_62 (dk_at dksX4_derivative_1 1 rfl rfl)
theorem dX4_derivative_26 : decode cX4_derivative 26 = .ok (.iload_n 3, 1) := dk_29 (dk_at dksX4_derivative_1 2 rfl rfl)
theorem dX4_derivative_27 : decode cX4_derivative 27 = .ok (.bipush 7, 2) := dk_16 7 (dk_at dksX4_derivative_1 3 rfl rfl)
theorem dX4_derivative_29 : decode cX4_derivative 29 = .ok (.if_icmp .ge 29, 3) := dk_162 0 29 (dk_at dksX4_derivative_1 5 rfl rfl)
theorem dX4_derivative_32 : decode cX4_derivative 32 = .ok (.aload_n 0, 1) := dk_42 (dk_at dksX4_derivative_1 8 rfl rfl)
theorem dX4_derivative_33 : decode cX4_derivative 33 = .ok (.getfield 59, 3) := dk_180 0 59 (dk_at dksX4_derivative_1 9 rfl rfl)
theorem dX4_derivative_36 : decode cX4_derivative 36 = .ok (.iload_n 3, 1) := dk_29 (dk_at dksX4_derivative_1 12 rfl rfl)
theorem dX4_derivative_37 : decode cX4_derivative 37 = .ok (.iconst 1, 1) := dk_4 (dk_at dksX4_derivative_1 13 rfl rfl)
theorem dX4_derivative_38 : decode cX4_derivative 38 = .ok (.isub, 1) := dk_100 (dk_at dksX4_derivative_1 14 rfl rfl)
theorem dX4_derivative_39 : decode cX4_derivative 39 = .ok (.iload_n 3, 1) := dk_29 (dk_at dksX4_derivative_1 15 rfl rfl)
theorem dX4_derivative_40 : decode cX4_derivative 40 = .ok (.i2l, 1) := dk_133 (dk_at dksX4_derivative_1 16 rfl rfl)
theorem dX4_derivative_41 : decode cX4_derivative 41 = .ok (.aload_n 0, 1) := dk_42 (dk_at dksX4_derivative_1 17 rfl rfl)
theorem dX4_derivative_42 : decode cX4_derivative 42 = .ok (.getfield 11, 3) := dk_180 0 11 (dk_at dksX4_derivative_1 18 rfl rfl)
theorem dX4_derivative_45 : decode cX4_derivative 45 = .ok (.iload_n 1, 1) := dk_27 (dk_at dksX4_derivative_1 21 rfl rfl)
theorem dX4_derivative_46 : decode cX4_derivative 46 = .ok (.aaload, 1) := dk_50 (dk_at dksX4_derivative_1 22 rfl rfl)
theorem dX4_derivative_47 : decode cX4_derivative 47 = .ok (.iload_n 3, 1) := dk_29 (dk_at dksX4_derivative_1 23 rfl rfl)
theorem dX4_derivative_48 : decode cX4_derivative 48 = .ok (.iaload, 1) := dk_46 (dk_at dksX4_derivative_2 0 rfl rfl)
theorem dX4_derivative_49 : decode cX4_derivative 49 = .ok (.i2l, 1) := dk_133 (dk_at dksX4_derivative_2 1 rfl rfl)
theorem dX4_derivative_50 : decode cX4_derivative 50 = .ok (.lmul, 1) := dk_105 (dk_at dksX4_derivative_2 2 rfl rfl)
theorem dX4_derivative_51 : decode cX4_derivative 51 = .ok (.lastore, 1) := dk_80 (dk_at dksX4_derivative_2 3 rfl rfl)
theorem dX4_derivative_52 : decode cX4_derivative 52 = .ok (.iinc 3 1, 3) := dk_132 3 1 (dk_at dksX4_derivative_2 4 rfl rfl)
theorem dX4_derivative_55 : decode cX4_derivative 55 = .ok (.goto (-29), 3) := dk_167 255 227 (dk_at dksX4_derivative_2 7 rfl rfl)
theorem dX4_derivative_58 : decode cX4_derivative 58 = .ok (.aload_n 0, 1) := dk_42 (dk_at dksX4_derivative_2 10 rfl rfl)
theorem dX4_derivative_59 : decode cX4_derivative 59 = .ok (.iload_n 2, 1) := dk_28 (dk_at dksX4_derivative_2 11 rfl rfl)
theorem dX4_derivative_60 : decode cX4_derivative 60 = .ok (.iconst 2, 1) := dk_5 (dk_at dksX4_derivative_2 12 rfl rfl)
theorem dX4_derivative_61 : decode cX4_derivative 61 = .ok (.invokevirtual 225, 3) := dk_182 0 225 (dk_at dksX4_derivative_2 13 rfl rfl)
theorem dX4_derivative_64 : decode cX4_derivative 64 = .ok (.ireturn, 1) := dk_172 (dk_at dksX4_derivative_2 16 rfl rfl)
abbrev cX4_shift : ByteArray := prog_6_method_51_code
def yX4_shift : MethodName := ⟨RX4, "shift", "(III)I"⟩
def dkwX4_shift_5 : List UInt8 := [29, 6, 182, 0, 225, 172]
abbrev dktX4_shift_5 : List UInt8 := dkwX4_shift_5 ++ []
def dkwX4_shift_4 : List UInt8 := [180, 0, 11, 27, 50, 21, 4, 46, 133, 97, 80, 132, 5, 255, 167, 255, 203, 132, 4, 255, 167, 255, 188, 42]
abbrev dktX4_shift_4 : List UInt8 := dkwX4_shift_4 ++ dktX4_shift_5
def dkwX4_shift_3 : List UInt8 := [47, 28, 133, 105, 21, 5, 158, 0, 15, 42, 180, 0, 59, 21, 5, 4, 100, 47, 167, 0, 13, 42]
abbrev dktX4_shift_3 : List UInt8 := dkwX4_shift_3 ++ dktX4_shift_4
def dkwX4_shift_2 : List UInt8 := [155, 0, 69, 16, 6, 54, 5, 21, 5, 155, 0, 54, 42, 180, 0, 59, 21, 5, 42, 180, 0, 59, 21, 5]
abbrev dktX4_shift_2 : List UInt8 := dkwX4_shift_2 ++ dktX4_shift_3
def dkwX4_shift_1 : List UInt8 := [16, 9, 184, 0, 232, 154, 0, 9, 42, 5, 182, 0, 212, 172, 42, 182, 0, 220, 16, 6, 54, 4, 21, 4]
abbrev dktX4_shift_1 : List UInt8 := dkwX4_shift_1 ++ dktX4_shift_2
def dkwX4_shift_0 : List UInt8 := [27, 184, 0, 228, 153, 0, 10, 29, 184, 0, 228, 154, 0, 9, 42, 4, 182, 0, 212, 172, 28, 16, 247]
abbrev dktX4_shift_0 : List UInt8 := dkwX4_shift_0 ++ dktX4_shift_1
theorem dksX4_shift_0 : cX4_shift.data.toList.drop 0 = dktX4_shift_0 := by decide +kernel
theorem dksX4_shift_1 : cX4_shift.data.toList.drop 23 = dktX4_shift_1 := dk_seg dksX4_shift_0 23 rfl rfl
theorem dksX4_shift_2 : cX4_shift.data.toList.drop 47 = dktX4_shift_2 := dk_seg dksX4_shift_1 24 rfl rfl
theorem dksX4_shift_3 : cX4_shift.data.toList.drop 71 = dktX4_shift_3 := dk_seg dksX4_shift_2 24 rfl rfl
theorem dksX4_shift_4 : cX4_shift.data.toList.drop 93 = dktX4_shift_4 := dk_seg dksX4_shift_3 22 rfl rfl
theorem dksX4_shift_5 : cX4_shift.data.toList.drop 117 = dktX4_shift_5 := dk_seg dksX4_shift_4 24 rfl rfl
theorem dX4_shift_0 : decode cX4_shift 0 = .ok (.iload_n 1, 1) := dk_27 (dk_at dksX4_shift_0 0 rfl rfl)
theorem dX4_shift_1 : decode cX4_shift 1 = .ok (.invokestatic 228, 3) := dk_184 0 228 (dk_at dksX4_shift_0 1 rfl rfl)
theorem dX4_shift_4 : decode cX4_shift 4 = .ok (.ifCond .eq 10, 3) := dk_153 0 10 (dk_at dksX4_shift_0 4 rfl rfl)
theorem dX4_shift_7 : decode cX4_shift 7 = .ok (.iload_n 3, 1) := dk_29 (dk_at dksX4_shift_0 7 rfl rfl)
theorem dX4_shift_8 : decode cX4_shift 8 = .ok (.invokestatic 228, 3) := dk_184 0 228 (dk_at dksX4_shift_0 8 rfl rfl)
theorem dX4_shift_11 : decode cX4_shift 11 = .ok (.ifCond .ne 9, 3) := dk_154 0 9 (dk_at dksX4_shift_0 11 rfl rfl)
theorem dX4_shift_14 : decode cX4_shift 14 = .ok (.aload_n 0, 1) := dk_42 (dk_at dksX4_shift_0 14 rfl rfl)
theorem dX4_shift_15 : decode cX4_shift 15 = .ok (.iconst 1, 1) := dk_4 (dk_at dksX4_shift_0 15 rfl rfl)
theorem dX4_shift_16 : decode cX4_shift 16 = .ok (.invokevirtual 212, 3) := dk_182 0 212 (dk_at dksX4_shift_0 16 rfl rfl)
theorem dX4_shift_19 : decode cX4_shift 19 = .ok (.ireturn, 1) := dk_172 (dk_at dksX4_shift_0 19 rfl rfl)
theorem dX4_shift_20 : decode cX4_shift 20 = .ok (.iload_n 2, 1) := dk_28 (dk_at dksX4_shift_0 20 rfl rfl)
theorem dX4_shift_21 : decode cX4_shift 21 = .ok (.bipush (-9), 2) := dk_16 247 (dk_at dksX4_shift_0 21 rfl rfl)
theorem dX4_shift_23 : decode cX4_shift 23 = .ok (.bipush 9, 2) := dk_16 9 (dk_at dksX4_shift_1 0 rfl rfl)
theorem dX4_shift_25 : decode cX4_shift 25 = .ok (.invokestatic 232, 3) := dk_184 0 232 (dk_at dksX4_shift_1 2 rfl rfl)
theorem dX4_shift_28 : decode cX4_shift 28 = .ok (.ifCond .ne 9, 3) := dk_154 0 9 (dk_at dksX4_shift_1 5 rfl rfl)
theorem dX4_shift_31 : decode cX4_shift 31 = .ok (.aload_n 0, 1) := dk_42 (dk_at dksX4_shift_1 8 rfl rfl)
theorem dX4_shift_32 : decode cX4_shift 32 = .ok (.iconst 2, 1) := dk_5 (dk_at dksX4_shift_1 9 rfl rfl)
theorem dX4_shift_33 : decode cX4_shift 33 = .ok (.invokevirtual 212, 3) := dk_182 0 212 (dk_at dksX4_shift_1 10 rfl rfl)
theorem dX4_shift_36 : decode cX4_shift 36 = .ok (.ireturn, 1) := dk_172 (dk_at dksX4_shift_1 13 rfl rfl)
theorem dX4_shift_37 : decode cX4_shift 37 = .ok (.aload_n 0, 1) := dk_42 (dk_at dksX4_shift_1 14 rfl rfl)
theorem dX4_shift_38 : decode cX4_shift 38 = .ok (.invokevirtual 220, 3) := dk_182 0 220 (dk_at dksX4_shift_1 15 rfl rfl)
theorem dX4_shift_41 : decode cX4_shift 41 = .ok (.bipush 6, 2) := dk_16 6 (dk_at dksX4_shift_1 18 rfl rfl)
theorem dX4_shift_43 : decode cX4_shift 43 = .ok (.istore 4, 2) := dk_54 4 (dk_at dksX4_shift_1 20 rfl rfl)
theorem dX4_shift_45 : decode cX4_shift 45 = .ok (.iload 4, 2) := dk_21 4 (dk_at dksX4_shift_1 22 rfl rfl)
theorem dX4_shift_47 : decode cX4_shift 47 = .ok (.ifCond .lt 69, 3) := dk_155 0 69 (dk_at dksX4_shift_2 0 rfl rfl)
theorem dX4_shift_50 : decode cX4_shift 50 = .ok (.bipush 6, 2) := dk_16 6 (dk_at dksX4_shift_2 3 rfl rfl)
theorem dX4_shift_52 : decode cX4_shift 52 = .ok (.istore 5, 2) := dk_54 5 (dk_at dksX4_shift_2 5 rfl rfl)
theorem dX4_shift_54 : decode cX4_shift 54 = .ok (.iload 5, 2) := dk_21 5 (dk_at dksX4_shift_2 7 rfl rfl)
theorem dX4_shift_56 : decode cX4_shift 56 = .ok (.ifCond .lt 54, 3) := dk_155 0 54 (dk_at dksX4_shift_2 9 rfl rfl)
theorem dX4_shift_59 : decode cX4_shift 59 = .ok (.aload_n 0, 1) := dk_42 (dk_at dksX4_shift_2 12 rfl rfl)
theorem dX4_shift_60 : decode cX4_shift 60 = .ok (.getfield 59, 3) := dk_180 0 59 (dk_at dksX4_shift_2 13 rfl rfl)
theorem dX4_shift_63 : decode cX4_shift 63 = .ok (.iload 5, 2) := dk_21 5 (dk_at dksX4_shift_2 16 rfl rfl)
theorem dX4_shift_65 : decode cX4_shift 65 = .ok (.aload_n 0, 1) := dk_42 (dk_at dksX4_shift_2 18 rfl rfl)
theorem dX4_shift_66 : decode cX4_shift 66 = .ok (.getfield 59, 3) := dk_180 0 59 (dk_at dksX4_shift_2 19 rfl rfl)
theorem dX4_shift_69 : decode cX4_shift 69 = .ok (.iload 5, 2) := dk_21 5 (dk_at dksX4_shift_2 22 rfl rfl)
theorem dX4_shift_71 : decode cX4_shift 71 = .ok (.laload, 1) := dk_47 (dk_at dksX4_shift_3 0 rfl rfl)
theorem dX4_shift_72 : decode cX4_shift 72 = .ok (.iload_n 2, 1) := dk_28 (dk_at dksX4_shift_3 1 rfl rfl)
theorem dX4_shift_73 : decode cX4_shift 73 = .ok (.i2l, 1) := dk_133 (dk_at dksX4_shift_3 2 rfl rfl)
theorem dX4_shift_74 : decode cX4_shift 74 = .ok (.lmul, 1) := dk_105 (dk_at dksX4_shift_3 3 rfl rfl)
theorem dX4_shift_75 : decode cX4_shift 75 = .ok (.iload 5, 2) := dk_21 5 (dk_at dksX4_shift_3 4 rfl rfl)
theorem dX4_shift_77 : decode cX4_shift 77 = .ok (.ifCond .le 15, 3) := dk_158 0 15 (dk_at dksX4_shift_3 6 rfl rfl)
theorem dX4_shift_80 : decode cX4_shift 80 = .ok (.aload_n 0, 1) := dk_42 (dk_at dksX4_shift_3 9 rfl rfl)
theorem dX4_shift_81 : decode cX4_shift 81 = .ok (.getfield 59, 3) := dk_180 0 59 (dk_at dksX4_shift_3 10 rfl rfl)
theorem dX4_shift_84 : decode cX4_shift 84 = .ok (.iload 5, 2) := dk_21 5 (dk_at dksX4_shift_3 13 rfl rfl)
theorem dX4_shift_86 : decode cX4_shift 86 = .ok (.iconst 1, 1) := dk_4 (dk_at dksX4_shift_3 15 rfl rfl)
theorem dX4_shift_87 : decode cX4_shift 87 = .ok (.isub, 1) := dk_100 (dk_at dksX4_shift_3 16 rfl rfl)
theorem dX4_shift_88 : decode cX4_shift 88 = .ok (.laload, 1) := dk_47 (dk_at dksX4_shift_3 17 rfl rfl)
theorem dX4_shift_89 : decode cX4_shift 89 = .ok (.goto 13, 3) := dk_167 0 13 (dk_at dksX4_shift_3 18 rfl rfl)
theorem dX4_shift_92 : decode cX4_shift 92 = .ok (.aload_n 0, 1) := dk_42 (dk_at dksX4_shift_3 21 rfl rfl)
theorem dX4_shift_93 : decode cX4_shift 93 = .ok (.getfield 11, 3) := dk_180 0 11 (dk_at dksX4_shift_4 0 rfl rfl)
theorem dX4_shift_96 : decode cX4_shift 96 = .ok (.iload_n 1, 1) := dk_27 (dk_at dksX4_shift_4 3 rfl rfl)
theorem dX4_shift_97 : decode cX4_shift 97 = .ok (.aaload, 1) := dk_50 (dk_at dksX4_shift_4 4 rfl rfl)
theorem dX4_shift_98 : decode cX4_shift 98 = .ok (.iload 4, 2) := dk_21 4 (dk_at dksX4_shift_4 5 rfl rfl)
theorem dX4_shift_100 : decode cX4_shift 100 = .ok (.iaload, 1) := dk_46 (dk_at dksX4_shift_4 7 rfl rfl)
theorem dX4_shift_101 : decode cX4_shift 101 = .ok (.i2l, 1) := dk_133 (dk_at dksX4_shift_4 8 rfl rfl)
theorem dX4_shift_102 : decode cX4_shift 102 = .ok (.ladd, 1) := dk_97 (dk_at dksX4_shift_4 9 rfl rfl)
theorem dX4_shift_103 : decode cX4_shift 103 = .ok (.lastore, 1) := dk_80 (dk_at dksX4_shift_4 10 rfl rfl)
theorem dX4_shift_104 : decode cX4_shift 104 = .ok (.iinc 5 (-1), 3) := dk_132 5 255 (dk_at dksX4_shift_4 11 rfl rfl)
theorem dX4_shift_107 : decode cX4_shift 107 = .ok (.goto (-53), 3) := dk_167 255 203 (dk_at dksX4_shift_4 14 rfl rfl)
theorem dX4_shift_110 : decode cX4_shift 110 = .ok (.iinc 4 (-1), 3) := dk_132 4 255 (dk_at dksX4_shift_4 17 rfl rfl)
theorem dX4_shift_113 : decode cX4_shift 113 = .ok (.goto (-68), 3) := dk_167 255 188 (dk_at dksX4_shift_4 20 rfl rfl)
theorem dX4_shift_116 : decode cX4_shift 116 = .ok (.aload_n 0, 1) := dk_42 (dk_at dksX4_shift_4 23 rfl rfl)
theorem dX4_shift_117 : decode cX4_shift 117 = .ok (.iload_n 3, 1) := dk_29 (dk_at dksX4_shift_5 0 rfl rfl)
theorem dX4_shift_118 : decode cX4_shift 118 = .ok (.iconst 3, 1) := dk_6 (dk_at dksX4_shift_5 1 rfl rfl)
theorem dX4_shift_119 : decode cX4_shift 119 = .ok (.invokevirtual 225, 3) := dk_182 0 225 (dk_at dksX4_shift_5 2 rfl rfl)
theorem dX4_shift_122 : decode cX4_shift 122 = .ok (.ireturn, 1) := dk_172 (dk_at dksX4_shift_5 5 rfl rfl)
abbrev cX4_reflect : ByteArray := prog_6_method_52_code
def yX4_reflect : MethodName := ⟨RX4, "reflect", "(II)I"⟩
def dkwX4_reflect_3 : List UInt8 := [42, 28, 3, 182, 0, 225, 172]
abbrev dktX4_reflect_3 : List UInt8 := dkwX4_reflect_3 ++ []
def dkwX4_reflect_2 : List UInt8 := [50, 29, 46, 133, 167, 0, 13, 42, 180, 0, 11, 27, 50, 29, 46, 116, 133, 80, 132, 3, 1, 167, 255, 213]
abbrev dktX4_reflect_2 : List UInt8 := dkwX4_reflect_2 ++ dktX4_reflect_3
def dkwX4_reflect_1 : List UInt8 := [3, 62, 29, 16, 7, 162, 0, 43, 42, 180, 0, 59, 29, 29, 5, 112, 154, 0, 15, 42, 180, 0, 11, 27]
abbrev dktX4_reflect_1 : List UInt8 := dkwX4_reflect_1 ++ dktX4_reflect_2
def dkwX4_reflect_0 : List UInt8 := [27, 184, 0, 228, 153, 0, 10, 28, 184, 0, 228, 154, 0, 9, 42, 4, 182, 0, 212, 172, 42, 182, 0, 220]
abbrev dktX4_reflect_0 : List UInt8 := dkwX4_reflect_0 ++ dktX4_reflect_1
theorem dksX4_reflect_0 : cX4_reflect.data.toList.drop 0 = dktX4_reflect_0 := by decide +kernel
theorem dksX4_reflect_1 : cX4_reflect.data.toList.drop 24 = dktX4_reflect_1 := dk_seg dksX4_reflect_0 24 rfl rfl
theorem dksX4_reflect_2 : cX4_reflect.data.toList.drop 48 = dktX4_reflect_2 := dk_seg dksX4_reflect_1 24 rfl rfl
theorem dksX4_reflect_3 : cX4_reflect.data.toList.drop 72 = dktX4_reflect_3 := dk_seg dksX4_reflect_2 24 rfl rfl
theorem dX4_reflect_0 : decode cX4_reflect 0 = .ok (.iload_n 1, 1) := dk_27 (dk_at dksX4_reflect_0 0 rfl rfl)
theorem dX4_reflect_1 : decode cX4_reflect 1 = .ok (.invokestatic 228, 3) := dk_184 0 228 (dk_at dksX4_reflect_0 1 rfl rfl)
theorem dX4_reflect_4 : decode cX4_reflect 4 = .ok (.ifCond .eq 10, 3) := dk_153 0 10 (dk_at dksX4_reflect_0 4 rfl rfl)
theorem dX4_reflect_7 : decode cX4_reflect 7 = .ok (.iload_n 2, 1) := dk_28 (dk_at dksX4_reflect_0 7 rfl rfl)
theorem dX4_reflect_8 : decode cX4_reflect 8 = .ok (.invokestatic 228, 3) := dk_184 0 228 (dk_at dksX4_reflect_0 8 rfl rfl)
theorem dX4_reflect_11 : decode cX4_reflect 11 = .ok (.ifCond .ne 9, 3) := dk_154 0 9 (dk_at dksX4_reflect_0 11 rfl rfl)
theorem dX4_reflect_14 : decode cX4_reflect 14 = .ok (.aload_n 0, 1) := dk_42 (dk_at dksX4_reflect_0 14 rfl rfl)
theorem dX4_reflect_15 : decode cX4_reflect 15 = .ok (.iconst 1, 1) := dk_4 (dk_at dksX4_reflect_0 15 rfl rfl)
theorem dX4_reflect_16 : decode cX4_reflect 16 = .ok (.invokevirtual 212, 3) := dk_182 0 212 (dk_at dksX4_reflect_0 16 rfl rfl)
theorem dX4_reflect_19 : decode cX4_reflect 19 = .ok (.ireturn, 1) := dk_172 (dk_at dksX4_reflect_0 19 rfl rfl)
theorem dX4_reflect_20 : decode cX4_reflect 20 = .ok (.aload_n 0, 1) := dk_42 (dk_at dksX4_reflect_0 20 rfl rfl)
theorem dX4_reflect_21 : decode cX4_reflect 21 = .ok (.invokevirtual 220, 3) := dk_182 0 220 (dk_at dksX4_reflect_0 21 rfl rfl)
theorem dX4_reflect_24 : decode cX4_reflect 24 = .ok (.iconst 0, 1) := dk_3 (dk_at dksX4_reflect_1 0 rfl rfl)
theorem dX4_reflect_25 : decode cX4_reflect 25 = .ok (.istore_n 3, 1) := dk_62 (dk_at dksX4_reflect_1 1 rfl rfl)
theorem dX4_reflect_26 : decode cX4_reflect 26 = .ok (.iload_n 3, 1) := dk_29 (dk_at dksX4_reflect_1 2 rfl rfl)
theorem dX4_reflect_27 : decode cX4_reflect 27 = .ok (.bipush 7, 2) := dk_16 7 (dk_at dksX4_reflect_1 3 rfl rfl)
theorem dX4_reflect_29 : decode cX4_reflect 29 = .ok (.if_icmp .ge 43, 3) := dk_162 0 43 (dk_at dksX4_reflect_1 5 rfl rfl)
theorem dX4_reflect_32 : decode cX4_reflect 32 = .ok (.aload_n 0, 1) := dk_42 (dk_at dksX4_reflect_1 8 rfl rfl)
theorem dX4_reflect_33 : decode cX4_reflect 33 = .ok (.getfield 59, 3) := dk_180 0 59 (dk_at dksX4_reflect_1 9 rfl rfl)
theorem dX4_reflect_36 : decode cX4_reflect 36 = .ok (.iload_n 3, 1) := dk_29 (dk_at dksX4_reflect_1 12 rfl rfl)
theorem dX4_reflect_37 : decode cX4_reflect 37 = .ok (.iload_n 3, 1) := dk_29 (dk_at dksX4_reflect_1 13 rfl rfl)
theorem dX4_reflect_38 : decode cX4_reflect 38 = .ok (.iconst 2, 1) := dk_5 (dk_at dksX4_reflect_1 14 rfl rfl)
theorem dX4_reflect_39 : decode cX4_reflect 39 = .ok (.irem, 1) := dk_112 (dk_at dksX4_reflect_1 15 rfl rfl)
theorem dX4_reflect_40 : decode cX4_reflect 40 = .ok (.ifCond .ne 15, 3) := dk_154 0 15 (dk_at dksX4_reflect_1 16 rfl rfl)
theorem dX4_reflect_43 : decode cX4_reflect 43 = .ok (.aload_n 0, 1) := dk_42 (dk_at dksX4_reflect_1 19 rfl rfl)
theorem dX4_reflect_44 : decode cX4_reflect 44 = .ok (.getfield 11, 3) := dk_180 0 11 (dk_at dksX4_reflect_1 20 rfl rfl)
theorem dX4_reflect_47 : decode cX4_reflect 47 = .ok (.iload_n 1, 1) := dk_27 (dk_at dksX4_reflect_1 23 rfl rfl)
theorem dX4_reflect_48 : decode cX4_reflect 48 = .ok (.aaload, 1) := dk_50 (dk_at dksX4_reflect_2 0 rfl rfl)
theorem dX4_reflect_49 : decode cX4_reflect 49 = .ok (.iload_n 3, 1) := dk_29 (dk_at dksX4_reflect_2 1 rfl rfl)
theorem dX4_reflect_50 : decode cX4_reflect 50 = .ok (.iaload, 1) := dk_46 (dk_at dksX4_reflect_2 2 rfl rfl)
theorem dX4_reflect_51 : decode cX4_reflect 51 = .ok (.i2l, 1) := dk_133 (dk_at dksX4_reflect_2 3 rfl rfl)
theorem dX4_reflect_52 : decode cX4_reflect 52 = .ok (.goto 13, 3) := dk_167 0 13 (dk_at dksX4_reflect_2 4 rfl rfl)
theorem dX4_reflect_55 : decode cX4_reflect 55 = .ok (.aload_n 0, 1) := dk_42 (dk_at dksX4_reflect_2 7 rfl rfl)
theorem dX4_reflect_56 : decode cX4_reflect 56 = .ok (.getfield 11, 3) := dk_180 0 11 (dk_at dksX4_reflect_2 8 rfl rfl)
theorem dX4_reflect_59 : decode cX4_reflect 59 = .ok (.iload_n 1, 1) := dk_27 (dk_at dksX4_reflect_2 11 rfl rfl)
theorem dX4_reflect_60 : decode cX4_reflect 60 = .ok (.aaload, 1) := dk_50 (dk_at dksX4_reflect_2 12 rfl rfl)
theorem dX4_reflect_61 : decode cX4_reflect 61 = .ok (.iload_n 3, 1) := dk_29 (dk_at dksX4_reflect_2 13 rfl rfl)
theorem dX4_reflect_62 : decode cX4_reflect 62 = .ok (.iaload, 1) := dk_46 (dk_at dksX4_reflect_2 14 rfl rfl)
theorem dX4_reflect_63 : decode cX4_reflect 63 = .ok (.ineg, 1) := dk_116 (dk_at dksX4_reflect_2 15 rfl rfl)
theorem dX4_reflect_64 : decode cX4_reflect 64 = .ok (.i2l, 1) := dk_133 (dk_at dksX4_reflect_2 16 rfl rfl)
theorem dX4_reflect_65 : decode cX4_reflect 65 = .ok (.lastore, 1) := dk_80 (dk_at dksX4_reflect_2 17 rfl rfl)
theorem dX4_reflect_66 : decode cX4_reflect 66 = .ok (.iinc 3 1, 3) := dk_132 3 1 (dk_at dksX4_reflect_2 18 rfl rfl)
theorem dX4_reflect_69 : decode cX4_reflect 69 = .ok (.goto (-43), 3) := dk_167 255 213 (dk_at dksX4_reflect_2 21 rfl rfl)
theorem dX4_reflect_72 : decode cX4_reflect 72 = .ok (.aload_n 0, 1) := dk_42 (dk_at dksX4_reflect_3 0 rfl rfl)
theorem dX4_reflect_73 : decode cX4_reflect 73 = .ok (.iload_n 2, 1) := dk_28 (dk_at dksX4_reflect_3 1 rfl rfl)
theorem dX4_reflect_74 : decode cX4_reflect 74 = .ok (.iconst 0, 1) := dk_3 (dk_at dksX4_reflect_3 2 rfl rfl)
theorem dX4_reflect_75 : decode cX4_reflect 75 = .ok (.invokevirtual 225, 3) := dk_182 0 225 (dk_at dksX4_reflect_3 3 rfl rfl)
theorem dX4_reflect_78 : decode cX4_reflect 78 = .ok (.ireturn, 1) := dk_172 (dk_at dksX4_reflect_3 6 rfl rfl)
abbrev cX4_scale : ByteArray := prog_6_method_53_code
def yX4_scale : MethodName := ⟨RX4, "scale", "(III)I"⟩
def dkwX4_scale_4 : List UInt8 := [182, 0, 225, 172]
abbrev dktX4_scale_4 : List UInt8 := dkwX4_scale_4 ++ []
def dkwX4_scale_3 : List UInt8 := [21, 6, 46, 133, 22, 4, 105, 80, 22, 4, 28, 133, 105, 55, 4, 132, 6, 255, 167, 255, 221, 42, 29, 6]
abbrev dktX4_scale_3 : List UInt8 := dkwX4_scale_3 ++ dktX4_scale_4
def dkwX4_scale_2 : List UInt8 := [50, 184, 0, 215, 54, 6, 21, 6, 155, 0, 36, 42, 180, 0, 59, 21, 6, 42, 180, 0, 11, 27, 50]
abbrev dktX4_scale_2 : List UInt8 := dkwX4_scale_2 ++ dktX4_scale_3
def dkwX4_scale_1 : List UInt8 := [184, 0, 232, 154, 0, 9, 42, 5, 182, 0, 212, 172, 42, 182, 0, 220, 10, 55, 4, 42, 180, 0, 11, 27]
abbrev dktX4_scale_1 : List UInt8 := dkwX4_scale_1 ++ dktX4_scale_2
def dkwX4_scale_0 : List UInt8 := [27, 184, 0, 228, 153, 0, 10, 29, 184, 0, 228, 154, 0, 9, 42, 4, 182, 0, 212, 172, 28, 5, 16, 9]
abbrev dktX4_scale_0 : List UInt8 := dkwX4_scale_0 ++ dktX4_scale_1
theorem dksX4_scale_0 : cX4_scale.data.toList.drop 0 = dktX4_scale_0 := by decide +kernel
theorem dksX4_scale_1 : cX4_scale.data.toList.drop 24 = dktX4_scale_1 := dk_seg dksX4_scale_0 24 rfl rfl
theorem dksX4_scale_2 : cX4_scale.data.toList.drop 48 = dktX4_scale_2 := dk_seg dksX4_scale_1 24 rfl rfl
theorem dksX4_scale_3 : cX4_scale.data.toList.drop 71 = dktX4_scale_3 := dk_seg dksX4_scale_2 23 rfl rfl
theorem dksX4_scale_4 : cX4_scale.data.toList.drop 95 = dktX4_scale_4 := dk_seg dksX4_scale_3 24 rfl rfl
theorem dX4_scale_0 : decode cX4_scale 0 = .ok (.iload_n 1, 1) := dk_27 (dk_at dksX4_scale_0 0 rfl rfl)
theorem dX4_scale_1 : decode cX4_scale 1 = .ok (.invokestatic 228, 3) := dk_184 0 228 (dk_at dksX4_scale_0 1 rfl rfl)
theorem dX4_scale_4 : decode cX4_scale 4 = .ok (.ifCond .eq 10, 3) := dk_153 0 10 (dk_at dksX4_scale_0 4 rfl rfl)
theorem dX4_scale_7 : decode cX4_scale 7 = .ok (.iload_n 3, 1) := dk_29 (dk_at dksX4_scale_0 7 rfl rfl)
theorem dX4_scale_8 : decode cX4_scale 8 = .ok (.invokestatic 228, 3) := dk_184 0 228 (dk_at dksX4_scale_0 8 rfl rfl)
theorem dX4_scale_11 : decode cX4_scale 11 = .ok (.ifCond .ne 9, 3) := dk_154 0 9 (dk_at dksX4_scale_0 11 rfl rfl)
theorem dX4_scale_14 : decode cX4_scale 14 = .ok (.aload_n 0, 1) := dk_42 (dk_at dksX4_scale_0 14 rfl rfl)
theorem dX4_scale_15 : decode cX4_scale 15 = .ok (.iconst 1, 1) := dk_4 (dk_at dksX4_scale_0 15 rfl rfl)
theorem dX4_scale_16 : decode cX4_scale 16 = .ok (.invokevirtual 212, 3) := dk_182 0 212 (dk_at dksX4_scale_0 16 rfl rfl)
theorem dX4_scale_19 : decode cX4_scale 19 = .ok (.ireturn, 1) := dk_172 (dk_at dksX4_scale_0 19 rfl rfl)
theorem dX4_scale_20 : decode cX4_scale 20 = .ok (.iload_n 2, 1) := dk_28 (dk_at dksX4_scale_0 20 rfl rfl)
theorem dX4_scale_21 : decode cX4_scale 21 = .ok (.iconst 2, 1) := dk_5 (dk_at dksX4_scale_0 21 rfl rfl)
theorem dX4_scale_22 : decode cX4_scale 22 = .ok (.bipush 9, 2) := dk_16 9 (dk_at dksX4_scale_0 22 rfl rfl)
theorem dX4_scale_24 : decode cX4_scale 24 = .ok (.invokestatic 232, 3) := dk_184 0 232 (dk_at dksX4_scale_1 0 rfl rfl)
theorem dX4_scale_27 : decode cX4_scale 27 = .ok (.ifCond .ne 9, 3) := dk_154 0 9 (dk_at dksX4_scale_1 3 rfl rfl)
theorem dX4_scale_30 : decode cX4_scale 30 = .ok (.aload_n 0, 1) := dk_42 (dk_at dksX4_scale_1 6 rfl rfl)
theorem dX4_scale_31 : decode cX4_scale 31 = .ok (.iconst 2, 1) := dk_5 (dk_at dksX4_scale_1 7 rfl rfl)
theorem dX4_scale_32 : decode cX4_scale 32 = .ok (.invokevirtual 212, 3) := dk_182 0 212 (dk_at dksX4_scale_1 8 rfl rfl)
theorem dX4_scale_35 : decode cX4_scale 35 = .ok (.ireturn, 1) := dk_172 (dk_at dksX4_scale_1 11 rfl rfl)
theorem dX4_scale_36 : decode cX4_scale 36 = .ok (.aload_n 0, 1) := dk_42 (dk_at dksX4_scale_1 12 rfl rfl)
theorem dX4_scale_37 : decode cX4_scale 37 = .ok (.invokevirtual 220, 3) := dk_182 0 220 (dk_at dksX4_scale_1 13 rfl rfl)
theorem dX4_scale_40 : decode cX4_scale 40 = .ok (.lconst 1, 1) := dk_10 (dk_at dksX4_scale_1 16 rfl rfl)
theorem dX4_scale_41 : decode cX4_scale 41 = .ok (.lstore 4, 2) := dk_55 4 (dk_at dksX4_scale_1 17 rfl rfl)
theorem dX4_scale_43 : decode cX4_scale 43 = .ok (.aload_n 0, 1) := dk_42 (dk_at dksX4_scale_1 19 rfl rfl)
theorem dX4_scale_44 : decode cX4_scale 44 = .ok (.getfield 11, 3) := dk_180 0 11 (dk_at dksX4_scale_1 20 rfl rfl)
theorem dX4_scale_47 : decode cX4_scale 47 = .ok (.iload_n 1, 1) := dk_27 (dk_at dksX4_scale_1 23 rfl rfl)
theorem dX4_scale_48 : decode cX4_scale 48 = .ok (.aaload, 1) := dk_50 (dk_at dksX4_scale_2 0 rfl rfl)
theorem dX4_scale_49 : decode cX4_scale 49 = .ok (.invokestatic 215, 3) := dk_184 0 215 (dk_at dksX4_scale_2 1 rfl rfl)
theorem dX4_scale_52 : decode cX4_scale 52 = .ok (.istore 6, 2) := dk_54 6 (dk_at dksX4_scale_2 4 rfl rfl)
theorem dX4_scale_54 : decode cX4_scale 54 = .ok (.iload 6, 2) := dk_21 6 (dk_at dksX4_scale_2 6 rfl rfl)
theorem dX4_scale_56 : decode cX4_scale 56 = .ok (.ifCond .lt 36, 3) := dk_155 0 36 (dk_at dksX4_scale_2 8 rfl rfl)
theorem dX4_scale_59 : decode cX4_scale 59 = .ok (.aload_n 0, 1) := dk_42 (dk_at dksX4_scale_2 11 rfl rfl)
theorem dX4_scale_60 : decode cX4_scale 60 = .ok (.getfield 59, 3) := dk_180 0 59 (dk_at dksX4_scale_2 12 rfl rfl)
theorem dX4_scale_63 : decode cX4_scale 63 = .ok (.iload 6, 2) := dk_21 6 (dk_at dksX4_scale_2 15 rfl rfl)
theorem dX4_scale_65 : decode cX4_scale 65 = .ok (.aload_n 0, 1) := dk_42 (dk_at dksX4_scale_2 17 rfl rfl)
theorem dX4_scale_66 : decode cX4_scale 66 = .ok (.getfield 11, 3) := dk_180 0 11 (dk_at dksX4_scale_2 18 rfl rfl)
theorem dX4_scale_69 : decode cX4_scale 69 = .ok (.iload_n 1, 1) := dk_27 (dk_at dksX4_scale_2 21 rfl rfl)
theorem dX4_scale_70 : decode cX4_scale 70 = .ok (.aaload, 1) := dk_50 (dk_at dksX4_scale_2 22 rfl rfl)
theorem dX4_scale_71 : decode cX4_scale 71 = .ok (.iload 6, 2) := dk_21 6 (dk_at dksX4_scale_3 0 rfl rfl)
theorem dX4_scale_73 : decode cX4_scale 73 = .ok (.iaload, 1) := dk_46 (dk_at dksX4_scale_3 2 rfl rfl)
theorem dX4_scale_74 : decode cX4_scale 74 = .ok (.i2l, 1) := dk_133 (dk_at dksX4_scale_3 3 rfl rfl)
theorem dX4_scale_75 : decode cX4_scale 75 = .ok (.lload 4, 2) := dk_22 4 (dk_at dksX4_scale_3 4 rfl rfl)
theorem dX4_scale_77 : decode cX4_scale 77 = .ok (.lmul, 1) := dk_105 (dk_at dksX4_scale_3 6 rfl rfl)
theorem dX4_scale_78 : decode cX4_scale 78 = .ok (.lastore, 1) := dk_80 (dk_at dksX4_scale_3 7 rfl rfl)
theorem dX4_scale_79 : decode cX4_scale 79 = .ok (.lload 4, 2) := dk_22 4 (dk_at dksX4_scale_3 8 rfl rfl)
theorem dX4_scale_81 : decode cX4_scale 81 = .ok (.iload_n 2, 1) := dk_28 (dk_at dksX4_scale_3 10 rfl rfl)
theorem dX4_scale_82 : decode cX4_scale 82 = .ok (.i2l, 1) := dk_133 (dk_at dksX4_scale_3 11 rfl rfl)
theorem dX4_scale_83 : decode cX4_scale 83 = .ok (.lmul, 1) := dk_105 (dk_at dksX4_scale_3 12 rfl rfl)
theorem dX4_scale_84 : decode cX4_scale 84 = .ok (.lstore 4, 2) := dk_55 4 (dk_at dksX4_scale_3 13 rfl rfl)
theorem dX4_scale_86 : decode cX4_scale 86 = .ok (.iinc 6 (-1), 3) := dk_132 6 255 (dk_at dksX4_scale_3 15 rfl rfl)
theorem dX4_scale_89 : decode cX4_scale 89 = .ok (.goto (-35), 3) := dk_167 255 221 (dk_at dksX4_scale_3 18 rfl rfl)
theorem dX4_scale_92 : decode cX4_scale 92 = .ok (.aload_n 0, 1) := dk_42 (dk_at dksX4_scale_3 21 rfl rfl)
theorem dX4_scale_93 : decode cX4_scale 93 = .ok (.iload_n 3, 1) := dk_29 (dk_at dksX4_scale_3 22 rfl rfl)
theorem dX4_scale_94 : decode cX4_scale 94 = .ok (.iconst 3, 1) := dk_6 (dk_at dksX4_scale_3 23 rfl rfl)
theorem dX4_scale_95 : decode cX4_scale 95 = .ok (.invokevirtual 225, 3) := dk_182 0 225 (dk_at dksX4_scale_4 0 rfl rfl)
theorem dX4_scale_98 : decode cX4_scale 98 = .ok (.ireturn, 1) := dk_172 (dk_at dksX4_scale_4 3 rfl rfl)
abbrev cX4_gcd : ByteArray := prog_6_method_54_code
def yX4_gcd : MethodName := ⟨RX4, "gcd", "(III)I"⟩
def dkwX4_gcd_2 : List UInt8 := [180, 0, 36, 184, 0, 236, 42, 182, 0, 191, 42, 42, 180, 0, 42, 29, 5, 182, 0, 240, 172]
abbrev dktX4_gcd_2 : List UInt8 := dkwX4_gcd_2 ++ []
def dkwX4_gcd_1 : List UInt8 := [182, 0, 212, 172, 42, 180, 0, 11, 27, 50, 42, 180, 0, 33, 184, 0, 236, 42, 180, 0, 11, 28, 50, 42]
abbrev dktX4_gcd_1 : List UInt8 := dkwX4_gcd_1 ++ dktX4_gcd_2
def dkwX4_gcd_0 : List UInt8 := [27, 184, 0, 228, 153, 0, 17, 28, 184, 0, 228, 153, 0, 10, 29, 184, 0, 228, 154, 0, 9, 42, 4]
abbrev dktX4_gcd_0 : List UInt8 := dkwX4_gcd_0 ++ dktX4_gcd_1
theorem dksX4_gcd_0 : cX4_gcd.data.toList.drop 0 = dktX4_gcd_0 := by decide +kernel
theorem dksX4_gcd_1 : cX4_gcd.data.toList.drop 23 = dktX4_gcd_1 := dk_seg dksX4_gcd_0 23 rfl rfl
theorem dksX4_gcd_2 : cX4_gcd.data.toList.drop 47 = dktX4_gcd_2 := dk_seg dksX4_gcd_1 24 rfl rfl
theorem dX4_gcd_0 : decode cX4_gcd 0 = .ok (.iload_n 1, 1) := dk_27 (dk_at dksX4_gcd_0 0 rfl rfl)
theorem dX4_gcd_1 : decode cX4_gcd 1 = .ok (.invokestatic 228, 3) := dk_184 0 228 (dk_at dksX4_gcd_0 1 rfl rfl)
theorem dX4_gcd_4 : decode cX4_gcd 4 = .ok (.ifCond .eq 17, 3) := dk_153 0 17 (dk_at dksX4_gcd_0 4 rfl rfl)
theorem dX4_gcd_7 : decode cX4_gcd 7 = .ok (.iload_n 2, 1) := dk_28 (dk_at dksX4_gcd_0 7 rfl rfl)
theorem dX4_gcd_8 : decode cX4_gcd 8 = .ok (.invokestatic 228, 3) := dk_184 0 228 (dk_at dksX4_gcd_0 8 rfl rfl)
theorem dX4_gcd_11 : decode cX4_gcd 11 = .ok (.ifCond .eq 10, 3) := dk_153 0 10 (dk_at dksX4_gcd_0 11 rfl rfl)
theorem dX4_gcd_14 : decode cX4_gcd 14 = .ok (.iload_n 3, 1) := dk_29 (dk_at dksX4_gcd_0 14 rfl rfl)
theorem dX4_gcd_15 : decode cX4_gcd 15 = .ok (.invokestatic 228, 3) := dk_184 0 228 (dk_at dksX4_gcd_0 15 rfl rfl)
theorem dX4_gcd_18 : decode cX4_gcd 18 = .ok (.ifCond .ne 9, 3) := dk_154 0 9 (dk_at dksX4_gcd_0 18 rfl rfl)
theorem dX4_gcd_21 : decode cX4_gcd 21 = .ok (.aload_n 0, 1) := dk_42 (dk_at dksX4_gcd_0 21 rfl rfl)
theorem dX4_gcd_22 : decode cX4_gcd 22 = .ok (.iconst 1, 1) := dk_4 (dk_at dksX4_gcd_0 22 rfl rfl)
theorem dX4_gcd_23 : decode cX4_gcd 23 = .ok (.invokevirtual 212, 3) := dk_182 0 212 (dk_at dksX4_gcd_1 0 rfl rfl)
theorem dX4_gcd_26 : decode cX4_gcd 26 = .ok (.ireturn, 1) := dk_172 (dk_at dksX4_gcd_1 3 rfl rfl)
theorem dX4_gcd_27 : decode cX4_gcd 27 = .ok (.aload_n 0, 1) := dk_42 (dk_at dksX4_gcd_1 4 rfl rfl)
theorem dX4_gcd_28 : decode cX4_gcd 28 = .ok (.getfield 11, 3) := dk_180 0 11 (dk_at dksX4_gcd_1 5 rfl rfl)
theorem dX4_gcd_31 : decode cX4_gcd 31 = .ok (.iload_n 1, 1) := dk_27 (dk_at dksX4_gcd_1 8 rfl rfl)
theorem dX4_gcd_32 : decode cX4_gcd 32 = .ok (.aaload, 1) := dk_50 (dk_at dksX4_gcd_1 9 rfl rfl)
theorem dX4_gcd_33 : decode cX4_gcd 33 = .ok (.aload_n 0, 1) := dk_42 (dk_at dksX4_gcd_1 10 rfl rfl)
theorem dX4_gcd_34 : decode cX4_gcd 34 = .ok (.getfield 33, 3) := dk_180 0 33 (dk_at dksX4_gcd_1 11 rfl rfl)
theorem dX4_gcd_37 : decode cX4_gcd 37 = .ok (.invokestatic 236, 3) := dk_184 0 236 (dk_at dksX4_gcd_1 14 rfl rfl)
theorem dX4_gcd_40 : decode cX4_gcd 40 = .ok (.aload_n 0, 1) := dk_42 (dk_at dksX4_gcd_1 17 rfl rfl)
theorem dX4_gcd_41 : decode cX4_gcd 41 = .ok (.getfield 11, 3) := dk_180 0 11 (dk_at dksX4_gcd_1 18 rfl rfl)
theorem dX4_gcd_44 : decode cX4_gcd 44 = .ok (.iload_n 2, 1) := dk_28 (dk_at dksX4_gcd_1 21 rfl rfl)
theorem dX4_gcd_45 : decode cX4_gcd 45 = .ok (.aaload, 1) := dk_50 (dk_at dksX4_gcd_1 22 rfl rfl)
theorem dX4_gcd_46 : decode cX4_gcd 46 = .ok (.aload_n 0, 1) := dk_42 (dk_at dksX4_gcd_1 23 rfl rfl)
theorem dX4_gcd_47 : decode cX4_gcd 47 = .ok (.getfield 36, 3) := dk_180 0 36 (dk_at dksX4_gcd_2 0 rfl rfl)
theorem dX4_gcd_50 : decode cX4_gcd 50 = .ok (.invokestatic 236, 3) := dk_184 0 236 (dk_at dksX4_gcd_2 3 rfl rfl)
theorem dX4_gcd_53 : decode cX4_gcd 53 = .ok (.aload_n 0, 1) := dk_42 (dk_at dksX4_gcd_2 6 rfl rfl)
theorem dX4_gcd_54 : decode cX4_gcd 54 = .ok (.invokevirtual 191, 3) := dk_182 0 191 (dk_at dksX4_gcd_2 7 rfl rfl)
theorem dX4_gcd_57 : decode cX4_gcd 57 = .ok (.aload_n 0, 1) := dk_42 (dk_at dksX4_gcd_2 10 rfl rfl)
theorem dX4_gcd_58 : decode cX4_gcd 58 = .ok (.aload_n 0, 1) := dk_42 (dk_at dksX4_gcd_2 11 rfl rfl)
theorem dX4_gcd_59 : decode cX4_gcd 59 = .ok (.getfield 42, 3) := dk_180 0 42 (dk_at dksX4_gcd_2 12 rfl rfl)
theorem dX4_gcd_62 : decode cX4_gcd 62 = .ok (.iload_n 3, 1) := dk_29 (dk_at dksX4_gcd_2 15 rfl rfl)
theorem dX4_gcd_63 : decode cX4_gcd 63 = .ok (.iconst 2, 1) := dk_5 (dk_at dksX4_gcd_2 16 rfl rfl)
theorem dX4_gcd_64 : decode cX4_gcd 64 = .ok (.invokevirtual 240, 3) := dk_182 0 240 (dk_at dksX4_gcd_2 17 rfl rfl)
theorem dX4_gcd_67 : decode cX4_gcd 67 = .ok (.ireturn, 1) := dk_172 (dk_at dksX4_gcd_2 20 rfl rfl)
abbrev cX4_load : ByteArray := prog_6_method_26_code
def yX4_load : MethodName := ⟨RX4, "load", "([I[[I)V"⟩
def dkwX4_load_1 : List UInt8 := [177]
abbrev dktX4_load_1 : List UInt8 := dkwX4_load_1 ++ []
def dkwX4_load_0 : List UInt8 := [3, 61, 28, 16, 7, 162, 0, 19, 43, 28, 50, 42, 28, 46, 133, 184, 0, 145, 132, 2, 1, 167, 255, 237]
abbrev dktX4_load_0 : List UInt8 := dkwX4_load_0 ++ dktX4_load_1
theorem dksX4_load_0 : cX4_load.data.toList.drop 0 = dktX4_load_0 := by decide +kernel
theorem dksX4_load_1 : cX4_load.data.toList.drop 24 = dktX4_load_1 := dk_seg dksX4_load_0 24 rfl rfl
theorem dX4_load_0 : decode cX4_load 0 = .ok (.iconst 0, 1) := dk_3 (dk_at dksX4_load_0 0 rfl rfl)
theorem dX4_load_1 : decode cX4_load 1 = .ok (.istore_n 2, 1) := dk_61 (dk_at dksX4_load_0 1 rfl rfl)
theorem dX4_load_2 : decode cX4_load 2 = .ok (.iload_n 2, 1) := dk_28 (dk_at dksX4_load_0 2 rfl rfl)
theorem dX4_load_3 : decode cX4_load 3 = .ok (.bipush 7, 2) := dk_16 7 (dk_at dksX4_load_0 3 rfl rfl)
theorem dX4_load_5 : decode cX4_load 5 = .ok (.if_icmp .ge 19, 3) := dk_162 0 19 (dk_at dksX4_load_0 5 rfl rfl)
theorem dX4_load_8 : decode cX4_load 8 = .ok (.aload_n 1, 1) := dk_43 (dk_at dksX4_load_0 8 rfl rfl)
theorem dX4_load_9 : decode cX4_load 9 = .ok (.iload_n 2, 1) := dk_28 (dk_at dksX4_load_0 9 rfl rfl)
theorem dX4_load_10 : decode cX4_load 10 = .ok (.aaload, 1) := dk_50 (dk_at dksX4_load_0 10 rfl rfl)
theorem dX4_load_11 : decode cX4_load 11 = .ok (.aload_n 0, 1) := dk_42 (dk_at dksX4_load_0 11 rfl rfl)
theorem dX4_load_12 : decode cX4_load 12 = .ok (.iload_n 2, 1) := dk_28 (dk_at dksX4_load_0 12 rfl rfl)
theorem dX4_load_13 : decode cX4_load 13 = .ok (.iaload, 1) := dk_46 (dk_at dksX4_load_0 13 rfl rfl)
theorem dX4_load_14 : decode cX4_load 14 = .ok (.i2l, 1) := dk_133 (dk_at dksX4_load_0 14 rfl rfl)
theorem dX4_load_15 : decode cX4_load 15 = .ok (.invokestatic 145, 3) := dk_184 0 145 (dk_at dksX4_load_0 15 rfl rfl)
theorem dX4_load_18 : decode cX4_load 18 = .ok (.iinc 2 1, 3) := dk_132 2 1 (dk_at dksX4_load_0 18 rfl rfl)
theorem dX4_load_21 : decode cX4_load 21 = .ok (.goto (-19), 3) := dk_167 255 237 (dk_at dksX4_load_0 21 rfl rfl)
theorem dX4_load_24 : decode cX4_load 24 = .ok (.return_, 1) := dk_177 (dk_at dksX4_load_1 0 rfl rfl)
abbrev cX4_set_2 : ByteArray := prog_6_method_5_code
def yX4_set_2 : MethodName := ⟨RX4, "set", "([IJ)V"⟩
def dkwX4_set_2_1 : List UInt8 := [132, 3, 1, 167, 255, 233, 42, 3, 31, 136, 79, 42, 4, 31, 16, 32, 123, 136, 79, 177]
abbrev dktX4_set_2_1 : List UInt8 := dkwX4_set_2_1 ++ []
def dkwX4_set_2_0 : List UInt8 := [5, 62, 29, 16, 48, 162, 0, 23, 42, 29, 31, 9, 148, 156, 0, 7, 2, 167, 0, 4, 3, 79]
abbrev dktX4_set_2_0 : List UInt8 := dkwX4_set_2_0 ++ dktX4_set_2_1
theorem dksX4_set_2_0 : cX4_set_2.data.toList.drop 0 = dktX4_set_2_0 := by decide +kernel
theorem dksX4_set_2_1 : cX4_set_2.data.toList.drop 22 = dktX4_set_2_1 := dk_seg dksX4_set_2_0 22 rfl rfl
theorem dX4_set_2_0 : decode cX4_set_2 0 = .ok (.iconst 2, 1) := dk_5 (dk_at dksX4_set_2_0 0 rfl rfl)
theorem dX4_set_2_1 : decode cX4_set_2 1 = .ok (.istore_n 3, 1) := dk_62 (dk_at dksX4_set_2_0 1 rfl rfl)
theorem dX4_set_2_2 : decode cX4_set_2 2 = .ok (.iload_n 3, 1) := dk_29 (dk_at dksX4_set_2_0 2 rfl rfl)
theorem dX4_set_2_3 : decode cX4_set_2 3 = .ok (.bipush 48, 2) := dk_16 48 (dk_at dksX4_set_2_0 3 rfl rfl)
theorem dX4_set_2_5 : decode cX4_set_2 5 = .ok (.if_icmp .ge 23, 3) := dk_162 0 23 (dk_at dksX4_set_2_0 5 rfl rfl)
theorem dX4_set_2_8 : decode cX4_set_2 8 = .ok (.aload_n 0, 1) := dk_42 (dk_at dksX4_set_2_0 8 rfl rfl)
theorem dX4_set_2_9 : decode cX4_set_2 9 = .ok (.iload_n 3, 1) := dk_29 (dk_at dksX4_set_2_0 9 rfl rfl)
theorem dX4_set_2_10 : decode cX4_set_2 10 = .ok (.lload_n 1, 1) := dk_31 (dk_at dksX4_set_2_0 10 rfl rfl)
theorem dX4_set_2_11 : decode cX4_set_2 11 = .ok (.lconst 0, 1) := dk_9 (dk_at dksX4_set_2_0 11 rfl rfl)
theorem dX4_set_2_12 : decode cX4_set_2 12 = .ok (.lcmp, 1) := dk_148 (dk_at dksX4_set_2_0 12 rfl rfl)
theorem dX4_set_2_13 : decode cX4_set_2 13 = .ok (.ifCond .ge 7, 3) := dk_156 0 7 (dk_at dksX4_set_2_0 13 rfl rfl)
theorem dX4_set_2_16 : decode cX4_set_2 16 = .ok (.iconst (-1), 1) := dk_2 (dk_at dksX4_set_2_0 16 rfl rfl)
theorem dX4_set_2_17 : decode cX4_set_2 17 = .ok (.goto 4, 3) := dk_167 0 4 (dk_at dksX4_set_2_0 17 rfl rfl)
theorem dX4_set_2_20 : decode cX4_set_2 20 = .ok (.iconst 0, 1) := dk_3 (dk_at dksX4_set_2_0 20 rfl rfl)
theorem dX4_set_2_21 : decode cX4_set_2 21 = .ok (.iastore, 1) := dk_79 (dk_at dksX4_set_2_0 21 rfl rfl)
theorem dX4_set_2_22 : decode cX4_set_2 22 = .ok (.iinc 3 1, 3) := dk_132 3 1 (dk_at dksX4_set_2_1 0 rfl rfl)
theorem dX4_set_2_25 : decode cX4_set_2 25 = .ok (.goto (-23), 3) := dk_167 255 233 (dk_at dksX4_set_2_1 3 rfl rfl)
theorem dX4_set_2_28 : decode cX4_set_2 28 = .ok (.aload_n 0, 1) := dk_42 (dk_at dksX4_set_2_1 6 rfl rfl)
theorem dX4_set_2_29 : decode cX4_set_2 29 = .ok (.iconst 0, 1) := dk_3 (dk_at dksX4_set_2_1 7 rfl rfl)
theorem dX4_set_2_30 : decode cX4_set_2 30 = .ok (.lload_n 1, 1) := dk_31 (dk_at dksX4_set_2_1 8 rfl rfl)
theorem dX4_set_2_31 : decode cX4_set_2 31 = .ok (.l2i, 1) := dk_136 (dk_at dksX4_set_2_1 9 rfl rfl)
theorem dX4_set_2_32 : decode cX4_set_2 32 = .ok (.iastore, 1) := dk_79 (dk_at dksX4_set_2_1 10 rfl rfl)
theorem dX4_set_2_33 : decode cX4_set_2 33 = .ok (.aload_n 0, 1) := dk_42 (dk_at dksX4_set_2_1 11 rfl rfl)
theorem dX4_set_2_34 : decode cX4_set_2 34 = .ok (.iconst 1, 1) := dk_4 (dk_at dksX4_set_2_1 12 rfl rfl)
theorem dX4_set_2_35 : decode cX4_set_2 35 = .ok (.lload_n 1, 1) := dk_31 (dk_at dksX4_set_2_1 13 rfl rfl)
theorem dX4_set_2_36 : decode cX4_set_2 36 = .ok (.bipush 32, 2) := dk_16 32 (dk_at dksX4_set_2_1 14 rfl rfl)
theorem dX4_set_2_38 : decode cX4_set_2 38 = .ok (.lshr, 1) := dk_123 (dk_at dksX4_set_2_1 16 rfl rfl)
theorem dX4_set_2_39 : decode cX4_set_2 39 = .ok (.l2i, 1) := dk_136 (dk_at dksX4_set_2_1 17 rfl rfl)
theorem dX4_set_2_40 : decode cX4_set_2 40 = .ok (.iastore, 1) := dk_79 (dk_at dksX4_set_2_1 18 rfl rfl)
theorem dX4_set_2_41 : decode cX4_set_2 41 = .ok (.return_, 1) := dk_177 (dk_at dksX4_set_2_1 19 rfl rfl)
abbrev cX4_findCommon : ByteArray := prog_6_method_31_code
def yX4_findCommon : MethodName := ⟨RX4, "findCommon", "()V"⟩
def dkwX4_findCommon_3 : List UInt8 := [43, 182, 0, 176, 42, 43, 182, 0, 183, 43, 42, 180, 0, 42, 184, 0, 186, 177]
abbrev dktX4_findCommon_3 : List UInt8 := dkwX4_findCommon_3 ++ []
def dkwX4_findCommon_2 : List UInt8 := [77, 44, 184, 0, 166, 155, 0, 18, 42, 43, 44, 182, 0, 179, 43, 78, 44, 76, 45, 77, 167, 255, 237, 42]
abbrev dktX4_findCommon_2 : List UInt8 := dkwX4_findCommon_2 ++ dktX4_findCommon_3
def dkwX4_findCommon_1 : List UInt8 := [42, 180, 0, 33, 76, 43, 42, 180, 0, 33, 166, 0, 10, 42, 180, 0, 36, 167, 0, 7, 42, 180, 0, 33]
abbrev dktX4_findCommon_1 : List UInt8 := dkwX4_findCommon_1 ++ dktX4_findCommon_2
def dkwX4_findCommon_0 : List UInt8 := [42, 180, 0, 33, 184, 0, 166, 42, 180, 0, 36, 184, 0, 166, 162, 0, 10, 42, 180, 0, 36, 167, 0, 7]
abbrev dktX4_findCommon_0 : List UInt8 := dkwX4_findCommon_0 ++ dktX4_findCommon_1
theorem dksX4_findCommon_0 : cX4_findCommon.data.toList.drop 0 = dktX4_findCommon_0 := by decide +kernel
theorem dksX4_findCommon_1 : cX4_findCommon.data.toList.drop 24 = dktX4_findCommon_1 := dk_seg dksX4_findCommon_0 24 rfl rfl
theorem dksX4_findCommon_2 : cX4_findCommon.data.toList.drop 48 = dktX4_findCommon_2 := dk_seg dksX4_findCommon_1 24 rfl rfl
theorem dksX4_findCommon_3 : cX4_findCommon.data.toList.drop 72 = dktX4_findCommon_3 := dk_seg dksX4_findCommon_2 24 rfl rfl
theorem dX4_findCommon_0 : decode cX4_findCommon 0 = .ok (.aload_n 0, 1) := dk_42 (dk_at dksX4_findCommon_0 0 rfl rfl)
theorem dX4_findCommon_1 : decode cX4_findCommon 1 = .ok (.getfield 33, 3) := dk_180 0 33 (dk_at dksX4_findCommon_0 1 rfl rfl)
theorem dX4_findCommon_4 : decode cX4_findCommon 4 = .ok (.invokestatic 166, 3) := dk_184 0 166 (dk_at dksX4_findCommon_0 4 rfl rfl)
theorem dX4_findCommon_7 : decode cX4_findCommon 7 = .ok (.aload_n 0, 1) := dk_42 (dk_at dksX4_findCommon_0 7 rfl rfl)
theorem dX4_findCommon_8 : decode cX4_findCommon 8 = .ok (.getfield 36, 3) := dk_180 0 36 (dk_at dksX4_findCommon_0 8 rfl rfl)
theorem dX4_findCommon_11 : decode cX4_findCommon 11 = .ok (.invokestatic 166, 3) := dk_184 0 166 (dk_at dksX4_findCommon_0 11 rfl rfl)
theorem dX4_findCommon_14 : decode cX4_findCommon 14 = .ok (.if_icmp .ge 10, 3) := dk_162 0 10 (dk_at dksX4_findCommon_0 14 rfl rfl)
theorem dX4_findCommon_17 : decode cX4_findCommon 17 = .ok (.aload_n 0, 1) := dk_42 (dk_at dksX4_findCommon_0 17 rfl rfl)
theorem dX4_findCommon_18 : decode cX4_findCommon 18 = .ok (.getfield 36, 3) := dk_180 0 36 (dk_at dksX4_findCommon_0 18 rfl rfl)
theorem dX4_findCommon_21 : decode cX4_findCommon 21 = .ok (.goto 7, 3) := dk_167 0 7 (dk_at dksX4_findCommon_0 21 rfl rfl)
theorem dX4_findCommon_24 : decode cX4_findCommon 24 = .ok (.aload_n 0, 1) := dk_42 (dk_at dksX4_findCommon_1 0 rfl rfl)
theorem dX4_findCommon_25 : decode cX4_findCommon 25 = .ok (.getfield 33, 3) := dk_180 0 33 (dk_at dksX4_findCommon_1 1 rfl rfl)
theorem dX4_findCommon_28 : decode cX4_findCommon 28 = .ok (.astore_n 1, 1) := dk_76 (dk_at dksX4_findCommon_1 4 rfl rfl)
theorem dX4_findCommon_29 : decode cX4_findCommon 29 = .ok (.aload_n 1, 1) := dk_43 (dk_at dksX4_findCommon_1 5 rfl rfl)
theorem dX4_findCommon_30 : decode cX4_findCommon 30 = .ok (.aload_n 0, 1) := dk_42 (dk_at dksX4_findCommon_1 6 rfl rfl)
theorem dX4_findCommon_31 : decode cX4_findCommon 31 = .ok (.getfield 33, 3) := dk_180 0 33 (dk_at dksX4_findCommon_1 7 rfl rfl)
theorem dX4_findCommon_34 : decode cX4_findCommon 34 = .ok (.if_acmp .ne 10, 3) := dk_166 0 10 (dk_at dksX4_findCommon_1 10 rfl rfl)
theorem dX4_findCommon_37 : decode cX4_findCommon 37 = .ok (.aload_n 0, 1) := dk_42 (dk_at dksX4_findCommon_1 13 rfl rfl)
theorem dX4_findCommon_38 : decode cX4_findCommon 38 = .ok (.getfield 36, 3) := dk_180 0 36 (dk_at dksX4_findCommon_1 14 rfl rfl)
theorem dX4_findCommon_41 : decode cX4_findCommon 41 = .ok (.goto 7, 3) := dk_167 0 7 (dk_at dksX4_findCommon_1 17 rfl rfl)
theorem dX4_findCommon_44 : decode cX4_findCommon 44 = .ok (.aload_n 0, 1) := dk_42 (dk_at dksX4_findCommon_1 20 rfl rfl)
theorem dX4_findCommon_45 : decode cX4_findCommon 45 = .ok (.getfield 33, 3) := dk_180 0 33 (dk_at dksX4_findCommon_1 21 rfl rfl)
theorem dX4_findCommon_48 : decode cX4_findCommon 48 = .ok (.astore_n 2, 1) := dk_77 (dk_at dksX4_findCommon_2 0 rfl rfl)
theorem dX4_findCommon_49 : decode cX4_findCommon 49 = .ok (.aload_n 2, 1) := dk_44 (dk_at dksX4_findCommon_2 1 rfl rfl)
theorem dX4_findCommon_50 : decode cX4_findCommon 50 = .ok (.invokestatic 166, 3) := dk_184 0 166 (dk_at dksX4_findCommon_2 2 rfl rfl)
theorem dX4_findCommon_53 : decode cX4_findCommon 53 = .ok (.ifCond .lt 18, 3) := dk_155 0 18 (dk_at dksX4_findCommon_2 5 rfl rfl)
theorem dX4_findCommon_56 : decode cX4_findCommon 56 = .ok (.aload_n 0, 1) := dk_42 (dk_at dksX4_findCommon_2 8 rfl rfl)
theorem dX4_findCommon_57 : decode cX4_findCommon 57 = .ok (.aload_n 1, 1) := dk_43 (dk_at dksX4_findCommon_2 9 rfl rfl)
theorem dX4_findCommon_58 : decode cX4_findCommon 58 = .ok (.aload_n 2, 1) := dk_44 (dk_at dksX4_findCommon_2 10 rfl rfl)
theorem dX4_findCommon_59 : decode cX4_findCommon 59 = .ok (.invokevirtual 179, 3) := dk_182 0 179 (dk_at dksX4_findCommon_2 11 rfl rfl)
theorem dX4_findCommon_62 : decode cX4_findCommon 62 = .ok (.aload_n 1, 1) := dk_43 (dk_at dksX4_findCommon_2 14 rfl rfl)
theorem dX4_findCommon_63 : decode cX4_findCommon 63 = .ok (.astore_n 3, 1) := dk_78 (dk_at dksX4_findCommon_2 15 rfl rfl)
theorem dX4_findCommon_64 : decode cX4_findCommon 64 = .ok (.aload_n 2, 1) := dk_44 (dk_at dksX4_findCommon_2 16 rfl rfl)
theorem dX4_findCommon_65 : decode cX4_findCommon 65 = .ok (.astore_n 1, 1) := dk_76 (dk_at dksX4_findCommon_2 17 rfl rfl)
theorem dX4_findCommon_66 : decode cX4_findCommon 66 = .ok (.aload_n 3, 1) := dk_45 (dk_at dksX4_findCommon_2 18 rfl rfl)
theorem dX4_findCommon_67 : decode cX4_findCommon 67 = .ok (.astore_n 2, 1) := dk_77 (dk_at dksX4_findCommon_2 19 rfl rfl)
theorem dX4_findCommon_68 : decode cX4_findCommon 68 = .ok (.goto (-19), 3) := dk_167 255 237 (dk_at dksX4_findCommon_2 20 rfl rfl)
theorem dX4_findCommon_71 : decode cX4_findCommon 71 = .ok (.aload_n 0, 1) := dk_42 (dk_at dksX4_findCommon_2 23 rfl rfl)
theorem dX4_findCommon_72 : decode cX4_findCommon 72 = .ok (.aload_n 1, 1) := dk_43 (dk_at dksX4_findCommon_3 0 rfl rfl)
theorem dX4_findCommon_73 : decode cX4_findCommon 73 = .ok (.invokevirtual 176, 3) := dk_182 0 176 (dk_at dksX4_findCommon_3 1 rfl rfl)
theorem dX4_findCommon_76 : decode cX4_findCommon 76 = .ok (.aload_n 0, 1) := dk_42 (dk_at dksX4_findCommon_3 4 rfl rfl)
theorem dX4_findCommon_77 : decode cX4_findCommon 77 = .ok (.aload_n 1, 1) := dk_43 (dk_at dksX4_findCommon_3 5 rfl rfl)
theorem dX4_findCommon_78 : decode cX4_findCommon 78 = .ok (.invokevirtual 183, 3) := dk_182 0 183 (dk_at dksX4_findCommon_3 6 rfl rfl)
theorem dX4_findCommon_81 : decode cX4_findCommon 81 = .ok (.aload_n 1, 1) := dk_43 (dk_at dksX4_findCommon_3 9 rfl rfl)
theorem dX4_findCommon_82 : decode cX4_findCommon 82 = .ok (.aload_n 0, 1) := dk_42 (dk_at dksX4_findCommon_3 10 rfl rfl)
theorem dX4_findCommon_83 : decode cX4_findCommon 83 = .ok (.getfield 42, 3) := dk_180 0 42 (dk_at dksX4_findCommon_3 11 rfl rfl)
theorem dX4_findCommon_86 : decode cX4_findCommon 86 = .ok (.invokestatic 186, 3) := dk_184 0 186 (dk_at dksX4_findCommon_3 14 rfl rfl)
theorem dX4_findCommon_89 : decode cX4_findCommon 89 = .ok (.return_, 1) := dk_177 (dk_at dksX4_findCommon_3 17 rfl rfl)
abbrev cX4_degree_3 : ByteArray := prog_6_method_22_code
def yX4_degree_3 : MethodName := ⟨RX4, "degree", "([[I)I"⟩
def dkwX4_degree_3_0 : List UInt8 := [16, 6, 60, 27, 155, 0, 18, 42, 27, 50, 184, 0, 110, 154, 0, 9, 132, 1, 255, 167, 255, 240, 27, 172]
abbrev dktX4_degree_3_0 : List UInt8 := dkwX4_degree_3_0 ++ []
theorem dksX4_degree_3_0 : cX4_degree_3.data.toList.drop 0 = dktX4_degree_3_0 := by decide +kernel
theorem dX4_degree_3_0 : decode cX4_degree_3 0 = .ok (.bipush 6, 2) := dk_16 6 (dk_at dksX4_degree_3_0 0 rfl rfl)
theorem dX4_degree_3_2 : decode cX4_degree_3 2 = .ok (.istore_n 1, 1) := dk_60 (dk_at dksX4_degree_3_0 2 rfl rfl)
theorem dX4_degree_3_3 : decode cX4_degree_3 3 = .ok (.iload_n 1, 1) := dk_27 (dk_at dksX4_degree_3_0 3 rfl rfl)
theorem dX4_degree_3_4 : decode cX4_degree_3 4 = .ok (.ifCond .lt 18, 3) := dk_155 0 18 (dk_at dksX4_degree_3_0 4 rfl rfl)
theorem dX4_degree_3_7 : decode cX4_degree_3 7 = .ok (.aload_n 0, 1) := dk_42 (dk_at dksX4_degree_3_0 7 rfl rfl)
theorem dX4_degree_3_8 : decode cX4_degree_3 8 = .ok (.iload_n 1, 1) := dk_27 (dk_at dksX4_degree_3_0 8 rfl rfl)
theorem dX4_degree_3_9 : decode cX4_degree_3 9 = .ok (.aaload, 1) := dk_50 (dk_at dksX4_degree_3_0 9 rfl rfl)
theorem dX4_degree_3_10 : decode cX4_degree_3 10 = .ok (.invokestatic 110, 3) := dk_184 0 110 (dk_at dksX4_degree_3_0 10 rfl rfl)
theorem dX4_degree_3_13 : decode cX4_degree_3 13 = .ok (.ifCond .ne 9, 3) := dk_154 0 9 (dk_at dksX4_degree_3_0 13 rfl rfl)
theorem dX4_degree_3_16 : decode cX4_degree_3 16 = .ok (.iinc 1 (-1), 3) := dk_132 1 255 (dk_at dksX4_degree_3_0 16 rfl rfl)
theorem dX4_degree_3_19 : decode cX4_degree_3 19 = .ok (.goto (-16), 3) := dk_167 255 240 (dk_at dksX4_degree_3_0 19 rfl rfl)
theorem dX4_degree_3_22 : decode cX4_degree_3 22 = .ok (.iload_n 1, 1) := dk_27 (dk_at dksX4_degree_3_0 22 rfl rfl)
theorem dX4_degree_3_23 : decode cX4_degree_3 23 = .ok (.ireturn, 1) := dk_172 (dk_at dksX4_degree_3_0 23 rfl rfl)
abbrev cX4_sign : ByteArray := prog_6_method_7_code
def yX4_sign : MethodName := ⟨RX4, "sign", "([I)I"⟩
def dkwX4_sign_1 : List UInt8 := [172, 132, 1, 1, 167, 255, 239, 3, 172]
abbrev dktX4_sign_1 : List UInt8 := dkwX4_sign_1 ++ []
def dkwX4_sign_0 : List UInt8 := [42, 16, 47, 46, 156, 0, 5, 2, 172, 3, 60, 27, 16, 48, 162, 0, 17, 42, 27, 46, 153, 0, 5, 4]
abbrev dktX4_sign_0 : List UInt8 := dkwX4_sign_0 ++ dktX4_sign_1
theorem dksX4_sign_0 : cX4_sign.data.toList.drop 0 = dktX4_sign_0 := by decide +kernel
theorem dksX4_sign_1 : cX4_sign.data.toList.drop 24 = dktX4_sign_1 := dk_seg dksX4_sign_0 24 rfl rfl
theorem dX4_sign_0 : decode cX4_sign 0 = .ok (.aload_n 0, 1) := dk_42 (dk_at dksX4_sign_0 0 rfl rfl)
theorem dX4_sign_1 : decode cX4_sign 1 = .ok (.bipush 47, 2) := dk_16 47 (dk_at dksX4_sign_0 1 rfl rfl)
theorem dX4_sign_3 : decode cX4_sign 3 = .ok (.iaload, 1) := dk_46 (dk_at dksX4_sign_0 3 rfl rfl)
theorem dX4_sign_4 : decode cX4_sign 4 = .ok (.ifCond .ge 5, 3) := dk_156 0 5 (dk_at dksX4_sign_0 4 rfl rfl)
theorem dX4_sign_7 : decode cX4_sign 7 = .ok (.iconst (-1), 1) := dk_2 (dk_at dksX4_sign_0 7 rfl rfl)
theorem dX4_sign_8 : decode cX4_sign 8 = .ok (.ireturn, 1) := dk_172 (dk_at dksX4_sign_0 8 rfl rfl)
theorem dX4_sign_9 : decode cX4_sign 9 = .ok (.iconst 0, 1) := dk_3 (dk_at dksX4_sign_0 9 rfl rfl)
theorem dX4_sign_10 : decode cX4_sign 10 = .ok (.istore_n 1, 1) := dk_60 (dk_at dksX4_sign_0 10 rfl rfl)
theorem dX4_sign_11 : decode cX4_sign 11 = .ok (.iload_n 1, 1) := dk_27 (dk_at dksX4_sign_0 11 rfl rfl)
theorem dX4_sign_12 : decode cX4_sign 12 = .ok (.bipush 48, 2) := dk_16 48 (dk_at dksX4_sign_0 12 rfl rfl)
theorem dX4_sign_14 : decode cX4_sign 14 = .ok (.if_icmp .ge 17, 3) := dk_162 0 17 (dk_at dksX4_sign_0 14 rfl rfl)
theorem dX4_sign_17 : decode cX4_sign 17 = .ok (.aload_n 0, 1) := dk_42 (dk_at dksX4_sign_0 17 rfl rfl)
theorem dX4_sign_18 : decode cX4_sign 18 = .ok (.iload_n 1, 1) := dk_27 (dk_at dksX4_sign_0 18 rfl rfl)
theorem dX4_sign_19 : decode cX4_sign 19 = .ok (.iaload, 1) := dk_46 (dk_at dksX4_sign_0 19 rfl rfl)
theorem dX4_sign_20 : decode cX4_sign 20 = .ok (.ifCond .eq 5, 3) := dk_153 0 5 (dk_at dksX4_sign_0 20 rfl rfl)
theorem dX4_sign_23 : decode cX4_sign 23 = .ok (.iconst 1, 1) := dk_4 (dk_at dksX4_sign_0 23 rfl rfl)
theorem dX4_sign_24 : decode cX4_sign 24 = .ok (.ireturn, 1) := dk_172 (dk_at dksX4_sign_1 0 rfl rfl)
theorem dX4_sign_25 : decode cX4_sign 25 = .ok (.iinc 1 1, 3) := dk_132 1 1 (dk_at dksX4_sign_1 1 rfl rfl)
theorem dX4_sign_28 : decode cX4_sign 28 = .ok (.goto (-17), 3) := dk_167 255 239 (dk_at dksX4_sign_1 4 rfl rfl)
theorem dX4_sign_31 : decode cX4_sign 31 = .ok (.iconst 0, 1) := dk_3 (dk_at dksX4_sign_1 7 rfl rfl)
theorem dX4_sign_32 : decode cX4_sign 32 = .ok (.ireturn, 1) := dk_172 (dk_at dksX4_sign_1 8 rfl rfl)
abbrev cX4_remainder : ByteArray := prog_6_method_30_code
def yX4_remainder : MethodName := ⟨RX4, "remainder", "([[I[[I)V"⟩
def dkwX4_remainder_6 : List UInt8 := [167, 255, 175, 42, 43, 182, 0, 176, 43, 184, 0, 166, 54, 4, 167, 255, 114, 177]
abbrev dktX4_remainder_6 : List UInt8 := dkwX4_remainder_6 ++ []
def dkwX4_remainder_5 : List UInt8 := [180, 0, 27, 184, 0, 173, 43, 21, 5, 50, 42, 180, 0, 27, 16, 48, 184, 0, 134, 132, 5, 1]
abbrev dktX4_remainder_5 : List UInt8 := dkwX4_remainder_5 ++ dktX4_remainder_6
def dkwX4_remainder_4 : List UInt8 := [21, 4, 29, 100, 162, 0, 6, 167, 0, 36, 44, 21, 5, 21, 4, 100, 29, 96, 50, 42, 180, 0, 24, 42]
abbrev dktX4_remainder_4 : List UInt8 := dkwX4_remainder_4 ++ dktX4_remainder_5
def dkwX4_remainder_3 : List UInt8 := [180, 0, 21, 42, 180, 0, 27, 184, 0, 173, 42, 180, 0, 27, 43, 21, 5, 50, 184, 0, 113, 21, 5]
abbrev dktX4_remainder_3 : List UInt8 := dkwX4_remainder_3 ++ dktX4_remainder_4
def dkwX4_remainder_2 : List UInt8 := [42, 180, 0, 24, 184, 0, 93, 3, 54, 5, 21, 5, 21, 4, 163, 0, 80, 43, 21, 5, 50, 42]
abbrev dktX4_remainder_2 : List UInt8 := dkwX4_remainder_2 ++ dktX4_remainder_3
def dkwX4_remainder_1 : List UInt8 := [184, 0, 113, 43, 21, 4, 50, 42, 180, 0, 24, 184, 0, 113, 42, 180, 0, 21, 184, 0, 155, 153, 0, 10]
abbrev dktX4_remainder_1 : List UInt8 := dkwX4_remainder_1 ++ dktX4_remainder_2
def dkwX4_remainder_0 : List UInt8 := [44, 184, 0, 166, 62, 43, 184, 0, 166, 54, 4, 21, 4, 29, 161, 0, 142, 44, 29, 50, 42, 180, 0, 21]
abbrev dktX4_remainder_0 : List UInt8 := dkwX4_remainder_0 ++ dktX4_remainder_1
theorem dksX4_remainder_0 : cX4_remainder.data.toList.drop 0 = dktX4_remainder_0 := by decide +kernel
theorem dksX4_remainder_1 : cX4_remainder.data.toList.drop 24 = dktX4_remainder_1 := dk_seg dksX4_remainder_0 24 rfl rfl
theorem dksX4_remainder_2 : cX4_remainder.data.toList.drop 48 = dktX4_remainder_2 := dk_seg dksX4_remainder_1 24 rfl rfl
theorem dksX4_remainder_3 : cX4_remainder.data.toList.drop 70 = dktX4_remainder_3 := dk_seg dksX4_remainder_2 22 rfl rfl
theorem dksX4_remainder_4 : cX4_remainder.data.toList.drop 93 = dktX4_remainder_4 := dk_seg dksX4_remainder_3 23 rfl rfl
theorem dksX4_remainder_5 : cX4_remainder.data.toList.drop 117 = dktX4_remainder_5 := dk_seg dksX4_remainder_4 24 rfl rfl
theorem dksX4_remainder_6 : cX4_remainder.data.toList.drop 139 = dktX4_remainder_6 := dk_seg dksX4_remainder_5 22 rfl rfl
theorem dX4_remainder_0 : decode cX4_remainder 0 = .ok (.aload_n 2, 1) := dk_44 (dk_at dksX4_remainder_0 0 rfl rfl)
theorem dX4_remainder_1 : decode cX4_remainder 1 = .ok (.invokestatic 166, 3) := dk_184 0 166 (dk_at dksX4_remainder_0 1 rfl rfl)
theorem dX4_remainder_4 : decode cX4_remainder 4 = .ok (.istore_n 3, 1) := dk_62 (dk_at dksX4_remainder_0 4 rfl rfl)
theorem dX4_remainder_5 : decode cX4_remainder 5 = .ok (.aload_n 1, 1) := dk_43 (dk_at dksX4_remainder_0 5 rfl rfl)
theorem dX4_remainder_6 : decode cX4_remainder 6 = .ok (.invokestatic 166, 3) := dk_184 0 166 (dk_at dksX4_remainder_0 6 rfl rfl)
theorem dX4_remainder_9 : decode cX4_remainder 9 = .ok (.istore 4, 2) := dk_54 4 (dk_at dksX4_remainder_0 9 rfl rfl)
theorem dX4_remainder_11 : decode cX4_remainder 11 = .ok (.iload 4, 2) := dk_21 4 (dk_at dksX4_remainder_0 11 rfl rfl)
theorem dX4_remainder_13 : decode cX4_remainder 13 = .ok (.iload_n 3, 1) := dk_29 (dk_at dksX4_remainder_0 13 rfl rfl)
theorem dX4_remainder_14 : decode cX4_remainder 14 = .ok (.if_icmp .lt 142, 3) := dk_161 0 142 (dk_at dksX4_remainder_0 14 rfl rfl)
theorem dX4_remainder_17 : decode cX4_remainder 17 = .ok (.aload_n 2, 1) := dk_44 (dk_at dksX4_remainder_0 17 rfl rfl)
theorem dX4_remainder_18 : decode cX4_remainder 18 = .ok (.iload_n 3, 1) := dk_29 (dk_at dksX4_remainder_0 18 rfl rfl)
theorem dX4_remainder_19 : decode cX4_remainder 19 = .ok (.aaload, 1) := dk_50 (dk_at dksX4_remainder_0 19 rfl rfl)
theorem dX4_remainder_20 : decode cX4_remainder 20 = .ok (.aload_n 0, 1) := dk_42 (dk_at dksX4_remainder_0 20 rfl rfl)
theorem dX4_remainder_21 : decode cX4_remainder 21 = .ok (.getfield 21, 3) := dk_180 0 21 (dk_at dksX4_remainder_0 21 rfl rfl)
theorem dX4_remainder_24 : decode cX4_remainder 24 = .ok (.invokestatic 113, 3) := dk_184 0 113 (dk_at dksX4_remainder_1 0 rfl rfl)
theorem dX4_remainder_27 : decode cX4_remainder 27 = .ok (.aload_n 1, 1) := dk_43 (dk_at dksX4_remainder_1 3 rfl rfl)
theorem dX4_remainder_28 : decode cX4_remainder 28 = .ok (.iload 4, 2) := dk_21 4 (dk_at dksX4_remainder_1 4 rfl rfl)
theorem dX4_remainder_30 : decode cX4_remainder 30 = .ok (.aaload, 1) := dk_50 (dk_at dksX4_remainder_1 6 rfl rfl)
theorem dX4_remainder_31 : decode cX4_remainder 31 = .ok (.aload_n 0, 1) := dk_42 (dk_at dksX4_remainder_1 7 rfl rfl)
theorem dX4_remainder_32 : decode cX4_remainder 32 = .ok (.getfield 24, 3) := dk_180 0 24 (dk_at dksX4_remainder_1 8 rfl rfl)
theorem dX4_remainder_35 : decode cX4_remainder 35 = .ok (.invokestatic 113, 3) := dk_184 0 113 (dk_at dksX4_remainder_1 11 rfl rfl)
theorem dX4_remainder_38 : decode cX4_remainder 38 = .ok (.aload_n 0, 1) := dk_42 (dk_at dksX4_remainder_1 14 rfl rfl)
theorem dX4_remainder_39 : decode cX4_remainder 39 = .ok (.getfield 21, 3) := dk_180 0 21 (dk_at dksX4_remainder_1 15 rfl rfl)
theorem dX4_remainder_42 : decode cX4_remainder 42 = .ok (.invokestatic 155, 3) := dk_184 0 155 (dk_at dksX4_remainder_1 18 rfl rfl)
theorem dX4_remainder_45 : decode cX4_remainder 45 = .ok (.ifCond .eq 10, 3) := dk_153 0 10 (dk_at dksX4_remainder_1 21 rfl rfl)
theorem dX4_remainder_48 : decode cX4_remainder 48 = .ok (.aload_n 0, 1) := dk_42 (dk_at dksX4_remainder_2 0 rfl rfl)
theorem dX4_remainder_49 : decode cX4_remainder 49 = .ok (.getfield 24, 3) := dk_180 0 24 (dk_at dksX4_remainder_2 1 rfl rfl)
theorem dX4_remainder_52 : decode cX4_remainder 52 = .ok (.invokestatic 93, 3) := dk_184 0 93 (dk_at dksX4_remainder_2 4 rfl rfl)
theorem dX4_remainder_55 : decode cX4_remainder 55 = .ok (.iconst 0, 1) := dk_3 (dk_at dksX4_remainder_2 7 rfl rfl)
theorem dX4_remainder_56 : decode cX4_remainder 56 = .ok (.istore 5, 2) := dk_54 5 (dk_at dksX4_remainder_2 8 rfl rfl)
theorem dX4_remainder_58 : decode cX4_remainder 58 = .ok (.iload 5, 2) := dk_21 5 (dk_at dksX4_remainder_2 10 rfl rfl)
theorem dX4_remainder_60 : decode cX4_remainder 60 = .ok (.iload 4, 2) := dk_21 4 (dk_at dksX4_remainder_2 12 rfl rfl)
theorem dX4_remainder_62 : decode cX4_remainder 62 = .ok (.if_icmp .gt 80, 3) := dk_163 0 80 (dk_at dksX4_remainder_2 14 rfl rfl)
theorem dX4_remainder_65 : decode cX4_remainder 65 = .ok (.aload_n 1, 1) := dk_43 (dk_at dksX4_remainder_2 17 rfl rfl)
theorem dX4_remainder_66 : decode cX4_remainder 66 = .ok (.iload 5, 2) := dk_21 5 (dk_at dksX4_remainder_2 18 rfl rfl)
theorem dX4_remainder_68 : decode cX4_remainder 68 = .ok (.aaload, 1) := dk_50 (dk_at dksX4_remainder_2 20 rfl rfl)
theorem dX4_remainder_69 : decode cX4_remainder 69 = .ok (.aload_n 0, 1) := dk_42 (dk_at dksX4_remainder_2 21 rfl rfl)
theorem dX4_remainder_70 : decode cX4_remainder 70 = .ok (.getfield 21, 3) := dk_180 0 21 (dk_at dksX4_remainder_3 0 rfl rfl)
theorem dX4_remainder_73 : decode cX4_remainder 73 = .ok (.aload_n 0, 1) := dk_42 (dk_at dksX4_remainder_3 3 rfl rfl)
theorem dX4_remainder_74 : decode cX4_remainder 74 = .ok (.getfield 27, 3) := dk_180 0 27 (dk_at dksX4_remainder_3 4 rfl rfl)
theorem dX4_remainder_77 : decode cX4_remainder 77 = .ok (.invokestatic 173, 3) := dk_184 0 173 (dk_at dksX4_remainder_3 7 rfl rfl)
theorem dX4_remainder_80 : decode cX4_remainder 80 = .ok (.aload_n 0, 1) := dk_42 (dk_at dksX4_remainder_3 10 rfl rfl)
theorem dX4_remainder_81 : decode cX4_remainder 81 = .ok (.getfield 27, 3) := dk_180 0 27 (dk_at dksX4_remainder_3 11 rfl rfl)
theorem dX4_remainder_84 : decode cX4_remainder 84 = .ok (.aload_n 1, 1) := dk_43 (dk_at dksX4_remainder_3 14 rfl rfl)
theorem dX4_remainder_85 : decode cX4_remainder 85 = .ok (.iload 5, 2) := dk_21 5 (dk_at dksX4_remainder_3 15 rfl rfl)
theorem dX4_remainder_87 : decode cX4_remainder 87 = .ok (.aaload, 1) := dk_50 (dk_at dksX4_remainder_3 17 rfl rfl)
theorem dX4_remainder_88 : decode cX4_remainder 88 = .ok (.invokestatic 113, 3) := dk_184 0 113 (dk_at dksX4_remainder_3 18 rfl rfl)
theorem dX4_remainder_91 : decode cX4_remainder 91 = .ok (.iload 5, 2) := dk_21 5 (dk_at dksX4_remainder_3 21 rfl rfl)
theorem dX4_remainder_93 : decode cX4_remainder 93 = .ok (.iload 4, 2) := dk_21 4 (dk_at dksX4_remainder_4 0 rfl rfl)
theorem dX4_remainder_95 : decode cX4_remainder 95 = .ok (.iload_n 3, 1) := dk_29 (dk_at dksX4_remainder_4 2 rfl rfl)
theorem dX4_remainder_96 : decode cX4_remainder 96 = .ok (.isub, 1) := dk_100 (dk_at dksX4_remainder_4 3 rfl rfl)
theorem dX4_remainder_97 : decode cX4_remainder 97 = .ok (.if_icmp .ge 6, 3) := dk_162 0 6 (dk_at dksX4_remainder_4 4 rfl rfl)
theorem dX4_remainder_100 : decode cX4_remainder 100 = .ok (.goto 36, 3) := dk_167 0 36 (dk_at dksX4_remainder_4 7 rfl rfl)
theorem dX4_remainder_103 : decode cX4_remainder 103 = .ok (.aload_n 2, 1) := dk_44 (dk_at dksX4_remainder_4 10 rfl rfl)
theorem dX4_remainder_104 : decode cX4_remainder 104 = .ok (.iload 5, 2) := dk_21 5 (dk_at dksX4_remainder_4 11 rfl rfl)
theorem dX4_remainder_106 : decode cX4_remainder 106 = .ok (.iload 4, 2) := dk_21 4 (dk_at dksX4_remainder_4 13 rfl rfl)
theorem dX4_remainder_108 : decode cX4_remainder 108 = .ok (.isub, 1) := dk_100 (dk_at dksX4_remainder_4 15 rfl rfl)
theorem dX4_remainder_109 : decode cX4_remainder 109 = .ok (.iload_n 3, 1) := dk_29 (dk_at dksX4_remainder_4 16 rfl rfl)
theorem dX4_remainder_110 : decode cX4_remainder 110 = .ok (.iadd, 1) := dk_96 (dk_at dksX4_remainder_4 17 rfl rfl)
theorem dX4_remainder_111 : decode cX4_remainder 111 = .ok (.aaload, 1) := dk_50 (dk_at dksX4_remainder_4 18 rfl rfl)
theorem dX4_remainder_112 : decode cX4_remainder 112 = .ok (.aload_n 0, 1) := dk_42 (dk_at dksX4_remainder_4 19 rfl rfl)
theorem dX4_remainder_113 : decode cX4_remainder 113 = .ok (.getfield 24, 3) := dk_180 0 24 (dk_at dksX4_remainder_4 20 rfl rfl)
theorem dX4_remainder_116 : decode cX4_remainder 116 = .ok (.aload_n 0, 1) := dk_42 (dk_at dksX4_remainder_4 23 rfl rfl)
theorem dX4_remainder_117 : decode cX4_remainder 117 = .ok (.getfield 27, 3) := dk_180 0 27 (dk_at dksX4_remainder_5 0 rfl rfl)
theorem dX4_remainder_120 : decode cX4_remainder 120 = .ok (.invokestatic 173, 3) := dk_184 0 173 (dk_at dksX4_remainder_5 3 rfl rfl)
theorem dX4_remainder_123 : decode cX4_remainder 123 = .ok (.aload_n 1, 1) := dk_43 (dk_at dksX4_remainder_5 6 rfl rfl)
theorem dX4_remainder_124 : decode cX4_remainder 124 = .ok (.iload 5, 2) := dk_21 5 (dk_at dksX4_remainder_5 7 rfl rfl)
theorem dX4_remainder_126 : decode cX4_remainder 126 = .ok (.aaload, 1) := dk_50 (dk_at dksX4_remainder_5 9 rfl rfl)
theorem dX4_remainder_127 : decode cX4_remainder 127 = .ok (.aload_n 0, 1) := dk_42 (dk_at dksX4_remainder_5 10 rfl rfl)
theorem dX4_remainder_128 : decode cX4_remainder 128 = .ok (.getfield 27, 3) := dk_180 0 27 (dk_at dksX4_remainder_5 11 rfl rfl)
theorem dX4_remainder_131 : decode cX4_remainder 131 = .ok (.bipush 48, 2) := dk_16 48 (dk_at dksX4_remainder_5 14 rfl rfl)
theorem dX4_remainder_133 : decode cX4_remainder 133 = .ok (.invokestatic 134, 3) := dk_184 0 134 (dk_at dksX4_remainder_5 16 rfl rfl)
theorem dX4_remainder_136 : decode cX4_remainder 136 = .ok (.iinc 5 1, 3) := dk_132 5 1 (dk_at dksX4_remainder_5 19 rfl rfl)
theorem dX4_remainder_139 : decode cX4_remainder 139 = .ok (.goto (-81), 3) := dk_167 255 175 (dk_at dksX4_remainder_6 0 rfl rfl)
theorem dX4_remainder_142 : decode cX4_remainder 142 = .ok (.aload_n 0, 1) := dk_42 (dk_at dksX4_remainder_6 3 rfl rfl)
theorem dX4_remainder_143 : decode cX4_remainder 143 = .ok (.aload_n 1, 1) := dk_43 (dk_at dksX4_remainder_6 4 rfl rfl)
theorem dX4_remainder_144 : decode cX4_remainder 144 = .ok (.invokevirtual 176, 3) := dk_182 0 176 (dk_at dksX4_remainder_6 5 rfl rfl)
theorem dX4_remainder_147 : decode cX4_remainder 147 = .ok (.aload_n 1, 1) := dk_43 (dk_at dksX4_remainder_6 8 rfl rfl)
theorem dX4_remainder_148 : decode cX4_remainder 148 = .ok (.invokestatic 166, 3) := dk_184 0 166 (dk_at dksX4_remainder_6 9 rfl rfl)
theorem dX4_remainder_151 : decode cX4_remainder 151 = .ok (.istore 4, 2) := dk_54 4 (dk_at dksX4_remainder_6 12 rfl rfl)
theorem dX4_remainder_153 : decode cX4_remainder 153 = .ok (.goto (-142), 3) := dk_167 255 114 (dk_at dksX4_remainder_6 14 rfl rfl)
theorem dX4_remainder_156 : decode cX4_remainder 156 = .ok (.return_, 1) := dk_177 (dk_at dksX4_remainder_6 17 rfl rfl)
abbrev cX4_copy_2 : ByteArray := prog_6_method_6_code
def yX4_copy_2 : MethodName := ⟨RX4, "copy", "([I[I)V"⟩
def dkwX4_copy_2_0 : List UInt8 := [3, 61, 28, 16, 48, 162, 0, 15, 43, 28, 42, 28, 46, 79, 132, 2, 1, 167, 255, 241, 177]
abbrev dktX4_copy_2_0 : List UInt8 := dkwX4_copy_2_0 ++ []
theorem dksX4_copy_2_0 : cX4_copy_2.data.toList.drop 0 = dktX4_copy_2_0 := by decide +kernel
theorem dX4_copy_2_0 : decode cX4_copy_2 0 = .ok (.iconst 0, 1) := dk_3 (dk_at dksX4_copy_2_0 0 rfl rfl)
theorem dX4_copy_2_1 : decode cX4_copy_2 1 = .ok (.istore_n 2, 1) := dk_61 (dk_at dksX4_copy_2_0 1 rfl rfl)
theorem dX4_copy_2_2 : decode cX4_copy_2 2 = .ok (.iload_n 2, 1) := dk_28 (dk_at dksX4_copy_2_0 2 rfl rfl)
theorem dX4_copy_2_3 : decode cX4_copy_2 3 = .ok (.bipush 48, 2) := dk_16 48 (dk_at dksX4_copy_2_0 3 rfl rfl)
theorem dX4_copy_2_5 : decode cX4_copy_2 5 = .ok (.if_icmp .ge 15, 3) := dk_162 0 15 (dk_at dksX4_copy_2_0 5 rfl rfl)
theorem dX4_copy_2_8 : decode cX4_copy_2 8 = .ok (.aload_n 1, 1) := dk_43 (dk_at dksX4_copy_2_0 8 rfl rfl)
theorem dX4_copy_2_9 : decode cX4_copy_2 9 = .ok (.iload_n 2, 1) := dk_28 (dk_at dksX4_copy_2_0 9 rfl rfl)
theorem dX4_copy_2_10 : decode cX4_copy_2 10 = .ok (.aload_n 0, 1) := dk_42 (dk_at dksX4_copy_2_0 10 rfl rfl)
theorem dX4_copy_2_11 : decode cX4_copy_2 11 = .ok (.iload_n 2, 1) := dk_28 (dk_at dksX4_copy_2_0 11 rfl rfl)
theorem dX4_copy_2_12 : decode cX4_copy_2 12 = .ok (.iaload, 1) := dk_46 (dk_at dksX4_copy_2_0 12 rfl rfl)
theorem dX4_copy_2_13 : decode cX4_copy_2 13 = .ok (.iastore, 1) := dk_79 (dk_at dksX4_copy_2_0 13 rfl rfl)
theorem dX4_copy_2_14 : decode cX4_copy_2 14 = .ok (.iinc 2 1, 3) := dk_132 2 1 (dk_at dksX4_copy_2_0 14 rfl rfl)
theorem dX4_copy_2_17 : decode cX4_copy_2 17 = .ok (.goto (-15), 3) := dk_167 255 241 (dk_at dksX4_copy_2_0 17 rfl rfl)
theorem dX4_copy_2_20 : decode cX4_copy_2 20 = .ok (.return_, 1) := dk_177 (dk_at dksX4_copy_2_0 20 rfl rfl)
abbrev cX4_bare : ByteArray := prog_6_method_11_code
def yX4_bare : MethodName := ⟨RX4, "bare", "([I)Z"⟩
def dkwX4_bare_0 : List UInt8 := [42, 16, 47, 46, 156, 0, 7, 4, 167, 0, 4, 3, 60, 27, 153, 0, 7, 42, 184, 0, 93, 27, 172]
abbrev dktX4_bare_0 : List UInt8 := dkwX4_bare_0 ++ []
theorem dksX4_bare_0 : cX4_bare.data.toList.drop 0 = dktX4_bare_0 := by decide +kernel
theorem dX4_bare_0 : decode cX4_bare 0 = .ok (.aload_n 0, 1) := dk_42 (dk_at dksX4_bare_0 0 rfl rfl)
theorem dX4_bare_1 : decode cX4_bare 1 = .ok (.bipush 47, 2) := dk_16 47 (dk_at dksX4_bare_0 1 rfl rfl)
theorem dX4_bare_3 : decode cX4_bare 3 = .ok (.iaload, 1) := dk_46 (dk_at dksX4_bare_0 3 rfl rfl)
theorem dX4_bare_4 : decode cX4_bare 4 = .ok (.ifCond .ge 7, 3) := dk_156 0 7 (dk_at dksX4_bare_0 4 rfl rfl)
theorem dX4_bare_7 : decode cX4_bare 7 = .ok (.iconst 1, 1) := dk_4 (dk_at dksX4_bare_0 7 rfl rfl)
theorem dX4_bare_8 : decode cX4_bare 8 = .ok (.goto 4, 3) := dk_167 0 4 (dk_at dksX4_bare_0 8 rfl rfl)
theorem dX4_bare_11 : decode cX4_bare 11 = .ok (.iconst 0, 1) := dk_3 (dk_at dksX4_bare_0 11 rfl rfl)
theorem dX4_bare_12 : decode cX4_bare 12 = .ok (.istore_n 1, 1) := dk_60 (dk_at dksX4_bare_0 12 rfl rfl)
theorem dX4_bare_13 : decode cX4_bare 13 = .ok (.iload_n 1, 1) := dk_27 (dk_at dksX4_bare_0 13 rfl rfl)
theorem dX4_bare_14 : decode cX4_bare 14 = .ok (.ifCond .eq 7, 3) := dk_153 0 7 (dk_at dksX4_bare_0 14 rfl rfl)
theorem dX4_bare_17 : decode cX4_bare 17 = .ok (.aload_n 0, 1) := dk_42 (dk_at dksX4_bare_0 17 rfl rfl)
theorem dX4_bare_18 : decode cX4_bare 18 = .ok (.invokestatic 93, 3) := dk_184 0 93 (dk_at dksX4_bare_0 18 rfl rfl)
theorem dX4_bare_21 : decode cX4_bare 21 = .ok (.iload_n 1, 1) := dk_27 (dk_at dksX4_bare_0 21 rfl rfl)
theorem dX4_bare_22 : decode cX4_bare 22 = .ok (.ireturn, 1) := dk_172 (dk_at dksX4_bare_0 22 rfl rfl)
abbrev cX4_negate : ByteArray := prog_6_method_10_code
def yX4_negate : MethodName := ⟨RX4, "negate", "([I)V"⟩
def dkwX4_negate_1 : List UInt8 := [29, 31, 136, 79, 31, 16, 32, 125, 64, 132, 3, 1, 167, 255, 224, 177]
abbrev dktX4_negate_1 : List UInt8 := dkwX4_negate_1 ++ []
def dkwX4_negate_0 : List UInt8 := [10, 64, 3, 62, 29, 16, 48, 162, 0, 32, 31, 42, 29, 46, 2, 130, 133, 20, 0, 91, 127, 97, 64, 42]
abbrev dktX4_negate_0 : List UInt8 := dkwX4_negate_0 ++ dktX4_negate_1
theorem dksX4_negate_0 : cX4_negate.data.toList.drop 0 = dktX4_negate_0 := by decide +kernel
theorem dksX4_negate_1 : cX4_negate.data.toList.drop 24 = dktX4_negate_1 := dk_seg dksX4_negate_0 24 rfl rfl
theorem dX4_negate_0 : decode cX4_negate 0 = .ok (.lconst 1, 1) := dk_10 (dk_at dksX4_negate_0 0 rfl rfl)
theorem dX4_negate_1 : decode cX4_negate 1 = .ok (.lstore_n 1, 1) := dk_64 (dk_at dksX4_negate_0 1 rfl rfl)
theorem dX4_negate_2 : decode cX4_negate 2 = .ok (.iconst 0, 1) := dk_3 (dk_at dksX4_negate_0 2 rfl rfl)
theorem dX4_negate_3 : decode cX4_negate 3 = .ok (.istore_n 3, 1) := dk_62 (dk_at dksX4_negate_0 3 rfl rfl)
theorem dX4_negate_4 : decode cX4_negate 4 = .ok (.iload_n 3, 1) := dk_29 (dk_at dksX4_negate_0 4 rfl rfl)
theorem dX4_negate_5 : decode cX4_negate 5 = .ok (.bipush 48, 2) := dk_16 48 (dk_at dksX4_negate_0 5 rfl rfl)
theorem dX4_negate_7 : decode cX4_negate 7 = .ok (.if_icmp .ge 32, 3) := dk_162 0 32 (dk_at dksX4_negate_0 7 rfl rfl)
theorem dX4_negate_10 : decode cX4_negate 10 = .ok (.lload_n 1, 1) := dk_31 (dk_at dksX4_negate_0 10 rfl rfl)
theorem dX4_negate_11 : decode cX4_negate 11 = .ok (.aload_n 0, 1) := dk_42 (dk_at dksX4_negate_0 11 rfl rfl)
theorem dX4_negate_12 : decode cX4_negate 12 = .ok (.iload_n 3, 1) := dk_29 (dk_at dksX4_negate_0 12 rfl rfl)
theorem dX4_negate_13 : decode cX4_negate 13 = .ok (.iaload, 1) := dk_46 (dk_at dksX4_negate_0 13 rfl rfl)
theorem dX4_negate_14 : decode cX4_negate 14 = .ok (.iconst (-1), 1) := dk_2 (dk_at dksX4_negate_0 14 rfl rfl)
theorem dX4_negate_15 : decode cX4_negate 15 = .ok (.ixor, 1) := dk_130 (dk_at dksX4_negate_0 15 rfl rfl)
theorem dX4_negate_16 : decode cX4_negate 16 = .ok (.i2l, 1) := dk_133 (dk_at dksX4_negate_0 16 rfl rfl)
theorem dX4_negate_17 : decode cX4_negate 17 = .ok (.ldc2_w 91, 3) := dk_20 0 91 (dk_at dksX4_negate_0 17 rfl rfl)
theorem dX4_negate_20 : decode cX4_negate 20 = .ok (.land, 1) := dk_127 (dk_at dksX4_negate_0 20 rfl rfl)
theorem dX4_negate_21 : decode cX4_negate 21 = .ok (.ladd, 1) := dk_97 (dk_at dksX4_negate_0 21 rfl rfl)
theorem dX4_negate_22 : decode cX4_negate 22 = .ok (.lstore_n 1, 1) := dk_64 (dk_at dksX4_negate_0 22 rfl rfl)
theorem dX4_negate_23 : decode cX4_negate 23 = .ok (.aload_n 0, 1) := dk_42 (dk_at dksX4_negate_0 23 rfl rfl)
theorem dX4_negate_24 : decode cX4_negate 24 = .ok (.iload_n 3, 1) := dk_29 (dk_at dksX4_negate_1 0 rfl rfl)
theorem dX4_negate_25 : decode cX4_negate 25 = .ok (.lload_n 1, 1) := dk_31 (dk_at dksX4_negate_1 1 rfl rfl)
theorem dX4_negate_26 : decode cX4_negate 26 = .ok (.l2i, 1) := dk_136 (dk_at dksX4_negate_1 2 rfl rfl)
theorem dX4_negate_27 : decode cX4_negate 27 = .ok (.iastore, 1) := dk_79 (dk_at dksX4_negate_1 3 rfl rfl)
theorem dX4_negate_28 : decode cX4_negate 28 = .ok (.lload_n 1, 1) := dk_31 (dk_at dksX4_negate_1 4 rfl rfl)
theorem dX4_negate_29 : decode cX4_negate 29 = .ok (.bipush 32, 2) := dk_16 32 (dk_at dksX4_negate_1 5 rfl rfl)
theorem dX4_negate_31 : decode cX4_negate 31 = .ok (.lushr, 1) := dk_125 (dk_at dksX4_negate_1 7 rfl rfl)
theorem dX4_negate_32 : decode cX4_negate 32 = .ok (.lstore_n 1, 1) := dk_64 (dk_at dksX4_negate_1 8 rfl rfl)
theorem dX4_negate_33 : decode cX4_negate 33 = .ok (.iinc 3 1, 3) := dk_132 3 1 (dk_at dksX4_negate_1 9 rfl rfl)
theorem dX4_negate_36 : decode cX4_negate 36 = .ok (.goto (-32), 3) := dk_167 255 224 (dk_at dksX4_negate_1 12 rfl rfl)
theorem dX4_negate_39 : decode cX4_negate 39 = .ok (.return_, 1) := dk_177 (dk_at dksX4_negate_1 15 rfl rfl)
abbrev cX4_multiply_2 : ByteArray := prog_6_method_19_code
def yX4_multiply_2 : MethodName := ⟨RX4, "multiply", "([I[I[I)V"⟩
def dkwX4_multiply_2_4 : List UInt8 := [125, 55, 4, 132, 6, 1, 167, 255, 187, 132, 3, 1, 167, 255, 169, 177]
abbrev dktX4_multiply_2_4 : List UInt8 := dkwX4_multiply_2_4 ++ []
def dkwX4_multiply_2_3 : List UInt8 := [96, 46, 133, 20, 0, 91, 127, 97, 97, 55, 4, 44, 29, 21, 6, 96, 22, 4, 136, 79, 22, 4, 16, 32]
abbrev dktX4_multiply_2_3 : List UInt8 := dkwX4_multiply_2_3 ++ dktX4_multiply_2_4
def dkwX4_multiply_2_2 : List UInt8 := [22, 4, 42, 29, 46, 133, 20, 0, 91, 127, 43, 21, 6, 46, 133, 20, 0, 91, 127, 105, 44, 29, 21, 6]
abbrev dktX4_multiply_2_2 : List UInt8 := dkwX4_multiply_2_2 ++ dktX4_multiply_2_3
def dkwX4_multiply_2_1 : List UInt8 := [162, 0, 87, 9, 55, 4, 3, 54, 6, 29, 21, 6, 96, 16, 48, 162, 0, 66, 42, 29, 46, 153, 0, 60]
abbrev dktX4_multiply_2_1 : List UInt8 := dkwX4_multiply_2_1 ++ dktX4_multiply_2_2
def dkwX4_multiply_2_0 : List UInt8 := [3, 62, 29, 16, 48, 162, 0, 13, 44, 29, 3, 79, 132, 3, 1, 167, 255, 243, 3, 62, 29, 16, 48]
abbrev dktX4_multiply_2_0 : List UInt8 := dkwX4_multiply_2_0 ++ dktX4_multiply_2_1
theorem dksX4_multiply_2_0 : cX4_multiply_2.data.toList.drop 0 = dktX4_multiply_2_0 := by decide +kernel
theorem dksX4_multiply_2_1 : cX4_multiply_2.data.toList.drop 23 = dktX4_multiply_2_1 := dk_seg dksX4_multiply_2_0 23 rfl rfl
theorem dksX4_multiply_2_2 : cX4_multiply_2.data.toList.drop 47 = dktX4_multiply_2_2 := dk_seg dksX4_multiply_2_1 24 rfl rfl
theorem dksX4_multiply_2_3 : cX4_multiply_2.data.toList.drop 71 = dktX4_multiply_2_3 := dk_seg dksX4_multiply_2_2 24 rfl rfl
theorem dksX4_multiply_2_4 : cX4_multiply_2.data.toList.drop 95 = dktX4_multiply_2_4 := dk_seg dksX4_multiply_2_3 24 rfl rfl
theorem dX4_multiply_2_0 : decode cX4_multiply_2 0 = .ok (.iconst 0, 1) := dk_3 (dk_at dksX4_multiply_2_0 0 rfl rfl)
theorem dX4_multiply_2_1 : decode cX4_multiply_2 1 = .ok (.istore_n 3, 1) := dk_62 (dk_at dksX4_multiply_2_0 1 rfl rfl)
theorem dX4_multiply_2_2 : decode cX4_multiply_2 2 = .ok (.iload_n 3, 1) := dk_29 (dk_at dksX4_multiply_2_0 2 rfl rfl)
theorem dX4_multiply_2_3 : decode cX4_multiply_2 3 = .ok (.bipush 48, 2) := dk_16 48 (dk_at dksX4_multiply_2_0 3 rfl rfl)
theorem dX4_multiply_2_5 : decode cX4_multiply_2 5 = .ok (.if_icmp .ge 13, 3) := dk_162 0 13 (dk_at dksX4_multiply_2_0 5 rfl rfl)
theorem dX4_multiply_2_8 : decode cX4_multiply_2 8 = .ok (.aload_n 2, 1) := dk_44 (dk_at dksX4_multiply_2_0 8 rfl rfl)
theorem dX4_multiply_2_9 : decode cX4_multiply_2 9 = .ok (.iload_n 3, 1) := dk_29 (dk_at dksX4_multiply_2_0 9 rfl rfl)
theorem dX4_multiply_2_10 : decode cX4_multiply_2 10 = .ok (.iconst 0, 1) := dk_3 (dk_at dksX4_multiply_2_0 10 rfl rfl)
theorem dX4_multiply_2_11 : decode cX4_multiply_2 11 = .ok (.iastore, 1) := dk_79 (dk_at dksX4_multiply_2_0 11 rfl rfl)
theorem dX4_multiply_2_12 : decode cX4_multiply_2 12 = .ok (.iinc 3 1, 3) := dk_132 3 1 (dk_at dksX4_multiply_2_0 12 rfl rfl)
theorem dX4_multiply_2_15 : decode cX4_multiply_2 15 = .ok (.goto (-13), 3) := dk_167 255 243 (dk_at dksX4_multiply_2_0 15 rfl rfl)
theorem dX4_multiply_2_18 : decode cX4_multiply_2 18 = .ok (.iconst 0, 1) := dk_3 (dk_at dksX4_multiply_2_0 18 rfl rfl)
theorem dX4_multiply_2_19 : decode cX4_multiply_2 19 = .ok (.istore_n 3, 1) := dk_62 (dk_at dksX4_multiply_2_0 19 rfl rfl)
theorem dX4_multiply_2_20 : decode cX4_multiply_2 20 = .ok (.iload_n 3, 1) := dk_29 (dk_at dksX4_multiply_2_0 20 rfl rfl)
theorem dX4_multiply_2_21 : decode cX4_multiply_2 21 = .ok (.bipush 48, 2) := dk_16 48 (dk_at dksX4_multiply_2_0 21 rfl rfl)
theorem dX4_multiply_2_23 : decode cX4_multiply_2 23 = .ok (.if_icmp .ge 87, 3) := dk_162 0 87 (dk_at dksX4_multiply_2_1 0 rfl rfl)
theorem dX4_multiply_2_26 : decode cX4_multiply_2 26 = .ok (.lconst 0, 1) := dk_9 (dk_at dksX4_multiply_2_1 3 rfl rfl)
theorem dX4_multiply_2_27 : decode cX4_multiply_2 27 = .ok (.lstore 4, 2) := dk_55 4 (dk_at dksX4_multiply_2_1 4 rfl rfl)
theorem dX4_multiply_2_29 : decode cX4_multiply_2 29 = .ok (.iconst 0, 1) := dk_3 (dk_at dksX4_multiply_2_1 6 rfl rfl)
theorem dX4_multiply_2_30 : decode cX4_multiply_2 30 = .ok (.istore 6, 2) := dk_54 6 (dk_at dksX4_multiply_2_1 7 rfl rfl)
theorem dX4_multiply_2_32 : decode cX4_multiply_2 32 = .ok (.iload_n 3, 1) := dk_29 (dk_at dksX4_multiply_2_1 9 rfl rfl)
theorem dX4_multiply_2_33 : decode cX4_multiply_2 33 = .ok (.iload 6, 2) := dk_21 6 (dk_at dksX4_multiply_2_1 10 rfl rfl)
theorem dX4_multiply_2_35 : decode cX4_multiply_2 35 = .ok (.iadd, 1) := dk_96 (dk_at dksX4_multiply_2_1 12 rfl rfl)
theorem dX4_multiply_2_36 : decode cX4_multiply_2 36 = .ok (.bipush 48, 2) := dk_16 48 (dk_at dksX4_multiply_2_1 13 rfl rfl)
theorem dX4_multiply_2_38 : decode cX4_multiply_2 38 = .ok (.if_icmp .ge 66, 3) := dk_162 0 66 (dk_at dksX4_multiply_2_1 15 rfl rfl)
theorem dX4_multiply_2_41 : decode cX4_multiply_2 41 = .ok (.aload_n 0, 1) := dk_42 (dk_at dksX4_multiply_2_1 18 rfl rfl)
theorem dX4_multiply_2_42 : decode cX4_multiply_2 42 = .ok (.iload_n 3, 1) := dk_29 (dk_at dksX4_multiply_2_1 19 rfl rfl)
theorem dX4_multiply_2_43 : decode cX4_multiply_2 43 = .ok (.iaload, 1) := dk_46 (dk_at dksX4_multiply_2_1 20 rfl rfl)
theorem dX4_multiply_2_44 : decode cX4_multiply_2 44 = .ok (.ifCond .eq 60, 3) := dk_153 0 60 (dk_at dksX4_multiply_2_1 21 rfl rfl)
theorem dX4_multiply_2_47 : decode cX4_multiply_2 47 = .ok (.lload 4, 2) := dk_22 4 (dk_at dksX4_multiply_2_2 0 rfl rfl)
theorem dX4_multiply_2_49 : decode cX4_multiply_2 49 = .ok (.aload_n 0, 1) := dk_42 (dk_at dksX4_multiply_2_2 2 rfl rfl)
theorem dX4_multiply_2_50 : decode cX4_multiply_2 50 = .ok (.iload_n 3, 1) := dk_29 (dk_at dksX4_multiply_2_2 3 rfl rfl)
theorem dX4_multiply_2_51 : decode cX4_multiply_2 51 = .ok (.iaload, 1) := dk_46 (dk_at dksX4_multiply_2_2 4 rfl rfl)
theorem dX4_multiply_2_52 : decode cX4_multiply_2 52 = .ok (.i2l, 1) := dk_133 (dk_at dksX4_multiply_2_2 5 rfl rfl)
theorem dX4_multiply_2_53 : decode cX4_multiply_2 53 = .ok (.ldc2_w 91, 3) := dk_20 0 91 (dk_at dksX4_multiply_2_2 6 rfl rfl)
theorem dX4_multiply_2_56 : decode cX4_multiply_2 56 = .ok (.land, 1) := dk_127 (dk_at dksX4_multiply_2_2 9 rfl rfl)
theorem dX4_multiply_2_57 : decode cX4_multiply_2 57 = .ok (.aload_n 1, 1) := dk_43 (dk_at dksX4_multiply_2_2 10 rfl rfl)
theorem dX4_multiply_2_58 : decode cX4_multiply_2 58 = .ok (.iload 6, 2) := dk_21 6 (dk_at dksX4_multiply_2_2 11 rfl rfl)
theorem dX4_multiply_2_60 : decode cX4_multiply_2 60 = .ok (.iaload, 1) := dk_46 (dk_at dksX4_multiply_2_2 13 rfl rfl)
theorem dX4_multiply_2_61 : decode cX4_multiply_2 61 = .ok (.i2l, 1) := dk_133 (dk_at dksX4_multiply_2_2 14 rfl rfl)
theorem dX4_multiply_2_62 : decode cX4_multiply_2 62 = .ok (.ldc2_w 91, 3) := dk_20 0 91 (dk_at dksX4_multiply_2_2 15 rfl rfl)
theorem dX4_multiply_2_65 : decode cX4_multiply_2 65 = .ok (.land, 1) := dk_127 (dk_at dksX4_multiply_2_2 18 rfl rfl)
theorem dX4_multiply_2_66 : decode cX4_multiply_2 66 = .ok (.lmul, 1) := dk_105 (dk_at dksX4_multiply_2_2 19 rfl rfl)
theorem dX4_multiply_2_67 : decode cX4_multiply_2 67 = .ok (.aload_n 2, 1) := dk_44 (dk_at dksX4_multiply_2_2 20 rfl rfl)
theorem dX4_multiply_2_68 : decode cX4_multiply_2 68 = .ok (.iload_n 3, 1) := dk_29 (dk_at dksX4_multiply_2_2 21 rfl rfl)
theorem dX4_multiply_2_69 : decode cX4_multiply_2 69 = .ok (.iload 6, 2) := dk_21 6 (dk_at dksX4_multiply_2_2 22 rfl rfl)
theorem dX4_multiply_2_71 : decode cX4_multiply_2 71 = .ok (.iadd, 1) := dk_96 (dk_at dksX4_multiply_2_3 0 rfl rfl)
theorem dX4_multiply_2_72 : decode cX4_multiply_2 72 = .ok (.iaload, 1) := dk_46 (dk_at dksX4_multiply_2_3 1 rfl rfl)
theorem dX4_multiply_2_73 : decode cX4_multiply_2 73 = .ok (.i2l, 1) := dk_133 (dk_at dksX4_multiply_2_3 2 rfl rfl)
theorem dX4_multiply_2_74 : decode cX4_multiply_2 74 = .ok (.ldc2_w 91, 3) := dk_20 0 91 (dk_at dksX4_multiply_2_3 3 rfl rfl)
theorem dX4_multiply_2_77 : decode cX4_multiply_2 77 = .ok (.land, 1) := dk_127 (dk_at dksX4_multiply_2_3 6 rfl rfl)
theorem dX4_multiply_2_78 : decode cX4_multiply_2 78 = .ok (.ladd, 1) := dk_97 (dk_at dksX4_multiply_2_3 7 rfl rfl)
theorem dX4_multiply_2_79 : decode cX4_multiply_2 79 = .ok (.ladd, 1) := dk_97 (dk_at dksX4_multiply_2_3 8 rfl rfl)
theorem dX4_multiply_2_80 : decode cX4_multiply_2 80 = .ok (.lstore 4, 2) := dk_55 4 (dk_at dksX4_multiply_2_3 9 rfl rfl)
theorem dX4_multiply_2_82 : decode cX4_multiply_2 82 = .ok (.aload_n 2, 1) := dk_44 (dk_at dksX4_multiply_2_3 11 rfl rfl)
theorem dX4_multiply_2_83 : decode cX4_multiply_2 83 = .ok (.iload_n 3, 1) := dk_29 (dk_at dksX4_multiply_2_3 12 rfl rfl)
theorem dX4_multiply_2_84 : decode cX4_multiply_2 84 = .ok (.iload 6, 2) := dk_21 6 (dk_at dksX4_multiply_2_3 13 rfl rfl)
theorem dX4_multiply_2_86 : decode cX4_multiply_2 86 = .ok (.iadd, 1) := dk_96 (dk_at dksX4_multiply_2_3 15 rfl rfl)
theorem dX4_multiply_2_87 : decode cX4_multiply_2 87 = .ok (.lload 4, 2) := dk_22 4 (dk_at dksX4_multiply_2_3 16 rfl rfl)
theorem dX4_multiply_2_89 : decode cX4_multiply_2 89 = .ok (.l2i, 1) := dk_136 (dk_at dksX4_multiply_2_3 18 rfl rfl)
theorem dX4_multiply_2_90 : decode cX4_multiply_2 90 = .ok (.iastore, 1) := dk_79 (dk_at dksX4_multiply_2_3 19 rfl rfl)
theorem dX4_multiply_2_91 : decode cX4_multiply_2 91 = .ok (.lload 4, 2) := dk_22 4 (dk_at dksX4_multiply_2_3 20 rfl rfl)
theorem dX4_multiply_2_93 : decode cX4_multiply_2 93 = .ok (.bipush 32, 2) := dk_16 32 (dk_at dksX4_multiply_2_3 22 rfl rfl)
theorem dX4_multiply_2_95 : decode cX4_multiply_2 95 = .ok (.lushr, 1) := dk_125 (dk_at dksX4_multiply_2_4 0 rfl rfl)
theorem dX4_multiply_2_96 : decode cX4_multiply_2 96 = .ok (.lstore 4, 2) := dk_55 4 (dk_at dksX4_multiply_2_4 1 rfl rfl)
theorem dX4_multiply_2_98 : decode cX4_multiply_2 98 = .ok (.iinc 6 1, 3) := dk_132 6 1 (dk_at dksX4_multiply_2_4 3 rfl rfl)
theorem dX4_multiply_2_101 : decode cX4_multiply_2 101 = .ok (.goto (-69), 3) := dk_167 255 187 (dk_at dksX4_multiply_2_4 6 rfl rfl)
theorem dX4_multiply_2_104 : decode cX4_multiply_2 104 = .ok (.iinc 3 1, 3) := dk_132 3 1 (dk_at dksX4_multiply_2_4 9 rfl rfl)
theorem dX4_multiply_2_107 : decode cX4_multiply_2 107 = .ok (.goto (-87), 3) := dk_167 255 169 (dk_at dksX4_multiply_2_4 12 rfl rfl)
theorem dX4_multiply_2_110 : decode cX4_multiply_2 110 = .ok (.return_, 1) := dk_177 (dk_at dksX4_multiply_2_4 15 rfl rfl)
abbrev cX4_less : ByteArray := prog_6_method_9_code
def yX4_less : MethodName := ⟨RX4, "less", "([I[II)V"⟩
def dkwX4_less_2 : List UInt8 := [167, 255, 214, 177]
abbrev dktX4_less_2 : List UInt8 := dkwX4_less_2 ++ []
def dkwX4_less_1 : List UInt8 := [46, 133, 20, 0, 91, 127, 101, 97, 66, 42, 21, 5, 33, 136, 79, 33, 16, 32, 123, 66, 132, 5, 1]
abbrev dktX4_less_1 : List UInt8 := dkwX4_less_1 ++ dktX4_less_2
def dkwX4_less_0 : List UInt8 := [9, 66, 3, 54, 5, 21, 5, 28, 162, 0, 42, 33, 42, 21, 5, 46, 133, 20, 0, 91, 127, 43, 21, 5]
abbrev dktX4_less_0 : List UInt8 := dkwX4_less_0 ++ dktX4_less_1
theorem dksX4_less_0 : cX4_less.data.toList.drop 0 = dktX4_less_0 := by decide +kernel
theorem dksX4_less_1 : cX4_less.data.toList.drop 24 = dktX4_less_1 := dk_seg dksX4_less_0 24 rfl rfl
theorem dksX4_less_2 : cX4_less.data.toList.drop 47 = dktX4_less_2 := dk_seg dksX4_less_1 23 rfl rfl
theorem dX4_less_0 : decode cX4_less 0 = .ok (.lconst 0, 1) := dk_9 (dk_at dksX4_less_0 0 rfl rfl)
theorem dX4_less_1 : decode cX4_less 1 = .ok (.lstore_n 3, 1) := dk_66 (dk_at dksX4_less_0 1 rfl rfl)
theorem dX4_less_2 : decode cX4_less 2 = .ok (.iconst 0, 1) := dk_3 (dk_at dksX4_less_0 2 rfl rfl)
theorem dX4_less_3 : decode cX4_less 3 = .ok (.istore 5, 2) := dk_54 5 (dk_at dksX4_less_0 3 rfl rfl)
theorem dX4_less_5 : decode cX4_less 5 = .ok (.iload 5, 2) := dk_21 5 (dk_at dksX4_less_0 5 rfl rfl)
theorem dX4_less_7 : decode cX4_less 7 = .ok (.iload_n 2, 1) := dk_28 (dk_at dksX4_less_0 7 rfl rfl)
theorem dX4_less_8 : decode cX4_less 8 = .ok (.if_icmp .ge 42, 3) := dk_162 0 42 (dk_at dksX4_less_0 8 rfl rfl)
theorem dX4_less_11 : decode cX4_less 11 = .ok (.lload_n 3, 1) := dk_33 (dk_at dksX4_less_0 11 rfl rfl)
theorem dX4_less_12 : decode cX4_less 12 = .ok (.aload_n 0, 1) := dk_42 (dk_at dksX4_less_0 12 rfl rfl)
theorem dX4_less_13 : decode cX4_less 13 = .ok (.iload 5, 2) := dk_21 5 (dk_at dksX4_less_0 13 rfl rfl)
theorem dX4_less_15 : decode cX4_less 15 = .ok (.iaload, 1) := dk_46 (dk_at dksX4_less_0 15 rfl rfl)
theorem dX4_less_16 : decode cX4_less 16 = .ok (.i2l, 1) := dk_133 (dk_at dksX4_less_0 16 rfl rfl)
theorem dX4_less_17 : decode cX4_less 17 = .ok (.ldc2_w 91, 3) := dk_20 0 91 (dk_at dksX4_less_0 17 rfl rfl)
theorem dX4_less_20 : decode cX4_less 20 = .ok (.land, 1) := dk_127 (dk_at dksX4_less_0 20 rfl rfl)
theorem dX4_less_21 : decode cX4_less 21 = .ok (.aload_n 1, 1) := dk_43 (dk_at dksX4_less_0 21 rfl rfl)
theorem dX4_less_22 : decode cX4_less 22 = .ok (.iload 5, 2) := dk_21 5 (dk_at dksX4_less_0 22 rfl rfl)
theorem dX4_less_24 : decode cX4_less 24 = .ok (.iaload, 1) := dk_46 (dk_at dksX4_less_1 0 rfl rfl)
theorem dX4_less_25 : decode cX4_less 25 = .ok (.i2l, 1) := dk_133 (dk_at dksX4_less_1 1 rfl rfl)
theorem dX4_less_26 : decode cX4_less 26 = .ok (.ldc2_w 91, 3) := dk_20 0 91 (dk_at dksX4_less_1 2 rfl rfl)
theorem dX4_less_29 : decode cX4_less 29 = .ok (.land, 1) := dk_127 (dk_at dksX4_less_1 5 rfl rfl)
theorem dX4_less_30 : decode cX4_less 30 = .ok (.lsub, 1) := dk_101 (dk_at dksX4_less_1 6 rfl rfl)
theorem dX4_less_31 : decode cX4_less 31 = .ok (.ladd, 1) := dk_97 (dk_at dksX4_less_1 7 rfl rfl)
theorem dX4_less_32 : decode cX4_less 32 = .ok (.lstore_n 3, 1) := dk_66 (dk_at dksX4_less_1 8 rfl rfl)
theorem dX4_less_33 : decode cX4_less 33 = .ok (.aload_n 0, 1) := dk_42 (dk_at dksX4_less_1 9 rfl rfl)
theorem dX4_less_34 : decode cX4_less 34 = .ok (.iload 5, 2) := dk_21 5 (dk_at dksX4_less_1 10 rfl rfl)
theorem dX4_less_36 : decode cX4_less 36 = .ok (.lload_n 3, 1) := dk_33 (dk_at dksX4_less_1 12 rfl rfl)
theorem dX4_less_37 : decode cX4_less 37 = .ok (.l2i, 1) := dk_136 (dk_at dksX4_less_1 13 rfl rfl)
theorem dX4_less_38 : decode cX4_less 38 = .ok (.iastore, 1) := dk_79 (dk_at dksX4_less_1 14 rfl rfl)
theorem dX4_less_39 : decode cX4_less 39 = .ok (.lload_n 3, 1) := dk_33 (dk_at dksX4_less_1 15 rfl rfl)
theorem dX4_less_40 : decode cX4_less 40 = .ok (.bipush 32, 2) := dk_16 32 (dk_at dksX4_less_1 16 rfl rfl)
theorem dX4_less_42 : decode cX4_less 42 = .ok (.lshr, 1) := dk_123 (dk_at dksX4_less_1 18 rfl rfl)
theorem dX4_less_43 : decode cX4_less 43 = .ok (.lstore_n 3, 1) := dk_66 (dk_at dksX4_less_1 19 rfl rfl)
theorem dX4_less_44 : decode cX4_less 44 = .ok (.iinc 5 1, 3) := dk_132 5 1 (dk_at dksX4_less_1 20 rfl rfl)
theorem dX4_less_47 : decode cX4_less 47 = .ok (.goto (-42), 3) := dk_167 255 214 (dk_at dksX4_less_2 0 rfl rfl)
theorem dX4_less_50 : decode cX4_less 50 = .ok (.return_, 1) := dk_177 (dk_at dksX4_less_2 3 rfl rfl)
abbrev cX4_primitive : ByteArray := prog_6_method_28_code
def yX4_primitive : MethodName := ⟨RX4, "primitive", "([[I)V"⟩
def dkwX4_primitive_5 : List UInt8 := [132, 2, 1, 167, 255, 204, 177]
abbrev dktX4_primitive_5 : List UInt8 := dkwX4_primitive_5 ++ []
def dkwX4_primitive_4 : List UInt8 := [182, 0, 162, 29, 153, 0, 10, 42, 180, 0, 18, 184, 0, 93, 42, 180, 0, 18, 43, 28, 50, 184, 0, 113]
abbrev dktX4_primitive_4 : List UInt8 := dkwX4_primitive_4 ++ dktX4_primitive_5
def dkwX4_primitive_3 : List UInt8 := [162, 0, 52, 43, 28, 50, 184, 0, 155, 62, 42, 43, 28, 50, 42, 180, 0, 14, 42, 180, 0, 18]
abbrev dktX4_primitive_3 : List UInt8 := dkwX4_primitive_3 ++ dktX4_primitive_4
def dkwX4_primitive_2 : List UInt8 := [132, 2, 1, 167, 255, 218, 42, 180, 0, 14, 184, 0, 149, 5, 162, 0, 4, 177, 3, 61, 28, 16, 7]
abbrev dktX4_primitive_2 : List UInt8 := dkwX4_primitive_2 ++ dktX4_primitive_3
def dkwX4_primitive_1 : List UInt8 := [184, 0, 113, 42, 180, 0, 18, 184, 0, 155, 87, 42, 180, 0, 14, 42, 180, 0, 18, 184, 0, 159]
abbrev dktX4_primitive_1 : List UInt8 := dkwX4_primitive_1 ++ dktX4_primitive_2
def dkwX4_primitive_0 : List UInt8 := [42, 180, 0, 14, 9, 184, 0, 145, 3, 61, 28, 16, 7, 162, 0, 38, 43, 28, 50, 42, 180, 0, 18]
abbrev dktX4_primitive_0 : List UInt8 := dkwX4_primitive_0 ++ dktX4_primitive_1
theorem dksX4_primitive_0 : cX4_primitive.data.toList.drop 0 = dktX4_primitive_0 := by decide +kernel
theorem dksX4_primitive_1 : cX4_primitive.data.toList.drop 23 = dktX4_primitive_1 := dk_seg dksX4_primitive_0 23 rfl rfl
theorem dksX4_primitive_2 : cX4_primitive.data.toList.drop 45 = dktX4_primitive_2 := dk_seg dksX4_primitive_1 22 rfl rfl
theorem dksX4_primitive_3 : cX4_primitive.data.toList.drop 68 = dktX4_primitive_3 := dk_seg dksX4_primitive_2 23 rfl rfl
theorem dksX4_primitive_4 : cX4_primitive.data.toList.drop 90 = dktX4_primitive_4 := dk_seg dksX4_primitive_3 22 rfl rfl
theorem dksX4_primitive_5 : cX4_primitive.data.toList.drop 114 = dktX4_primitive_5 := dk_seg dksX4_primitive_4 24 rfl rfl
theorem dX4_primitive_0 : decode cX4_primitive 0 = .ok (.aload_n 0, 1) := dk_42 (dk_at dksX4_primitive_0 0 rfl rfl)
theorem dX4_primitive_1 : decode cX4_primitive 1 = .ok (.getfield 14, 3) := dk_180 0 14 (dk_at dksX4_primitive_0 1 rfl rfl)
theorem dX4_primitive_4 : decode cX4_primitive 4 = .ok (.lconst 0, 1) := dk_9 (dk_at dksX4_primitive_0 4 rfl rfl)
theorem dX4_primitive_5 : decode cX4_primitive 5 = .ok (.invokestatic 145, 3) := dk_184 0 145 (dk_at dksX4_primitive_0 5 rfl rfl)
theorem dX4_primitive_8 : decode cX4_primitive 8 = .ok (.iconst 0, 1) := dk_3 (dk_at dksX4_primitive_0 8 rfl rfl)
theorem dX4_primitive_9 : decode cX4_primitive 9 = .ok (.istore_n 2, 1) := dk_61 (dk_at dksX4_primitive_0 9 rfl rfl)
theorem dX4_primitive_10 : decode cX4_primitive 10 = .ok (.iload_n 2, 1) := dk_28 (dk_at dksX4_primitive_0 10 rfl rfl)
theorem dX4_primitive_11 : decode cX4_primitive 11 = .ok (.bipush 7, 2) := dk_16 7 (dk_at dksX4_primitive_0 11 rfl rfl)
theorem dX4_primitive_13 : decode cX4_primitive 13 = .ok (.if_icmp .ge 38, 3) := dk_162 0 38 (dk_at dksX4_primitive_0 13 rfl rfl)
theorem dX4_primitive_16 : decode cX4_primitive 16 = .ok (.aload_n 1, 1) := dk_43 (dk_at dksX4_primitive_0 16 rfl rfl)
theorem dX4_primitive_17 : decode cX4_primitive 17 = .ok (.iload_n 2, 1) := dk_28 (dk_at dksX4_primitive_0 17 rfl rfl)
theorem dX4_primitive_18 : decode cX4_primitive 18 = .ok (.aaload, 1) := dk_50 (dk_at dksX4_primitive_0 18 rfl rfl)
theorem dX4_primitive_19 : decode cX4_primitive 19 = .ok (.aload_n 0, 1) := dk_42 (dk_at dksX4_primitive_0 19 rfl rfl)
theorem dX4_primitive_20 : decode cX4_primitive 20 = .ok (.getfield 18, 3) := dk_180 0 18 (dk_at dksX4_primitive_0 20 rfl rfl)
theorem dX4_primitive_23 : decode cX4_primitive 23 = .ok (.invokestatic 113, 3) := dk_184 0 113 (dk_at dksX4_primitive_1 0 rfl rfl)
theorem dX4_primitive_26 : decode cX4_primitive 26 = .ok (.aload_n 0, 1) := dk_42 (dk_at dksX4_primitive_1 3 rfl rfl)
theorem dX4_primitive_27 : decode cX4_primitive 27 = .ok (.getfield 18, 3) := dk_180 0 18 (dk_at dksX4_primitive_1 4 rfl rfl)
theorem dX4_primitive_30 : decode cX4_primitive 30 = .ok (.invokestatic 155, 3) := dk_184 0 155 (dk_at dksX4_primitive_1 7 rfl rfl)
theorem dX4_primitive_33 : decode cX4_primitive 33 = .ok (.pop, 1) := dk_87 (dk_at dksX4_primitive_1 10 rfl rfl)
theorem dX4_primitive_34 : decode cX4_primitive 34 = .ok (.aload_n 0, 1) := dk_42 (dk_at dksX4_primitive_1 11 rfl rfl)
theorem dX4_primitive_35 : decode cX4_primitive 35 = .ok (.getfield 14, 3) := dk_180 0 14 (dk_at dksX4_primitive_1 12 rfl rfl)
theorem dX4_primitive_38 : decode cX4_primitive 38 = .ok (.aload_n 0, 1) := dk_42 (dk_at dksX4_primitive_1 15 rfl rfl)
theorem dX4_primitive_39 : decode cX4_primitive 39 = .ok (.getfield 18, 3) := dk_180 0 18 (dk_at dksX4_primitive_1 16 rfl rfl)
theorem dX4_primitive_42 : decode cX4_primitive 42 = .ok (.invokestatic 159, 3) := dk_184 0 159 (dk_at dksX4_primitive_1 19 rfl rfl)
theorem dX4_primitive_45 : decode cX4_primitive 45 = .ok (.iinc 2 1, 3) := dk_132 2 1 (dk_at dksX4_primitive_2 0 rfl rfl)
theorem dX4_primitive_48 : decode cX4_primitive 48 = .ok (.goto (-38), 3) := dk_167 255 218 (dk_at dksX4_primitive_2 3 rfl rfl)
theorem dX4_primitive_51 : decode cX4_primitive 51 = .ok (.aload_n 0, 1) := dk_42 (dk_at dksX4_primitive_2 6 rfl rfl)
theorem dX4_primitive_52 : decode cX4_primitive 52 = .ok (.getfield 14, 3) := dk_180 0 14 (dk_at dksX4_primitive_2 7 rfl rfl)
theorem dX4_primitive_55 : decode cX4_primitive 55 = .ok (.invokestatic 149, 3) := dk_184 0 149 (dk_at dksX4_primitive_2 10 rfl rfl)
theorem dX4_primitive_58 : decode cX4_primitive 58 = .ok (.iconst 2, 1) := dk_5 (dk_at dksX4_primitive_2 13 rfl rfl)
theorem dX4_primitive_59 : decode cX4_primitive 59 = .ok (.if_icmp .ge 4, 3) := dk_162 0 4 (dk_at dksX4_primitive_2 14 rfl rfl)
theorem dX4_primitive_62 : decode cX4_primitive 62 = .ok (.return_, 1) := dk_177 (dk_at dksX4_primitive_2 17 rfl rfl)
theorem dX4_primitive_63 : decode cX4_primitive 63 = .ok (.iconst 0, 1) := dk_3 (dk_at dksX4_primitive_2 18 rfl rfl)
theorem dX4_primitive_64 : decode cX4_primitive 64 = .ok (.istore_n 2, 1) := dk_61 (dk_at dksX4_primitive_2 19 rfl rfl)
theorem dX4_primitive_65 : decode cX4_primitive 65 = .ok (.iload_n 2, 1) := dk_28 (dk_at dksX4_primitive_2 20 rfl rfl)
theorem dX4_primitive_66 : decode cX4_primitive 66 = .ok (.bipush 7, 2) := dk_16 7 (dk_at dksX4_primitive_2 21 rfl rfl)
theorem dX4_primitive_68 : decode cX4_primitive 68 = .ok (.if_icmp .ge 52, 3) := dk_162 0 52 (dk_at dksX4_primitive_3 0 rfl rfl)
theorem dX4_primitive_71 : decode cX4_primitive 71 = .ok (.aload_n 1, 1) := dk_43 (dk_at dksX4_primitive_3 3 rfl rfl)
theorem dX4_primitive_72 : decode cX4_primitive 72 = .ok (.iload_n 2, 1) := dk_28 (dk_at dksX4_primitive_3 4 rfl rfl)
theorem dX4_primitive_73 : decode cX4_primitive 73 = .ok (.aaload, 1) := dk_50 (dk_at dksX4_primitive_3 5 rfl rfl)
theorem dX4_primitive_74 : decode cX4_primitive 74 = .ok (.invokestatic 155, 3) := dk_184 0 155 (dk_at dksX4_primitive_3 6 rfl rfl)
theorem dX4_primitive_77 : decode cX4_primitive 77 = .ok (.istore_n 3, 1) := dk_62 (dk_at dksX4_primitive_3 9 rfl rfl)
theorem dX4_primitive_78 : decode cX4_primitive 78 = .ok (.aload_n 0, 1) := dk_42 (dk_at dksX4_primitive_3 10 rfl rfl)
theorem dX4_primitive_79 : decode cX4_primitive 79 = .ok (.aload_n 1, 1) := dk_43 (dk_at dksX4_primitive_3 11 rfl rfl)
theorem dX4_primitive_80 : decode cX4_primitive 80 = .ok (.iload_n 2, 1) := dk_28 (dk_at dksX4_primitive_3 12 rfl rfl)
theorem dX4_primitive_81 : decode cX4_primitive 81 = .ok (.aaload, 1) := dk_50 (dk_at dksX4_primitive_3 13 rfl rfl)
theorem dX4_primitive_82 : decode cX4_primitive 82 = .ok (.aload_n 0, 1) := dk_42 (dk_at dksX4_primitive_3 14 rfl rfl)
theorem dX4_primitive_83 : decode cX4_primitive 83 = .ok (.getfield 14, 3) := dk_180 0 14 (dk_at dksX4_primitive_3 15 rfl rfl)
theorem dX4_primitive_86 : decode cX4_primitive 86 = .ok (.aload_n 0, 1) := dk_42 (dk_at dksX4_primitive_3 18 rfl rfl)
theorem dX4_primitive_87 : decode cX4_primitive 87 = .ok (.getfield 18, 3) := dk_180 0 18 (dk_at dksX4_primitive_3 19 rfl rfl)
theorem dX4_primitive_90 : decode cX4_primitive 90 = .ok (.invokevirtual 162, 3) := dk_182 0 162 (dk_at dksX4_primitive_4 0 rfl rfl)
theorem dX4_primitive_93 : decode cX4_primitive 93 = .ok (.iload_n 3, 1) := dk_29 (dk_at dksX4_primitive_4 3 rfl rfl)
theorem dX4_primitive_94 : decode cX4_primitive 94 = .ok (.ifCond .eq 10, 3) := dk_153 0 10 (dk_at dksX4_primitive_4 4 rfl rfl)
theorem dX4_primitive_97 : decode cX4_primitive 97 = .ok (.aload_n 0, 1) := dk_42 (dk_at dksX4_primitive_4 7 rfl rfl)
theorem dX4_primitive_98 : decode cX4_primitive 98 = .ok (.getfield 18, 3) := dk_180 0 18 (dk_at dksX4_primitive_4 8 rfl rfl)
theorem dX4_primitive_101 : decode cX4_primitive 101 = .ok (.invokestatic 93, 3) := dk_184 0 93 (dk_at dksX4_primitive_4 11 rfl rfl)
theorem dX4_primitive_104 : decode cX4_primitive 104 = .ok (.aload_n 0, 1) := dk_42 (dk_at dksX4_primitive_4 14 rfl rfl)
theorem dX4_primitive_105 : decode cX4_primitive 105 = .ok (.getfield 18, 3) := dk_180 0 18 (dk_at dksX4_primitive_4 15 rfl rfl)
theorem dX4_primitive_108 : decode cX4_primitive 108 = .ok (.aload_n 1, 1) := dk_43 (dk_at dksX4_primitive_4 18 rfl rfl)
theorem dX4_primitive_109 : decode cX4_primitive 109 = .ok (.iload_n 2, 1) := dk_28 (dk_at dksX4_primitive_4 19 rfl rfl)
theorem dX4_primitive_110 : decode cX4_primitive 110 = .ok (.aaload, 1) := dk_50 (dk_at dksX4_primitive_4 20 rfl rfl)
theorem dX4_primitive_111 : decode cX4_primitive 111 = .ok (.invokestatic 113, 3) := dk_184 0 113 (dk_at dksX4_primitive_4 21 rfl rfl)
theorem dX4_primitive_114 : decode cX4_primitive 114 = .ok (.iinc 2 1, 3) := dk_132 2 1 (dk_at dksX4_primitive_5 0 rfl rfl)
theorem dX4_primitive_117 : decode cX4_primitive 117 = .ok (.goto (-52), 3) := dk_167 255 204 (dk_at dksX4_primitive_5 3 rfl rfl)
theorem dX4_primitive_120 : decode cX4_primitive 120 = .ok (.return_, 1) := dk_177 (dk_at dksX4_primitive_5 6 rfl rfl)
abbrev cX4_divisor : ByteArray := prog_6_method_20_code
def yX4_divisor : MethodName := ⟨RX4, "divisor", "([I[I)V"⟩
def dkwX4_divisor_6 : List UInt8 := [54, 5, 167, 255, 177, 42, 29, 21, 4, 184, 0, 138, 184, 0, 141, 177]
abbrev dktX4_divisor_6 : List UInt8 := dkwX4_divisor_6 ++ []
def dkwX4_divisor_5 : List UInt8 := [46, 154, 0, 17, 43, 28, 4, 100, 46, 154, 0, 9, 132, 2, 255, 167, 255, 232, 42, 43, 28, 184, 0, 130]
abbrev dktX4_divisor_5 : List UInt8 := dkwX4_divisor_5 ++ dktX4_divisor_6
def dkwX4_divisor_4 : List UInt8 := [28, 184, 0, 134, 25, 6, 25, 6, 184, 0, 123, 28, 184, 0, 126, 28, 4, 164, 0, 25, 42, 28, 4, 100]
abbrev dktX4_divisor_4 : List UInt8 := dkwX4_divisor_4 ++ dktX4_divisor_5
def dkwX4_divisor_3 : List UInt8 := [21, 5, 158, 0, 7, 42, 167, 0, 4, 43, 58, 6, 25, 6, 21, 5, 158, 0, 7, 43, 167, 0, 4, 42]
abbrev dktX4_divisor_3 : List UInt8 := dkwX4_divisor_3 ++ dktX4_divisor_4
def dkwX4_divisor_2 : List UInt8 := [28, 184, 0, 126, 43, 21, 4, 28, 184, 0, 126, 42, 43, 28, 184, 0, 130, 54, 5, 21, 5, 153, 0, 80]
abbrev dktX4_divisor_2 : List UInt8 := dkwX4_divisor_2 ++ dktX4_divisor_3
def dkwX4_divisor_1 : List UInt8 := [184, 0, 97, 43, 184, 0, 97, 184, 0, 117, 61, 42, 184, 0, 123, 62, 43, 184, 0, 123, 54, 4, 42, 29]
abbrev dktX4_divisor_1 : List UInt8 := dkwX4_divisor_1 ++ dktX4_divisor_2
def dkwX4_divisor_0 : List UInt8 := [43, 184, 0, 110, 154, 0, 4, 177, 42, 184, 0, 110, 154, 0, 9, 43, 42, 184, 0, 113, 177, 42]
abbrev dktX4_divisor_0 : List UInt8 := dkwX4_divisor_0 ++ dktX4_divisor_1
theorem dksX4_divisor_0 : cX4_divisor.data.toList.drop 0 = dktX4_divisor_0 := by decide +kernel
theorem dksX4_divisor_1 : cX4_divisor.data.toList.drop 22 = dktX4_divisor_1 := dk_seg dksX4_divisor_0 22 rfl rfl
theorem dksX4_divisor_2 : cX4_divisor.data.toList.drop 46 = dktX4_divisor_2 := dk_seg dksX4_divisor_1 24 rfl rfl
theorem dksX4_divisor_3 : cX4_divisor.data.toList.drop 70 = dktX4_divisor_3 := dk_seg dksX4_divisor_2 24 rfl rfl
theorem dksX4_divisor_4 : cX4_divisor.data.toList.drop 94 = dktX4_divisor_4 := dk_seg dksX4_divisor_3 24 rfl rfl
theorem dksX4_divisor_5 : cX4_divisor.data.toList.drop 118 = dktX4_divisor_5 := dk_seg dksX4_divisor_4 24 rfl rfl
theorem dksX4_divisor_6 : cX4_divisor.data.toList.drop 142 = dktX4_divisor_6 := dk_seg dksX4_divisor_5 24 rfl rfl
theorem dX4_divisor_0 : decode cX4_divisor 0 = .ok (.aload_n 1, 1) := dk_43 (dk_at dksX4_divisor_0 0 rfl rfl)
theorem dX4_divisor_1 : decode cX4_divisor 1 = .ok (.invokestatic 110, 3) := dk_184 0 110 (dk_at dksX4_divisor_0 1 rfl rfl)
theorem dX4_divisor_4 : decode cX4_divisor 4 = .ok (.ifCond .ne 4, 3) := dk_154 0 4 (dk_at dksX4_divisor_0 4 rfl rfl)
theorem dX4_divisor_7 : decode cX4_divisor 7 = .ok (.return_, 1) := dk_177 (dk_at dksX4_divisor_0 7 rfl rfl)
theorem dX4_divisor_8 : decode cX4_divisor 8 = .ok (.aload_n 0, 1) := dk_42 (dk_at dksX4_divisor_0 8 rfl rfl)
theorem dX4_divisor_9 : decode cX4_divisor 9 = .ok (.invokestatic 110, 3) := dk_184 0 110 (dk_at dksX4_divisor_0 9 rfl rfl)
theorem dX4_divisor_12 : decode cX4_divisor 12 = .ok (.ifCond .ne 9, 3) := dk_154 0 9 (dk_at dksX4_divisor_0 12 rfl rfl)
theorem dX4_divisor_15 : decode cX4_divisor 15 = .ok (.aload_n 1, 1) := dk_43 (dk_at dksX4_divisor_0 15 rfl rfl)
theorem dX4_divisor_16 : decode cX4_divisor 16 = .ok (.aload_n 0, 1) := dk_42 (dk_at dksX4_divisor_0 16 rfl rfl)
theorem dX4_divisor_17 : decode cX4_divisor 17 = .ok (.invokestatic 113, 3) := dk_184 0 113 (dk_at dksX4_divisor_0 17 rfl rfl)
theorem dX4_divisor_20 : decode cX4_divisor 20 = .ok (.return_, 1) := dk_177 (dk_at dksX4_divisor_0 20 rfl rfl)
theorem dX4_divisor_21 : decode cX4_divisor 21 = .ok (.aload_n 0, 1) := dk_42 (dk_at dksX4_divisor_0 21 rfl rfl)
theorem dX4_divisor_22 : decode cX4_divisor 22 = .ok (.invokestatic 97, 3) := dk_184 0 97 (dk_at dksX4_divisor_1 0 rfl rfl)
theorem dX4_divisor_25 : decode cX4_divisor 25 = .ok (.aload_n 1, 1) := dk_43 (dk_at dksX4_divisor_1 3 rfl rfl)
theorem dX4_divisor_26 : decode cX4_divisor 26 = .ok (.invokestatic 97, 3) := dk_184 0 97 (dk_at dksX4_divisor_1 4 rfl rfl)
theorem dX4_divisor_29 : decode cX4_divisor 29 = .ok (.invokestatic 117, 3) := dk_184 0 117 (dk_at dksX4_divisor_1 7 rfl rfl)
theorem dX4_divisor_32 : decode cX4_divisor 32 = .ok (.istore_n 2, 1) := dk_61 (dk_at dksX4_divisor_1 10 rfl rfl)
theorem dX4_divisor_33 : decode cX4_divisor 33 = .ok (.aload_n 0, 1) := dk_42 (dk_at dksX4_divisor_1 11 rfl rfl)
theorem dX4_divisor_34 : decode cX4_divisor 34 = .ok (.invokestatic 123, 3) := dk_184 0 123 (dk_at dksX4_divisor_1 12 rfl rfl)
theorem dX4_divisor_37 : decode cX4_divisor 37 = .ok (.istore_n 3, 1) := dk_62 (dk_at dksX4_divisor_1 15 rfl rfl)
theorem dX4_divisor_38 : decode cX4_divisor 38 = .ok (.aload_n 1, 1) := dk_43 (dk_at dksX4_divisor_1 16 rfl rfl)
theorem dX4_divisor_39 : decode cX4_divisor 39 = .ok (.invokestatic 123, 3) := dk_184 0 123 (dk_at dksX4_divisor_1 17 rfl rfl)
theorem dX4_divisor_42 : decode cX4_divisor 42 = .ok (.istore 4, 2) := dk_54 4 (dk_at dksX4_divisor_1 20 rfl rfl)
theorem dX4_divisor_44 : decode cX4_divisor 44 = .ok (.aload_n 0, 1) := dk_42 (dk_at dksX4_divisor_1 22 rfl rfl)
theorem dX4_divisor_45 : decode cX4_divisor 45 = .ok (.iload_n 3, 1) := dk_29 (dk_at dksX4_divisor_1 23 rfl rfl)
theorem dX4_divisor_46 : decode cX4_divisor 46 = .ok (.iload_n 2, 1) := dk_28 (dk_at dksX4_divisor_2 0 rfl rfl)
theorem dX4_divisor_47 : decode cX4_divisor 47 = .ok (.invokestatic 126, 3) := dk_184 0 126 (dk_at dksX4_divisor_2 1 rfl rfl)
theorem dX4_divisor_50 : decode cX4_divisor 50 = .ok (.aload_n 1, 1) := dk_43 (dk_at dksX4_divisor_2 4 rfl rfl)
theorem dX4_divisor_51 : decode cX4_divisor 51 = .ok (.iload 4, 2) := dk_21 4 (dk_at dksX4_divisor_2 5 rfl rfl)
theorem dX4_divisor_53 : decode cX4_divisor 53 = .ok (.iload_n 2, 1) := dk_28 (dk_at dksX4_divisor_2 7 rfl rfl)
theorem dX4_divisor_54 : decode cX4_divisor 54 = .ok (.invokestatic 126, 3) := dk_184 0 126 (dk_at dksX4_divisor_2 8 rfl rfl)
theorem dX4_divisor_57 : decode cX4_divisor 57 = .ok (.aload_n 0, 1) := dk_42 (dk_at dksX4_divisor_2 11 rfl rfl)
theorem dX4_divisor_58 : decode cX4_divisor 58 = .ok (.aload_n 1, 1) := dk_43 (dk_at dksX4_divisor_2 12 rfl rfl)
theorem dX4_divisor_59 : decode cX4_divisor 59 = .ok (.iload_n 2, 1) := dk_28 (dk_at dksX4_divisor_2 13 rfl rfl)
theorem dX4_divisor_60 : decode cX4_divisor 60 = .ok (.invokestatic 130, 3) := dk_184 0 130 (dk_at dksX4_divisor_2 14 rfl rfl)
theorem dX4_divisor_63 : decode cX4_divisor 63 = .ok (.istore 5, 2) := dk_54 5 (dk_at dksX4_divisor_2 17 rfl rfl)
theorem dX4_divisor_65 : decode cX4_divisor 65 = .ok (.iload 5, 2) := dk_21 5 (dk_at dksX4_divisor_2 19 rfl rfl)
theorem dX4_divisor_67 : decode cX4_divisor 67 = .ok (.ifCond .eq 80, 3) := dk_153 0 80 (dk_at dksX4_divisor_2 21 rfl rfl)
theorem dX4_divisor_70 : decode cX4_divisor 70 = .ok (.iload 5, 2) := dk_21 5 (dk_at dksX4_divisor_3 0 rfl rfl)
theorem dX4_divisor_72 : decode cX4_divisor 72 = .ok (.ifCond .le 7, 3) := dk_158 0 7 (dk_at dksX4_divisor_3 2 rfl rfl)
theorem dX4_divisor_75 : decode cX4_divisor 75 = .ok (.aload_n 0, 1) := dk_42 (dk_at dksX4_divisor_3 5 rfl rfl)
theorem dX4_divisor_76 : decode cX4_divisor 76 = .ok (.goto 4, 3) := dk_167 0 4 (dk_at dksX4_divisor_3 6 rfl rfl)
theorem dX4_divisor_79 : decode cX4_divisor 79 = .ok (.aload_n 1, 1) := dk_43 (dk_at dksX4_divisor_3 9 rfl rfl)
theorem dX4_divisor_80 : decode cX4_divisor 80 = .ok (.astore 6, 2) := dk_58 6 (dk_at dksX4_divisor_3 10 rfl rfl)
theorem dX4_divisor_82 : decode cX4_divisor 82 = .ok (.aload 6, 2) := dk_25 6 (dk_at dksX4_divisor_3 12 rfl rfl)
theorem dX4_divisor_84 : decode cX4_divisor 84 = .ok (.iload 5, 2) := dk_21 5 (dk_at dksX4_divisor_3 14 rfl rfl)
theorem dX4_divisor_86 : decode cX4_divisor 86 = .ok (.ifCond .le 7, 3) := dk_158 0 7 (dk_at dksX4_divisor_3 16 rfl rfl)
theorem dX4_divisor_89 : decode cX4_divisor 89 = .ok (.aload_n 1, 1) := dk_43 (dk_at dksX4_divisor_3 19 rfl rfl)
theorem dX4_divisor_90 : decode cX4_divisor 90 = .ok (.goto 4, 3) := dk_167 0 4 (dk_at dksX4_divisor_3 20 rfl rfl)
theorem dX4_divisor_93 : decode cX4_divisor 93 = .ok (.aload_n 0, 1) := dk_42 (dk_at dksX4_divisor_3 23 rfl rfl)
theorem dX4_divisor_94 : decode cX4_divisor 94 = .ok (.iload_n 2, 1) := dk_28 (dk_at dksX4_divisor_4 0 rfl rfl)
theorem dX4_divisor_95 : decode cX4_divisor 95 = .ok (.invokestatic 134, 3) := dk_184 0 134 (dk_at dksX4_divisor_4 1 rfl rfl)
theorem dX4_divisor_98 : decode cX4_divisor 98 = .ok (.aload 6, 2) := dk_25 6 (dk_at dksX4_divisor_4 4 rfl rfl)
theorem dX4_divisor_100 : decode cX4_divisor 100 = .ok (.aload 6, 2) := dk_25 6 (dk_at dksX4_divisor_4 6 rfl rfl)
theorem dX4_divisor_102 : decode cX4_divisor 102 = .ok (.invokestatic 123, 3) := dk_184 0 123 (dk_at dksX4_divisor_4 8 rfl rfl)
theorem dX4_divisor_105 : decode cX4_divisor 105 = .ok (.iload_n 2, 1) := dk_28 (dk_at dksX4_divisor_4 11 rfl rfl)
theorem dX4_divisor_106 : decode cX4_divisor 106 = .ok (.invokestatic 126, 3) := dk_184 0 126 (dk_at dksX4_divisor_4 12 rfl rfl)
theorem dX4_divisor_109 : decode cX4_divisor 109 = .ok (.iload_n 2, 1) := dk_28 (dk_at dksX4_divisor_4 15 rfl rfl)
theorem dX4_divisor_110 : decode cX4_divisor 110 = .ok (.iconst 1, 1) := dk_4 (dk_at dksX4_divisor_4 16 rfl rfl)
theorem dX4_divisor_111 : decode cX4_divisor 111 = .ok (.if_icmp .le 25, 3) := dk_164 0 25 (dk_at dksX4_divisor_4 17 rfl rfl)
theorem dX4_divisor_114 : decode cX4_divisor 114 = .ok (.aload_n 0, 1) := dk_42 (dk_at dksX4_divisor_4 20 rfl rfl)
theorem dX4_divisor_115 : decode cX4_divisor 115 = .ok (.iload_n 2, 1) := dk_28 (dk_at dksX4_divisor_4 21 rfl rfl)
theorem dX4_divisor_116 : decode cX4_divisor 116 = .ok (.iconst 1, 1) := dk_4 (dk_at dksX4_divisor_4 22 rfl rfl)
theorem dX4_divisor_117 : decode cX4_divisor 117 = .ok (.isub, 1) := dk_100 (dk_at dksX4_divisor_4 23 rfl rfl)
theorem dX4_divisor_118 : decode cX4_divisor 118 = .ok (.iaload, 1) := dk_46 (dk_at dksX4_divisor_5 0 rfl rfl)
theorem dX4_divisor_119 : decode cX4_divisor 119 = .ok (.ifCond .ne 17, 3) := dk_154 0 17 (dk_at dksX4_divisor_5 1 rfl rfl)
theorem dX4_divisor_122 : decode cX4_divisor 122 = .ok (.aload_n 1, 1) := dk_43 (dk_at dksX4_divisor_5 4 rfl rfl)
theorem dX4_divisor_123 : decode cX4_divisor 123 = .ok (.iload_n 2, 1) := dk_28 (dk_at dksX4_divisor_5 5 rfl rfl)
theorem dX4_divisor_124 : decode cX4_divisor 124 = .ok (.iconst 1, 1) := dk_4 (dk_at dksX4_divisor_5 6 rfl rfl)
theorem dX4_divisor_125 : decode cX4_divisor 125 = .ok (.isub, 1) := dk_100 (dk_at dksX4_divisor_5 7 rfl rfl)
theorem dX4_divisor_126 : decode cX4_divisor 126 = .ok (.iaload, 1) := dk_46 (dk_at dksX4_divisor_5 8 rfl rfl)
theorem dX4_divisor_127 : decode cX4_divisor 127 = .ok (.ifCond .ne 9, 3) := dk_154 0 9 (dk_at dksX4_divisor_5 9 rfl rfl)
theorem dX4_divisor_130 : decode cX4_divisor 130 = .ok (.iinc 2 (-1), 3) := dk_132 2 255 (dk_at dksX4_divisor_5 12 rfl rfl)
theorem dX4_divisor_133 : decode cX4_divisor 133 = .ok (.goto (-24), 3) := dk_167 255 232 (dk_at dksX4_divisor_5 15 rfl rfl)
theorem dX4_divisor_136 : decode cX4_divisor 136 = .ok (.aload_n 0, 1) := dk_42 (dk_at dksX4_divisor_5 18 rfl rfl)
theorem dX4_divisor_137 : decode cX4_divisor 137 = .ok (.aload_n 1, 1) := dk_43 (dk_at dksX4_divisor_5 19 rfl rfl)
theorem dX4_divisor_138 : decode cX4_divisor 138 = .ok (.iload_n 2, 1) := dk_28 (dk_at dksX4_divisor_5 20 rfl rfl)
theorem dX4_divisor_139 : decode cX4_divisor 139 = .ok (.invokestatic 130, 3) := dk_184 0 130 (dk_at dksX4_divisor_5 21 rfl rfl)
theorem dX4_divisor_142 : decode cX4_divisor 142 = .ok (.istore 5, 2) := dk_54 5 (dk_at dksX4_divisor_6 0 rfl rfl)
theorem dX4_divisor_144 : decode cX4_divisor 144 = .ok (.goto (-79), 3) := dk_167 255 177 (dk_at dksX4_divisor_6 2 rfl rfl)
theorem dX4_divisor_147 : decode cX4_divisor 147 = .ok (.aload_n 0, 1) := dk_42 (dk_at dksX4_divisor_6 5 rfl rfl)
theorem dX4_divisor_148 : decode cX4_divisor 148 = .ok (.iload_n 3, 1) := dk_29 (dk_at dksX4_divisor_6 6 rfl rfl)
theorem dX4_divisor_149 : decode cX4_divisor 149 = .ok (.iload 4, 2) := dk_21 4 (dk_at dksX4_divisor_6 7 rfl rfl)
theorem dX4_divisor_151 : decode cX4_divisor 151 = .ok (.invokestatic 138, 3) := dk_184 0 138 (dk_at dksX4_divisor_6 9 rfl rfl)
theorem dX4_divisor_154 : decode cX4_divisor 154 = .ok (.invokestatic 141, 3) := dk_184 0 141 (dk_at dksX4_divisor_6 12 rfl rfl)
theorem dX4_divisor_157 : decode cX4_divisor 157 = .ok (.return_, 1) := dk_177 (dk_at dksX4_divisor_6 15 rfl rfl)
abbrev cX4_ints : ByteArray := prog_6_method_15_code
def yX4_ints : MethodName := ⟨RX4, "ints", "([I)I"⟩
def dkwX4_ints_0 : List UInt8 := [16, 48, 60, 27, 158, 0, 17, 42, 27, 4, 100, 46, 154, 0, 9, 132, 1, 255, 167, 255, 241, 27, 172]
abbrev dktX4_ints_0 : List UInt8 := dkwX4_ints_0 ++ []
theorem dksX4_ints_0 : cX4_ints.data.toList.drop 0 = dktX4_ints_0 := by decide +kernel
theorem dX4_ints_0 : decode cX4_ints 0 = .ok (.bipush 48, 2) := dk_16 48 (dk_at dksX4_ints_0 0 rfl rfl)
theorem dX4_ints_2 : decode cX4_ints 2 = .ok (.istore_n 1, 1) := dk_60 (dk_at dksX4_ints_0 2 rfl rfl)
theorem dX4_ints_3 : decode cX4_ints 3 = .ok (.iload_n 1, 1) := dk_27 (dk_at dksX4_ints_0 3 rfl rfl)
theorem dX4_ints_4 : decode cX4_ints 4 = .ok (.ifCond .le 17, 3) := dk_158 0 17 (dk_at dksX4_ints_0 4 rfl rfl)
theorem dX4_ints_7 : decode cX4_ints 7 = .ok (.aload_n 0, 1) := dk_42 (dk_at dksX4_ints_0 7 rfl rfl)
theorem dX4_ints_8 : decode cX4_ints 8 = .ok (.iload_n 1, 1) := dk_27 (dk_at dksX4_ints_0 8 rfl rfl)
theorem dX4_ints_9 : decode cX4_ints 9 = .ok (.iconst 1, 1) := dk_4 (dk_at dksX4_ints_0 9 rfl rfl)
theorem dX4_ints_10 : decode cX4_ints 10 = .ok (.isub, 1) := dk_100 (dk_at dksX4_ints_0 10 rfl rfl)
theorem dX4_ints_11 : decode cX4_ints 11 = .ok (.iaload, 1) := dk_46 (dk_at dksX4_ints_0 11 rfl rfl)
theorem dX4_ints_12 : decode cX4_ints 12 = .ok (.ifCond .ne 9, 3) := dk_154 0 9 (dk_at dksX4_ints_0 12 rfl rfl)
theorem dX4_ints_15 : decode cX4_ints 15 = .ok (.iinc 1 (-1), 3) := dk_132 1 255 (dk_at dksX4_ints_0 15 rfl rfl)
theorem dX4_ints_18 : decode cX4_ints 18 = .ok (.goto (-15), 3) := dk_167 255 241 (dk_at dksX4_ints_0 18 rfl rfl)
theorem dX4_ints_21 : decode cX4_ints 21 = .ok (.iload_n 1, 1) := dk_27 (dk_at dksX4_ints_0 21 rfl rfl)
theorem dX4_ints_22 : decode cX4_ints 22 = .ok (.ireturn, 1) := dk_172 (dk_at dksX4_ints_0 22 rfl rfl)
abbrev cX4_zeros : ByteArray := prog_6_method_17_code
def yX4_zeros : MethodName := ⟨RX4, "zeros", "([I)I"⟩
def dkwX4_zeros_1 : List UInt8 := [96, 172]
abbrev dktX4_zeros_1 : List UInt8 := dkwX4_zeros_1 ++ []
def dkwX4_zeros_0 : List UInt8 := [3, 60, 42, 27, 46, 154, 0, 9, 132, 1, 1, 167, 255, 247, 16, 32, 27, 104, 42, 27, 46, 184, 0, 107]
abbrev dktX4_zeros_0 : List UInt8 := dkwX4_zeros_0 ++ dktX4_zeros_1
theorem dksX4_zeros_0 : cX4_zeros.data.toList.drop 0 = dktX4_zeros_0 := by decide +kernel
theorem dksX4_zeros_1 : cX4_zeros.data.toList.drop 24 = dktX4_zeros_1 := dk_seg dksX4_zeros_0 24 rfl rfl
theorem dX4_zeros_0 : decode cX4_zeros 0 = .ok (.iconst 0, 1) := dk_3 (dk_at dksX4_zeros_0 0 rfl rfl)
theorem dX4_zeros_1 : decode cX4_zeros 1 = .ok (.istore_n 1, 1) := dk_60 (dk_at dksX4_zeros_0 1 rfl rfl)
theorem dX4_zeros_2 : decode cX4_zeros 2 = .ok (.aload_n 0, 1) := dk_42 (dk_at dksX4_zeros_0 2 rfl rfl)
theorem dX4_zeros_3 : decode cX4_zeros 3 = .ok (.iload_n 1, 1) := dk_27 (dk_at dksX4_zeros_0 3 rfl rfl)
theorem dX4_zeros_4 : decode cX4_zeros 4 = .ok (.iaload, 1) := dk_46 (dk_at dksX4_zeros_0 4 rfl rfl)
theorem dX4_zeros_5 : decode cX4_zeros 5 = .ok (.ifCond .ne 9, 3) := dk_154 0 9 (dk_at dksX4_zeros_0 5 rfl rfl)
theorem dX4_zeros_8 : decode cX4_zeros 8 = .ok (.iinc 1 1, 3) := dk_132 1 1 (dk_at dksX4_zeros_0 8 rfl rfl)
theorem dX4_zeros_11 : decode cX4_zeros 11 = .ok (.goto (-9), 3) := dk_167 255 247 (dk_at dksX4_zeros_0 11 rfl rfl)
theorem dX4_zeros_14 : decode cX4_zeros 14 = .ok (.bipush 32, 2) := dk_16 32 (dk_at dksX4_zeros_0 14 rfl rfl)
theorem dX4_zeros_16 : decode cX4_zeros 16 = .ok (.iload_n 1, 1) := dk_27 (dk_at dksX4_zeros_0 16 rfl rfl)
theorem dX4_zeros_17 : decode cX4_zeros 17 = .ok (.imul, 1) := dk_104 (dk_at dksX4_zeros_0 17 rfl rfl)
theorem dX4_zeros_18 : decode cX4_zeros 18 = .ok (.aload_n 0, 1) := dk_42 (dk_at dksX4_zeros_0 18 rfl rfl)
theorem dX4_zeros_19 : decode cX4_zeros 19 = .ok (.iload_n 1, 1) := dk_27 (dk_at dksX4_zeros_0 19 rfl rfl)
theorem dX4_zeros_20 : decode cX4_zeros 20 = .ok (.iaload, 1) := dk_46 (dk_at dksX4_zeros_0 20 rfl rfl)
theorem dX4_zeros_21 : decode cX4_zeros 21 = .ok (.invokestatic 107, 3) := dk_184 0 107 (dk_at dksX4_zeros_0 21 rfl rfl)
theorem dX4_zeros_24 : decode cX4_zeros 24 = .ok (.iadd, 1) := dk_96 (dk_at dksX4_zeros_1 0 rfl rfl)
theorem dX4_zeros_25 : decode cX4_zeros 25 = .ok (.ireturn, 1) := dk_172 (dk_at dksX4_zeros_1 1 rfl rfl)
abbrev cX4_right : ByteArray := prog_6_method_13_code
def yX4_right : MethodName := ⟨RX4, "right", "([III)V"⟩
def dkwX4_right_4 : List UInt8 := [132, 5, 1, 167, 255, 175, 177]
abbrev dktX4_right_4 : List UInt8 := dkwX4_right_4 ++ []
def dkwX4_right_3 : List UInt8 := [154, 0, 8, 21, 6, 167, 0, 17, 21, 6, 21, 4, 124, 21, 7, 16, 32, 21, 4, 100, 120, 128, 79]
abbrev dktX4_right_3 : List UInt8 := dkwX4_right_3 ++ dktX4_right_4
def dkwX4_right_2 : List UInt8 := [162, 0, 14, 42, 21, 5, 29, 96, 4, 96, 46, 167, 0, 4, 3, 54, 7, 42, 21, 5, 21, 4]
abbrev dktX4_right_2 : List UInt8 := dkwX4_right_2 ++ dktX4_right_3
def dkwX4_right_1 : List UInt8 := [28, 162, 0, 12, 42, 21, 5, 29, 96, 46, 167, 0, 4, 3, 54, 6, 21, 5, 29, 96, 4, 96, 28]
abbrev dktX4_right_1 : List UInt8 := dkwX4_right_1 ++ dktX4_right_2
def dkwX4_right_0 : List UInt8 := [27, 16, 32, 108, 62, 27, 16, 32, 112, 54, 4, 3, 54, 5, 21, 5, 28, 162, 0, 81, 21, 5, 29, 96]
abbrev dktX4_right_0 : List UInt8 := dkwX4_right_0 ++ dktX4_right_1
theorem dksX4_right_0 : cX4_right.data.toList.drop 0 = dktX4_right_0 := by decide +kernel
theorem dksX4_right_1 : cX4_right.data.toList.drop 24 = dktX4_right_1 := dk_seg dksX4_right_0 24 rfl rfl
theorem dksX4_right_2 : cX4_right.data.toList.drop 47 = dktX4_right_2 := dk_seg dksX4_right_1 23 rfl rfl
theorem dksX4_right_3 : cX4_right.data.toList.drop 69 = dktX4_right_3 := dk_seg dksX4_right_2 22 rfl rfl
theorem dksX4_right_4 : cX4_right.data.toList.drop 92 = dktX4_right_4 := dk_seg dksX4_right_3 23 rfl rfl
theorem dX4_right_0 : decode cX4_right 0 = .ok (.iload_n 1, 1) := dk_27 (dk_at dksX4_right_0 0 rfl rfl)
theorem dX4_right_1 : decode cX4_right 1 = .ok (.bipush 32, 2) := dk_16 32 (dk_at dksX4_right_0 1 rfl rfl)
theorem dX4_right_3 : decode cX4_right 3 = .ok (.idiv, 1) := dk_108 (dk_at dksX4_right_0 3 rfl rfl)
theorem dX4_right_4 : decode cX4_right 4 = .ok (.istore_n 3, 1) := dk_62 (dk_at dksX4_right_0 4 rfl rfl)
theorem dX4_right_5 : decode cX4_right 5 = .ok (.iload_n 1, 1) := dk_27 (dk_at dksX4_right_0 5 rfl rfl)
theorem dX4_right_6 : decode cX4_right 6 = .ok (.bipush 32, 2) := dk_16 32 (dk_at dksX4_right_0 6 rfl rfl)
theorem dX4_right_8 : decode cX4_right 8 = .ok (.irem, 1) := dk_112 (dk_at dksX4_right_0 8 rfl rfl)
theorem dX4_right_9 : decode cX4_right 9 = .ok (.istore 4, 2) := dk_54 4 (dk_at dksX4_right_0 9 rfl rfl)
theorem dX4_right_11 : decode cX4_right 11 = .ok (.iconst 0, 1) := dk_3 (dk_at dksX4_right_0 11 rfl rfl)
theorem dX4_right_12 : decode cX4_right 12 = .ok (.istore 5, 2) := dk_54 5 (dk_at dksX4_right_0 12 rfl rfl)
theorem dX4_right_14 : decode cX4_right 14 = .ok (.iload 5, 2) := dk_21 5 (dk_at dksX4_right_0 14 rfl rfl)
theorem dX4_right_16 : decode cX4_right 16 = .ok (.iload_n 2, 1) := dk_28 (dk_at dksX4_right_0 16 rfl rfl)
theorem dX4_right_17 : decode cX4_right 17 = .ok (.if_icmp .ge 81, 3) := dk_162 0 81 (dk_at dksX4_right_0 17 rfl rfl)
theorem dX4_right_20 : decode cX4_right 20 = .ok (.iload 5, 2) := dk_21 5 (dk_at dksX4_right_0 20 rfl rfl)
theorem dX4_right_22 : decode cX4_right 22 = .ok (.iload_n 3, 1) := dk_29 (dk_at dksX4_right_0 22 rfl rfl)
theorem dX4_right_23 : decode cX4_right 23 = .ok (.iadd, 1) := dk_96 (dk_at dksX4_right_0 23 rfl rfl)
theorem dX4_right_24 : decode cX4_right 24 = .ok (.iload_n 2, 1) := dk_28 (dk_at dksX4_right_1 0 rfl rfl)
theorem dX4_right_25 : decode cX4_right 25 = .ok (.if_icmp .ge 12, 3) := dk_162 0 12 (dk_at dksX4_right_1 1 rfl rfl)
theorem dX4_right_28 : decode cX4_right 28 = .ok (.aload_n 0, 1) := dk_42 (dk_at dksX4_right_1 4 rfl rfl)
theorem dX4_right_29 : decode cX4_right 29 = .ok (.iload 5, 2) := dk_21 5 (dk_at dksX4_right_1 5 rfl rfl)
theorem dX4_right_31 : decode cX4_right 31 = .ok (.iload_n 3, 1) := dk_29 (dk_at dksX4_right_1 7 rfl rfl)
theorem dX4_right_32 : decode cX4_right 32 = .ok (.iadd, 1) := dk_96 (dk_at dksX4_right_1 8 rfl rfl)
theorem dX4_right_33 : decode cX4_right 33 = .ok (.iaload, 1) := dk_46 (dk_at dksX4_right_1 9 rfl rfl)
theorem dX4_right_34 : decode cX4_right 34 = .ok (.goto 4, 3) := dk_167 0 4 (dk_at dksX4_right_1 10 rfl rfl)
theorem dX4_right_37 : decode cX4_right 37 = .ok (.iconst 0, 1) := dk_3 (dk_at dksX4_right_1 13 rfl rfl)
theorem dX4_right_38 : decode cX4_right 38 = .ok (.istore 6, 2) := dk_54 6 (dk_at dksX4_right_1 14 rfl rfl)
theorem dX4_right_40 : decode cX4_right 40 = .ok (.iload 5, 2) := dk_21 5 (dk_at dksX4_right_1 16 rfl rfl)
theorem dX4_right_42 : decode cX4_right 42 = .ok (.iload_n 3, 1) := dk_29 (dk_at dksX4_right_1 18 rfl rfl)
theorem dX4_right_43 : decode cX4_right 43 = .ok (.iadd, 1) := dk_96 (dk_at dksX4_right_1 19 rfl rfl)
theorem dX4_right_44 : decode cX4_right 44 = .ok (.iconst 1, 1) := dk_4 (dk_at dksX4_right_1 20 rfl rfl)
theorem dX4_right_45 : decode cX4_right 45 = .ok (.iadd, 1) := dk_96 (dk_at dksX4_right_1 21 rfl rfl)
theorem dX4_right_46 : decode cX4_right 46 = .ok (.iload_n 2, 1) := dk_28 (dk_at dksX4_right_1 22 rfl rfl)
theorem dX4_right_47 : decode cX4_right 47 = .ok (.if_icmp .ge 14, 3) := dk_162 0 14 (dk_at dksX4_right_2 0 rfl rfl)
theorem dX4_right_50 : decode cX4_right 50 = .ok (.aload_n 0, 1) := dk_42 (dk_at dksX4_right_2 3 rfl rfl)
theorem dX4_right_51 : decode cX4_right 51 = .ok (.iload 5, 2) := dk_21 5 (dk_at dksX4_right_2 4 rfl rfl)
theorem dX4_right_53 : decode cX4_right 53 = .ok (.iload_n 3, 1) := dk_29 (dk_at dksX4_right_2 6 rfl rfl)
theorem dX4_right_54 : decode cX4_right 54 = .ok (.iadd, 1) := dk_96 (dk_at dksX4_right_2 7 rfl rfl)
theorem dX4_right_55 : decode cX4_right 55 = .ok (.iconst 1, 1) := dk_4 (dk_at dksX4_right_2 8 rfl rfl)
theorem dX4_right_56 : decode cX4_right 56 = .ok (.iadd, 1) := dk_96 (dk_at dksX4_right_2 9 rfl rfl)
theorem dX4_right_57 : decode cX4_right 57 = .ok (.iaload, 1) := dk_46 (dk_at dksX4_right_2 10 rfl rfl)
theorem dX4_right_58 : decode cX4_right 58 = .ok (.goto 4, 3) := dk_167 0 4 (dk_at dksX4_right_2 11 rfl rfl)
theorem dX4_right_61 : decode cX4_right 61 = .ok (.iconst 0, 1) := dk_3 (dk_at dksX4_right_2 14 rfl rfl)
theorem dX4_right_62 : decode cX4_right 62 = .ok (.istore 7, 2) := dk_54 7 (dk_at dksX4_right_2 15 rfl rfl)
theorem dX4_right_64 : decode cX4_right 64 = .ok (.aload_n 0, 1) := dk_42 (dk_at dksX4_right_2 17 rfl rfl)
theorem dX4_right_65 : decode cX4_right 65 = .ok (.iload 5, 2) := dk_21 5 (dk_at dksX4_right_2 18 rfl rfl)
theorem dX4_right_67 : decode cX4_right 67 = .ok (.iload 4, 2) := dk_21 4 (dk_at dksX4_right_2 20 rfl rfl)
theorem dX4_right_69 : decode cX4_right 69 = .ok (.ifCond .ne 8, 3) := dk_154 0 8 (dk_at dksX4_right_3 0 rfl rfl)
theorem dX4_right_72 : decode cX4_right 72 = .ok (.iload 6, 2) := dk_21 6 (dk_at dksX4_right_3 3 rfl rfl)
theorem dX4_right_74 : decode cX4_right 74 = .ok (.goto 17, 3) := dk_167 0 17 (dk_at dksX4_right_3 5 rfl rfl)
theorem dX4_right_77 : decode cX4_right 77 = .ok (.iload 6, 2) := dk_21 6 (dk_at dksX4_right_3 8 rfl rfl)
theorem dX4_right_79 : decode cX4_right 79 = .ok (.iload 4, 2) := dk_21 4 (dk_at dksX4_right_3 10 rfl rfl)
theorem dX4_right_81 : decode cX4_right 81 = .ok (.iushr, 1) := dk_124 (dk_at dksX4_right_3 12 rfl rfl)
theorem dX4_right_82 : decode cX4_right 82 = .ok (.iload 7, 2) := dk_21 7 (dk_at dksX4_right_3 13 rfl rfl)
theorem dX4_right_84 : decode cX4_right 84 = .ok (.bipush 32, 2) := dk_16 32 (dk_at dksX4_right_3 15 rfl rfl)
theorem dX4_right_86 : decode cX4_right 86 = .ok (.iload 4, 2) := dk_21 4 (dk_at dksX4_right_3 17 rfl rfl)
theorem dX4_right_88 : decode cX4_right 88 = .ok (.isub, 1) := dk_100 (dk_at dksX4_right_3 19 rfl rfl)
theorem dX4_right_89 : decode cX4_right 89 = .ok (.ishl, 1) := dk_120 (dk_at dksX4_right_3 20 rfl rfl)
theorem dX4_right_90 : decode cX4_right 90 = .ok (.ior, 1) := dk_128 (dk_at dksX4_right_3 21 rfl rfl)
theorem dX4_right_91 : decode cX4_right 91 = .ok (.iastore, 1) := dk_79 (dk_at dksX4_right_3 22 rfl rfl)
theorem dX4_right_92 : decode cX4_right 92 = .ok (.iinc 5 1, 3) := dk_132 5 1 (dk_at dksX4_right_4 0 rfl rfl)
theorem dX4_right_95 : decode cX4_right 95 = .ok (.goto (-81), 3) := dk_167 255 175 (dk_at dksX4_right_4 3 rfl rfl)
theorem dX4_right_98 : decode cX4_right 98 = .ok (.return_, 1) := dk_177 (dk_at dksX4_right_4 6 rfl rfl)
abbrev cX4_compare : ByteArray := prog_6_method_14_code
def yX4_compare : MethodName := ⟨RX4, "compare", "([I[II)I"⟩
def dkwX4_compare_2 : List UInt8 := [167, 255, 214, 3, 172]
abbrev dktX4_compare_2 : List UInt8 := dkwX4_compare_2 ++ []
def dkwX4_compare_1 : List UInt8 := [127, 43, 29, 46, 133, 20, 0, 91, 127, 148, 156, 0, 7, 2, 167, 0, 4, 4, 172, 132, 3, 255]
abbrev dktX4_compare_1 : List UInt8 := dkwX4_compare_1 ++ dktX4_compare_2
def dkwX4_compare_0 : List UInt8 := [28, 4, 100, 62, 29, 155, 0, 44, 42, 29, 46, 43, 29, 46, 159, 0, 29, 42, 29, 46, 133, 20, 0, 91]
abbrev dktX4_compare_0 : List UInt8 := dkwX4_compare_0 ++ dktX4_compare_1
theorem dksX4_compare_0 : cX4_compare.data.toList.drop 0 = dktX4_compare_0 := by decide +kernel
theorem dksX4_compare_1 : cX4_compare.data.toList.drop 24 = dktX4_compare_1 := dk_seg dksX4_compare_0 24 rfl rfl
theorem dksX4_compare_2 : cX4_compare.data.toList.drop 46 = dktX4_compare_2 := dk_seg dksX4_compare_1 22 rfl rfl
theorem dX4_compare_0 : decode cX4_compare 0 = .ok (.iload_n 2, 1) := dk_28 (dk_at dksX4_compare_0 0 rfl rfl)
theorem dX4_compare_1 : decode cX4_compare 1 = .ok (.iconst 1, 1) := dk_4 (dk_at dksX4_compare_0 1 rfl rfl)
theorem dX4_compare_2 : decode cX4_compare 2 = .ok (.isub, 1) := dk_100 (dk_at dksX4_compare_0 2 rfl rfl)
theorem dX4_compare_3 : decode cX4_compare 3 = .ok (.istore_n 3, 1) := dk_62 (dk_at dksX4_compare_0 3 rfl rfl)
theorem dX4_compare_4 : decode cX4_compare 4 = .ok (.iload_n 3, 1) := dk_29 (dk_at dksX4_compare_0 4 rfl rfl)
theorem dX4_compare_5 : decode cX4_compare 5 = .ok (.ifCond .lt 44, 3) := dk_155 0 44 (dk_at dksX4_compare_0 5 rfl rfl)
theorem dX4_compare_8 : decode cX4_compare 8 = .ok (.aload_n 0, 1) := dk_42 (dk_at dksX4_compare_0 8 rfl rfl)
theorem dX4_compare_9 : decode cX4_compare 9 = .ok (.iload_n 3, 1) := dk_29 (dk_at dksX4_compare_0 9 rfl rfl)
theorem dX4_compare_10 : decode cX4_compare 10 = .ok (.iaload, 1) := dk_46 (dk_at dksX4_compare_0 10 rfl rfl)
theorem dX4_compare_11 : decode cX4_compare 11 = .ok (.aload_n 1, 1) := dk_43 (dk_at dksX4_compare_0 11 rfl rfl)
theorem dX4_compare_12 : decode cX4_compare 12 = .ok (.iload_n 3, 1) := dk_29 (dk_at dksX4_compare_0 12 rfl rfl)
theorem dX4_compare_13 : decode cX4_compare 13 = .ok (.iaload, 1) := dk_46 (dk_at dksX4_compare_0 13 rfl rfl)
theorem dX4_compare_14 : decode cX4_compare 14 = .ok (.if_icmp .eq 29, 3) := dk_159 0 29 (dk_at dksX4_compare_0 14 rfl rfl)
theorem dX4_compare_17 : decode cX4_compare 17 = .ok (.aload_n 0, 1) := dk_42 (dk_at dksX4_compare_0 17 rfl rfl)
theorem dX4_compare_18 : decode cX4_compare 18 = .ok (.iload_n 3, 1) := dk_29 (dk_at dksX4_compare_0 18 rfl rfl)
theorem dX4_compare_19 : decode cX4_compare 19 = .ok (.iaload, 1) := dk_46 (dk_at dksX4_compare_0 19 rfl rfl)
theorem dX4_compare_20 : decode cX4_compare 20 = .ok (.i2l, 1) := dk_133 (dk_at dksX4_compare_0 20 rfl rfl)
theorem dX4_compare_21 : decode cX4_compare 21 = .ok (.ldc2_w 91, 3) := dk_20 0 91 (dk_at dksX4_compare_0 21 rfl rfl)
theorem dX4_compare_24 : decode cX4_compare 24 = .ok (.land, 1) := dk_127 (dk_at dksX4_compare_1 0 rfl rfl)
theorem dX4_compare_25 : decode cX4_compare 25 = .ok (.aload_n 1, 1) := dk_43 (dk_at dksX4_compare_1 1 rfl rfl)
theorem dX4_compare_26 : decode cX4_compare 26 = .ok (.iload_n 3, 1) := dk_29 (dk_at dksX4_compare_1 2 rfl rfl)
theorem dX4_compare_27 : decode cX4_compare 27 = .ok (.iaload, 1) := dk_46 (dk_at dksX4_compare_1 3 rfl rfl)
theorem dX4_compare_28 : decode cX4_compare 28 = .ok (.i2l, 1) := dk_133 (dk_at dksX4_compare_1 4 rfl rfl)
theorem dX4_compare_29 : decode cX4_compare 29 = .ok (.ldc2_w 91, 3) := dk_20 0 91 (dk_at dksX4_compare_1 5 rfl rfl)
theorem dX4_compare_32 : decode cX4_compare 32 = .ok (.land, 1) := dk_127 (dk_at dksX4_compare_1 8 rfl rfl)
theorem dX4_compare_33 : decode cX4_compare 33 = .ok (.lcmp, 1) := dk_148 (dk_at dksX4_compare_1 9 rfl rfl)
theorem dX4_compare_34 : decode cX4_compare 34 = .ok (.ifCond .ge 7, 3) := dk_156 0 7 (dk_at dksX4_compare_1 10 rfl rfl)
theorem dX4_compare_37 : decode cX4_compare 37 = .ok (.iconst (-1), 1) := dk_2 (dk_at dksX4_compare_1 13 rfl rfl)
theorem dX4_compare_38 : decode cX4_compare 38 = .ok (.goto 4, 3) := dk_167 0 4 (dk_at dksX4_compare_1 14 rfl rfl)
theorem dX4_compare_41 : decode cX4_compare 41 = .ok (.iconst 1, 1) := dk_4 (dk_at dksX4_compare_1 17 rfl rfl)
theorem dX4_compare_42 : decode cX4_compare 42 = .ok (.ireturn, 1) := dk_172 (dk_at dksX4_compare_1 18 rfl rfl)
theorem dX4_compare_43 : decode cX4_compare 43 = .ok (.iinc 3 (-1), 3) := dk_132 3 255 (dk_at dksX4_compare_1 19 rfl rfl)
theorem dX4_compare_46 : decode cX4_compare 46 = .ok (.goto (-42), 3) := dk_167 255 214 (dk_at dksX4_compare_2 0 rfl rfl)
theorem dX4_compare_49 : decode cX4_compare 49 = .ok (.iconst 0, 1) := dk_3 (dk_at dksX4_compare_2 3 rfl rfl)
theorem dX4_compare_50 : decode cX4_compare 50 = .ok (.ireturn, 1) := dk_172 (dk_at dksX4_compare_2 4 rfl rfl)
abbrev cX4_left : ByteArray := prog_6_method_12_code
def yX4_left : MethodName := ⟨RX4, "left", "([II)V"⟩
def dkwX4_left_3 : List UInt8 := [167, 0, 15, 21, 5, 29, 120, 21, 6, 16, 32, 29, 100, 124, 128, 79, 132, 4, 255, 167, 255, 181, 177]
abbrev dktX4_left_3 : List UInt8 := dkwX4_left_3 ++ []
def dkwX4_left_2 : List UInt8 := [42, 21, 4, 28, 100, 4, 100, 46, 167, 0, 4, 3, 54, 6, 42, 21, 4, 29, 154, 0, 8, 21, 5]
abbrev dktX4_left_2 : List UInt8 := dkwX4_left_2 ++ dktX4_left_3
def dkwX4_left_1 : List UInt8 := [155, 0, 12, 42, 21, 4, 28, 100, 46, 167, 0, 4, 3, 54, 5, 21, 4, 28, 100, 4, 100, 155, 0, 14]
abbrev dktX4_left_1 : List UInt8 := dkwX4_left_1 ++ dktX4_left_2
def dkwX4_left_0 : List UInt8 := [27, 16, 32, 108, 61, 27, 16, 32, 112, 62, 16, 47, 54, 4, 21, 4, 155, 0, 76, 21, 4, 28, 100]
abbrev dktX4_left_0 : List UInt8 := dkwX4_left_0 ++ dktX4_left_1
theorem dksX4_left_0 : cX4_left.data.toList.drop 0 = dktX4_left_0 := by decide +kernel
theorem dksX4_left_1 : cX4_left.data.toList.drop 23 = dktX4_left_1 := dk_seg dksX4_left_0 23 rfl rfl
theorem dksX4_left_2 : cX4_left.data.toList.drop 47 = dktX4_left_2 := dk_seg dksX4_left_1 24 rfl rfl
theorem dksX4_left_3 : cX4_left.data.toList.drop 70 = dktX4_left_3 := dk_seg dksX4_left_2 23 rfl rfl
theorem dX4_left_0 : decode cX4_left 0 = .ok (.iload_n 1, 1) := dk_27 (dk_at dksX4_left_0 0 rfl rfl)
theorem dX4_left_1 : decode cX4_left 1 = .ok (.bipush 32, 2) := dk_16 32 (dk_at dksX4_left_0 1 rfl rfl)
theorem dX4_left_3 : decode cX4_left 3 = .ok (.idiv, 1) := dk_108 (dk_at dksX4_left_0 3 rfl rfl)
theorem dX4_left_4 : decode cX4_left 4 = .ok (.istore_n 2, 1) := dk_61 (dk_at dksX4_left_0 4 rfl rfl)
theorem dX4_left_5 : decode cX4_left 5 = .ok (.iload_n 1, 1) := dk_27 (dk_at dksX4_left_0 5 rfl rfl)
theorem dX4_left_6 : decode cX4_left 6 = .ok (.bipush 32, 2) := dk_16 32 (dk_at dksX4_left_0 6 rfl rfl)
theorem dX4_left_8 : decode cX4_left 8 = .ok (.irem, 1) := dk_112 (dk_at dksX4_left_0 8 rfl rfl)
theorem dX4_left_9 : decode cX4_left 9 = .ok (.istore_n 3, 1) := dk_62 (dk_at dksX4_left_0 9 rfl rfl)
theorem dX4_left_10 : decode cX4_left 10 = .ok (.bipush 47, 2) := dk_16 47 (dk_at dksX4_left_0 10 rfl rfl)
theorem dX4_left_12 : decode cX4_left 12 = .ok (.istore 4, 2) := dk_54 4 (dk_at dksX4_left_0 12 rfl rfl)
theorem dX4_left_14 : decode cX4_left 14 = .ok (.iload 4, 2) := dk_21 4 (dk_at dksX4_left_0 14 rfl rfl)
theorem dX4_left_16 : decode cX4_left 16 = .ok (.ifCond .lt 76, 3) := dk_155 0 76 (dk_at dksX4_left_0 16 rfl rfl)
theorem dX4_left_19 : decode cX4_left 19 = .ok (.iload 4, 2) := dk_21 4 (dk_at dksX4_left_0 19 rfl rfl)
theorem dX4_left_21 : decode cX4_left 21 = .ok (.iload_n 2, 1) := dk_28 (dk_at dksX4_left_0 21 rfl rfl)
theorem dX4_left_22 : decode cX4_left 22 = .ok (.isub, 1) := dk_100 (dk_at dksX4_left_0 22 rfl rfl)
theorem dX4_left_23 : decode cX4_left 23 = .ok (.ifCond .lt 12, 3) := dk_155 0 12 (dk_at dksX4_left_1 0 rfl rfl)
theorem dX4_left_26 : decode cX4_left 26 = .ok (.aload_n 0, 1) := dk_42 (dk_at dksX4_left_1 3 rfl rfl)
theorem dX4_left_27 : decode cX4_left 27 = .ok (.iload 4, 2) := dk_21 4 (dk_at dksX4_left_1 4 rfl rfl)
theorem dX4_left_29 : decode cX4_left 29 = .ok (.iload_n 2, 1) := dk_28 (dk_at dksX4_left_1 6 rfl rfl)
theorem dX4_left_30 : decode cX4_left 30 = .ok (.isub, 1) := dk_100 (dk_at dksX4_left_1 7 rfl rfl)
theorem dX4_left_31 : decode cX4_left 31 = .ok (.iaload, 1) := dk_46 (dk_at dksX4_left_1 8 rfl rfl)
theorem dX4_left_32 : decode cX4_left 32 = .ok (.goto 4, 3) := dk_167 0 4 (dk_at dksX4_left_1 9 rfl rfl)
theorem dX4_left_35 : decode cX4_left 35 = .ok (.iconst 0, 1) := dk_3 (dk_at dksX4_left_1 12 rfl rfl)
theorem dX4_left_36 : decode cX4_left 36 = .ok (.istore 5, 2) := dk_54 5 (dk_at dksX4_left_1 13 rfl rfl)
theorem dX4_left_38 : decode cX4_left 38 = .ok (.iload 4, 2) := dk_21 4 (dk_at dksX4_left_1 15 rfl rfl)
theorem dX4_left_40 : decode cX4_left 40 = .ok (.iload_n 2, 1) := dk_28 (dk_at dksX4_left_1 17 rfl rfl)
theorem dX4_left_41 : decode cX4_left 41 = .ok (.isub, 1) := dk_100 (dk_at dksX4_left_1 18 rfl rfl)
theorem dX4_left_42 : decode cX4_left 42 = .ok (.iconst 1, 1) := dk_4 (dk_at dksX4_left_1 19 rfl rfl)
theorem dX4_left_43 : decode cX4_left 43 = .ok (.isub, 1) := dk_100 (dk_at dksX4_left_1 20 rfl rfl)
theorem dX4_left_44 : decode cX4_left 44 = .ok (.ifCond .lt 14, 3) := dk_155 0 14 (dk_at dksX4_left_1 21 rfl rfl)
theorem dX4_left_47 : decode cX4_left 47 = .ok (.aload_n 0, 1) := dk_42 (dk_at dksX4_left_2 0 rfl rfl)
theorem dX4_left_48 : decode cX4_left 48 = .ok (.iload 4, 2) := dk_21 4 (dk_at dksX4_left_2 1 rfl rfl)
theorem dX4_left_50 : decode cX4_left 50 = .ok (.iload_n 2, 1) := dk_28 (dk_at dksX4_left_2 3 rfl rfl)
theorem dX4_left_51 : decode cX4_left 51 = .ok (.isub, 1) := dk_100 (dk_at dksX4_left_2 4 rfl rfl)
theorem dX4_left_52 : decode cX4_left 52 = .ok (.iconst 1, 1) := dk_4 (dk_at dksX4_left_2 5 rfl rfl)
theorem dX4_left_53 : decode cX4_left 53 = .ok (.isub, 1) := dk_100 (dk_at dksX4_left_2 6 rfl rfl)
theorem dX4_left_54 : decode cX4_left 54 = .ok (.iaload, 1) := dk_46 (dk_at dksX4_left_2 7 rfl rfl)
theorem dX4_left_55 : decode cX4_left 55 = .ok (.goto 4, 3) := dk_167 0 4 (dk_at dksX4_left_2 8 rfl rfl)
theorem dX4_left_58 : decode cX4_left 58 = .ok (.iconst 0, 1) := dk_3 (dk_at dksX4_left_2 11 rfl rfl)
theorem dX4_left_59 : decode cX4_left 59 = .ok (.istore 6, 2) := dk_54 6 (dk_at dksX4_left_2 12 rfl rfl)
theorem dX4_left_61 : decode cX4_left 61 = .ok (.aload_n 0, 1) := dk_42 (dk_at dksX4_left_2 14 rfl rfl)
theorem dX4_left_62 : decode cX4_left 62 = .ok (.iload 4, 2) := dk_21 4 (dk_at dksX4_left_2 15 rfl rfl)
theorem dX4_left_64 : decode cX4_left 64 = .ok (.iload_n 3, 1) := dk_29 (dk_at dksX4_left_2 17 rfl rfl)
theorem dX4_left_65 : decode cX4_left 65 = .ok (.ifCond .ne 8, 3) := dk_154 0 8 (dk_at dksX4_left_2 18 rfl rfl)
theorem dX4_left_68 : decode cX4_left 68 = .ok (.iload 5, 2) := dk_21 5 (dk_at dksX4_left_2 21 rfl rfl)
theorem dX4_left_70 : decode cX4_left 70 = .ok (.goto 15, 3) := dk_167 0 15 (dk_at dksX4_left_3 0 rfl rfl)
theorem dX4_left_73 : decode cX4_left 73 = .ok (.iload 5, 2) := dk_21 5 (dk_at dksX4_left_3 3 rfl rfl)
theorem dX4_left_75 : decode cX4_left 75 = .ok (.iload_n 3, 1) := dk_29 (dk_at dksX4_left_3 5 rfl rfl)
theorem dX4_left_76 : decode cX4_left 76 = .ok (.ishl, 1) := dk_120 (dk_at dksX4_left_3 6 rfl rfl)
theorem dX4_left_77 : decode cX4_left 77 = .ok (.iload 6, 2) := dk_21 6 (dk_at dksX4_left_3 7 rfl rfl)
theorem dX4_left_79 : decode cX4_left 79 = .ok (.bipush 32, 2) := dk_16 32 (dk_at dksX4_left_3 9 rfl rfl)
theorem dX4_left_81 : decode cX4_left 81 = .ok (.iload_n 3, 1) := dk_29 (dk_at dksX4_left_3 11 rfl rfl)
theorem dX4_left_82 : decode cX4_left 82 = .ok (.isub, 1) := dk_100 (dk_at dksX4_left_3 12 rfl rfl)
theorem dX4_left_83 : decode cX4_left 83 = .ok (.iushr, 1) := dk_124 (dk_at dksX4_left_3 13 rfl rfl)
theorem dX4_left_84 : decode cX4_left 84 = .ok (.ior, 1) := dk_128 (dk_at dksX4_left_3 14 rfl rfl)
theorem dX4_left_85 : decode cX4_left 85 = .ok (.iastore, 1) := dk_79 (dk_at dksX4_left_3 15 rfl rfl)
theorem dX4_left_86 : decode cX4_left 86 = .ok (.iinc 4 (-1), 3) := dk_132 4 255 (dk_at dksX4_left_3 16 rfl rfl)
theorem dX4_left_89 : decode cX4_left 89 = .ok (.goto (-75), 3) := dk_167 255 181 (dk_at dksX4_left_3 19 rfl rfl)
theorem dX4_left_92 : decode cX4_left 92 = .ok (.return_, 1) := dk_177 (dk_at dksX4_left_3 22 rfl rfl)
abbrev cX4_bits : ByteArray := prog_6_method_16_code
def yX4_bits : MethodName := ⟨RX4, "bits", "([I)I"⟩
def dkwX4_bits_1 : List UInt8 := [184, 0, 101, 100, 172]
abbrev dktX4_bits_1 : List UInt8 := dkwX4_bits_1 ++ []
def dkwX4_bits_0 : List UInt8 := [42, 184, 0, 97, 60, 27, 154, 0, 7, 3, 167, 0, 16, 16, 32, 27, 104, 42, 27, 4, 100, 46]
abbrev dktX4_bits_0 : List UInt8 := dkwX4_bits_0 ++ dktX4_bits_1
theorem dksX4_bits_0 : cX4_bits.data.toList.drop 0 = dktX4_bits_0 := by decide +kernel
theorem dksX4_bits_1 : cX4_bits.data.toList.drop 22 = dktX4_bits_1 := dk_seg dksX4_bits_0 22 rfl rfl
theorem dX4_bits_0 : decode cX4_bits 0 = .ok (.aload_n 0, 1) := dk_42 (dk_at dksX4_bits_0 0 rfl rfl)
theorem dX4_bits_1 : decode cX4_bits 1 = .ok (.invokestatic 97, 3) := dk_184 0 97 (dk_at dksX4_bits_0 1 rfl rfl)
theorem dX4_bits_4 : decode cX4_bits 4 = .ok (.istore_n 1, 1) := dk_60 (dk_at dksX4_bits_0 4 rfl rfl)
theorem dX4_bits_5 : decode cX4_bits 5 = .ok (.iload_n 1, 1) := dk_27 (dk_at dksX4_bits_0 5 rfl rfl)
theorem dX4_bits_6 : decode cX4_bits 6 = .ok (.ifCond .ne 7, 3) := dk_154 0 7 (dk_at dksX4_bits_0 6 rfl rfl)
theorem dX4_bits_9 : decode cX4_bits 9 = .ok (.iconst 0, 1) := dk_3 (dk_at dksX4_bits_0 9 rfl rfl)
theorem dX4_bits_10 : decode cX4_bits 10 = .ok (.goto 16, 3) := dk_167 0 16 (dk_at dksX4_bits_0 10 rfl rfl)
theorem dX4_bits_13 : decode cX4_bits 13 = .ok (.bipush 32, 2) := dk_16 32 (dk_at dksX4_bits_0 13 rfl rfl)
theorem dX4_bits_15 : decode cX4_bits 15 = .ok (.iload_n 1, 1) := dk_27 (dk_at dksX4_bits_0 15 rfl rfl)
theorem dX4_bits_16 : decode cX4_bits 16 = .ok (.imul, 1) := dk_104 (dk_at dksX4_bits_0 16 rfl rfl)
theorem dX4_bits_17 : decode cX4_bits 17 = .ok (.aload_n 0, 1) := dk_42 (dk_at dksX4_bits_0 17 rfl rfl)
theorem dX4_bits_18 : decode cX4_bits 18 = .ok (.iload_n 1, 1) := dk_27 (dk_at dksX4_bits_0 18 rfl rfl)
theorem dX4_bits_19 : decode cX4_bits 19 = .ok (.iconst 1, 1) := dk_4 (dk_at dksX4_bits_0 19 rfl rfl)
theorem dX4_bits_20 : decode cX4_bits 20 = .ok (.isub, 1) := dk_100 (dk_at dksX4_bits_0 20 rfl rfl)
theorem dX4_bits_21 : decode cX4_bits 21 = .ok (.iaload, 1) := dk_46 (dk_at dksX4_bits_0 21 rfl rfl)
theorem dX4_bits_22 : decode cX4_bits 22 = .ok (.invokestatic 101, 3) := dk_184 0 101 (dk_at dksX4_bits_1 0 rfl rfl)
theorem dX4_bits_25 : decode cX4_bits 25 = .ok (.isub, 1) := dk_100 (dk_at dksX4_bits_1 3 rfl rfl)
theorem dX4_bits_26 : decode cX4_bits 26 = .ok (.ireturn, 1) := dk_172 (dk_at dksX4_bits_1 4 rfl rfl)
abbrev cX4_quotient : ByteArray := prog_6_method_21_code
def yX4_quotient : MethodName := ⟨RX4, "quotient", "([I[I[I)V"⟩
def dkwX4_quotient_5 : List UInt8 := [132, 6, 255, 167, 255, 198, 177]
abbrev dktX4_quotient_5 : List UInt8 := dkwX4_quotient_5 ++ []
def dkwX4_quotient_4 : List UInt8 := [16, 32, 108, 92, 46, 4, 21, 6, 16, 32, 112, 120, 128, 79, 42, 180, 0, 30, 4, 21, 5, 184, 0, 126]
abbrev dktX4_quotient_4 : List UInt8 := dkwX4_quotient_4 ++ dktX4_quotient_5
def dkwX4_quotient_3 : List UInt8 := [180, 0, 30, 21, 5, 184, 0, 130, 155, 0, 30, 43, 42, 180, 0, 30, 21, 5, 184, 0, 134, 45, 21, 6]
abbrev dktX4_quotient_3 : List UInt8 := dkwX4_quotient_3 ++ dktX4_quotient_4
def dkwX4_quotient_2 : List UInt8 := [184, 0, 97, 184, 0, 117, 184, 0, 117, 54, 5, 21, 4, 54, 6, 21, 6, 155, 0, 59, 43, 42]
abbrev dktX4_quotient_2 : List UInt8 := dkwX4_quotient_2 ++ dktX4_quotient_3
def dkwX4_quotient_1 : List UInt8 := [180, 0, 30, 184, 0, 113, 42, 180, 0, 30, 21, 4, 184, 0, 141, 4, 43, 184, 0, 97, 42, 180, 0, 30]
abbrev dktX4_quotient_1 : List UInt8 := dkwX4_quotient_1 ++ dktX4_quotient_2
def dkwX4_quotient_0 : List UInt8 := [45, 9, 184, 0, 145, 43, 184, 0, 149, 44, 184, 0, 149, 100, 54, 4, 21, 4, 156, 0, 4, 177, 44, 42]
abbrev dktX4_quotient_0 : List UInt8 := dkwX4_quotient_0 ++ dktX4_quotient_1
theorem dksX4_quotient_0 : cX4_quotient.data.toList.drop 0 = dktX4_quotient_0 := by decide +kernel
theorem dksX4_quotient_1 : cX4_quotient.data.toList.drop 24 = dktX4_quotient_1 := dk_seg dksX4_quotient_0 24 rfl rfl
theorem dksX4_quotient_2 : cX4_quotient.data.toList.drop 48 = dktX4_quotient_2 := dk_seg dksX4_quotient_1 24 rfl rfl
theorem dksX4_quotient_3 : cX4_quotient.data.toList.drop 70 = dktX4_quotient_3 := dk_seg dksX4_quotient_2 22 rfl rfl
theorem dksX4_quotient_4 : cX4_quotient.data.toList.drop 94 = dktX4_quotient_4 := dk_seg dksX4_quotient_3 24 rfl rfl
theorem dksX4_quotient_5 : cX4_quotient.data.toList.drop 118 = dktX4_quotient_5 := dk_seg dksX4_quotient_4 24 rfl rfl
theorem dX4_quotient_0 : decode cX4_quotient 0 = .ok (.aload_n 3, 1) := dk_45 (dk_at dksX4_quotient_0 0 rfl rfl)
theorem dX4_quotient_1 : decode cX4_quotient 1 = .ok (.lconst 0, 1) := dk_9 (dk_at dksX4_quotient_0 1 rfl rfl)
theorem dX4_quotient_2 : decode cX4_quotient 2 = .ok (.invokestatic 145, 3) := dk_184 0 145 (dk_at dksX4_quotient_0 2 rfl rfl)
theorem dX4_quotient_5 : decode cX4_quotient 5 = .ok (.aload_n 1, 1) := dk_43 (dk_at dksX4_quotient_0 5 rfl rfl)
theorem dX4_quotient_6 : decode cX4_quotient 6 = .ok (.invokestatic 149, 3) := dk_184 0 149 (dk_at dksX4_quotient_0 6 rfl rfl)
theorem dX4_quotient_9 : decode cX4_quotient 9 = .ok (.aload_n 2, 1) := dk_44 (dk_at dksX4_quotient_0 9 rfl rfl)
theorem dX4_quotient_10 : decode cX4_quotient 10 = .ok (.invokestatic 149, 3) := dk_184 0 149 (dk_at dksX4_quotient_0 10 rfl rfl)
theorem dX4_quotient_13 : decode cX4_quotient 13 = .ok (.isub, 1) := dk_100 (dk_at dksX4_quotient_0 13 rfl rfl)
theorem dX4_quotient_14 : decode cX4_quotient 14 = .ok (.istore 4, 2) := dk_54 4 (dk_at dksX4_quotient_0 14 rfl rfl)
theorem dX4_quotient_16 : decode cX4_quotient 16 = .ok (.iload 4, 2) := dk_21 4 (dk_at dksX4_quotient_0 16 rfl rfl)
theorem dX4_quotient_18 : decode cX4_quotient 18 = .ok (.ifCond .ge 4, 3) := dk_156 0 4 (dk_at dksX4_quotient_0 18 rfl rfl)
theorem dX4_quotient_21 : decode cX4_quotient 21 = .ok (.return_, 1) := dk_177 (dk_at dksX4_quotient_0 21 rfl rfl)
theorem dX4_quotient_22 : decode cX4_quotient 22 = .ok (.aload_n 2, 1) := dk_44 (dk_at dksX4_quotient_0 22 rfl rfl)
theorem dX4_quotient_23 : decode cX4_quotient 23 = .ok (.aload_n 0, 1) := dk_42 (dk_at dksX4_quotient_0 23 rfl rfl)
theorem dX4_quotient_24 : decode cX4_quotient 24 = .ok (.getfield 30, 3) := dk_180 0 30 (dk_at dksX4_quotient_1 0 rfl rfl)
theorem dX4_quotient_27 : decode cX4_quotient 27 = .ok (.invokestatic 113, 3) := dk_184 0 113 (dk_at dksX4_quotient_1 3 rfl rfl)
theorem dX4_quotient_30 : decode cX4_quotient 30 = .ok (.aload_n 0, 1) := dk_42 (dk_at dksX4_quotient_1 6 rfl rfl)
theorem dX4_quotient_31 : decode cX4_quotient 31 = .ok (.getfield 30, 3) := dk_180 0 30 (dk_at dksX4_quotient_1 7 rfl rfl)
theorem dX4_quotient_34 : decode cX4_quotient 34 = .ok (.iload 4, 2) := dk_21 4 (dk_at dksX4_quotient_1 10 rfl rfl)
theorem dX4_quotient_36 : decode cX4_quotient 36 = .ok (.invokestatic 141, 3) := dk_184 0 141 (dk_at dksX4_quotient_1 12 rfl rfl)
theorem dX4_quotient_39 : decode cX4_quotient 39 = .ok (.iconst 1, 1) := dk_4 (dk_at dksX4_quotient_1 15 rfl rfl)
theorem dX4_quotient_40 : decode cX4_quotient 40 = .ok (.aload_n 1, 1) := dk_43 (dk_at dksX4_quotient_1 16 rfl rfl)
theorem dX4_quotient_41 : decode cX4_quotient 41 = .ok (.invokestatic 97, 3) := dk_184 0 97 (dk_at dksX4_quotient_1 17 rfl rfl)
theorem dX4_quotient_44 : decode cX4_quotient 44 = .ok (.aload_n 0, 1) := dk_42 (dk_at dksX4_quotient_1 20 rfl rfl)
theorem dX4_quotient_45 : decode cX4_quotient 45 = .ok (.getfield 30, 3) := dk_180 0 30 (dk_at dksX4_quotient_1 21 rfl rfl)
theorem dX4_quotient_48 : decode cX4_quotient 48 = .ok (.invokestatic 97, 3) := dk_184 0 97 (dk_at dksX4_quotient_2 0 rfl rfl)
theorem dX4_quotient_51 : decode cX4_quotient 51 = .ok (.invokestatic 117, 3) := dk_184 0 117 (dk_at dksX4_quotient_2 3 rfl rfl)
theorem dX4_quotient_54 : decode cX4_quotient 54 = .ok (.invokestatic 117, 3) := dk_184 0 117 (dk_at dksX4_quotient_2 6 rfl rfl)
theorem dX4_quotient_57 : decode cX4_quotient 57 = .ok (.istore 5, 2) := dk_54 5 (dk_at dksX4_quotient_2 9 rfl rfl)
theorem dX4_quotient_59 : decode cX4_quotient 59 = .ok (.iload 4, 2) := dk_21 4 (dk_at dksX4_quotient_2 11 rfl rfl)
theorem dX4_quotient_61 : decode cX4_quotient 61 = .ok (.istore 6, 2) := dk_54 6 (dk_at dksX4_quotient_2 13 rfl rfl)
theorem dX4_quotient_63 : decode cX4_quotient 63 = .ok (.iload 6, 2) := dk_21 6 (dk_at dksX4_quotient_2 15 rfl rfl)
theorem dX4_quotient_65 : decode cX4_quotient 65 = .ok (.ifCond .lt 59, 3) := dk_155 0 59 (dk_at dksX4_quotient_2 17 rfl rfl)
theorem dX4_quotient_68 : decode cX4_quotient 68 = .ok (.aload_n 1, 1) := dk_43 (dk_at dksX4_quotient_2 20 rfl rfl)
theorem dX4_quotient_69 : decode cX4_quotient 69 = .ok (.aload_n 0, 1) := dk_42 (dk_at dksX4_quotient_2 21 rfl rfl)
theorem dX4_quotient_70 : decode cX4_quotient 70 = .ok (.getfield 30, 3) := dk_180 0 30 (dk_at dksX4_quotient_3 0 rfl rfl)
theorem dX4_quotient_73 : decode cX4_quotient 73 = .ok (.iload 5, 2) := dk_21 5 (dk_at dksX4_quotient_3 3 rfl rfl)
theorem dX4_quotient_75 : decode cX4_quotient 75 = .ok (.invokestatic 130, 3) := dk_184 0 130 (dk_at dksX4_quotient_3 5 rfl rfl)
theorem dX4_quotient_78 : decode cX4_quotient 78 = .ok (.ifCond .lt 30, 3) := dk_155 0 30 (dk_at dksX4_quotient_3 8 rfl rfl)
theorem dX4_quotient_81 : decode cX4_quotient 81 = .ok (.aload_n 1, 1) := dk_43 (dk_at dksX4_quotient_3 11 rfl rfl)
theorem dX4_quotient_82 : decode cX4_quotient 82 = .ok (.aload_n 0, 1) := dk_42 (dk_at dksX4_quotient_3 12 rfl rfl)
theorem dX4_quotient_83 : decode cX4_quotient 83 = .ok (.getfield 30, 3) := dk_180 0 30 (dk_at dksX4_quotient_3 13 rfl rfl)
theorem dX4_quotient_86 : decode cX4_quotient 86 = .ok (.iload 5, 2) := dk_21 5 (dk_at dksX4_quotient_3 16 rfl rfl)
theorem dX4_quotient_88 : decode cX4_quotient 88 = .ok (.invokestatic 134, 3) := dk_184 0 134 (dk_at dksX4_quotient_3 18 rfl rfl)
theorem dX4_quotient_91 : decode cX4_quotient 91 = .ok (.aload_n 3, 1) := dk_45 (dk_at dksX4_quotient_3 21 rfl rfl)
theorem dX4_quotient_92 : decode cX4_quotient 92 = .ok (.iload 6, 2) := dk_21 6 (dk_at dksX4_quotient_3 22 rfl rfl)
theorem dX4_quotient_94 : decode cX4_quotient 94 = .ok (.bipush 32, 2) := dk_16 32 (dk_at dksX4_quotient_4 0 rfl rfl)
theorem dX4_quotient_96 : decode cX4_quotient 96 = .ok (.idiv, 1) := dk_108 (dk_at dksX4_quotient_4 2 rfl rfl)
theorem dX4_quotient_97 : decode cX4_quotient 97 = .ok (.dup2, 1) := dk_92 (dk_at dksX4_quotient_4 3 rfl rfl)
theorem dX4_quotient_98 : decode cX4_quotient 98 = .ok (.iaload, 1) := dk_46 (dk_at dksX4_quotient_4 4 rfl rfl)
theorem dX4_quotient_99 : decode cX4_quotient 99 = .ok (.iconst 1, 1) := dk_4 (dk_at dksX4_quotient_4 5 rfl rfl)
theorem dX4_quotient_100 : decode cX4_quotient 100 = .ok (.iload 6, 2) := dk_21 6 (dk_at dksX4_quotient_4 6 rfl rfl)
theorem dX4_quotient_102 : decode cX4_quotient 102 = .ok (.bipush 32, 2) := dk_16 32 (dk_at dksX4_quotient_4 8 rfl rfl)
theorem dX4_quotient_104 : decode cX4_quotient 104 = .ok (.irem, 1) := dk_112 (dk_at dksX4_quotient_4 10 rfl rfl)
theorem dX4_quotient_105 : decode cX4_quotient 105 = .ok (.ishl, 1) := dk_120 (dk_at dksX4_quotient_4 11 rfl rfl)
theorem dX4_quotient_106 : decode cX4_quotient 106 = .ok (.ior, 1) := dk_128 (dk_at dksX4_quotient_4 12 rfl rfl)
theorem dX4_quotient_107 : decode cX4_quotient 107 = .ok (.iastore, 1) := dk_79 (dk_at dksX4_quotient_4 13 rfl rfl)
theorem dX4_quotient_108 : decode cX4_quotient 108 = .ok (.aload_n 0, 1) := dk_42 (dk_at dksX4_quotient_4 14 rfl rfl)
theorem dX4_quotient_109 : decode cX4_quotient 109 = .ok (.getfield 30, 3) := dk_180 0 30 (dk_at dksX4_quotient_4 15 rfl rfl)
theorem dX4_quotient_112 : decode cX4_quotient 112 = .ok (.iconst 1, 1) := dk_4 (dk_at dksX4_quotient_4 18 rfl rfl)
theorem dX4_quotient_113 : decode cX4_quotient 113 = .ok (.iload 5, 2) := dk_21 5 (dk_at dksX4_quotient_4 19 rfl rfl)
theorem dX4_quotient_115 : decode cX4_quotient 115 = .ok (.invokestatic 126, 3) := dk_184 0 126 (dk_at dksX4_quotient_4 21 rfl rfl)
theorem dX4_quotient_118 : decode cX4_quotient 118 = .ok (.iinc 6 (-1), 3) := dk_132 6 255 (dk_at dksX4_quotient_5 0 rfl rfl)
theorem dX4_quotient_121 : decode cX4_quotient 121 = .ok (.goto (-58), 3) := dk_167 255 198 (dk_at dksX4_quotient_5 3 rfl rfl)
theorem dX4_quotient_124 : decode cX4_quotient 124 = .ok (.return_, 1) := dk_177 (dk_at dksX4_quotient_5 6 rfl rfl)
abbrev cX4_positive : ByteArray := prog_6_method_29_code
def yX4_positive : MethodName := ⟨RX4, "positive", "([[I)V"⟩
def dkwX4_positive_0 : List UInt8 := [43, 184, 0, 166, 61, 28, 155, 0, 16, 43, 28, 50, 184, 0, 110, 156, 0, 7, 43, 184, 0, 170, 177]
abbrev dktX4_positive_0 : List UInt8 := dkwX4_positive_0 ++ []
theorem dksX4_positive_0 : cX4_positive.data.toList.drop 0 = dktX4_positive_0 := by decide +kernel
theorem dX4_positive_0 : decode cX4_positive 0 = .ok (.aload_n 1, 1) := dk_43 (dk_at dksX4_positive_0 0 rfl rfl)
theorem dX4_positive_1 : decode cX4_positive 1 = .ok (.invokestatic 166, 3) := dk_184 0 166 (dk_at dksX4_positive_0 1 rfl rfl)
theorem dX4_positive_4 : decode cX4_positive 4 = .ok (.istore_n 2, 1) := dk_61 (dk_at dksX4_positive_0 4 rfl rfl)
theorem dX4_positive_5 : decode cX4_positive 5 = .ok (.iload_n 2, 1) := dk_28 (dk_at dksX4_positive_0 5 rfl rfl)
theorem dX4_positive_6 : decode cX4_positive 6 = .ok (.ifCond .lt 16, 3) := dk_155 0 16 (dk_at dksX4_positive_0 6 rfl rfl)
theorem dX4_positive_9 : decode cX4_positive 9 = .ok (.aload_n 1, 1) := dk_43 (dk_at dksX4_positive_0 9 rfl rfl)
theorem dX4_positive_10 : decode cX4_positive 10 = .ok (.iload_n 2, 1) := dk_28 (dk_at dksX4_positive_0 10 rfl rfl)
theorem dX4_positive_11 : decode cX4_positive 11 = .ok (.aaload, 1) := dk_50 (dk_at dksX4_positive_0 11 rfl rfl)
theorem dX4_positive_12 : decode cX4_positive 12 = .ok (.invokestatic 110, 3) := dk_184 0 110 (dk_at dksX4_positive_0 12 rfl rfl)
theorem dX4_positive_15 : decode cX4_positive 15 = .ok (.ifCond .ge 7, 3) := dk_156 0 7 (dk_at dksX4_positive_0 15 rfl rfl)
theorem dX4_positive_18 : decode cX4_positive 18 = .ok (.aload_n 1, 1) := dk_43 (dk_at dksX4_positive_0 18 rfl rfl)
theorem dX4_positive_19 : decode cX4_positive 19 = .ok (.invokestatic 170, 3) := dk_184 0 170 (dk_at dksX4_positive_0 19 rfl rfl)
theorem dX4_positive_22 : decode cX4_positive 22 = .ok (.return_, 1) := dk_177 (dk_at dksX4_positive_0 22 rfl rfl)
abbrev cX4_negate_2 : ByteArray := prog_6_method_25_code
def yX4_negate_2 : MethodName := ⟨RX4, "negate", "([[I)V"⟩
def dkwX4_negate_2_0 : List UInt8 := [3, 60, 27, 16, 7, 162, 0, 15, 42, 27, 50, 184, 0, 93, 132, 1, 1, 167, 255, 241, 177]
abbrev dktX4_negate_2_0 : List UInt8 := dkwX4_negate_2_0 ++ []
theorem dksX4_negate_2_0 : cX4_negate_2.data.toList.drop 0 = dktX4_negate_2_0 := by decide +kernel
theorem dX4_negate_2_0 : decode cX4_negate_2 0 = .ok (.iconst 0, 1) := dk_3 (dk_at dksX4_negate_2_0 0 rfl rfl)
theorem dX4_negate_2_1 : decode cX4_negate_2 1 = .ok (.istore_n 1, 1) := dk_60 (dk_at dksX4_negate_2_0 1 rfl rfl)
theorem dX4_negate_2_2 : decode cX4_negate_2 2 = .ok (.iload_n 1, 1) := dk_27 (dk_at dksX4_negate_2_0 2 rfl rfl)
theorem dX4_negate_2_3 : decode cX4_negate_2 3 = .ok (.bipush 7, 2) := dk_16 7 (dk_at dksX4_negate_2_0 3 rfl rfl)
theorem dX4_negate_2_5 : decode cX4_negate_2 5 = .ok (.if_icmp .ge 15, 3) := dk_162 0 15 (dk_at dksX4_negate_2_0 5 rfl rfl)
theorem dX4_negate_2_8 : decode cX4_negate_2 8 = .ok (.aload_n 0, 1) := dk_42 (dk_at dksX4_negate_2_0 8 rfl rfl)
theorem dX4_negate_2_9 : decode cX4_negate_2 9 = .ok (.iload_n 1, 1) := dk_27 (dk_at dksX4_negate_2_0 9 rfl rfl)
theorem dX4_negate_2_10 : decode cX4_negate_2 10 = .ok (.aaload, 1) := dk_50 (dk_at dksX4_negate_2_0 10 rfl rfl)
theorem dX4_negate_2_11 : decode cX4_negate_2 11 = .ok (.invokestatic 93, 3) := dk_184 0 93 (dk_at dksX4_negate_2_0 11 rfl rfl)
theorem dX4_negate_2_14 : decode cX4_negate_2 14 = .ok (.iinc 1 1, 3) := dk_132 1 1 (dk_at dksX4_negate_2_0 14 rfl rfl)
theorem dX4_negate_2_17 : decode cX4_negate_2 17 = .ok (.goto (-15), 3) := dk_167 255 241 (dk_at dksX4_negate_2_0 17 rfl rfl)
theorem dX4_negate_2_20 : decode cX4_negate_2 20 = .ok (.return_, 1) := dk_177 (dk_at dksX4_negate_2_0 20 rfl rfl)
abbrev cX4_copy_3 : ByteArray := prog_6_method_24_code
def yX4_copy_3 : MethodName := ⟨RX4, "copy", "([[I[[I)V"⟩
def dkwX4_copy_3_0 : List UInt8 := [3, 61, 28, 16, 7, 162, 0, 18, 42, 28, 50, 43, 28, 50, 184, 0, 113, 132, 2, 1, 167, 255, 238, 177]
abbrev dktX4_copy_3_0 : List UInt8 := dkwX4_copy_3_0 ++ []
theorem dksX4_copy_3_0 : cX4_copy_3.data.toList.drop 0 = dktX4_copy_3_0 := by decide +kernel
theorem dX4_copy_3_0 : decode cX4_copy_3 0 = .ok (.iconst 0, 1) := dk_3 (dk_at dksX4_copy_3_0 0 rfl rfl)
theorem dX4_copy_3_1 : decode cX4_copy_3 1 = .ok (.istore_n 2, 1) := dk_61 (dk_at dksX4_copy_3_0 1 rfl rfl)
theorem dX4_copy_3_2 : decode cX4_copy_3 2 = .ok (.iload_n 2, 1) := dk_28 (dk_at dksX4_copy_3_0 2 rfl rfl)
theorem dX4_copy_3_3 : decode cX4_copy_3 3 = .ok (.bipush 7, 2) := dk_16 7 (dk_at dksX4_copy_3_0 3 rfl rfl)
theorem dX4_copy_3_5 : decode cX4_copy_3 5 = .ok (.if_icmp .ge 18, 3) := dk_162 0 18 (dk_at dksX4_copy_3_0 5 rfl rfl)
theorem dX4_copy_3_8 : decode cX4_copy_3 8 = .ok (.aload_n 0, 1) := dk_42 (dk_at dksX4_copy_3_0 8 rfl rfl)
theorem dX4_copy_3_9 : decode cX4_copy_3 9 = .ok (.iload_n 2, 1) := dk_28 (dk_at dksX4_copy_3_0 9 rfl rfl)
theorem dX4_copy_3_10 : decode cX4_copy_3 10 = .ok (.aaload, 1) := dk_50 (dk_at dksX4_copy_3_0 10 rfl rfl)
theorem dX4_copy_3_11 : decode cX4_copy_3 11 = .ok (.aload_n 1, 1) := dk_43 (dk_at dksX4_copy_3_0 11 rfl rfl)
theorem dX4_copy_3_12 : decode cX4_copy_3 12 = .ok (.iload_n 2, 1) := dk_28 (dk_at dksX4_copy_3_0 12 rfl rfl)
theorem dX4_copy_3_13 : decode cX4_copy_3 13 = .ok (.aaload, 1) := dk_50 (dk_at dksX4_copy_3_0 13 rfl rfl)
theorem dX4_copy_3_14 : decode cX4_copy_3 14 = .ok (.invokestatic 113, 3) := dk_184 0 113 (dk_at dksX4_copy_3_0 14 rfl rfl)
theorem dX4_copy_3_17 : decode cX4_copy_3 17 = .ok (.iinc 2 1, 3) := dk_132 2 1 (dk_at dksX4_copy_3_0 17 rfl rfl)
theorem dX4_copy_3_20 : decode cX4_copy_3 20 = .ok (.goto (-18), 3) := dk_167 255 238 (dk_at dksX4_copy_3_0 20 rfl rfl)
theorem dX4_copy_3_23 : decode cX4_copy_3 23 = .ok (.return_, 1) := dk_177 (dk_at dksX4_copy_3_0 23 rfl rfl)
abbrev cX4_comesGreat : ByteArray := prog_6_method_43_code
def yX4_comesGreat : MethodName := ⟨RX4, "comesGreat", "([[III)I"⟩
def dkwX4_comesGreat_4 : List UInt8 := [182, 0, 225, 172]
abbrev dktX4_comesGreat_4 : List UInt8 := dkwX4_comesGreat_4 ++ []
def dkwX4_comesGreat_3 : List UInt8 := [46, 116, 133, 167, 0, 10, 42, 180, 0, 18, 3, 46, 133, 80, 132, 4, 1, 167, 255, 178, 42, 28, 29]
abbrev dktX4_comesGreat_3 : List UInt8 := dkwX4_comesGreat_3 ++ dktX4_comesGreat_4
def dkwX4_comesGreat_2 : List UInt8 := [184, 0, 149, 16, 31, 164, 0, 9, 20, 0, 223, 167, 0, 26, 21, 5, 153, 0, 14, 42, 180, 0, 18, 3]
abbrev dktX4_comesGreat_2 : List UInt8 := dkwX4_comesGreat_2 ++ dktX4_comesGreat_3
def dkwX4_comesGreat_1 : List UInt8 := [184, 0, 113, 42, 180, 0, 18, 184, 0, 155, 54, 5, 42, 180, 0, 59, 21, 4, 42, 180, 0, 18]
abbrev dktX4_comesGreat_1 : List UInt8 := dkwX4_comesGreat_1 ++ dktX4_comesGreat_2
def dkwX4_comesGreat_0 : List UInt8 := [42, 182, 0, 220, 3, 54, 4, 21, 4, 16, 7, 162, 0, 77, 43, 21, 4, 50, 42, 180, 0, 18]
abbrev dktX4_comesGreat_0 : List UInt8 := dkwX4_comesGreat_0 ++ dktX4_comesGreat_1
theorem dksX4_comesGreat_0 : cX4_comesGreat.data.toList.drop 0 = dktX4_comesGreat_0 := by decide +kernel
theorem dksX4_comesGreat_1 : cX4_comesGreat.data.toList.drop 22 = dktX4_comesGreat_1 := dk_seg dksX4_comesGreat_0 22 rfl rfl
theorem dksX4_comesGreat_2 : cX4_comesGreat.data.toList.drop 44 = dktX4_comesGreat_2 := dk_seg dksX4_comesGreat_1 22 rfl rfl
theorem dksX4_comesGreat_3 : cX4_comesGreat.data.toList.drop 68 = dktX4_comesGreat_3 := dk_seg dksX4_comesGreat_2 24 rfl rfl
theorem dksX4_comesGreat_4 : cX4_comesGreat.data.toList.drop 91 = dktX4_comesGreat_4 := dk_seg dksX4_comesGreat_3 23 rfl rfl
theorem dX4_comesGreat_0 : decode cX4_comesGreat 0 = .ok (.aload_n 0, 1) := dk_42 (dk_at dksX4_comesGreat_0 0 rfl rfl)
theorem dX4_comesGreat_1 : decode cX4_comesGreat 1 = .ok (.invokevirtual 220, 3) := dk_182 0 220 (dk_at dksX4_comesGreat_0 1 rfl rfl)
theorem dX4_comesGreat_4 : decode cX4_comesGreat 4 = .ok (.iconst 0, 1) := dk_3 (dk_at dksX4_comesGreat_0 4 rfl rfl)
theorem dX4_comesGreat_5 : decode cX4_comesGreat 5 = .ok (.istore 4, 2) := dk_54 4 (dk_at dksX4_comesGreat_0 5 rfl rfl)
theorem dX4_comesGreat_7 : decode cX4_comesGreat 7 = .ok (.iload 4, 2) := dk_21 4 (dk_at dksX4_comesGreat_0 7 rfl rfl)
theorem dX4_comesGreat_9 : decode cX4_comesGreat 9 = .ok (.bipush 7, 2) := dk_16 7 (dk_at dksX4_comesGreat_0 9 rfl rfl)
theorem dX4_comesGreat_11 : decode cX4_comesGreat 11 = .ok (.if_icmp .ge 77, 3) := dk_162 0 77 (dk_at dksX4_comesGreat_0 11 rfl rfl)
theorem dX4_comesGreat_14 : decode cX4_comesGreat 14 = .ok (.aload_n 1, 1) := dk_43 (dk_at dksX4_comesGreat_0 14 rfl rfl)
theorem dX4_comesGreat_15 : decode cX4_comesGreat 15 = .ok (.iload 4, 2) := dk_21 4 (dk_at dksX4_comesGreat_0 15 rfl rfl)
theorem dX4_comesGreat_17 : decode cX4_comesGreat 17 = .ok (.aaload, 1) := dk_50 (dk_at dksX4_comesGreat_0 17 rfl rfl)
theorem dX4_comesGreat_18 : decode cX4_comesGreat 18 = .ok (.aload_n 0, 1) := dk_42 (dk_at dksX4_comesGreat_0 18 rfl rfl)
theorem dX4_comesGreat_19 : decode cX4_comesGreat 19 = .ok (.getfield 18, 3) := dk_180 0 18 (dk_at dksX4_comesGreat_0 19 rfl rfl)
theorem dX4_comesGreat_22 : decode cX4_comesGreat 22 = .ok (.invokestatic 113, 3) := dk_184 0 113 (dk_at dksX4_comesGreat_1 0 rfl rfl)
theorem dX4_comesGreat_25 : decode cX4_comesGreat 25 = .ok (.aload_n 0, 1) := dk_42 (dk_at dksX4_comesGreat_1 3 rfl rfl)
theorem dX4_comesGreat_26 : decode cX4_comesGreat 26 = .ok (.getfield 18, 3) := dk_180 0 18 (dk_at dksX4_comesGreat_1 4 rfl rfl)
theorem dX4_comesGreat_29 : decode cX4_comesGreat 29 = .ok (.invokestatic 155, 3) := dk_184 0 155 (dk_at dksX4_comesGreat_1 7 rfl rfl)
theorem dX4_comesGreat_32 : decode cX4_comesGreat 32 = .ok (.istore 5, 2) := dk_54 5 (dk_at dksX4_comesGreat_1 10 rfl rfl)
theorem dX4_comesGreat_34 : decode cX4_comesGreat 34 = .ok (.aload_n 0, 1) := dk_42 (dk_at dksX4_comesGreat_1 12 rfl rfl)
theorem dX4_comesGreat_35 : decode cX4_comesGreat 35 = .ok (.getfield 59, 3) := dk_180 0 59 (dk_at dksX4_comesGreat_1 13 rfl rfl)
theorem dX4_comesGreat_38 : decode cX4_comesGreat 38 = .ok (.iload 4, 2) := dk_21 4 (dk_at dksX4_comesGreat_1 16 rfl rfl)
theorem dX4_comesGreat_40 : decode cX4_comesGreat 40 = .ok (.aload_n 0, 1) := dk_42 (dk_at dksX4_comesGreat_1 18 rfl rfl)
theorem dX4_comesGreat_41 : decode cX4_comesGreat 41 = .ok (.getfield 18, 3) := dk_180 0 18 (dk_at dksX4_comesGreat_1 19 rfl rfl)
theorem dX4_comesGreat_44 : decode cX4_comesGreat 44 = .ok (.invokestatic 149, 3) := dk_184 0 149 (dk_at dksX4_comesGreat_2 0 rfl rfl)
theorem dX4_comesGreat_47 : decode cX4_comesGreat 47 = .ok (.bipush 31, 2) := dk_16 31 (dk_at dksX4_comesGreat_2 3 rfl rfl)
theorem dX4_comesGreat_49 : decode cX4_comesGreat 49 = .ok (.if_icmp .le 9, 3) := dk_164 0 9 (dk_at dksX4_comesGreat_2 5 rfl rfl)
theorem dX4_comesGreat_52 : decode cX4_comesGreat 52 = .ok (.ldc2_w 223, 3) := dk_20 0 223 (dk_at dksX4_comesGreat_2 8 rfl rfl)
theorem dX4_comesGreat_55 : decode cX4_comesGreat 55 = .ok (.goto 26, 3) := dk_167 0 26 (dk_at dksX4_comesGreat_2 11 rfl rfl)
theorem dX4_comesGreat_58 : decode cX4_comesGreat 58 = .ok (.iload 5, 2) := dk_21 5 (dk_at dksX4_comesGreat_2 14 rfl rfl)
theorem dX4_comesGreat_60 : decode cX4_comesGreat 60 = .ok (.ifCond .eq 14, 3) := dk_153 0 14 (dk_at dksX4_comesGreat_2 16 rfl rfl)
theorem dX4_comesGreat_63 : decode cX4_comesGreat 63 = .ok (.aload_n 0, 1) := dk_42 (dk_at dksX4_comesGreat_2 19 rfl rfl)
theorem dX4_comesGreat_64 : decode cX4_comesGreat 64 = .ok (.getfield 18, 3) := dk_180 0 18 (dk_at dksX4_comesGreat_2 20 rfl rfl)
theorem dX4_comesGreat_67 : decode cX4_comesGreat 67 = .ok (.iconst 0, 1) := dk_3 (dk_at dksX4_comesGreat_2 23 rfl rfl)
theorem dX4_comesGreat_68 : decode cX4_comesGreat 68 = .ok (.iaload, 1) := dk_46 (dk_at dksX4_comesGreat_3 0 rfl rfl)
theorem dX4_comesGreat_69 : decode cX4_comesGreat 69 = .ok (.ineg, 1) := dk_116 (dk_at dksX4_comesGreat_3 1 rfl rfl)
theorem dX4_comesGreat_70 : decode cX4_comesGreat 70 = .ok (.i2l, 1) := dk_133 (dk_at dksX4_comesGreat_3 2 rfl rfl)
theorem dX4_comesGreat_71 : decode cX4_comesGreat 71 = .ok (.goto 10, 3) := dk_167 0 10 (dk_at dksX4_comesGreat_3 3 rfl rfl)
theorem dX4_comesGreat_74 : decode cX4_comesGreat 74 = .ok (.aload_n 0, 1) := dk_42 (dk_at dksX4_comesGreat_3 6 rfl rfl)
theorem dX4_comesGreat_75 : decode cX4_comesGreat 75 = .ok (.getfield 18, 3) := dk_180 0 18 (dk_at dksX4_comesGreat_3 7 rfl rfl)
theorem dX4_comesGreat_78 : decode cX4_comesGreat 78 = .ok (.iconst 0, 1) := dk_3 (dk_at dksX4_comesGreat_3 10 rfl rfl)
theorem dX4_comesGreat_79 : decode cX4_comesGreat 79 = .ok (.iaload, 1) := dk_46 (dk_at dksX4_comesGreat_3 11 rfl rfl)
theorem dX4_comesGreat_80 : decode cX4_comesGreat 80 = .ok (.i2l, 1) := dk_133 (dk_at dksX4_comesGreat_3 12 rfl rfl)
theorem dX4_comesGreat_81 : decode cX4_comesGreat 81 = .ok (.lastore, 1) := dk_80 (dk_at dksX4_comesGreat_3 13 rfl rfl)
theorem dX4_comesGreat_82 : decode cX4_comesGreat 82 = .ok (.iinc 4 1, 3) := dk_132 4 1 (dk_at dksX4_comesGreat_3 14 rfl rfl)
theorem dX4_comesGreat_85 : decode cX4_comesGreat 85 = .ok (.goto (-78), 3) := dk_167 255 178 (dk_at dksX4_comesGreat_3 17 rfl rfl)
theorem dX4_comesGreat_88 : decode cX4_comesGreat 88 = .ok (.aload_n 0, 1) := dk_42 (dk_at dksX4_comesGreat_3 20 rfl rfl)
theorem dX4_comesGreat_89 : decode cX4_comesGreat 89 = .ok (.iload_n 2, 1) := dk_28 (dk_at dksX4_comesGreat_3 21 rfl rfl)
theorem dX4_comesGreat_90 : decode cX4_comesGreat 90 = .ok (.iload_n 3, 1) := dk_29 (dk_at dksX4_comesGreat_3 22 rfl rfl)
theorem dX4_comesGreat_91 : decode cX4_comesGreat 91 = .ok (.invokevirtual 225, 3) := dk_182 0 225 (dk_at dksX4_comesGreat_4 0 rfl rfl)
theorem dX4_comesGreat_94 : decode cX4_comesGreat 94 = .ok (.ireturn, 1) := dk_172 (dk_at dksX4_comesGreat_4 3 rfl rfl)
abbrev cX4_squareFreePart : ByteArray := prog_6_method_56_code
def yX4_squareFreePart : MethodName := ⟨RX4, "squareFreePart", "(II)I"⟩
def dkwX4_squareFreePart_2 : List UInt8 := [184, 0, 236, 42, 42, 180, 0, 63, 182, 0, 247, 42, 42, 180, 0, 45, 28, 6, 182, 0, 240, 172]
abbrev dktX4_squareFreePart_2 : List UInt8 := dkwX4_squareFreePart_2 ++ []
def dkwX4_squareFreePart_1 : List UInt8 := [182, 0, 244, 153, 0, 9, 42, 5, 182, 0, 212, 172, 42, 180, 0, 11, 27, 50, 42, 180, 0, 63]
abbrev dktX4_squareFreePart_1 : List UInt8 := dkwX4_squareFreePart_1 ++ dktX4_squareFreePart_2
def dkwX4_squareFreePart_0 : List UInt8 := [27, 184, 0, 228, 153, 0, 10, 28, 184, 0, 228, 154, 0, 9, 42, 4, 182, 0, 212, 172, 42, 27]
abbrev dktX4_squareFreePart_0 : List UInt8 := dkwX4_squareFreePart_0 ++ dktX4_squareFreePart_1
theorem dksX4_squareFreePart_0 : cX4_squareFreePart.data.toList.drop 0 = dktX4_squareFreePart_0 := by decide +kernel
theorem dksX4_squareFreePart_1 : cX4_squareFreePart.data.toList.drop 22 = dktX4_squareFreePart_1 := dk_seg dksX4_squareFreePart_0 22 rfl rfl
theorem dksX4_squareFreePart_2 : cX4_squareFreePart.data.toList.drop 44 = dktX4_squareFreePart_2 := dk_seg dksX4_squareFreePart_1 22 rfl rfl
theorem dX4_squareFreePart_0 : decode cX4_squareFreePart 0 = .ok (.iload_n 1, 1) := dk_27 (dk_at dksX4_squareFreePart_0 0 rfl rfl)
theorem dX4_squareFreePart_1 : decode cX4_squareFreePart 1 = .ok (.invokestatic 228, 3) := dk_184 0 228 (dk_at dksX4_squareFreePart_0 1 rfl rfl)
theorem dX4_squareFreePart_4 : decode cX4_squareFreePart 4 = .ok (.ifCond .eq 10, 3) := dk_153 0 10 (dk_at dksX4_squareFreePart_0 4 rfl rfl)
theorem dX4_squareFreePart_7 : decode cX4_squareFreePart 7 = .ok (.iload_n 2, 1) := dk_28 (dk_at dksX4_squareFreePart_0 7 rfl rfl)
theorem dX4_squareFreePart_8 : decode cX4_squareFreePart 8 = .ok (.invokestatic 228, 3) := dk_184 0 228 (dk_at dksX4_squareFreePart_0 8 rfl rfl)
theorem dX4_squareFreePart_11 : decode cX4_squareFreePart 11 = .ok (.ifCond .ne 9, 3) := dk_154 0 9 (dk_at dksX4_squareFreePart_0 11 rfl rfl)
theorem dX4_squareFreePart_14 : decode cX4_squareFreePart 14 = .ok (.aload_n 0, 1) := dk_42 (dk_at dksX4_squareFreePart_0 14 rfl rfl)
theorem dX4_squareFreePart_15 : decode cX4_squareFreePart 15 = .ok (.iconst 1, 1) := dk_4 (dk_at dksX4_squareFreePart_0 15 rfl rfl)
theorem dX4_squareFreePart_16 : decode cX4_squareFreePart 16 = .ok (.invokevirtual 212, 3) := dk_182 0 212 (dk_at dksX4_squareFreePart_0 16 rfl rfl)
theorem dX4_squareFreePart_19 : decode cX4_squareFreePart 19 = .ok (.ireturn, 1) := dk_172 (dk_at dksX4_squareFreePart_0 19 rfl rfl)
theorem dX4_squareFreePart_20 : decode cX4_squareFreePart 20 = .ok (.aload_n 0, 1) := dk_42 (dk_at dksX4_squareFreePart_0 20 rfl rfl)
theorem dX4_squareFreePart_21 : decode cX4_squareFreePart 21 = .ok (.iload_n 1, 1) := dk_27 (dk_at dksX4_squareFreePart_0 21 rfl rfl)
theorem dX4_squareFreePart_22 : decode cX4_squareFreePart 22 = .ok (.invokevirtual 244, 3) := dk_182 0 244 (dk_at dksX4_squareFreePart_1 0 rfl rfl)
theorem dX4_squareFreePart_25 : decode cX4_squareFreePart 25 = .ok (.ifCond .eq 9, 3) := dk_153 0 9 (dk_at dksX4_squareFreePart_1 3 rfl rfl)
theorem dX4_squareFreePart_28 : decode cX4_squareFreePart 28 = .ok (.aload_n 0, 1) := dk_42 (dk_at dksX4_squareFreePart_1 6 rfl rfl)
theorem dX4_squareFreePart_29 : decode cX4_squareFreePart 29 = .ok (.iconst 2, 1) := dk_5 (dk_at dksX4_squareFreePart_1 7 rfl rfl)
theorem dX4_squareFreePart_30 : decode cX4_squareFreePart 30 = .ok (.invokevirtual 212, 3) := dk_182 0 212 (dk_at dksX4_squareFreePart_1 8 rfl rfl)
theorem dX4_squareFreePart_33 : decode cX4_squareFreePart 33 = .ok (.ireturn, 1) := dk_172 (dk_at dksX4_squareFreePart_1 11 rfl rfl)
theorem dX4_squareFreePart_34 : decode cX4_squareFreePart 34 = .ok (.aload_n 0, 1) := dk_42 (dk_at dksX4_squareFreePart_1 12 rfl rfl)
theorem dX4_squareFreePart_35 : decode cX4_squareFreePart 35 = .ok (.getfield 11, 3) := dk_180 0 11 (dk_at dksX4_squareFreePart_1 13 rfl rfl)
theorem dX4_squareFreePart_38 : decode cX4_squareFreePart 38 = .ok (.iload_n 1, 1) := dk_27 (dk_at dksX4_squareFreePart_1 16 rfl rfl)
theorem dX4_squareFreePart_39 : decode cX4_squareFreePart 39 = .ok (.aaload, 1) := dk_50 (dk_at dksX4_squareFreePart_1 17 rfl rfl)
theorem dX4_squareFreePart_40 : decode cX4_squareFreePart 40 = .ok (.aload_n 0, 1) := dk_42 (dk_at dksX4_squareFreePart_1 18 rfl rfl)
theorem dX4_squareFreePart_41 : decode cX4_squareFreePart 41 = .ok (.getfield 63, 3) := dk_180 0 63 (dk_at dksX4_squareFreePart_1 19 rfl rfl)
theorem dX4_squareFreePart_44 : decode cX4_squareFreePart 44 = .ok (.invokestatic 236, 3) := dk_184 0 236 (dk_at dksX4_squareFreePart_2 0 rfl rfl)
theorem dX4_squareFreePart_47 : decode cX4_squareFreePart 47 = .ok (.aload_n 0, 1) := dk_42 (dk_at dksX4_squareFreePart_2 3 rfl rfl)
theorem dX4_squareFreePart_48 : decode cX4_squareFreePart 48 = .ok (.aload_n 0, 1) := dk_42 (dk_at dksX4_squareFreePart_2 4 rfl rfl)
theorem dX4_squareFreePart_49 : decode cX4_squareFreePart 49 = .ok (.getfield 63, 3) := dk_180 0 63 (dk_at dksX4_squareFreePart_2 5 rfl rfl)
theorem dX4_squareFreePart_52 : decode cX4_squareFreePart 52 = .ok (.invokevirtual 247, 3) := dk_182 0 247 (dk_at dksX4_squareFreePart_2 8 rfl rfl)
theorem dX4_squareFreePart_55 : decode cX4_squareFreePart 55 = .ok (.aload_n 0, 1) := dk_42 (dk_at dksX4_squareFreePart_2 11 rfl rfl)
theorem dX4_squareFreePart_56 : decode cX4_squareFreePart 56 = .ok (.aload_n 0, 1) := dk_42 (dk_at dksX4_squareFreePart_2 12 rfl rfl)
theorem dX4_squareFreePart_57 : decode cX4_squareFreePart 57 = .ok (.getfield 45, 3) := dk_180 0 45 (dk_at dksX4_squareFreePart_2 13 rfl rfl)
theorem dX4_squareFreePart_60 : decode cX4_squareFreePart 60 = .ok (.iload_n 2, 1) := dk_28 (dk_at dksX4_squareFreePart_2 16 rfl rfl)
theorem dX4_squareFreePart_61 : decode cX4_squareFreePart 61 = .ok (.iconst 3, 1) := dk_6 (dk_at dksX4_squareFreePart_2 17 rfl rfl)
theorem dX4_squareFreePart_62 : decode cX4_squareFreePart 62 = .ok (.invokevirtual 240, 3) := dk_182 0 240 (dk_at dksX4_squareFreePart_2 18 rfl rfl)
theorem dX4_squareFreePart_65 : decode cX4_squareFreePart 65 = .ok (.ireturn, 1) := dk_172 (dk_at dksX4_squareFreePart_2 21 rfl rfl)
abbrev cX4_isZero : ByteArray := prog_6_method_55_code
def yX4_isZero : MethodName := ⟨RX4, "isZero", "(I)Z"⟩
def dkwX4_isZero_0 : List UInt8 := [42, 180, 0, 11, 27, 50, 184, 0, 215, 156, 0, 7, 4, 167, 0, 4, 3, 172]
abbrev dktX4_isZero_0 : List UInt8 := dkwX4_isZero_0 ++ []
theorem dksX4_isZero_0 : cX4_isZero.data.toList.drop 0 = dktX4_isZero_0 := by decide +kernel
theorem dX4_isZero_0 : decode cX4_isZero 0 = .ok (.aload_n 0, 1) := dk_42 (dk_at dksX4_isZero_0 0 rfl rfl)
theorem dX4_isZero_1 : decode cX4_isZero 1 = .ok (.getfield 11, 3) := dk_180 0 11 (dk_at dksX4_isZero_0 1 rfl rfl)
theorem dX4_isZero_4 : decode cX4_isZero 4 = .ok (.iload_n 1, 1) := dk_27 (dk_at dksX4_isZero_0 4 rfl rfl)
theorem dX4_isZero_5 : decode cX4_isZero 5 = .ok (.aaload, 1) := dk_50 (dk_at dksX4_isZero_0 5 rfl rfl)
theorem dX4_isZero_6 : decode cX4_isZero 6 = .ok (.invokestatic 215, 3) := dk_184 0 215 (dk_at dksX4_isZero_0 6 rfl rfl)
theorem dX4_isZero_9 : decode cX4_isZero 9 = .ok (.ifCond .ge 7, 3) := dk_156 0 7 (dk_at dksX4_isZero_0 9 rfl rfl)
theorem dX4_isZero_12 : decode cX4_isZero 12 = .ok (.iconst 1, 1) := dk_4 (dk_at dksX4_isZero_0 12 rfl rfl)
theorem dX4_isZero_13 : decode cX4_isZero 13 = .ok (.goto 4, 3) := dk_167 0 4 (dk_at dksX4_isZero_0 13 rfl rfl)
theorem dX4_isZero_16 : decode cX4_isZero 16 = .ok (.iconst 0, 1) := dk_3 (dk_at dksX4_isZero_0 16 rfl rfl)
theorem dX4_isZero_17 : decode cX4_isZero 17 = .ok (.ireturn, 1) := dk_172 (dk_at dksX4_isZero_0 17 rfl rfl)
abbrev cX4_findFree : ByteArray := prog_6_method_32_code
def yX4_findFree : MethodName := ⟨RX4, "findFree", "([[I)V"⟩
def dkwX4_findFree_9 : List UInt8 := [42, 180, 0, 45, 182, 0, 183, 177]
abbrev dktX4_findFree_9 : List UInt8 := dkwX4_findFree_9 ++ []
def dkwX4_findFree_8 : List UInt8 := [184, 0, 134, 132, 5, 1, 167, 255, 209, 132, 3, 255, 167, 255, 138, 42, 42, 180, 0, 45, 182, 0, 176, 42]
abbrev dktX4_findFree_8 : List UInt8 := dkwX4_findFree_8 ++ dktX4_findFree_9
def dkwX4_findFree_7 : List UInt8 := [50, 42, 180, 0, 27, 184, 0, 173, 42, 180, 0, 39, 29, 21, 5, 96, 50, 42, 180, 0, 27, 16, 48]
abbrev dktX4_findFree_7 : List UInt8 := dkwX4_findFree_7 ++ dktX4_findFree_8
def dkwX4_findFree_6 : List UInt8 := [184, 0, 93, 3, 54, 5, 21, 5, 28, 163, 0, 47, 42, 180, 0, 42, 21, 5, 50, 42, 180, 0, 45, 29]
abbrev dktX4_findFree_6 : List UInt8 := dkwX4_findFree_6 ++ dktX4_findFree_7
def dkwX4_findFree_5 : List UInt8 := [28, 50, 42, 180, 0, 45, 29, 50, 182, 0, 162, 21, 4, 153, 0, 12, 42, 180, 0, 45, 29, 50]
abbrev dktX4_findFree_5 : List UInt8 := dkwX4_findFree_5 ++ dktX4_findFree_6
def dkwX4_findFree_4 : List UInt8 := [180, 0, 18, 184, 0, 113, 42, 180, 0, 18, 184, 0, 155, 54, 4, 42, 42, 180, 0, 18, 42, 180, 0, 42]
abbrev dktX4_findFree_4 : List UInt8 := dkwX4_findFree_4 ++ dktX4_findFree_5
def dkwX4_findFree_3 : List UInt8 := [180, 0, 39, 184, 0, 166, 28, 100, 62, 29, 155, 0, 120, 42, 180, 0, 39, 29, 28, 96, 50, 42]
abbrev dktX4_findFree_3 : List UInt8 := dkwX4_findFree_3 ++ dktX4_findFree_4
def dkwX4_findFree_2 : List UInt8 := [16, 7, 162, 0, 19, 42, 180, 0, 45, 29, 50, 9, 184, 0, 145, 132, 3, 1, 167, 255, 237, 42]
abbrev dktX4_findFree_2 : List UInt8 := dkwX4_findFree_2 ++ dktX4_findFree_3
def dkwX4_findFree_1 : List UInt8 := [42, 182, 0, 191, 42, 42, 180, 0, 39, 182, 0, 176, 42, 180, 0, 42, 184, 0, 166, 61, 3, 62, 29]
abbrev dktX4_findFree_1 : List UInt8 := dkwX4_findFree_1 ++ dktX4_findFree_2
def dkwX4_findFree_0 : List UInt8 := [43, 42, 180, 0, 33, 184, 0, 186, 43, 42, 180, 0, 36, 184, 0, 188, 43, 42, 180, 0, 39, 184, 0, 186]
abbrev dktX4_findFree_0 : List UInt8 := dkwX4_findFree_0 ++ dktX4_findFree_1
theorem dksX4_findFree_0 : cX4_findFree.data.toList.drop 0 = dktX4_findFree_0 := by decide +kernel
theorem dksX4_findFree_1 : cX4_findFree.data.toList.drop 24 = dktX4_findFree_1 := dk_seg dksX4_findFree_0 24 rfl rfl
theorem dksX4_findFree_2 : cX4_findFree.data.toList.drop 47 = dktX4_findFree_2 := dk_seg dksX4_findFree_1 23 rfl rfl
theorem dksX4_findFree_3 : cX4_findFree.data.toList.drop 69 = dktX4_findFree_3 := dk_seg dksX4_findFree_2 22 rfl rfl
theorem dksX4_findFree_4 : cX4_findFree.data.toList.drop 91 = dktX4_findFree_4 := dk_seg dksX4_findFree_3 22 rfl rfl
theorem dksX4_findFree_5 : cX4_findFree.data.toList.drop 115 = dktX4_findFree_5 := dk_seg dksX4_findFree_4 24 rfl rfl
theorem dksX4_findFree_6 : cX4_findFree.data.toList.drop 137 = dktX4_findFree_6 := dk_seg dksX4_findFree_5 22 rfl rfl
theorem dksX4_findFree_7 : cX4_findFree.data.toList.drop 161 = dktX4_findFree_7 := dk_seg dksX4_findFree_6 24 rfl rfl
theorem dksX4_findFree_8 : cX4_findFree.data.toList.drop 184 = dktX4_findFree_8 := dk_seg dksX4_findFree_7 23 rfl rfl
theorem dksX4_findFree_9 : cX4_findFree.data.toList.drop 208 = dktX4_findFree_9 := dk_seg dksX4_findFree_8 24 rfl rfl
theorem dX4_findFree_0 : decode cX4_findFree 0 = .ok (.aload_n 1, 1) := dk_43 (dk_at dksX4_findFree_0 0 rfl rfl)
theorem dX4_findFree_1 : decode cX4_findFree 1 = .ok (.aload_n 0, 1) := dk_42 (dk_at dksX4_findFree_0 1 rfl rfl)
theorem dX4_findFree_2 : decode cX4_findFree 2 = .ok (.getfield 33, 3) := dk_180 0 33 (dk_at dksX4_findFree_0 2 rfl rfl)
theorem dX4_findFree_5 : decode cX4_findFree 5 = .ok (.invokestatic 186, 3) := dk_184 0 186 (dk_at dksX4_findFree_0 5 rfl rfl)
theorem dX4_findFree_8 : decode cX4_findFree 8 = .ok (.aload_n 1, 1) := dk_43 (dk_at dksX4_findFree_0 8 rfl rfl)
theorem dX4_findFree_9 : decode cX4_findFree 9 = .ok (.aload_n 0, 1) := dk_42 (dk_at dksX4_findFree_0 9 rfl rfl)
theorem dX4_findFree_10 : decode cX4_findFree 10 = .ok (.getfield 36, 3) := dk_180 0 36 (dk_at dksX4_findFree_0 10 rfl rfl)
theorem dX4_findFree_13 : decode cX4_findFree 13 = .ok (.invokestatic 188, 3) := dk_184 0 188 (dk_at dksX4_findFree_0 13 rfl rfl)
theorem dX4_findFree_16 : decode cX4_findFree 16 = .ok (.aload_n 1, 1) := dk_43 (dk_at dksX4_findFree_0 16 rfl rfl)
theorem dX4_findFree_17 : decode cX4_findFree 17 = .ok (.aload_n 0, 1) := dk_42 (dk_at dksX4_findFree_0 17 rfl rfl)
theorem dX4_findFree_18 : decode cX4_findFree 18 = .ok (.getfield 39, 3) := dk_180 0 39 (dk_at dksX4_findFree_0 18 rfl rfl)
theorem dX4_findFree_21 : decode cX4_findFree 21 = .ok (.invokestatic 186, 3) := dk_184 0 186 (dk_at dksX4_findFree_0 21 rfl rfl)
theorem dX4_findFree_24 : decode cX4_findFree 24 = .ok (.aload_n 0, 1) := dk_42 (dk_at dksX4_findFree_1 0 rfl rfl)
theorem dX4_findFree_25 : decode cX4_findFree 25 = .ok (.invokevirtual 191, 3) := dk_182 0 191 (dk_at dksX4_findFree_1 1 rfl rfl)
theorem dX4_findFree_28 : decode cX4_findFree 28 = .ok (.aload_n 0, 1) := dk_42 (dk_at dksX4_findFree_1 4 rfl rfl)
theorem dX4_findFree_29 : decode cX4_findFree 29 = .ok (.aload_n 0, 1) := dk_42 (dk_at dksX4_findFree_1 5 rfl rfl)
theorem dX4_findFree_30 : decode cX4_findFree 30 = .ok (.getfield 39, 3) := dk_180 0 39 (dk_at dksX4_findFree_1 6 rfl rfl)
theorem dX4_findFree_33 : decode cX4_findFree 33 = .ok (.invokevirtual 176, 3) := dk_182 0 176 (dk_at dksX4_findFree_1 9 rfl rfl)
theorem dX4_findFree_36 : decode cX4_findFree 36 = .ok (.aload_n 0, 1) := dk_42 (dk_at dksX4_findFree_1 12 rfl rfl)
theorem dX4_findFree_37 : decode cX4_findFree 37 = .ok (.getfield 42, 3) := dk_180 0 42 (dk_at dksX4_findFree_1 13 rfl rfl)
theorem dX4_findFree_40 : decode cX4_findFree 40 = .ok (.invokestatic 166, 3) := dk_184 0 166 (dk_at dksX4_findFree_1 16 rfl rfl)
theorem dX4_findFree_43 : decode cX4_findFree 43 = .ok (.istore_n 2, 1) := dk_61 (dk_at dksX4_findFree_1 19 rfl rfl)
theorem dX4_findFree_44 : decode cX4_findFree 44 = .ok (.iconst 0, 1) := dk_3 (dk_at dksX4_findFree_1 20 rfl rfl)
theorem dX4_findFree_45 : decode cX4_findFree 45 = .ok (.istore_n 3, 1) := dk_62 (dk_at dksX4_findFree_1 21 rfl rfl)
theorem dX4_findFree_46 : decode cX4_findFree 46 = .ok (.iload_n 3, 1) := dk_29 (dk_at dksX4_findFree_1 22 rfl rfl)
theorem dX4_findFree_47 : decode cX4_findFree 47 = .ok (.bipush 7, 2) := dk_16 7 (dk_at dksX4_findFree_2 0 rfl rfl)
theorem dX4_findFree_49 : decode cX4_findFree 49 = .ok (.if_icmp .ge 19, 3) := dk_162 0 19 (dk_at dksX4_findFree_2 2 rfl rfl)
theorem dX4_findFree_52 : decode cX4_findFree 52 = .ok (.aload_n 0, 1) := dk_42 (dk_at dksX4_findFree_2 5 rfl rfl)
theorem dX4_findFree_53 : decode cX4_findFree 53 = .ok (.getfield 45, 3) := dk_180 0 45 (dk_at dksX4_findFree_2 6 rfl rfl)
theorem dX4_findFree_56 : decode cX4_findFree 56 = .ok (.iload_n 3, 1) := dk_29 (dk_at dksX4_findFree_2 9 rfl rfl)
theorem dX4_findFree_57 : decode cX4_findFree 57 = .ok (.aaload, 1) := dk_50 (dk_at dksX4_findFree_2 10 rfl rfl)
theorem dX4_findFree_58 : decode cX4_findFree 58 = .ok (.lconst 0, 1) := dk_9 (dk_at dksX4_findFree_2 11 rfl rfl)
theorem dX4_findFree_59 : decode cX4_findFree 59 = .ok (.invokestatic 145, 3) := dk_184 0 145 (dk_at dksX4_findFree_2 12 rfl rfl)
theorem dX4_findFree_62 : decode cX4_findFree 62 = .ok (.iinc 3 1, 3) := dk_132 3 1 (dk_at dksX4_findFree_2 15 rfl rfl)
theorem dX4_findFree_65 : decode cX4_findFree 65 = .ok (.goto (-19), 3) := dk_167 255 237 (dk_at dksX4_findFree_2 18 rfl rfl)
theorem dX4_findFree_68 : decode cX4_findFree 68 = .ok (.aload_n 0, 1) := dk_42 (dk_at dksX4_findFree_2 21 rfl rfl)
theorem dX4_findFree_69 : decode cX4_findFree 69 = .ok (.getfield 39, 3) := dk_180 0 39 (dk_at dksX4_findFree_3 0 rfl rfl)
theorem dX4_findFree_72 : decode cX4_findFree 72 = .ok (.invokestatic 166, 3) := dk_184 0 166 (dk_at dksX4_findFree_3 3 rfl rfl)
theorem dX4_findFree_75 : decode cX4_findFree 75 = .ok (.iload_n 2, 1) := dk_28 (dk_at dksX4_findFree_3 6 rfl rfl)
theorem dX4_findFree_76 : decode cX4_findFree 76 = .ok (.isub, 1) := dk_100 (dk_at dksX4_findFree_3 7 rfl rfl)
theorem dX4_findFree_77 : decode cX4_findFree 77 = .ok (.istore_n 3, 1) := dk_62 (dk_at dksX4_findFree_3 8 rfl rfl)
theorem dX4_findFree_78 : decode cX4_findFree 78 = .ok (.iload_n 3, 1) := dk_29 (dk_at dksX4_findFree_3 9 rfl rfl)
theorem dX4_findFree_79 : decode cX4_findFree 79 = .ok (.ifCond .lt 120, 3) := dk_155 0 120 (dk_at dksX4_findFree_3 10 rfl rfl)
theorem dX4_findFree_82 : decode cX4_findFree 82 = .ok (.aload_n 0, 1) := dk_42 (dk_at dksX4_findFree_3 13 rfl rfl)
theorem dX4_findFree_83 : decode cX4_findFree 83 = .ok (.getfield 39, 3) := dk_180 0 39 (dk_at dksX4_findFree_3 14 rfl rfl)
theorem dX4_findFree_86 : decode cX4_findFree 86 = .ok (.iload_n 3, 1) := dk_29 (dk_at dksX4_findFree_3 17 rfl rfl)
theorem dX4_findFree_87 : decode cX4_findFree 87 = .ok (.iload_n 2, 1) := dk_28 (dk_at dksX4_findFree_3 18 rfl rfl)
theorem dX4_findFree_88 : decode cX4_findFree 88 = .ok (.iadd, 1) := dk_96 (dk_at dksX4_findFree_3 19 rfl rfl)
theorem dX4_findFree_89 : decode cX4_findFree 89 = .ok (.aaload, 1) := dk_50 (dk_at dksX4_findFree_3 20 rfl rfl)
theorem dX4_findFree_90 : decode cX4_findFree 90 = .ok (.aload_n 0, 1) := dk_42 (dk_at dksX4_findFree_3 21 rfl rfl)
theorem dX4_findFree_91 : decode cX4_findFree 91 = .ok (.getfield 18, 3) := dk_180 0 18 (dk_at dksX4_findFree_4 0 rfl rfl)
theorem dX4_findFree_94 : decode cX4_findFree 94 = .ok (.invokestatic 113, 3) := dk_184 0 113 (dk_at dksX4_findFree_4 3 rfl rfl)
theorem dX4_findFree_97 : decode cX4_findFree 97 = .ok (.aload_n 0, 1) := dk_42 (dk_at dksX4_findFree_4 6 rfl rfl)
theorem dX4_findFree_98 : decode cX4_findFree 98 = .ok (.getfield 18, 3) := dk_180 0 18 (dk_at dksX4_findFree_4 7 rfl rfl)
theorem dX4_findFree_101 : decode cX4_findFree 101 = .ok (.invokestatic 155, 3) := dk_184 0 155 (dk_at dksX4_findFree_4 10 rfl rfl)
theorem dX4_findFree_104 : decode cX4_findFree 104 = .ok (.istore 4, 2) := dk_54 4 (dk_at dksX4_findFree_4 13 rfl rfl)
theorem dX4_findFree_106 : decode cX4_findFree 106 = .ok (.aload_n 0, 1) := dk_42 (dk_at dksX4_findFree_4 15 rfl rfl)
theorem dX4_findFree_107 : decode cX4_findFree 107 = .ok (.aload_n 0, 1) := dk_42 (dk_at dksX4_findFree_4 16 rfl rfl)
theorem dX4_findFree_108 : decode cX4_findFree 108 = .ok (.getfield 18, 3) := dk_180 0 18 (dk_at dksX4_findFree_4 17 rfl rfl)
theorem dX4_findFree_111 : decode cX4_findFree 111 = .ok (.aload_n 0, 1) := dk_42 (dk_at dksX4_findFree_4 20 rfl rfl)
theorem dX4_findFree_112 : decode cX4_findFree 112 = .ok (.getfield 42, 3) := dk_180 0 42 (dk_at dksX4_findFree_4 21 rfl rfl)
theorem dX4_findFree_115 : decode cX4_findFree 115 = .ok (.iload_n 2, 1) := dk_28 (dk_at dksX4_findFree_5 0 rfl rfl)
theorem dX4_findFree_116 : decode cX4_findFree 116 = .ok (.aaload, 1) := dk_50 (dk_at dksX4_findFree_5 1 rfl rfl)
theorem dX4_findFree_117 : decode cX4_findFree 117 = .ok (.aload_n 0, 1) := dk_42 (dk_at dksX4_findFree_5 2 rfl rfl)
theorem dX4_findFree_118 : decode cX4_findFree 118 = .ok (.getfield 45, 3) := dk_180 0 45 (dk_at dksX4_findFree_5 3 rfl rfl)
theorem dX4_findFree_121 : decode cX4_findFree 121 = .ok (.iload_n 3, 1) := dk_29 (dk_at dksX4_findFree_5 6 rfl rfl)
theorem dX4_findFree_122 : decode cX4_findFree 122 = .ok (.aaload, 1) := dk_50 (dk_at dksX4_findFree_5 7 rfl rfl)
theorem dX4_findFree_123 : decode cX4_findFree 123 = .ok (.invokevirtual 162, 3) := dk_182 0 162 (dk_at dksX4_findFree_5 8 rfl rfl)
theorem dX4_findFree_126 : decode cX4_findFree 126 = .ok (.iload 4, 2) := dk_21 4 (dk_at dksX4_findFree_5 11 rfl rfl)
theorem dX4_findFree_128 : decode cX4_findFree 128 = .ok (.ifCond .eq 12, 3) := dk_153 0 12 (dk_at dksX4_findFree_5 13 rfl rfl)
theorem dX4_findFree_131 : decode cX4_findFree 131 = .ok (.aload_n 0, 1) := dk_42 (dk_at dksX4_findFree_5 16 rfl rfl)
theorem dX4_findFree_132 : decode cX4_findFree 132 = .ok (.getfield 45, 3) := dk_180 0 45 (dk_at dksX4_findFree_5 17 rfl rfl)
theorem dX4_findFree_135 : decode cX4_findFree 135 = .ok (.iload_n 3, 1) := dk_29 (dk_at dksX4_findFree_5 20 rfl rfl)
theorem dX4_findFree_136 : decode cX4_findFree 136 = .ok (.aaload, 1) := dk_50 (dk_at dksX4_findFree_5 21 rfl rfl)
theorem dX4_findFree_137 : decode cX4_findFree 137 = .ok (.invokestatic 93, 3) := dk_184 0 93 (dk_at dksX4_findFree_6 0 rfl rfl)
theorem dX4_findFree_140 : decode cX4_findFree 140 = .ok (.iconst 0, 1) := dk_3 (dk_at dksX4_findFree_6 3 rfl rfl)
theorem dX4_findFree_141 : decode cX4_findFree 141 = .ok (.istore 5, 2) := dk_54 5 (dk_at dksX4_findFree_6 4 rfl rfl)
theorem dX4_findFree_143 : decode cX4_findFree 143 = .ok (.iload 5, 2) := dk_21 5 (dk_at dksX4_findFree_6 6 rfl rfl)
theorem dX4_findFree_145 : decode cX4_findFree 145 = .ok (.iload_n 2, 1) := dk_28 (dk_at dksX4_findFree_6 8 rfl rfl)
theorem dX4_findFree_146 : decode cX4_findFree 146 = .ok (.if_icmp .gt 47, 3) := dk_163 0 47 (dk_at dksX4_findFree_6 9 rfl rfl)
theorem dX4_findFree_149 : decode cX4_findFree 149 = .ok (.aload_n 0, 1) := dk_42 (dk_at dksX4_findFree_6 12 rfl rfl)
theorem dX4_findFree_150 : decode cX4_findFree 150 = .ok (.getfield 42, 3) := dk_180 0 42 (dk_at dksX4_findFree_6 13 rfl rfl)
theorem dX4_findFree_153 : decode cX4_findFree 153 = .ok (.iload 5, 2) := dk_21 5 (dk_at dksX4_findFree_6 16 rfl rfl)
theorem dX4_findFree_155 : decode cX4_findFree 155 = .ok (.aaload, 1) := dk_50 (dk_at dksX4_findFree_6 18 rfl rfl)
theorem dX4_findFree_156 : decode cX4_findFree 156 = .ok (.aload_n 0, 1) := dk_42 (dk_at dksX4_findFree_6 19 rfl rfl)
theorem dX4_findFree_157 : decode cX4_findFree 157 = .ok (.getfield 45, 3) := dk_180 0 45 (dk_at dksX4_findFree_6 20 rfl rfl)
theorem dX4_findFree_160 : decode cX4_findFree 160 = .ok (.iload_n 3, 1) := dk_29 (dk_at dksX4_findFree_6 23 rfl rfl)
theorem dX4_findFree_161 : decode cX4_findFree 161 = .ok (.aaload, 1) := dk_50 (dk_at dksX4_findFree_7 0 rfl rfl)
theorem dX4_findFree_162 : decode cX4_findFree 162 = .ok (.aload_n 0, 1) := dk_42 (dk_at dksX4_findFree_7 1 rfl rfl)
theorem dX4_findFree_163 : decode cX4_findFree 163 = .ok (.getfield 27, 3) := dk_180 0 27 (dk_at dksX4_findFree_7 2 rfl rfl)
theorem dX4_findFree_166 : decode cX4_findFree 166 = .ok (.invokestatic 173, 3) := dk_184 0 173 (dk_at dksX4_findFree_7 5 rfl rfl)
theorem dX4_findFree_169 : decode cX4_findFree 169 = .ok (.aload_n 0, 1) := dk_42 (dk_at dksX4_findFree_7 8 rfl rfl)
theorem dX4_findFree_170 : decode cX4_findFree 170 = .ok (.getfield 39, 3) := dk_180 0 39 (dk_at dksX4_findFree_7 9 rfl rfl)
theorem dX4_findFree_173 : decode cX4_findFree 173 = .ok (.iload_n 3, 1) := dk_29 (dk_at dksX4_findFree_7 12 rfl rfl)
theorem dX4_findFree_174 : decode cX4_findFree 174 = .ok (.iload 5, 2) := dk_21 5 (dk_at dksX4_findFree_7 13 rfl rfl)
theorem dX4_findFree_176 : decode cX4_findFree 176 = .ok (.iadd, 1) := dk_96 (dk_at dksX4_findFree_7 15 rfl rfl)
theorem dX4_findFree_177 : decode cX4_findFree 177 = .ok (.aaload, 1) := dk_50 (dk_at dksX4_findFree_7 16 rfl rfl)
theorem dX4_findFree_178 : decode cX4_findFree 178 = .ok (.aload_n 0, 1) := dk_42 (dk_at dksX4_findFree_7 17 rfl rfl)
theorem dX4_findFree_179 : decode cX4_findFree 179 = .ok (.getfield 27, 3) := dk_180 0 27 (dk_at dksX4_findFree_7 18 rfl rfl)
theorem dX4_findFree_182 : decode cX4_findFree 182 = .ok (.bipush 48, 2) := dk_16 48 (dk_at dksX4_findFree_7 21 rfl rfl)
theorem dX4_findFree_184 : decode cX4_findFree 184 = .ok (.invokestatic 134, 3) := dk_184 0 134 (dk_at dksX4_findFree_8 0 rfl rfl)
theorem dX4_findFree_187 : decode cX4_findFree 187 = .ok (.iinc 5 1, 3) := dk_132 5 1 (dk_at dksX4_findFree_8 3 rfl rfl)
theorem dX4_findFree_190 : decode cX4_findFree 190 = .ok (.goto (-47), 3) := dk_167 255 209 (dk_at dksX4_findFree_8 6 rfl rfl)
theorem dX4_findFree_193 : decode cX4_findFree 193 = .ok (.iinc 3 (-1), 3) := dk_132 3 255 (dk_at dksX4_findFree_8 9 rfl rfl)
theorem dX4_findFree_196 : decode cX4_findFree 196 = .ok (.goto (-118), 3) := dk_167 255 138 (dk_at dksX4_findFree_8 12 rfl rfl)
theorem dX4_findFree_199 : decode cX4_findFree 199 = .ok (.aload_n 0, 1) := dk_42 (dk_at dksX4_findFree_8 15 rfl rfl)
theorem dX4_findFree_200 : decode cX4_findFree 200 = .ok (.aload_n 0, 1) := dk_42 (dk_at dksX4_findFree_8 16 rfl rfl)
theorem dX4_findFree_201 : decode cX4_findFree 201 = .ok (.getfield 45, 3) := dk_180 0 45 (dk_at dksX4_findFree_8 17 rfl rfl)
theorem dX4_findFree_204 : decode cX4_findFree 204 = .ok (.invokevirtual 176, 3) := dk_182 0 176 (dk_at dksX4_findFree_8 20 rfl rfl)
theorem dX4_findFree_207 : decode cX4_findFree 207 = .ok (.aload_n 0, 1) := dk_42 (dk_at dksX4_findFree_8 23 rfl rfl)
theorem dX4_findFree_208 : decode cX4_findFree 208 = .ok (.aload_n 0, 1) := dk_42 (dk_at dksX4_findFree_9 0 rfl rfl)
theorem dX4_findFree_209 : decode cX4_findFree 209 = .ok (.getfield 45, 3) := dk_180 0 45 (dk_at dksX4_findFree_9 1 rfl rfl)
theorem dX4_findFree_212 : decode cX4_findFree 212 = .ok (.invokevirtual 183, 3) := dk_182 0 183 (dk_at dksX4_findFree_9 4 rfl rfl)
theorem dX4_findFree_215 : decode cX4_findFree 215 = .ok (.return_, 1) := dk_177 (dk_at dksX4_findFree_9 7 rfl rfl)
abbrev cX4_derive : ByteArray := prog_6_method_27_code
def yX4_derive : MethodName := ⟨RX4, "derive", "([[I[[I)V"⟩
def dkwX4_derive_2 : List UInt8 := [133, 184, 0, 152, 132, 2, 1, 167, 255, 203, 177]
abbrev dktX4_derive_2 : List UInt8 := dkwX4_derive_2 ++ []
def dkwX4_derive_1 : List UInt8 := [184, 0, 113, 28, 4, 96, 16, 7, 160, 0, 10, 43, 28, 50, 9, 184, 0, 145, 43, 28, 50, 28, 4, 96]
abbrev dktX4_derive_1 : List UInt8 := dkwX4_derive_1 ++ dktX4_derive_2
def dkwX4_derive_0 : List UInt8 := [3, 61, 28, 16, 7, 162, 0, 53, 28, 4, 96, 16, 7, 162, 0, 14, 42, 28, 4, 96, 50, 43, 28, 50]
abbrev dktX4_derive_0 : List UInt8 := dkwX4_derive_0 ++ dktX4_derive_1
theorem dksX4_derive_0 : cX4_derive.data.toList.drop 0 = dktX4_derive_0 := by decide +kernel
theorem dksX4_derive_1 : cX4_derive.data.toList.drop 24 = dktX4_derive_1 := dk_seg dksX4_derive_0 24 rfl rfl
theorem dksX4_derive_2 : cX4_derive.data.toList.drop 48 = dktX4_derive_2 := dk_seg dksX4_derive_1 24 rfl rfl
theorem dX4_derive_0 : decode cX4_derive 0 = .ok (.iconst 0, 1) := dk_3 (dk_at dksX4_derive_0 0 rfl rfl)
theorem dX4_derive_1 : decode cX4_derive 1 = .ok (.istore_n 2, 1) := dk_61 (dk_at dksX4_derive_0 1 rfl rfl)
theorem dX4_derive_2 : decode cX4_derive 2 = .ok (.iload_n 2, 1) := dk_28 (dk_at dksX4_derive_0 2 rfl rfl)
theorem dX4_derive_3 : decode cX4_derive 3 = .ok (.bipush 7, 2) := dk_16 7 (dk_at dksX4_derive_0 3 rfl rfl)
theorem dX4_derive_5 : decode cX4_derive 5 = .ok (.if_icmp .ge 53, 3) := dk_162 0 53 (dk_at dksX4_derive_0 5 rfl rfl)
theorem dX4_derive_8 : decode cX4_derive 8 = .ok (.iload_n 2, 1) := dk_28 (dk_at dksX4_derive_0 8 rfl rfl)
theorem dX4_derive_9 : decode cX4_derive 9 = .ok (.iconst 1, 1) := dk_4 (dk_at dksX4_derive_0 9 rfl rfl)
theorem dX4_derive_10 : decode cX4_derive 10 = .ok (.iadd, 1) := dk_96 (dk_at dksX4_derive_0 10 rfl rfl)
theorem dX4_derive_11 : decode cX4_derive 11 = .ok (.bipush 7, 2) := dk_16 7 (dk_at dksX4_derive_0 11 rfl rfl)
theorem dX4_derive_13 : decode cX4_derive 13 = .ok (.if_icmp .ge 14, 3) := dk_162 0 14 (dk_at dksX4_derive_0 13 rfl rfl)
theorem dX4_derive_16 : decode cX4_derive 16 = .ok (.aload_n 0, 1) := dk_42 (dk_at dksX4_derive_0 16 rfl rfl)
theorem dX4_derive_17 : decode cX4_derive 17 = .ok (.iload_n 2, 1) := dk_28 (dk_at dksX4_derive_0 17 rfl rfl)
theorem dX4_derive_18 : decode cX4_derive 18 = .ok (.iconst 1, 1) := dk_4 (dk_at dksX4_derive_0 18 rfl rfl)
theorem dX4_derive_19 : decode cX4_derive 19 = .ok (.iadd, 1) := dk_96 (dk_at dksX4_derive_0 19 rfl rfl)
theorem dX4_derive_20 : decode cX4_derive 20 = .ok (.aaload, 1) := dk_50 (dk_at dksX4_derive_0 20 rfl rfl)
theorem dX4_derive_21 : decode cX4_derive 21 = .ok (.aload_n 1, 1) := dk_43 (dk_at dksX4_derive_0 21 rfl rfl)
theorem dX4_derive_22 : decode cX4_derive 22 = .ok (.iload_n 2, 1) := dk_28 (dk_at dksX4_derive_0 22 rfl rfl)
theorem dX4_derive_23 : decode cX4_derive 23 = .ok (.aaload, 1) := dk_50 (dk_at dksX4_derive_0 23 rfl rfl)
theorem dX4_derive_24 : decode cX4_derive 24 = .ok (.invokestatic 113, 3) := dk_184 0 113 (dk_at dksX4_derive_1 0 rfl rfl)
theorem dX4_derive_27 : decode cX4_derive 27 = .ok (.iload_n 2, 1) := dk_28 (dk_at dksX4_derive_1 3 rfl rfl)
theorem dX4_derive_28 : decode cX4_derive 28 = .ok (.iconst 1, 1) := dk_4 (dk_at dksX4_derive_1 4 rfl rfl)
theorem dX4_derive_29 : decode cX4_derive 29 = .ok (.iadd, 1) := dk_96 (dk_at dksX4_derive_1 5 rfl rfl)
theorem dX4_derive_30 : decode cX4_derive 30 = .ok (.bipush 7, 2) := dk_16 7 (dk_at dksX4_derive_1 6 rfl rfl)
theorem dX4_derive_32 : decode cX4_derive 32 = .ok (.if_icmp .ne 10, 3) := dk_160 0 10 (dk_at dksX4_derive_1 8 rfl rfl)
theorem dX4_derive_35 : decode cX4_derive 35 = .ok (.aload_n 1, 1) := dk_43 (dk_at dksX4_derive_1 11 rfl rfl)
theorem dX4_derive_36 : decode cX4_derive 36 = .ok (.iload_n 2, 1) := dk_28 (dk_at dksX4_derive_1 12 rfl rfl)
theorem dX4_derive_37 : decode cX4_derive 37 = .ok (.aaload, 1) := dk_50 (dk_at dksX4_derive_1 13 rfl rfl)
theorem dX4_derive_38 : decode cX4_derive 38 = .ok (.lconst 0, 1) := dk_9 (dk_at dksX4_derive_1 14 rfl rfl)
theorem dX4_derive_39 : decode cX4_derive 39 = .ok (.invokestatic 145, 3) := dk_184 0 145 (dk_at dksX4_derive_1 15 rfl rfl)
theorem dX4_derive_42 : decode cX4_derive 42 = .ok (.aload_n 1, 1) := dk_43 (dk_at dksX4_derive_1 18 rfl rfl)
theorem dX4_derive_43 : decode cX4_derive 43 = .ok (.iload_n 2, 1) := dk_28 (dk_at dksX4_derive_1 19 rfl rfl)
theorem dX4_derive_44 : decode cX4_derive 44 = .ok (.aaload, 1) := dk_50 (dk_at dksX4_derive_1 20 rfl rfl)
theorem dX4_derive_45 : decode cX4_derive 45 = .ok (.iload_n 2, 1) := dk_28 (dk_at dksX4_derive_1 21 rfl rfl)
theorem dX4_derive_46 : decode cX4_derive 46 = .ok (.iconst 1, 1) := dk_4 (dk_at dksX4_derive_1 22 rfl rfl)
theorem dX4_derive_47 : decode cX4_derive 47 = .ok (.iadd, 1) := dk_96 (dk_at dksX4_derive_1 23 rfl rfl)
theorem dX4_derive_48 : decode cX4_derive 48 = .ok (.i2l, 1) := dk_133 (dk_at dksX4_derive_2 0 rfl rfl)
theorem dX4_derive_49 : decode cX4_derive 49 = .ok (.invokestatic 152, 3) := dk_184 0 152 (dk_at dksX4_derive_2 1 rfl rfl)
theorem dX4_derive_52 : decode cX4_derive 52 = .ok (.iinc 2 1, 3) := dk_132 2 1 (dk_at dksX4_derive_2 4 rfl rfl)
theorem dX4_derive_55 : decode cX4_derive 55 = .ok (.goto (-53), 3) := dk_167 255 203 (dk_at dksX4_derive_2 7 rfl rfl)
theorem dX4_derive_58 : decode cX4_derive 58 = .ok (.return_, 1) := dk_177 (dk_at dksX4_derive_2 10 rfl rfl)
abbrev cX4_times : ByteArray := prog_6_method_18_code
def yX4_times : MethodName := ⟨RX4, "times", "([IJ)V"⟩
def dkwX4_times_3 : List UInt8 := [184, 0, 93, 177]
abbrev dktX4_times_3 : List UInt8 := dkwX4_times_3 ++ []
def dkwX4_times_2 : List UInt8 := [136, 79, 22, 5, 16, 32, 125, 55, 5, 132, 7, 1, 167, 255, 216, 31, 9, 148, 156, 0, 7, 42]
abbrev dktX4_times_2 : List UInt8 := dkwX4_times_2 ++ dktX4_times_3
def dkwX4_times_1 : List UInt8 := [162, 0, 39, 22, 5, 42, 21, 7, 46, 133, 20, 0, 91, 127, 33, 105, 97, 55, 5, 42, 21, 7, 22, 5]
abbrev dktX4_times_1 : List UInt8 := dkwX4_times_1 ++ dktX4_times_2
def dkwX4_times_0 : List UInt8 := [31, 9, 148, 156, 0, 8, 31, 117, 167, 0, 4, 31, 66, 9, 55, 5, 3, 54, 7, 21, 7, 16, 48]
abbrev dktX4_times_0 : List UInt8 := dkwX4_times_0 ++ dktX4_times_1
theorem dksX4_times_0 : cX4_times.data.toList.drop 0 = dktX4_times_0 := by decide +kernel
theorem dksX4_times_1 : cX4_times.data.toList.drop 23 = dktX4_times_1 := dk_seg dksX4_times_0 23 rfl rfl
theorem dksX4_times_2 : cX4_times.data.toList.drop 47 = dktX4_times_2 := dk_seg dksX4_times_1 24 rfl rfl
theorem dksX4_times_3 : cX4_times.data.toList.drop 69 = dktX4_times_3 := dk_seg dksX4_times_2 22 rfl rfl
theorem dX4_times_0 : decode cX4_times 0 = .ok (.lload_n 1, 1) := dk_31 (dk_at dksX4_times_0 0 rfl rfl)
theorem dX4_times_1 : decode cX4_times 1 = .ok (.lconst 0, 1) := dk_9 (dk_at dksX4_times_0 1 rfl rfl)
theorem dX4_times_2 : decode cX4_times 2 = .ok (.lcmp, 1) := dk_148 (dk_at dksX4_times_0 2 rfl rfl)
theorem dX4_times_3 : decode cX4_times 3 = .ok (.ifCond .ge 8, 3) := dk_156 0 8 (dk_at dksX4_times_0 3 rfl rfl)
theorem dX4_times_6 : decode cX4_times 6 = .ok (.lload_n 1, 1) := dk_31 (dk_at dksX4_times_0 6 rfl rfl)
theorem dX4_times_7 : decode cX4_times 7 = .ok (.lneg, 1) := dk_117 (dk_at dksX4_times_0 7 rfl rfl)
theorem dX4_times_8 : decode cX4_times 8 = .ok (.goto 4, 3) := dk_167 0 4 (dk_at dksX4_times_0 8 rfl rfl)
theorem dX4_times_11 : decode cX4_times 11 = .ok (.lload_n 1, 1) := dk_31 (dk_at dksX4_times_0 11 rfl rfl)
theorem dX4_times_12 : decode cX4_times 12 = .ok (.lstore_n 3, 1) := dk_66 (dk_at dksX4_times_0 12 rfl rfl)
theorem dX4_times_13 : decode cX4_times 13 = .ok (.lconst 0, 1) := dk_9 (dk_at dksX4_times_0 13 rfl rfl)
theorem dX4_times_14 : decode cX4_times 14 = .ok (.lstore 5, 2) := dk_55 5 (dk_at dksX4_times_0 14 rfl rfl)
theorem dX4_times_16 : decode cX4_times 16 = .ok (.iconst 0, 1) := dk_3 (dk_at dksX4_times_0 16 rfl rfl)
theorem dX4_times_17 : decode cX4_times 17 = .ok (.istore 7, 2) := dk_54 7 (dk_at dksX4_times_0 17 rfl rfl)
theorem dX4_times_19 : decode cX4_times 19 = .ok (.iload 7, 2) := dk_21 7 (dk_at dksX4_times_0 19 rfl rfl)
theorem dX4_times_21 : decode cX4_times 21 = .ok (.bipush 48, 2) := dk_16 48 (dk_at dksX4_times_0 21 rfl rfl)
theorem dX4_times_23 : decode cX4_times 23 = .ok (.if_icmp .ge 39, 3) := dk_162 0 39 (dk_at dksX4_times_1 0 rfl rfl)
theorem dX4_times_26 : decode cX4_times 26 = .ok (.lload 5, 2) := dk_22 5 (dk_at dksX4_times_1 3 rfl rfl)
theorem dX4_times_28 : decode cX4_times 28 = .ok (.aload_n 0, 1) := dk_42 (dk_at dksX4_times_1 5 rfl rfl)
theorem dX4_times_29 : decode cX4_times 29 = .ok (.iload 7, 2) := dk_21 7 (dk_at dksX4_times_1 6 rfl rfl)
theorem dX4_times_31 : decode cX4_times 31 = .ok (.iaload, 1) := dk_46 (dk_at dksX4_times_1 8 rfl rfl)
theorem dX4_times_32 : decode cX4_times 32 = .ok (.i2l, 1) := dk_133 (dk_at dksX4_times_1 9 rfl rfl)
theorem dX4_times_33 : decode cX4_times 33 = .ok (.ldc2_w 91, 3) := dk_20 0 91 (dk_at dksX4_times_1 10 rfl rfl)
theorem dX4_times_36 : decode cX4_times 36 = .ok (.land, 1) := dk_127 (dk_at dksX4_times_1 13 rfl rfl)
theorem dX4_times_37 : decode cX4_times 37 = .ok (.lload_n 3, 1) := dk_33 (dk_at dksX4_times_1 14 rfl rfl)
theorem dX4_times_38 : decode cX4_times 38 = .ok (.lmul, 1) := dk_105 (dk_at dksX4_times_1 15 rfl rfl)
theorem dX4_times_39 : decode cX4_times 39 = .ok (.ladd, 1) := dk_97 (dk_at dksX4_times_1 16 rfl rfl)
theorem dX4_times_40 : decode cX4_times 40 = .ok (.lstore 5, 2) := dk_55 5 (dk_at dksX4_times_1 17 rfl rfl)
theorem dX4_times_42 : decode cX4_times 42 = .ok (.aload_n 0, 1) := dk_42 (dk_at dksX4_times_1 19 rfl rfl)
theorem dX4_times_43 : decode cX4_times 43 = .ok (.iload 7, 2) := dk_21 7 (dk_at dksX4_times_1 20 rfl rfl)
theorem dX4_times_45 : decode cX4_times 45 = .ok (.lload 5, 2) := dk_22 5 (dk_at dksX4_times_1 22 rfl rfl)
theorem dX4_times_47 : decode cX4_times 47 = .ok (.l2i, 1) := dk_136 (dk_at dksX4_times_2 0 rfl rfl)
theorem dX4_times_48 : decode cX4_times 48 = .ok (.iastore, 1) := dk_79 (dk_at dksX4_times_2 1 rfl rfl)
theorem dX4_times_49 : decode cX4_times 49 = .ok (.lload 5, 2) := dk_22 5 (dk_at dksX4_times_2 2 rfl rfl)
theorem dX4_times_51 : decode cX4_times 51 = .ok (.bipush 32, 2) := dk_16 32 (dk_at dksX4_times_2 4 rfl rfl)
theorem dX4_times_53 : decode cX4_times 53 = .ok (.lushr, 1) := dk_125 (dk_at dksX4_times_2 6 rfl rfl)
theorem dX4_times_54 : decode cX4_times 54 = .ok (.lstore 5, 2) := dk_55 5 (dk_at dksX4_times_2 7 rfl rfl)
theorem dX4_times_56 : decode cX4_times 56 = .ok (.iinc 7 1, 3) := dk_132 7 1 (dk_at dksX4_times_2 9 rfl rfl)
theorem dX4_times_59 : decode cX4_times 59 = .ok (.goto (-40), 3) := dk_167 255 216 (dk_at dksX4_times_2 12 rfl rfl)
theorem dX4_times_62 : decode cX4_times 62 = .ok (.lload_n 1, 1) := dk_31 (dk_at dksX4_times_2 15 rfl rfl)
theorem dX4_times_63 : decode cX4_times 63 = .ok (.lconst 0, 1) := dk_9 (dk_at dksX4_times_2 16 rfl rfl)
theorem dX4_times_64 : decode cX4_times 64 = .ok (.lcmp, 1) := dk_148 (dk_at dksX4_times_2 17 rfl rfl)
theorem dX4_times_65 : decode cX4_times 65 = .ok (.ifCond .ge 7, 3) := dk_156 0 7 (dk_at dksX4_times_2 18 rfl rfl)
theorem dX4_times_68 : decode cX4_times 68 = .ok (.aload_n 0, 1) := dk_42 (dk_at dksX4_times_2 21 rfl rfl)
theorem dX4_times_69 : decode cX4_times 69 = .ok (.invokestatic 93, 3) := dk_184 0 93 (dk_at dksX4_times_3 0 rfl rfl)
theorem dX4_times_72 : decode cX4_times 72 = .ok (.return_, 1) := dk_177 (dk_at dksX4_times_3 3 rfl rfl)
abbrev cX4_sturmLength : ByteArray := prog_6_method_58_code
def yX4_sturmLength : MethodName := ⟨RX4, "sturmLength", "(I)I"⟩
def dkwX4_sturmLength_1 : List UInt8 := [182, 0, 212, 172, 42, 27, 182, 0, 253, 42, 42, 180, 0, 250, 182, 0, 217, 172]
abbrev dktX4_sturmLength_1 : List UInt8 := dkwX4_sturmLength_1 ++ []
def dkwX4_sturmLength_0 : List UInt8 := [27, 184, 0, 228, 154, 0, 9, 42, 4, 182, 0, 212, 172, 42, 27, 182, 0, 244, 153, 0, 9, 42, 5]
abbrev dktX4_sturmLength_0 : List UInt8 := dkwX4_sturmLength_0 ++ dktX4_sturmLength_1
theorem dksX4_sturmLength_0 : cX4_sturmLength.data.toList.drop 0 = dktX4_sturmLength_0 := by decide +kernel
theorem dksX4_sturmLength_1 : cX4_sturmLength.data.toList.drop 23 = dktX4_sturmLength_1 := dk_seg dksX4_sturmLength_0 23 rfl rfl
theorem dX4_sturmLength_0 : decode cX4_sturmLength 0 = .ok (.iload_n 1, 1) := dk_27 (dk_at dksX4_sturmLength_0 0 rfl rfl)
theorem dX4_sturmLength_1 : decode cX4_sturmLength 1 = .ok (.invokestatic 228, 3) := dk_184 0 228 (dk_at dksX4_sturmLength_0 1 rfl rfl)
theorem dX4_sturmLength_4 : decode cX4_sturmLength 4 = .ok (.ifCond .ne 9, 3) := dk_154 0 9 (dk_at dksX4_sturmLength_0 4 rfl rfl)
theorem dX4_sturmLength_7 : decode cX4_sturmLength 7 = .ok (.aload_n 0, 1) := dk_42 (dk_at dksX4_sturmLength_0 7 rfl rfl)
theorem dX4_sturmLength_8 : decode cX4_sturmLength 8 = .ok (.iconst 1, 1) := dk_4 (dk_at dksX4_sturmLength_0 8 rfl rfl)
theorem dX4_sturmLength_9 : decode cX4_sturmLength 9 = .ok (.invokevirtual 212, 3) := dk_182 0 212 (dk_at dksX4_sturmLength_0 9 rfl rfl)
theorem dX4_sturmLength_12 : decode cX4_sturmLength 12 = .ok (.ireturn, 1) := dk_172 (dk_at dksX4_sturmLength_0 12 rfl rfl)
theorem dX4_sturmLength_13 : decode cX4_sturmLength 13 = .ok (.aload_n 0, 1) := dk_42 (dk_at dksX4_sturmLength_0 13 rfl rfl)
theorem dX4_sturmLength_14 : decode cX4_sturmLength 14 = .ok (.iload_n 1, 1) := dk_27 (dk_at dksX4_sturmLength_0 14 rfl rfl)
theorem dX4_sturmLength_15 : decode cX4_sturmLength 15 = .ok (.invokevirtual 244, 3) := dk_182 0 244 (dk_at dksX4_sturmLength_0 15 rfl rfl)
theorem dX4_sturmLength_18 : decode cX4_sturmLength 18 = .ok (.ifCond .eq 9, 3) := dk_153 0 9 (dk_at dksX4_sturmLength_0 18 rfl rfl)
theorem dX4_sturmLength_21 : decode cX4_sturmLength 21 = .ok (.aload_n 0, 1) := dk_42 (dk_at dksX4_sturmLength_0 21 rfl rfl)
theorem dX4_sturmLength_22 : decode cX4_sturmLength 22 = .ok (.iconst 2, 1) := dk_5 (dk_at dksX4_sturmLength_0 22 rfl rfl)
theorem dX4_sturmLength_23 : decode cX4_sturmLength 23 = .ok (.invokevirtual 212, 3) := dk_182 0 212 (dk_at dksX4_sturmLength_1 0 rfl rfl)
theorem dX4_sturmLength_26 : decode cX4_sturmLength 26 = .ok (.ireturn, 1) := dk_172 (dk_at dksX4_sturmLength_1 3 rfl rfl)
theorem dX4_sturmLength_27 : decode cX4_sturmLength 27 = .ok (.aload_n 0, 1) := dk_42 (dk_at dksX4_sturmLength_1 4 rfl rfl)
theorem dX4_sturmLength_28 : decode cX4_sturmLength 28 = .ok (.iload_n 1, 1) := dk_27 (dk_at dksX4_sturmLength_1 5 rfl rfl)
theorem dX4_sturmLength_29 : decode cX4_sturmLength 29 = .ok (.invokevirtual 253, 3) := dk_182 0 253 (dk_at dksX4_sturmLength_1 6 rfl rfl)
theorem dX4_sturmLength_32 : decode cX4_sturmLength 32 = .ok (.aload_n 0, 1) := dk_42 (dk_at dksX4_sturmLength_1 9 rfl rfl)
theorem dX4_sturmLength_33 : decode cX4_sturmLength 33 = .ok (.aload_n 0, 1) := dk_42 (dk_at dksX4_sturmLength_1 10 rfl rfl)
theorem dX4_sturmLength_34 : decode cX4_sturmLength 34 = .ok (.getfield 250, 3) := dk_180 0 250 (dk_at dksX4_sturmLength_1 11 rfl rfl)
theorem dX4_sturmLength_37 : decode cX4_sturmLength 37 = .ok (.invokevirtual 217, 3) := dk_182 0 217 (dk_at dksX4_sturmLength_1 14 rfl rfl)
theorem dX4_sturmLength_40 : decode cX4_sturmLength 40 = .ok (.ireturn, 1) := dk_172 (dk_at dksX4_sturmLength_1 17 rfl rfl)
abbrev cX4_findRow : ByteArray := prog_6_method_57_code
def yX4_findRow : MethodName := ⟨RX4, "findRow", "(I)V"⟩
def dkwX4_findRow_7 : List UInt8 := [181, 0, 250, 167, 255, 167, 177]
abbrev dktX4_findRow_7 : List UInt8 := dkwX4_findRow_7 ++ []
def dkwX4_findRow_6 : List UInt8 := [180, 0, 39, 42, 180, 0, 66, 42, 180, 0, 250, 50, 184, 0, 186, 42, 89, 180, 0, 250, 4, 96]
abbrev dktX4_findRow_6 : List UInt8 := dkwX4_findRow_6 ++ dktX4_findRow_7
def dkwX4_findRow_5 : List UInt8 := [182, 0, 179, 42, 180, 0, 39, 184, 0, 166, 156, 0, 4, 177, 42, 180, 0, 39, 184, 0, 170, 42]
abbrev dktX4_findRow_5 : List UInt8 := dkwX4_findRow_5 ++ dktX4_findRow_6
def dkwX4_findRow_4 : List UInt8 := [180, 0, 39, 184, 0, 186, 42, 42, 180, 0, 39, 42, 180, 0, 66, 42, 180, 0, 250, 4, 100, 50]
abbrev dktX4_findRow_4 : List UInt8 := dkwX4_findRow_4 ++ dktX4_findRow_5
def dkwX4_findRow_3 : List UInt8 := [181, 0, 250, 42, 180, 0, 250, 4, 164, 0, 87, 42, 180, 0, 66, 42, 180, 0, 250, 5, 100, 50, 42]
abbrev dktX4_findRow_3 : List UInt8 := dkwX4_findRow_3 ++ dktX4_findRow_4
def dkwX4_findRow_2 : List UInt8 := [50, 182, 0, 176, 42, 42, 180, 0, 66, 4, 50, 184, 0, 166, 156, 0, 7, 4, 167, 0, 4, 5]
abbrev dktX4_findRow_2 : List UInt8 := dkwX4_findRow_2 ++ dktX4_findRow_3
def dkwX4_findRow_1 : List UInt8 := [180, 0, 66, 4, 50, 184, 0, 188, 42, 42, 180, 0, 66, 3, 50, 182, 0, 176, 42, 42, 180, 0, 66, 4]
abbrev dktX4_findRow_1 : List UInt8 := dkwX4_findRow_1 ++ dktX4_findRow_2
def dkwX4_findRow_0 : List UInt8 := [42, 180, 0, 11, 27, 50, 42, 180, 0, 66, 3, 50, 184, 0, 236, 42, 180, 0, 66, 3, 50, 42]
abbrev dktX4_findRow_0 : List UInt8 := dkwX4_findRow_0 ++ dktX4_findRow_1
theorem dksX4_findRow_0 : cX4_findRow.data.toList.drop 0 = dktX4_findRow_0 := by decide +kernel
theorem dksX4_findRow_1 : cX4_findRow.data.toList.drop 22 = dktX4_findRow_1 := dk_seg dksX4_findRow_0 22 rfl rfl
theorem dksX4_findRow_2 : cX4_findRow.data.toList.drop 46 = dktX4_findRow_2 := dk_seg dksX4_findRow_1 24 rfl rfl
theorem dksX4_findRow_3 : cX4_findRow.data.toList.drop 68 = dktX4_findRow_3 := dk_seg dksX4_findRow_2 22 rfl rfl
theorem dksX4_findRow_4 : cX4_findRow.data.toList.drop 91 = dktX4_findRow_4 := dk_seg dksX4_findRow_3 23 rfl rfl
theorem dksX4_findRow_5 : cX4_findRow.data.toList.drop 113 = dktX4_findRow_5 := dk_seg dksX4_findRow_4 22 rfl rfl
theorem dksX4_findRow_6 : cX4_findRow.data.toList.drop 135 = dktX4_findRow_6 := dk_seg dksX4_findRow_5 22 rfl rfl
theorem dksX4_findRow_7 : cX4_findRow.data.toList.drop 157 = dktX4_findRow_7 := dk_seg dksX4_findRow_6 22 rfl rfl
theorem dX4_findRow_0 : decode cX4_findRow 0 = .ok (.aload_n 0, 1) := dk_42 (dk_at dksX4_findRow_0 0 rfl rfl)
theorem dX4_findRow_1 : decode cX4_findRow 1 = .ok (.getfield 11, 3) := dk_180 0 11 (dk_at dksX4_findRow_0 1 rfl rfl)
theorem dX4_findRow_4 : decode cX4_findRow 4 = .ok (.iload_n 1, 1) := dk_27 (dk_at dksX4_findRow_0 4 rfl rfl)
theorem dX4_findRow_5 : decode cX4_findRow 5 = .ok (.aaload, 1) := dk_50 (dk_at dksX4_findRow_0 5 rfl rfl)
theorem dX4_findRow_6 : decode cX4_findRow 6 = .ok (.aload_n 0, 1) := dk_42 (dk_at dksX4_findRow_0 6 rfl rfl)
theorem dX4_findRow_7 : decode cX4_findRow 7 = .ok (.getfield 66, 3) := dk_180 0 66 (dk_at dksX4_findRow_0 7 rfl rfl)
theorem dX4_findRow_10 : decode cX4_findRow 10 = .ok (.iconst 0, 1) := dk_3 (dk_at dksX4_findRow_0 10 rfl rfl)
theorem dX4_findRow_11 : decode cX4_findRow 11 = .ok (.aaload, 1) := dk_50 (dk_at dksX4_findRow_0 11 rfl rfl)
theorem dX4_findRow_12 : decode cX4_findRow 12 = .ok (.invokestatic 236, 3) := dk_184 0 236 (dk_at dksX4_findRow_0 12 rfl rfl)
theorem dX4_findRow_15 : decode cX4_findRow 15 = .ok (.aload_n 0, 1) := dk_42 (dk_at dksX4_findRow_0 15 rfl rfl)
theorem dX4_findRow_16 : decode cX4_findRow 16 = .ok (.getfield 66, 3) := dk_180 0 66 (dk_at dksX4_findRow_0 16 rfl rfl)
theorem dX4_findRow_19 : decode cX4_findRow 19 = .ok (.iconst 0, 1) := dk_3 (dk_at dksX4_findRow_0 19 rfl rfl)
theorem dX4_findRow_20 : decode cX4_findRow 20 = .ok (.aaload, 1) := dk_50 (dk_at dksX4_findRow_0 20 rfl rfl)
theorem dX4_findRow_21 : decode cX4_findRow 21 = .ok (.aload_n 0, 1) := dk_42 (dk_at dksX4_findRow_0 21 rfl rfl)
theorem dX4_findRow_22 : decode cX4_findRow 22 = .ok (.getfield 66, 3) := dk_180 0 66 (dk_at dksX4_findRow_1 0 rfl rfl)
theorem dX4_findRow_25 : decode cX4_findRow 25 = .ok (.iconst 1, 1) := dk_4 (dk_at dksX4_findRow_1 3 rfl rfl)
theorem dX4_findRow_26 : decode cX4_findRow 26 = .ok (.aaload, 1) := dk_50 (dk_at dksX4_findRow_1 4 rfl rfl)
theorem dX4_findRow_27 : decode cX4_findRow 27 = .ok (.invokestatic 188, 3) := dk_184 0 188 (dk_at dksX4_findRow_1 5 rfl rfl)
theorem dX4_findRow_30 : decode cX4_findRow 30 = .ok (.aload_n 0, 1) := dk_42 (dk_at dksX4_findRow_1 8 rfl rfl)
theorem dX4_findRow_31 : decode cX4_findRow 31 = .ok (.aload_n 0, 1) := dk_42 (dk_at dksX4_findRow_1 9 rfl rfl)
theorem dX4_findRow_32 : decode cX4_findRow 32 = .ok (.getfield 66, 3) := dk_180 0 66 (dk_at dksX4_findRow_1 10 rfl rfl)
theorem dX4_findRow_35 : decode cX4_findRow 35 = .ok (.iconst 0, 1) := dk_3 (dk_at dksX4_findRow_1 13 rfl rfl)
theorem dX4_findRow_36 : decode cX4_findRow 36 = .ok (.aaload, 1) := dk_50 (dk_at dksX4_findRow_1 14 rfl rfl)
theorem dX4_findRow_37 : decode cX4_findRow 37 = .ok (.invokevirtual 176, 3) := dk_182 0 176 (dk_at dksX4_findRow_1 15 rfl rfl)
theorem dX4_findRow_40 : decode cX4_findRow 40 = .ok (.aload_n 0, 1) := dk_42 (dk_at dksX4_findRow_1 18 rfl rfl)
theorem dX4_findRow_41 : decode cX4_findRow 41 = .ok (.aload_n 0, 1) := dk_42 (dk_at dksX4_findRow_1 19 rfl rfl)
theorem dX4_findRow_42 : decode cX4_findRow 42 = .ok (.getfield 66, 3) := dk_180 0 66 (dk_at dksX4_findRow_1 20 rfl rfl)
theorem dX4_findRow_45 : decode cX4_findRow 45 = .ok (.iconst 1, 1) := dk_4 (dk_at dksX4_findRow_1 23 rfl rfl)
theorem dX4_findRow_46 : decode cX4_findRow 46 = .ok (.aaload, 1) := dk_50 (dk_at dksX4_findRow_2 0 rfl rfl)
theorem dX4_findRow_47 : decode cX4_findRow 47 = .ok (.invokevirtual 176, 3) := dk_182 0 176 (dk_at dksX4_findRow_2 1 rfl rfl)
theorem dX4_findRow_50 : decode cX4_findRow 50 = .ok (.aload_n 0, 1) := dk_42 (dk_at dksX4_findRow_2 4 rfl rfl)
theorem dX4_findRow_51 : decode cX4_findRow 51 = .ok (.aload_n 0, 1) := dk_42 (dk_at dksX4_findRow_2 5 rfl rfl)
theorem dX4_findRow_52 : decode cX4_findRow 52 = .ok (.getfield 66, 3) := dk_180 0 66 (dk_at dksX4_findRow_2 6 rfl rfl)
theorem dX4_findRow_55 : decode cX4_findRow 55 = .ok (.iconst 1, 1) := dk_4 (dk_at dksX4_findRow_2 9 rfl rfl)
theorem dX4_findRow_56 : decode cX4_findRow 56 = .ok (.aaload, 1) := dk_50 (dk_at dksX4_findRow_2 10 rfl rfl)
theorem dX4_findRow_57 : decode cX4_findRow 57 = .ok (.invokestatic 166, 3) := dk_184 0 166 (dk_at dksX4_findRow_2 11 rfl rfl)
theorem dX4_findRow_60 : decode cX4_findRow 60 = .ok (.ifCond .ge 7, 3) := dk_156 0 7 (dk_at dksX4_findRow_2 14 rfl rfl)
theorem dX4_findRow_63 : decode cX4_findRow 63 = .ok (.iconst 1, 1) := dk_4 (dk_at dksX4_findRow_2 17 rfl rfl)
theorem dX4_findRow_64 : decode cX4_findRow 64 = .ok (.goto 4, 3) := dk_167 0 4 (dk_at dksX4_findRow_2 18 rfl rfl)
theorem dX4_findRow_67 : decode cX4_findRow 67 = .ok (.iconst 2, 1) := dk_5 (dk_at dksX4_findRow_2 21 rfl rfl)
theorem dX4_findRow_68 : decode cX4_findRow 68 = .ok (.putfield 250, 3) := dk_181 0 250 (dk_at dksX4_findRow_3 0 rfl rfl)
theorem dX4_findRow_71 : decode cX4_findRow 71 = .ok (.aload_n 0, 1) := dk_42 (dk_at dksX4_findRow_3 3 rfl rfl)
theorem dX4_findRow_72 : decode cX4_findRow 72 = .ok (.getfield 250, 3) := dk_180 0 250 (dk_at dksX4_findRow_3 4 rfl rfl)
theorem dX4_findRow_75 : decode cX4_findRow 75 = .ok (.iconst 1, 1) := dk_4 (dk_at dksX4_findRow_3 7 rfl rfl)
theorem dX4_findRow_76 : decode cX4_findRow 76 = .ok (.if_icmp .le 87, 3) := dk_164 0 87 (dk_at dksX4_findRow_3 8 rfl rfl)
theorem dX4_findRow_79 : decode cX4_findRow 79 = .ok (.aload_n 0, 1) := dk_42 (dk_at dksX4_findRow_3 11 rfl rfl)
theorem dX4_findRow_80 : decode cX4_findRow 80 = .ok (.getfield 66, 3) := dk_180 0 66 (dk_at dksX4_findRow_3 12 rfl rfl)
theorem dX4_findRow_83 : decode cX4_findRow 83 = .ok (.aload_n 0, 1) := dk_42 (dk_at dksX4_findRow_3 15 rfl rfl)
theorem dX4_findRow_84 : decode cX4_findRow 84 = .ok (.getfield 250, 3) := dk_180 0 250 (dk_at dksX4_findRow_3 16 rfl rfl)
theorem dX4_findRow_87 : decode cX4_findRow 87 = .ok (.iconst 2, 1) := dk_5 (dk_at dksX4_findRow_3 19 rfl rfl)
theorem dX4_findRow_88 : decode cX4_findRow 88 = .ok (.isub, 1) := dk_100 (dk_at dksX4_findRow_3 20 rfl rfl)
theorem dX4_findRow_89 : decode cX4_findRow 89 = .ok (.aaload, 1) := dk_50 (dk_at dksX4_findRow_3 21 rfl rfl)
theorem dX4_findRow_90 : decode cX4_findRow 90 = .ok (.aload_n 0, 1) := dk_42 (dk_at dksX4_findRow_3 22 rfl rfl)
theorem dX4_findRow_91 : decode cX4_findRow 91 = .ok (.getfield 39, 3) := dk_180 0 39 (dk_at dksX4_findRow_4 0 rfl rfl)
theorem dX4_findRow_94 : decode cX4_findRow 94 = .ok (.invokestatic 186, 3) := dk_184 0 186 (dk_at dksX4_findRow_4 3 rfl rfl)
theorem dX4_findRow_97 : decode cX4_findRow 97 = .ok (.aload_n 0, 1) := dk_42 (dk_at dksX4_findRow_4 6 rfl rfl)
theorem dX4_findRow_98 : decode cX4_findRow 98 = .ok (.aload_n 0, 1) := dk_42 (dk_at dksX4_findRow_4 7 rfl rfl)
theorem dX4_findRow_99 : decode cX4_findRow 99 = .ok (.getfield 39, 3) := dk_180 0 39 (dk_at dksX4_findRow_4 8 rfl rfl)
theorem dX4_findRow_102 : decode cX4_findRow 102 = .ok (.aload_n 0, 1) := dk_42 (dk_at dksX4_findRow_4 11 rfl rfl)
theorem dX4_findRow_103 : decode cX4_findRow 103 = .ok (.getfield 66, 3) := dk_180 0 66 (dk_at dksX4_findRow_4 12 rfl rfl)
theorem dX4_findRow_106 : decode cX4_findRow 106 = .ok (.aload_n 0, 1) := dk_42 (dk_at dksX4_findRow_4 15 rfl rfl)
theorem dX4_findRow_107 : decode cX4_findRow 107 = .ok (.getfield 250, 3) := dk_180 0 250 (dk_at dksX4_findRow_4 16 rfl rfl)
theorem dX4_findRow_110 : decode cX4_findRow 110 = .ok (.iconst 1, 1) := dk_4 (dk_at dksX4_findRow_4 19 rfl rfl)
theorem dX4_findRow_111 : decode cX4_findRow 111 = .ok (.isub, 1) := dk_100 (dk_at dksX4_findRow_4 20 rfl rfl)
theorem dX4_findRow_112 : decode cX4_findRow 112 = .ok (.aaload, 1) := dk_50 (dk_at dksX4_findRow_4 21 rfl rfl)
theorem dX4_findRow_113 : decode cX4_findRow 113 = .ok (.invokevirtual 179, 3) := dk_182 0 179 (dk_at dksX4_findRow_5 0 rfl rfl)
theorem dX4_findRow_116 : decode cX4_findRow 116 = .ok (.aload_n 0, 1) := dk_42 (dk_at dksX4_findRow_5 3 rfl rfl)
theorem dX4_findRow_117 : decode cX4_findRow 117 = .ok (.getfield 39, 3) := dk_180 0 39 (dk_at dksX4_findRow_5 4 rfl rfl)
theorem dX4_findRow_120 : decode cX4_findRow 120 = .ok (.invokestatic 166, 3) := dk_184 0 166 (dk_at dksX4_findRow_5 7 rfl rfl)
theorem dX4_findRow_123 : decode cX4_findRow 123 = .ok (.ifCond .ge 4, 3) := dk_156 0 4 (dk_at dksX4_findRow_5 10 rfl rfl)
theorem dX4_findRow_126 : decode cX4_findRow 126 = .ok (.return_, 1) := dk_177 (dk_at dksX4_findRow_5 13 rfl rfl)
theorem dX4_findRow_127 : decode cX4_findRow 127 = .ok (.aload_n 0, 1) := dk_42 (dk_at dksX4_findRow_5 14 rfl rfl)
theorem dX4_findRow_128 : decode cX4_findRow 128 = .ok (.getfield 39, 3) := dk_180 0 39 (dk_at dksX4_findRow_5 15 rfl rfl)
theorem dX4_findRow_131 : decode cX4_findRow 131 = .ok (.invokestatic 170, 3) := dk_184 0 170 (dk_at dksX4_findRow_5 18 rfl rfl)
theorem dX4_findRow_134 : decode cX4_findRow 134 = .ok (.aload_n 0, 1) := dk_42 (dk_at dksX4_findRow_5 21 rfl rfl)
theorem dX4_findRow_135 : decode cX4_findRow 135 = .ok (.getfield 39, 3) := dk_180 0 39 (dk_at dksX4_findRow_6 0 rfl rfl)
theorem dX4_findRow_138 : decode cX4_findRow 138 = .ok (.aload_n 0, 1) := dk_42 (dk_at dksX4_findRow_6 3 rfl rfl)
theorem dX4_findRow_139 : decode cX4_findRow 139 = .ok (.getfield 66, 3) := dk_180 0 66 (dk_at dksX4_findRow_6 4 rfl rfl)
theorem dX4_findRow_142 : decode cX4_findRow 142 = .ok (.aload_n 0, 1) := dk_42 (dk_at dksX4_findRow_6 7 rfl rfl)
theorem dX4_findRow_143 : decode cX4_findRow 143 = .ok (.getfield 250, 3) := dk_180 0 250 (dk_at dksX4_findRow_6 8 rfl rfl)
theorem dX4_findRow_146 : decode cX4_findRow 146 = .ok (.aaload, 1) := dk_50 (dk_at dksX4_findRow_6 11 rfl rfl)
theorem dX4_findRow_147 : decode cX4_findRow 147 = .ok (.invokestatic 186, 3) := dk_184 0 186 (dk_at dksX4_findRow_6 12 rfl rfl)
theorem dX4_findRow_150 : decode cX4_findRow 150 = .ok (.aload_n 0, 1) := dk_42 (dk_at dksX4_findRow_6 15 rfl rfl)
theorem dX4_findRow_151 : decode cX4_findRow 151 = .ok (.dup, 1) := dk_89 (dk_at dksX4_findRow_6 16 rfl rfl)
theorem dX4_findRow_152 : decode cX4_findRow 152 = .ok (.getfield 250, 3) := dk_180 0 250 (dk_at dksX4_findRow_6 17 rfl rfl)
theorem dX4_findRow_155 : decode cX4_findRow 155 = .ok (.iconst 1, 1) := dk_4 (dk_at dksX4_findRow_6 20 rfl rfl)
theorem dX4_findRow_156 : decode cX4_findRow 156 = .ok (.iadd, 1) := dk_96 (dk_at dksX4_findRow_6 21 rfl rfl)
theorem dX4_findRow_157 : decode cX4_findRow 157 = .ok (.putfield 250, 3) := dk_181 0 250 (dk_at dksX4_findRow_7 0 rfl rfl)
theorem dX4_findRow_160 : decode cX4_findRow 160 = .ok (.goto (-89), 3) := dk_167 255 167 (dk_at dksX4_findRow_7 3 rfl rfl)
theorem dX4_findRow_163 : decode cX4_findRow 163 = .ok (.return_, 1) := dk_177 (dk_at dksX4_findRow_7 6 rfl rfl)
abbrev cX4_sturmCoefficient : ByteArray := prog_6_method_59_code
def yX4_sturmCoefficient : MethodName := ⟨RX4, "sturmCoefficient", "(III)J"⟩
def dkwX4_sturmCoefficient_4 : List UInt8 := [20, 0, 91, 127, 129, 173]
abbrev dktX4_sturmCoefficient_4 : List UInt8 := dkwX4_sturmCoefficient_4 ++ []
def dkwX4_sturmCoefficient_3 : List UInt8 := [180, 0, 66, 28, 50, 29, 50, 58, 4, 25, 4, 4, 46, 133, 16, 32, 121, 25, 4, 3, 46, 133]
abbrev dktX4_sturmCoefficient_3 : List UInt8 := dkwX4_sturmCoefficient_3 ++ dktX4_sturmCoefficient_4
def dkwX4_sturmCoefficient_2 : List UInt8 := [180, 0, 250, 4, 100, 184, 0, 232, 154, 0, 10, 42, 6, 182, 0, 212, 133, 173, 42, 3, 181, 0, 87, 42]
abbrev dktX4_sturmCoefficient_2 : List UInt8 := dkwX4_sturmCoefficient_2 ++ dktX4_sturmCoefficient_3
def dkwX4_sturmCoefficient_1 : List UInt8 := [42, 27, 182, 0, 244, 153, 0, 10, 42, 5, 182, 0, 212, 133, 173, 42, 27, 182, 0, 253, 28, 3, 42]
abbrev dktX4_sturmCoefficient_1 : List UInt8 := dkwX4_sturmCoefficient_1 ++ dktX4_sturmCoefficient_2
def dkwX4_sturmCoefficient_0 : List UInt8 := [27, 184, 0, 228, 153, 0, 13, 29, 3, 16, 6, 184, 0, 232, 154, 0, 10, 42, 4, 182, 0, 212, 133, 173]
abbrev dktX4_sturmCoefficient_0 : List UInt8 := dkwX4_sturmCoefficient_0 ++ dktX4_sturmCoefficient_1
theorem dksX4_sturmCoefficient_0 : cX4_sturmCoefficient.data.toList.drop 0 = dktX4_sturmCoefficient_0 := by decide +kernel
theorem dksX4_sturmCoefficient_1 : cX4_sturmCoefficient.data.toList.drop 24 = dktX4_sturmCoefficient_1 := dk_seg dksX4_sturmCoefficient_0 24 rfl rfl
theorem dksX4_sturmCoefficient_2 : cX4_sturmCoefficient.data.toList.drop 47 = dktX4_sturmCoefficient_2 := dk_seg dksX4_sturmCoefficient_1 23 rfl rfl
theorem dksX4_sturmCoefficient_3 : cX4_sturmCoefficient.data.toList.drop 71 = dktX4_sturmCoefficient_3 := dk_seg dksX4_sturmCoefficient_2 24 rfl rfl
theorem dksX4_sturmCoefficient_4 : cX4_sturmCoefficient.data.toList.drop 93 = dktX4_sturmCoefficient_4 := dk_seg dksX4_sturmCoefficient_3 22 rfl rfl
theorem dX4_sturmCoefficient_0 : decode cX4_sturmCoefficient 0 = .ok (.iload_n 1, 1) := dk_27 (dk_at dksX4_sturmCoefficient_0 0 rfl rfl)
theorem dX4_sturmCoefficient_1 : decode cX4_sturmCoefficient 1 = .ok (.invokestatic 228, 3) := dk_184 0 228 (dk_at dksX4_sturmCoefficient_0 1 rfl rfl)
theorem dX4_sturmCoefficient_4 : decode cX4_sturmCoefficient 4 = .ok (.ifCond .eq 13, 3) := dk_153 0 13 (dk_at dksX4_sturmCoefficient_0 4 rfl rfl)
theorem dX4_sturmCoefficient_7 : decode cX4_sturmCoefficient 7 = .ok (.iload_n 3, 1) := dk_29 (dk_at dksX4_sturmCoefficient_0 7 rfl rfl)
theorem dX4_sturmCoefficient_8 : decode cX4_sturmCoefficient 8 = .ok (.iconst 0, 1) := dk_3 (dk_at dksX4_sturmCoefficient_0 8 rfl rfl)
theorem dX4_sturmCoefficient_9 : decode cX4_sturmCoefficient 9 = .ok (.bipush 6, 2) := dk_16 6 (dk_at dksX4_sturmCoefficient_0 9 rfl rfl)
theorem dX4_sturmCoefficient_11 : decode cX4_sturmCoefficient 11 = .ok (.invokestatic 232, 3) := dk_184 0 232 (dk_at dksX4_sturmCoefficient_0 11 rfl rfl)
theorem dX4_sturmCoefficient_14 : decode cX4_sturmCoefficient 14 = .ok (.ifCond .ne 10, 3) := dk_154 0 10 (dk_at dksX4_sturmCoefficient_0 14 rfl rfl)
theorem dX4_sturmCoefficient_17 : decode cX4_sturmCoefficient 17 = .ok (.aload_n 0, 1) := dk_42 (dk_at dksX4_sturmCoefficient_0 17 rfl rfl)
theorem dX4_sturmCoefficient_18 : decode cX4_sturmCoefficient 18 = .ok (.iconst 1, 1) := dk_4 (dk_at dksX4_sturmCoefficient_0 18 rfl rfl)
theorem dX4_sturmCoefficient_19 : decode cX4_sturmCoefficient 19 = .ok (.invokevirtual 212, 3) := dk_182 0 212 (dk_at dksX4_sturmCoefficient_0 19 rfl rfl)
theorem dX4_sturmCoefficient_22 : decode cX4_sturmCoefficient 22 = .ok (.i2l, 1) := dk_133 (dk_at dksX4_sturmCoefficient_0 22 rfl rfl)
theorem dX4_sturmCoefficient_23 : decode cX4_sturmCoefficient 23 = .ok (.lreturn, 1) := dk_173 (dk_at dksX4_sturmCoefficient_0 23 rfl rfl)
theorem dX4_sturmCoefficient_24 : decode cX4_sturmCoefficient 24 = .ok (.aload_n 0, 1) := dk_42 (dk_at dksX4_sturmCoefficient_1 0 rfl rfl)
theorem dX4_sturmCoefficient_25 : decode cX4_sturmCoefficient 25 = .ok (.iload_n 1, 1) := dk_27 (dk_at dksX4_sturmCoefficient_1 1 rfl rfl)
theorem dX4_sturmCoefficient_26 : decode cX4_sturmCoefficient 26 = .ok (.invokevirtual 244, 3) := dk_182 0 244 (dk_at dksX4_sturmCoefficient_1 2 rfl rfl)
theorem dX4_sturmCoefficient_29 : decode cX4_sturmCoefficient 29 = .ok (.ifCond .eq 10, 3) := dk_153 0 10 (dk_at dksX4_sturmCoefficient_1 5 rfl rfl)
theorem dX4_sturmCoefficient_32 : decode cX4_sturmCoefficient 32 = .ok (.aload_n 0, 1) := dk_42 (dk_at dksX4_sturmCoefficient_1 8 rfl rfl)
theorem dX4_sturmCoefficient_33 : decode cX4_sturmCoefficient 33 = .ok (.iconst 2, 1) := dk_5 (dk_at dksX4_sturmCoefficient_1 9 rfl rfl)
theorem dX4_sturmCoefficient_34 : decode cX4_sturmCoefficient 34 = .ok (.invokevirtual 212, 3) := dk_182 0 212 (dk_at dksX4_sturmCoefficient_1 10 rfl rfl)
theorem dX4_sturmCoefficient_37 : decode cX4_sturmCoefficient 37 = .ok (.i2l, 1) := dk_133 (dk_at dksX4_sturmCoefficient_1 13 rfl rfl)
theorem dX4_sturmCoefficient_38 : decode cX4_sturmCoefficient 38 = .ok (.lreturn, 1) := dk_173 (dk_at dksX4_sturmCoefficient_1 14 rfl rfl)
theorem dX4_sturmCoefficient_39 : decode cX4_sturmCoefficient 39 = .ok (.aload_n 0, 1) := dk_42 (dk_at dksX4_sturmCoefficient_1 15 rfl rfl)
theorem dX4_sturmCoefficient_40 : decode cX4_sturmCoefficient 40 = .ok (.iload_n 1, 1) := dk_27 (dk_at dksX4_sturmCoefficient_1 16 rfl rfl)
theorem dX4_sturmCoefficient_41 : decode cX4_sturmCoefficient 41 = .ok (.invokevirtual 253, 3) := dk_182 0 253 (dk_at dksX4_sturmCoefficient_1 17 rfl rfl)
theorem dX4_sturmCoefficient_44 : decode cX4_sturmCoefficient 44 = .ok (.iload_n 2, 1) := dk_28 (dk_at dksX4_sturmCoefficient_1 20 rfl rfl)
theorem dX4_sturmCoefficient_45 : decode cX4_sturmCoefficient 45 = .ok (.iconst 0, 1) := dk_3 (dk_at dksX4_sturmCoefficient_1 21 rfl rfl)
theorem dX4_sturmCoefficient_46 : decode cX4_sturmCoefficient 46 = .ok (.aload_n 0, 1) := dk_42 (dk_at dksX4_sturmCoefficient_1 22 rfl rfl)
theorem dX4_sturmCoefficient_47 : decode cX4_sturmCoefficient 47 = .ok (.getfield 250, 3) := dk_180 0 250 (dk_at dksX4_sturmCoefficient_2 0 rfl rfl)
theorem dX4_sturmCoefficient_50 : decode cX4_sturmCoefficient 50 = .ok (.iconst 1, 1) := dk_4 (dk_at dksX4_sturmCoefficient_2 3 rfl rfl)
theorem dX4_sturmCoefficient_51 : decode cX4_sturmCoefficient 51 = .ok (.isub, 1) := dk_100 (dk_at dksX4_sturmCoefficient_2 4 rfl rfl)
theorem dX4_sturmCoefficient_52 : decode cX4_sturmCoefficient 52 = .ok (.invokestatic 232, 3) := dk_184 0 232 (dk_at dksX4_sturmCoefficient_2 5 rfl rfl)
theorem dX4_sturmCoefficient_55 : decode cX4_sturmCoefficient 55 = .ok (.ifCond .ne 10, 3) := dk_154 0 10 (dk_at dksX4_sturmCoefficient_2 8 rfl rfl)
theorem dX4_sturmCoefficient_58 : decode cX4_sturmCoefficient 58 = .ok (.aload_n 0, 1) := dk_42 (dk_at dksX4_sturmCoefficient_2 11 rfl rfl)
theorem dX4_sturmCoefficient_59 : decode cX4_sturmCoefficient 59 = .ok (.iconst 3, 1) := dk_6 (dk_at dksX4_sturmCoefficient_2 12 rfl rfl)
theorem dX4_sturmCoefficient_60 : decode cX4_sturmCoefficient 60 = .ok (.invokevirtual 212, 3) := dk_182 0 212 (dk_at dksX4_sturmCoefficient_2 13 rfl rfl)
theorem dX4_sturmCoefficient_63 : decode cX4_sturmCoefficient 63 = .ok (.i2l, 1) := dk_133 (dk_at dksX4_sturmCoefficient_2 16 rfl rfl)
theorem dX4_sturmCoefficient_64 : decode cX4_sturmCoefficient 64 = .ok (.lreturn, 1) := dk_173 (dk_at dksX4_sturmCoefficient_2 17 rfl rfl)
theorem dX4_sturmCoefficient_65 : decode cX4_sturmCoefficient 65 = .ok (.aload_n 0, 1) := dk_42 (dk_at dksX4_sturmCoefficient_2 18 rfl rfl)
theorem dX4_sturmCoefficient_66 : decode cX4_sturmCoefficient 66 = .ok (.iconst 0, 1) := dk_3 (dk_at dksX4_sturmCoefficient_2 19 rfl rfl)
theorem dX4_sturmCoefficient_67 : decode cX4_sturmCoefficient 67 = .ok (.putfield 87, 3) := dk_181 0 87 (dk_at dksX4_sturmCoefficient_2 20 rfl rfl)
theorem dX4_sturmCoefficient_70 : decode cX4_sturmCoefficient 70 = .ok (.aload_n 0, 1) := dk_42 (dk_at dksX4_sturmCoefficient_2 23 rfl rfl)
theorem dX4_sturmCoefficient_71 : decode cX4_sturmCoefficient 71 = .ok (.getfield 66, 3) := dk_180 0 66 (dk_at dksX4_sturmCoefficient_3 0 rfl rfl)
theorem dX4_sturmCoefficient_74 : decode cX4_sturmCoefficient 74 = .ok (.iload_n 2, 1) := dk_28 (dk_at dksX4_sturmCoefficient_3 3 rfl rfl)
theorem dX4_sturmCoefficient_75 : decode cX4_sturmCoefficient 75 = .ok (.aaload, 1) := dk_50 (dk_at dksX4_sturmCoefficient_3 4 rfl rfl)
theorem dX4_sturmCoefficient_76 : decode cX4_sturmCoefficient 76 = .ok (.iload_n 3, 1) := dk_29 (dk_at dksX4_sturmCoefficient_3 5 rfl rfl)
theorem dX4_sturmCoefficient_77 : decode cX4_sturmCoefficient 77 = .ok (.aaload, 1) := dk_50 (dk_at dksX4_sturmCoefficient_3 6 rfl rfl)
theorem dX4_sturmCoefficient_78 : decode cX4_sturmCoefficient 78 = .ok (.astore 4, 2) := dk_58 4 (dk_at dksX4_sturmCoefficient_3 7 rfl rfl)
theorem dX4_sturmCoefficient_80 : decode cX4_sturmCoefficient 80 = .ok (.aload 4, 2) := dk_25 4 (dk_at dksX4_sturmCoefficient_3 9 rfl rfl)
theorem dX4_sturmCoefficient_82 : decode cX4_sturmCoefficient 82 = .ok (.iconst 1, 1) := dk_4 (dk_at dksX4_sturmCoefficient_3 11 rfl rfl)
theorem dX4_sturmCoefficient_83 : decode cX4_sturmCoefficient 83 = .ok (.iaload, 1) := dk_46 (dk_at dksX4_sturmCoefficient_3 12 rfl rfl)
theorem dX4_sturmCoefficient_84 : decode cX4_sturmCoefficient 84 = .ok (.i2l, 1) := dk_133 (dk_at dksX4_sturmCoefficient_3 13 rfl rfl)
theorem dX4_sturmCoefficient_85 : decode cX4_sturmCoefficient 85 = .ok (.bipush 32, 2) := dk_16 32 (dk_at dksX4_sturmCoefficient_3 14 rfl rfl)
theorem dX4_sturmCoefficient_87 : decode cX4_sturmCoefficient 87 = .ok (.lshl, 1) := dk_121 (dk_at dksX4_sturmCoefficient_3 16 rfl rfl)
theorem dX4_sturmCoefficient_88 : decode cX4_sturmCoefficient 88 = .ok (.aload 4, 2) := dk_25 4 (dk_at dksX4_sturmCoefficient_3 17 rfl rfl)
theorem dX4_sturmCoefficient_90 : decode cX4_sturmCoefficient 90 = .ok (.iconst 0, 1) := dk_3 (dk_at dksX4_sturmCoefficient_3 19 rfl rfl)
theorem dX4_sturmCoefficient_91 : decode cX4_sturmCoefficient 91 = .ok (.iaload, 1) := dk_46 (dk_at dksX4_sturmCoefficient_3 20 rfl rfl)
theorem dX4_sturmCoefficient_92 : decode cX4_sturmCoefficient 92 = .ok (.i2l, 1) := dk_133 (dk_at dksX4_sturmCoefficient_3 21 rfl rfl)
theorem dX4_sturmCoefficient_93 : decode cX4_sturmCoefficient 93 = .ok (.ldc2_w 91, 3) := dk_20 0 91 (dk_at dksX4_sturmCoefficient_4 0 rfl rfl)
theorem dX4_sturmCoefficient_96 : decode cX4_sturmCoefficient 96 = .ok (.land, 1) := dk_127 (dk_at dksX4_sturmCoefficient_4 3 rfl rfl)
theorem dX4_sturmCoefficient_97 : decode cX4_sturmCoefficient 97 = .ok (.lor, 1) := dk_129 (dk_at dksX4_sturmCoefficient_4 4 rfl rfl)
theorem dX4_sturmCoefficient_98 : decode cX4_sturmCoefficient 98 = .ok (.lreturn, 1) := dk_173 (dk_at dksX4_sturmCoefficient_4 5 rfl rfl)
abbrev cX4_sturmDegree : ByteArray := prog_6_method_60_code
def yX4_sturmDegree : MethodName := ⟨RX4, "sturmDegree", "(II)I"⟩
def dkwX4_sturmDegree_2 : List UInt8 := [42, 180, 0, 66, 28, 50, 184, 0, 166, 182, 0, 217, 167, 0, 8, 42, 6, 182, 0, 212, 172]
abbrev dktX4_sturmDegree_2 : List UInt8 := dkwX4_sturmDegree_2 ++ []
def dkwX4_sturmDegree_1 : List UInt8 := [182, 0, 212, 172, 42, 27, 182, 0, 253, 28, 3, 42, 180, 0, 250, 4, 100, 184, 0, 232, 153, 0, 19, 42]
abbrev dktX4_sturmDegree_1 : List UInt8 := dkwX4_sturmDegree_1 ++ dktX4_sturmDegree_2
def dkwX4_sturmDegree_0 : List UInt8 := [27, 184, 0, 228, 154, 0, 9, 42, 4, 182, 0, 212, 172, 42, 27, 182, 0, 244, 153, 0, 9, 42, 5]
abbrev dktX4_sturmDegree_0 : List UInt8 := dkwX4_sturmDegree_0 ++ dktX4_sturmDegree_1
theorem dksX4_sturmDegree_0 : cX4_sturmDegree.data.toList.drop 0 = dktX4_sturmDegree_0 := by decide +kernel
theorem dksX4_sturmDegree_1 : cX4_sturmDegree.data.toList.drop 23 = dktX4_sturmDegree_1 := dk_seg dksX4_sturmDegree_0 23 rfl rfl
theorem dksX4_sturmDegree_2 : cX4_sturmDegree.data.toList.drop 47 = dktX4_sturmDegree_2 := dk_seg dksX4_sturmDegree_1 24 rfl rfl
theorem dX4_sturmDegree_0 : decode cX4_sturmDegree 0 = .ok (.iload_n 1, 1) := dk_27 (dk_at dksX4_sturmDegree_0 0 rfl rfl)
theorem dX4_sturmDegree_1 : decode cX4_sturmDegree 1 = .ok (.invokestatic 228, 3) := dk_184 0 228 (dk_at dksX4_sturmDegree_0 1 rfl rfl)
theorem dX4_sturmDegree_4 : decode cX4_sturmDegree 4 = .ok (.ifCond .ne 9, 3) := dk_154 0 9 (dk_at dksX4_sturmDegree_0 4 rfl rfl)
theorem dX4_sturmDegree_7 : decode cX4_sturmDegree 7 = .ok (.aload_n 0, 1) := dk_42 (dk_at dksX4_sturmDegree_0 7 rfl rfl)
theorem dX4_sturmDegree_8 : decode cX4_sturmDegree 8 = .ok (.iconst 1, 1) := dk_4 (dk_at dksX4_sturmDegree_0 8 rfl rfl)
theorem dX4_sturmDegree_9 : decode cX4_sturmDegree 9 = .ok (.invokevirtual 212, 3) := dk_182 0 212 (dk_at dksX4_sturmDegree_0 9 rfl rfl)
theorem dX4_sturmDegree_12 : decode cX4_sturmDegree 12 = .ok (.ireturn, 1) := dk_172 (dk_at dksX4_sturmDegree_0 12 rfl rfl)
theorem dX4_sturmDegree_13 : decode cX4_sturmDegree 13 = .ok (.aload_n 0, 1) := dk_42 (dk_at dksX4_sturmDegree_0 13 rfl rfl)
theorem dX4_sturmDegree_14 : decode cX4_sturmDegree 14 = .ok (.iload_n 1, 1) := dk_27 (dk_at dksX4_sturmDegree_0 14 rfl rfl)
theorem dX4_sturmDegree_15 : decode cX4_sturmDegree 15 = .ok (.invokevirtual 244, 3) := dk_182 0 244 (dk_at dksX4_sturmDegree_0 15 rfl rfl)
theorem dX4_sturmDegree_18 : decode cX4_sturmDegree 18 = .ok (.ifCond .eq 9, 3) := dk_153 0 9 (dk_at dksX4_sturmDegree_0 18 rfl rfl)
theorem dX4_sturmDegree_21 : decode cX4_sturmDegree 21 = .ok (.aload_n 0, 1) := dk_42 (dk_at dksX4_sturmDegree_0 21 rfl rfl)
theorem dX4_sturmDegree_22 : decode cX4_sturmDegree 22 = .ok (.iconst 2, 1) := dk_5 (dk_at dksX4_sturmDegree_0 22 rfl rfl)
theorem dX4_sturmDegree_23 : decode cX4_sturmDegree 23 = .ok (.invokevirtual 212, 3) := dk_182 0 212 (dk_at dksX4_sturmDegree_1 0 rfl rfl)
theorem dX4_sturmDegree_26 : decode cX4_sturmDegree 26 = .ok (.ireturn, 1) := dk_172 (dk_at dksX4_sturmDegree_1 3 rfl rfl)
theorem dX4_sturmDegree_27 : decode cX4_sturmDegree 27 = .ok (.aload_n 0, 1) := dk_42 (dk_at dksX4_sturmDegree_1 4 rfl rfl)
theorem dX4_sturmDegree_28 : decode cX4_sturmDegree 28 = .ok (.iload_n 1, 1) := dk_27 (dk_at dksX4_sturmDegree_1 5 rfl rfl)
theorem dX4_sturmDegree_29 : decode cX4_sturmDegree 29 = .ok (.invokevirtual 253, 3) := dk_182 0 253 (dk_at dksX4_sturmDegree_1 6 rfl rfl)
theorem dX4_sturmDegree_32 : decode cX4_sturmDegree 32 = .ok (.iload_n 2, 1) := dk_28 (dk_at dksX4_sturmDegree_1 9 rfl rfl)
theorem dX4_sturmDegree_33 : decode cX4_sturmDegree 33 = .ok (.iconst 0, 1) := dk_3 (dk_at dksX4_sturmDegree_1 10 rfl rfl)
theorem dX4_sturmDegree_34 : decode cX4_sturmDegree 34 = .ok (.aload_n 0, 1) := dk_42 (dk_at dksX4_sturmDegree_1 11 rfl rfl)
theorem dX4_sturmDegree_35 : decode cX4_sturmDegree 35 = .ok (.getfield 250, 3) := dk_180 0 250 (dk_at dksX4_sturmDegree_1 12 rfl rfl)
theorem dX4_sturmDegree_38 : decode cX4_sturmDegree 38 = .ok (.iconst 1, 1) := dk_4 (dk_at dksX4_sturmDegree_1 15 rfl rfl)
theorem dX4_sturmDegree_39 : decode cX4_sturmDegree 39 = .ok (.isub, 1) := dk_100 (dk_at dksX4_sturmDegree_1 16 rfl rfl)
theorem dX4_sturmDegree_40 : decode cX4_sturmDegree 40 = .ok (.invokestatic 232, 3) := dk_184 0 232 (dk_at dksX4_sturmDegree_1 17 rfl rfl)
theorem dX4_sturmDegree_43 : decode cX4_sturmDegree 43 = .ok (.ifCond .eq 19, 3) := dk_153 0 19 (dk_at dksX4_sturmDegree_1 20 rfl rfl)
theorem dX4_sturmDegree_46 : decode cX4_sturmDegree 46 = .ok (.aload_n 0, 1) := dk_42 (dk_at dksX4_sturmDegree_1 23 rfl rfl)
theorem dX4_sturmDegree_47 : decode cX4_sturmDegree 47 = .ok (.aload_n 0, 1) := dk_42 (dk_at dksX4_sturmDegree_2 0 rfl rfl)
theorem dX4_sturmDegree_48 : decode cX4_sturmDegree 48 = .ok (.getfield 66, 3) := dk_180 0 66 (dk_at dksX4_sturmDegree_2 1 rfl rfl)
theorem dX4_sturmDegree_51 : decode cX4_sturmDegree 51 = .ok (.iload_n 2, 1) := dk_28 (dk_at dksX4_sturmDegree_2 4 rfl rfl)
theorem dX4_sturmDegree_52 : decode cX4_sturmDegree 52 = .ok (.aaload, 1) := dk_50 (dk_at dksX4_sturmDegree_2 5 rfl rfl)
theorem dX4_sturmDegree_53 : decode cX4_sturmDegree 53 = .ok (.invokestatic 166, 3) := dk_184 0 166 (dk_at dksX4_sturmDegree_2 6 rfl rfl)
theorem dX4_sturmDegree_56 : decode cX4_sturmDegree 56 = .ok (.invokevirtual 217, 3) := dk_182 0 217 (dk_at dksX4_sturmDegree_2 9 rfl rfl)
theorem dX4_sturmDegree_59 : decode cX4_sturmDegree 59 = .ok (.goto 8, 3) := dk_167 0 8 (dk_at dksX4_sturmDegree_2 12 rfl rfl)
theorem dX4_sturmDegree_62 : decode cX4_sturmDegree 62 = .ok (.aload_n 0, 1) := dk_42 (dk_at dksX4_sturmDegree_2 15 rfl rfl)
theorem dX4_sturmDegree_63 : decode cX4_sturmDegree 63 = .ok (.iconst 3, 1) := dk_6 (dk_at dksX4_sturmDegree_2 16 rfl rfl)
theorem dX4_sturmDegree_64 : decode cX4_sturmDegree 64 = .ok (.invokevirtual 212, 3) := dk_182 0 212 (dk_at dksX4_sturmDegree_2 17 rfl rfl)
theorem dX4_sturmDegree_67 : decode cX4_sturmDegree 67 = .ok (.ireturn, 1) := dk_172 (dk_at dksX4_sturmDegree_2 20 rfl rfl)
abbrev cX4_signChanges : ByteArray := prog_6_method_62_code
def yX4_signChanges : MethodName := ⟨RX4, "signChanges", "(III)I"⟩
def dkwX4_signChanges_5 : List UInt8 := [21, 7, 54, 5, 132, 6, 1, 167, 255, 187, 42, 21, 4, 182, 0, 217, 172]
abbrev dktX4_signChanges_5 : List UInt8 := dkwX4_signChanges_5 ++ []
def dkwX4_signChanges_4 : List UInt8 := [21, 5, 159, 0, 7, 4, 167, 0, 4, 3, 96, 54, 4, 21, 7, 154, 0, 8, 21, 5, 167, 0, 5]
abbrev dktX4_signChanges_4 : List UInt8 := dkwX4_signChanges_4 ++ dktX4_signChanges_5
def dkwX4_signChanges_3 : List UInt8 := [50, 28, 133, 29, 182, 1, 7, 54, 7, 21, 4, 21, 7, 153, 0, 19, 21, 5, 153, 0, 14, 21, 7]
abbrev dktX4_signChanges_3 : List UInt8 := dkwX4_signChanges_3 ++ dktX4_signChanges_4
def dkwX4_signChanges_2 : List UInt8 := [54, 4, 3, 54, 5, 3, 54, 6, 21, 6, 42, 180, 0, 250, 162, 0, 66, 42, 42, 180, 0, 66, 21, 6]
abbrev dktX4_signChanges_2 : List UInt8 := dkwX4_signChanges_2 ++ dktX4_signChanges_3
def dkwX4_signChanges_1 : List UInt8 := [182, 0, 212, 172, 42, 27, 182, 0, 244, 153, 0, 9, 42, 6, 182, 0, 212, 172, 42, 27, 182, 0, 253, 3]
abbrev dktX4_signChanges_1 : List UInt8 := dkwX4_signChanges_1 ++ dktX4_signChanges_2
def dkwX4_signChanges_0 : List UInt8 := [27, 184, 0, 228, 154, 0, 9, 42, 4, 182, 0, 212, 172, 28, 29, 184, 1, 3, 154, 0, 9, 42, 5]
abbrev dktX4_signChanges_0 : List UInt8 := dkwX4_signChanges_0 ++ dktX4_signChanges_1
theorem dksX4_signChanges_0 : cX4_signChanges.data.toList.drop 0 = dktX4_signChanges_0 := by decide +kernel
theorem dksX4_signChanges_1 : cX4_signChanges.data.toList.drop 23 = dktX4_signChanges_1 := dk_seg dksX4_signChanges_0 23 rfl rfl
theorem dksX4_signChanges_2 : cX4_signChanges.data.toList.drop 47 = dktX4_signChanges_2 := dk_seg dksX4_signChanges_1 24 rfl rfl
theorem dksX4_signChanges_3 : cX4_signChanges.data.toList.drop 71 = dktX4_signChanges_3 := dk_seg dksX4_signChanges_2 24 rfl rfl
theorem dksX4_signChanges_4 : cX4_signChanges.data.toList.drop 94 = dktX4_signChanges_4 := dk_seg dksX4_signChanges_3 23 rfl rfl
theorem dksX4_signChanges_5 : cX4_signChanges.data.toList.drop 117 = dktX4_signChanges_5 := dk_seg dksX4_signChanges_4 23 rfl rfl
theorem dX4_signChanges_0 : decode cX4_signChanges 0 = .ok (.iload_n 1, 1) := dk_27 (dk_at dksX4_signChanges_0 0 rfl rfl)
theorem dX4_signChanges_1 : decode cX4_signChanges 1 = .ok (.invokestatic 228, 3) := dk_184 0 228 (dk_at dksX4_signChanges_0 1 rfl rfl)
theorem dX4_signChanges_4 : decode cX4_signChanges 4 = .ok (.ifCond .ne 9, 3) := dk_154 0 9 (dk_at dksX4_signChanges_0 4 rfl rfl)
theorem dX4_signChanges_7 : decode cX4_signChanges 7 = .ok (.aload_n 0, 1) := dk_42 (dk_at dksX4_signChanges_0 7 rfl rfl)
theorem dX4_signChanges_8 : decode cX4_signChanges 8 = .ok (.iconst 1, 1) := dk_4 (dk_at dksX4_signChanges_0 8 rfl rfl)
theorem dX4_signChanges_9 : decode cX4_signChanges 9 = .ok (.invokevirtual 212, 3) := dk_182 0 212 (dk_at dksX4_signChanges_0 9 rfl rfl)
theorem dX4_signChanges_12 : decode cX4_signChanges 12 = .ok (.ireturn, 1) := dk_172 (dk_at dksX4_signChanges_0 12 rfl rfl)
theorem dX4_signChanges_13 : decode cX4_signChanges 13 = .ok (.iload_n 2, 1) := dk_28 (dk_at dksX4_signChanges_0 13 rfl rfl)
theorem dX4_signChanges_14 : decode cX4_signChanges 14 = .ok (.iload_n 3, 1) := dk_29 (dk_at dksX4_signChanges_0 14 rfl rfl)
theorem dX4_signChanges_15 : decode cX4_signChanges 15 = .ok (.invokestatic 259, 3) := dk_184 1 3 (dk_at dksX4_signChanges_0 15 rfl rfl)
theorem dX4_signChanges_18 : decode cX4_signChanges 18 = .ok (.ifCond .ne 9, 3) := dk_154 0 9 (dk_at dksX4_signChanges_0 18 rfl rfl)
theorem dX4_signChanges_21 : decode cX4_signChanges 21 = .ok (.aload_n 0, 1) := dk_42 (dk_at dksX4_signChanges_0 21 rfl rfl)
theorem dX4_signChanges_22 : decode cX4_signChanges 22 = .ok (.iconst 2, 1) := dk_5 (dk_at dksX4_signChanges_0 22 rfl rfl)
theorem dX4_signChanges_23 : decode cX4_signChanges 23 = .ok (.invokevirtual 212, 3) := dk_182 0 212 (dk_at dksX4_signChanges_1 0 rfl rfl)
theorem dX4_signChanges_26 : decode cX4_signChanges 26 = .ok (.ireturn, 1) := dk_172 (dk_at dksX4_signChanges_1 3 rfl rfl)
theorem dX4_signChanges_27 : decode cX4_signChanges 27 = .ok (.aload_n 0, 1) := dk_42 (dk_at dksX4_signChanges_1 4 rfl rfl)
theorem dX4_signChanges_28 : decode cX4_signChanges 28 = .ok (.iload_n 1, 1) := dk_27 (dk_at dksX4_signChanges_1 5 rfl rfl)
theorem dX4_signChanges_29 : decode cX4_signChanges 29 = .ok (.invokevirtual 244, 3) := dk_182 0 244 (dk_at dksX4_signChanges_1 6 rfl rfl)
theorem dX4_signChanges_32 : decode cX4_signChanges 32 = .ok (.ifCond .eq 9, 3) := dk_153 0 9 (dk_at dksX4_signChanges_1 9 rfl rfl)
theorem dX4_signChanges_35 : decode cX4_signChanges 35 = .ok (.aload_n 0, 1) := dk_42 (dk_at dksX4_signChanges_1 12 rfl rfl)
theorem dX4_signChanges_36 : decode cX4_signChanges 36 = .ok (.iconst 3, 1) := dk_6 (dk_at dksX4_signChanges_1 13 rfl rfl)
theorem dX4_signChanges_37 : decode cX4_signChanges 37 = .ok (.invokevirtual 212, 3) := dk_182 0 212 (dk_at dksX4_signChanges_1 14 rfl rfl)
theorem dX4_signChanges_40 : decode cX4_signChanges 40 = .ok (.ireturn, 1) := dk_172 (dk_at dksX4_signChanges_1 17 rfl rfl)
theorem dX4_signChanges_41 : decode cX4_signChanges 41 = .ok (.aload_n 0, 1) := dk_42 (dk_at dksX4_signChanges_1 18 rfl rfl)
theorem dX4_signChanges_42 : decode cX4_signChanges 42 = .ok (.iload_n 1, 1) := dk_27 (dk_at dksX4_signChanges_1 19 rfl rfl)
theorem dX4_signChanges_43 : decode cX4_signChanges 43 = .ok (.invokevirtual 253, 3) := dk_182 0 253 (dk_at dksX4_signChanges_1 20 rfl rfl)
theorem dX4_signChanges_46 : decode cX4_signChanges 46 = .ok (.iconst 0, 1) := dk_3 (dk_at dksX4_signChanges_1 23 rfl rfl)
theorem dX4_signChanges_47 : decode cX4_signChanges 47 = .ok (.istore 4, 2) := dk_54 4 (dk_at dksX4_signChanges_2 0 rfl rfl)
theorem dX4_signChanges_49 : decode cX4_signChanges 49 = .ok (.iconst 0, 1) := dk_3 (dk_at dksX4_signChanges_2 2 rfl rfl)
theorem dX4_signChanges_50 : decode cX4_signChanges 50 = .ok (.istore 5, 2) := dk_54 5 (dk_at dksX4_signChanges_2 3 rfl rfl)
theorem dX4_signChanges_52 : decode cX4_signChanges 52 = .ok (.iconst 0, 1) := dk_3 (dk_at dksX4_signChanges_2 5 rfl rfl)
theorem dX4_signChanges_53 : decode cX4_signChanges 53 = .ok (.istore 6, 2) := dk_54 6 (dk_at dksX4_signChanges_2 6 rfl rfl)
theorem dX4_signChanges_55 : decode cX4_signChanges 55 = .ok (.iload 6, 2) := dk_21 6 (dk_at dksX4_signChanges_2 8 rfl rfl)
theorem dX4_signChanges_57 : decode cX4_signChanges 57 = .ok (.aload_n 0, 1) := dk_42 (dk_at dksX4_signChanges_2 10 rfl rfl)
theorem dX4_signChanges_58 : decode cX4_signChanges 58 = .ok (.getfield 250, 3) := dk_180 0 250 (dk_at dksX4_signChanges_2 11 rfl rfl)
theorem dX4_signChanges_61 : decode cX4_signChanges 61 = .ok (.if_icmp .ge 66, 3) := dk_162 0 66 (dk_at dksX4_signChanges_2 14 rfl rfl)
theorem dX4_signChanges_64 : decode cX4_signChanges 64 = .ok (.aload_n 0, 1) := dk_42 (dk_at dksX4_signChanges_2 17 rfl rfl)
theorem dX4_signChanges_65 : decode cX4_signChanges 65 = .ok (.aload_n 0, 1) := dk_42 (dk_at dksX4_signChanges_2 18 rfl rfl)
theorem dX4_signChanges_66 : decode cX4_signChanges 66 = .ok (.getfield 66, 3) := dk_180 0 66 (dk_at dksX4_signChanges_2 19 rfl rfl)
theorem dX4_signChanges_69 : decode cX4_signChanges 69 = .ok (.iload 6, 2) := dk_21 6 (dk_at dksX4_signChanges_2 22 rfl rfl)
theorem dX4_signChanges_71 : decode cX4_signChanges 71 = .ok (.aaload, 1) := dk_50 (dk_at dksX4_signChanges_3 0 rfl rfl)
theorem dX4_signChanges_72 : decode cX4_signChanges 72 = .ok (.iload_n 2, 1) := dk_28 (dk_at dksX4_signChanges_3 1 rfl rfl)
theorem dX4_signChanges_73 : decode cX4_signChanges 73 = .ok (.i2l, 1) := dk_133 (dk_at dksX4_signChanges_3 2 rfl rfl)
theorem dX4_signChanges_74 : decode cX4_signChanges 74 = .ok (.iload_n 3, 1) := dk_29 (dk_at dksX4_signChanges_3 3 rfl rfl)
theorem dX4_signChanges_75 : decode cX4_signChanges 75 = .ok (.invokevirtual 263, 3) := dk_182 1 7 (dk_at dksX4_signChanges_3 4 rfl rfl)
theorem dX4_signChanges_78 : decode cX4_signChanges 78 = .ok (.istore 7, 2) := dk_54 7 (dk_at dksX4_signChanges_3 7 rfl rfl)
theorem dX4_signChanges_80 : decode cX4_signChanges 80 = .ok (.iload 4, 2) := dk_21 4 (dk_at dksX4_signChanges_3 9 rfl rfl)
theorem dX4_signChanges_82 : decode cX4_signChanges 82 = .ok (.iload 7, 2) := dk_21 7 (dk_at dksX4_signChanges_3 11 rfl rfl)
theorem dX4_signChanges_84 : decode cX4_signChanges 84 = .ok (.ifCond .eq 19, 3) := dk_153 0 19 (dk_at dksX4_signChanges_3 13 rfl rfl)
theorem dX4_signChanges_87 : decode cX4_signChanges 87 = .ok (.iload 5, 2) := dk_21 5 (dk_at dksX4_signChanges_3 16 rfl rfl)
theorem dX4_signChanges_89 : decode cX4_signChanges 89 = .ok (.ifCond .eq 14, 3) := dk_153 0 14 (dk_at dksX4_signChanges_3 18 rfl rfl)
theorem dX4_signChanges_92 : decode cX4_signChanges 92 = .ok (.iload 7, 2) := dk_21 7 (dk_at dksX4_signChanges_3 21 rfl rfl)
theorem dX4_signChanges_94 : decode cX4_signChanges 94 = .ok (.iload 5, 2) := dk_21 5 (dk_at dksX4_signChanges_4 0 rfl rfl)
theorem dX4_signChanges_96 : decode cX4_signChanges 96 = .ok (.if_icmp .eq 7, 3) := dk_159 0 7 (dk_at dksX4_signChanges_4 2 rfl rfl)
theorem dX4_signChanges_99 : decode cX4_signChanges 99 = .ok (.iconst 1, 1) := dk_4 (dk_at dksX4_signChanges_4 5 rfl rfl)
theorem dX4_signChanges_100 : decode cX4_signChanges 100 = .ok (.goto 4, 3) := dk_167 0 4 (dk_at dksX4_signChanges_4 6 rfl rfl)
theorem dX4_signChanges_103 : decode cX4_signChanges 103 = .ok (.iconst 0, 1) := dk_3 (dk_at dksX4_signChanges_4 9 rfl rfl)
theorem dX4_signChanges_104 : decode cX4_signChanges 104 = .ok (.iadd, 1) := dk_96 (dk_at dksX4_signChanges_4 10 rfl rfl)
theorem dX4_signChanges_105 : decode cX4_signChanges 105 = .ok (.istore 4, 2) := dk_54 4 (dk_at dksX4_signChanges_4 11 rfl rfl)
theorem dX4_signChanges_107 : decode cX4_signChanges 107 = .ok (.iload 7, 2) := dk_21 7 (dk_at dksX4_signChanges_4 13 rfl rfl)
theorem dX4_signChanges_109 : decode cX4_signChanges 109 = .ok (.ifCond .ne 8, 3) := dk_154 0 8 (dk_at dksX4_signChanges_4 15 rfl rfl)
theorem dX4_signChanges_112 : decode cX4_signChanges 112 = .ok (.iload 5, 2) := dk_21 5 (dk_at dksX4_signChanges_4 18 rfl rfl)
theorem dX4_signChanges_114 : decode cX4_signChanges 114 = .ok (.goto 5, 3) := dk_167 0 5 (dk_at dksX4_signChanges_4 20 rfl rfl)
theorem dX4_signChanges_117 : decode cX4_signChanges 117 = .ok (.iload 7, 2) := dk_21 7 (dk_at dksX4_signChanges_5 0 rfl rfl)
theorem dX4_signChanges_119 : decode cX4_signChanges 119 = .ok (.istore 5, 2) := dk_54 5 (dk_at dksX4_signChanges_5 2 rfl rfl)
theorem dX4_signChanges_121 : decode cX4_signChanges 121 = .ok (.iinc 6 1, 3) := dk_132 6 1 (dk_at dksX4_signChanges_5 4 rfl rfl)
theorem dX4_signChanges_124 : decode cX4_signChanges 124 = .ok (.goto (-69), 3) := dk_167 255 187 (dk_at dksX4_signChanges_5 7 rfl rfl)
theorem dX4_signChanges_127 : decode cX4_signChanges 127 = .ok (.aload_n 0, 1) := dk_42 (dk_at dksX4_signChanges_5 10 rfl rfl)
theorem dX4_signChanges_128 : decode cX4_signChanges 128 = .ok (.iload 4, 2) := dk_21 4 (dk_at dksX4_signChanges_5 11 rfl rfl)
theorem dX4_signChanges_130 : decode cX4_signChanges 130 = .ok (.invokevirtual 217, 3) := dk_182 0 217 (dk_at dksX4_signChanges_5 13 rfl rfl)
theorem dX4_signChanges_133 : decode cX4_signChanges 133 = .ok (.ireturn, 1) := dk_172 (dk_at dksX4_signChanges_5 16 rfl rfl)
abbrev cX4_isPoint : ByteArray := prog_6_method_61_code
def yX4_isPoint : MethodName := ⟨RX4, "isPoint", "(II)Z"⟩
def dkwX4_isPoint_1 : List UInt8 := [167, 0, 4, 3, 172]
abbrev dktX4_isPoint_1 : List UInt8 := dkwX4_isPoint_1 ++ []
def dkwX4_isPoint_0 : List UInt8 := [26, 19, 1, 1, 19, 1, 2, 184, 0, 232, 153, 0, 17, 27, 3, 16, 12, 184, 0, 232, 153, 0, 7, 4]
abbrev dktX4_isPoint_0 : List UInt8 := dkwX4_isPoint_0 ++ dktX4_isPoint_1
theorem dksX4_isPoint_0 : cX4_isPoint.data.toList.drop 0 = dktX4_isPoint_0 := by decide +kernel
theorem dksX4_isPoint_1 : cX4_isPoint.data.toList.drop 24 = dktX4_isPoint_1 := dk_seg dksX4_isPoint_0 24 rfl rfl
theorem dX4_isPoint_0 : decode cX4_isPoint 0 = .ok (.iload_n 0, 1) := dk_26 (dk_at dksX4_isPoint_0 0 rfl rfl)
theorem dX4_isPoint_1 : decode cX4_isPoint 1 = .ok (.ldc_w 257, 3) := dk_19 1 1 (dk_at dksX4_isPoint_0 1 rfl rfl)
theorem dX4_isPoint_4 : decode cX4_isPoint 4 = .ok (.ldc_w 258, 3) := dk_19 1 2 (dk_at dksX4_isPoint_0 4 rfl rfl)
theorem dX4_isPoint_7 : decode cX4_isPoint 7 = .ok (.invokestatic 232, 3) := dk_184 0 232 (dk_at dksX4_isPoint_0 7 rfl rfl)
theorem dX4_isPoint_10 : decode cX4_isPoint 10 = .ok (.ifCond .eq 17, 3) := dk_153 0 17 (dk_at dksX4_isPoint_0 10 rfl rfl)
theorem dX4_isPoint_13 : decode cX4_isPoint 13 = .ok (.iload_n 1, 1) := dk_27 (dk_at dksX4_isPoint_0 13 rfl rfl)
theorem dX4_isPoint_14 : decode cX4_isPoint 14 = .ok (.iconst 0, 1) := dk_3 (dk_at dksX4_isPoint_0 14 rfl rfl)
theorem dX4_isPoint_15 : decode cX4_isPoint 15 = .ok (.bipush 12, 2) := dk_16 12 (dk_at dksX4_isPoint_0 15 rfl rfl)
theorem dX4_isPoint_17 : decode cX4_isPoint 17 = .ok (.invokestatic 232, 3) := dk_184 0 232 (dk_at dksX4_isPoint_0 17 rfl rfl)
theorem dX4_isPoint_20 : decode cX4_isPoint 20 = .ok (.ifCond .eq 7, 3) := dk_153 0 7 (dk_at dksX4_isPoint_0 20 rfl rfl)
theorem dX4_isPoint_23 : decode cX4_isPoint 23 = .ok (.iconst 1, 1) := dk_4 (dk_at dksX4_isPoint_0 23 rfl rfl)
theorem dX4_isPoint_24 : decode cX4_isPoint 24 = .ok (.goto 4, 3) := dk_167 0 4 (dk_at dksX4_isPoint_1 0 rfl rfl)
theorem dX4_isPoint_27 : decode cX4_isPoint 27 = .ok (.iconst 0, 1) := dk_3 (dk_at dksX4_isPoint_1 3 rfl rfl)
theorem dX4_isPoint_28 : decode cX4_isPoint 28 = .ok (.ireturn, 1) := dk_172 (dk_at dksX4_isPoint_1 4 rfl rfl)
abbrev cX4_signAt : ByteArray := prog_6_method_33_code
def yX4_signAt : MethodName := ⟨RX4, "signAt", "([[IJI)I"⟩
def dkwX4_signAt_3 : List UInt8 := [167, 255, 203, 42, 180, 0, 14, 184, 0, 110, 172]
abbrev dktX4_signAt_3 : List UInt8 := dkwX4_signAt_3 ++ []
def dkwX4_signAt_2 : List UInt8 := [21, 5, 21, 6, 100, 104, 184, 0, 141, 42, 180, 0, 14, 42, 180, 0, 18, 184, 0, 194, 132, 6, 255]
abbrev dktX4_signAt_2 : List UInt8 := dkwX4_signAt_2 ++ dktX4_signAt_3
def dkwX4_signAt_1 : List UInt8 := [180, 0, 14, 32, 184, 0, 152, 43, 21, 6, 50, 42, 180, 0, 18, 184, 0, 113, 42, 180, 0, 18, 21, 4]
abbrev dktX4_signAt_1 : List UInt8 := dkwX4_signAt_1 ++ dktX4_signAt_2
def dkwX4_signAt_0 : List UInt8 := [43, 184, 0, 166, 54, 5, 42, 180, 0, 14, 9, 184, 0, 145, 21, 5, 54, 6, 21, 6, 155, 0, 54, 42]
abbrev dktX4_signAt_0 : List UInt8 := dkwX4_signAt_0 ++ dktX4_signAt_1
theorem dksX4_signAt_0 : cX4_signAt.data.toList.drop 0 = dktX4_signAt_0 := by decide +kernel
theorem dksX4_signAt_1 : cX4_signAt.data.toList.drop 24 = dktX4_signAt_1 := dk_seg dksX4_signAt_0 24 rfl rfl
theorem dksX4_signAt_2 : cX4_signAt.data.toList.drop 48 = dktX4_signAt_2 := dk_seg dksX4_signAt_1 24 rfl rfl
theorem dksX4_signAt_3 : cX4_signAt.data.toList.drop 71 = dktX4_signAt_3 := dk_seg dksX4_signAt_2 23 rfl rfl
theorem dX4_signAt_0 : decode cX4_signAt 0 = .ok (.aload_n 1, 1) := dk_43 (dk_at dksX4_signAt_0 0 rfl rfl)
theorem dX4_signAt_1 : decode cX4_signAt 1 = .ok (.invokestatic 166, 3) := dk_184 0 166 (dk_at dksX4_signAt_0 1 rfl rfl)
theorem dX4_signAt_4 : decode cX4_signAt 4 = .ok (.istore 5, 2) := dk_54 5 (dk_at dksX4_signAt_0 4 rfl rfl)
theorem dX4_signAt_6 : decode cX4_signAt 6 = .ok (.aload_n 0, 1) := dk_42 (dk_at dksX4_signAt_0 6 rfl rfl)
theorem dX4_signAt_7 : decode cX4_signAt 7 = .ok (.getfield 14, 3) := dk_180 0 14 (dk_at dksX4_signAt_0 7 rfl rfl)
theorem dX4_signAt_10 : decode cX4_signAt 10 = .ok (.lconst 0, 1) := dk_9 (dk_at dksX4_signAt_0 10 rfl rfl)
theorem dX4_signAt_11 : decode cX4_signAt 11 = .ok (.invokestatic 145, 3) := dk_184 0 145 (dk_at dksX4_signAt_0 11 rfl rfl)
theorem dX4_signAt_14 : decode cX4_signAt 14 = .ok (.iload 5, 2) := dk_21 5 (dk_at dksX4_signAt_0 14 rfl rfl)
theorem dX4_signAt_16 : decode cX4_signAt 16 = .ok (.istore 6, 2) := dk_54 6 (dk_at dksX4_signAt_0 16 rfl rfl)
theorem dX4_signAt_18 : decode cX4_signAt 18 = .ok (.iload 6, 2) := dk_21 6 (dk_at dksX4_signAt_0 18 rfl rfl)
theorem dX4_signAt_20 : decode cX4_signAt 20 = .ok (.ifCond .lt 54, 3) := dk_155 0 54 (dk_at dksX4_signAt_0 20 rfl rfl)
theorem dX4_signAt_23 : decode cX4_signAt 23 = .ok (.aload_n 0, 1) := dk_42 (dk_at dksX4_signAt_0 23 rfl rfl)
theorem dX4_signAt_24 : decode cX4_signAt 24 = .ok (.getfield 14, 3) := dk_180 0 14 (dk_at dksX4_signAt_1 0 rfl rfl)
theorem dX4_signAt_27 : decode cX4_signAt 27 = .ok (.lload_n 2, 1) := dk_32 (dk_at dksX4_signAt_1 3 rfl rfl)
theorem dX4_signAt_28 : decode cX4_signAt 28 = .ok (.invokestatic 152, 3) := dk_184 0 152 (dk_at dksX4_signAt_1 4 rfl rfl)
theorem dX4_signAt_31 : decode cX4_signAt 31 = .ok (.aload_n 1, 1) := dk_43 (dk_at dksX4_signAt_1 7 rfl rfl)
theorem dX4_signAt_32 : decode cX4_signAt 32 = .ok (.iload 6, 2) := dk_21 6 (dk_at dksX4_signAt_1 8 rfl rfl)
theorem dX4_signAt_34 : decode cX4_signAt 34 = .ok (.aaload, 1) := dk_50 (dk_at dksX4_signAt_1 10 rfl rfl)
theorem dX4_signAt_35 : decode cX4_signAt 35 = .ok (.aload_n 0, 1) := dk_42 (dk_at dksX4_signAt_1 11 rfl rfl)
theorem dX4_signAt_36 : decode cX4_signAt 36 = .ok (.getfield 18, 3) := dk_180 0 18 (dk_at dksX4_signAt_1 12 rfl rfl)
theorem dX4_signAt_39 : decode cX4_signAt 39 = .ok (.invokestatic 113, 3) := dk_184 0 113 (dk_at dksX4_signAt_1 15 rfl rfl)
theorem dX4_signAt_42 : decode cX4_signAt 42 = .ok (.aload_n 0, 1) := dk_42 (dk_at dksX4_signAt_1 18 rfl rfl)
theorem dX4_signAt_43 : decode cX4_signAt 43 = .ok (.getfield 18, 3) := dk_180 0 18 (dk_at dksX4_signAt_1 19 rfl rfl)
theorem dX4_signAt_46 : decode cX4_signAt 46 = .ok (.iload 4, 2) := dk_21 4 (dk_at dksX4_signAt_1 22 rfl rfl)
theorem dX4_signAt_48 : decode cX4_signAt 48 = .ok (.iload 5, 2) := dk_21 5 (dk_at dksX4_signAt_2 0 rfl rfl)
theorem dX4_signAt_50 : decode cX4_signAt 50 = .ok (.iload 6, 2) := dk_21 6 (dk_at dksX4_signAt_2 2 rfl rfl)
theorem dX4_signAt_52 : decode cX4_signAt 52 = .ok (.isub, 1) := dk_100 (dk_at dksX4_signAt_2 4 rfl rfl)
theorem dX4_signAt_53 : decode cX4_signAt 53 = .ok (.imul, 1) := dk_104 (dk_at dksX4_signAt_2 5 rfl rfl)
theorem dX4_signAt_54 : decode cX4_signAt 54 = .ok (.invokestatic 141, 3) := dk_184 0 141 (dk_at dksX4_signAt_2 6 rfl rfl)
theorem dX4_signAt_57 : decode cX4_signAt 57 = .ok (.aload_n 0, 1) := dk_42 (dk_at dksX4_signAt_2 9 rfl rfl)
theorem dX4_signAt_58 : decode cX4_signAt 58 = .ok (.getfield 14, 3) := dk_180 0 14 (dk_at dksX4_signAt_2 10 rfl rfl)
theorem dX4_signAt_61 : decode cX4_signAt 61 = .ok (.aload_n 0, 1) := dk_42 (dk_at dksX4_signAt_2 13 rfl rfl)
theorem dX4_signAt_62 : decode cX4_signAt 62 = .ok (.getfield 18, 3) := dk_180 0 18 (dk_at dksX4_signAt_2 14 rfl rfl)
theorem dX4_signAt_65 : decode cX4_signAt 65 = .ok (.invokestatic 194, 3) := dk_184 0 194 (dk_at dksX4_signAt_2 17 rfl rfl)
theorem dX4_signAt_68 : decode cX4_signAt 68 = .ok (.iinc 6 (-1), 3) := dk_132 6 255 (dk_at dksX4_signAt_2 20 rfl rfl)
theorem dX4_signAt_71 : decode cX4_signAt 71 = .ok (.goto (-53), 3) := dk_167 255 203 (dk_at dksX4_signAt_3 0 rfl rfl)
theorem dX4_signAt_74 : decode cX4_signAt 74 = .ok (.aload_n 0, 1) := dk_42 (dk_at dksX4_signAt_3 3 rfl rfl)
theorem dX4_signAt_75 : decode cX4_signAt 75 = .ok (.getfield 14, 3) := dk_180 0 14 (dk_at dksX4_signAt_3 4 rfl rfl)
theorem dX4_signAt_78 : decode cX4_signAt 78 = .ok (.invokestatic 110, 3) := dk_184 0 110 (dk_at dksX4_signAt_3 7 rfl rfl)
theorem dX4_signAt_81 : decode cX4_signAt 81 = .ok (.ireturn, 1) := dk_172 (dk_at dksX4_signAt_3 10 rfl rfl)
abbrev cX4_add_2 : ByteArray := prog_6_method_8_code
def yX4_add_2 : MethodName := ⟨RX4, "add", "([I[I)V"⟩
def dkwX4_add_2_2 : List UInt8 := [132, 4, 1, 167, 255, 213, 177]
abbrev dktX4_add_2_2 : List UInt8 := dkwX4_add_2_2 ++ []
def dkwX4_add_2_1 : List UInt8 := [21, 4, 46, 133, 20, 0, 91, 127, 97, 97, 65, 42, 21, 4, 32, 136, 79, 32, 16, 32, 125, 65]
abbrev dktX4_add_2_1 : List UInt8 := dkwX4_add_2_1 ++ dktX4_add_2_2
def dkwX4_add_2_0 : List UInt8 := [9, 65, 3, 54, 4, 21, 4, 16, 48, 162, 0, 42, 32, 42, 21, 4, 46, 133, 20, 0, 91, 127, 43]
abbrev dktX4_add_2_0 : List UInt8 := dkwX4_add_2_0 ++ dktX4_add_2_1
theorem dksX4_add_2_0 : cX4_add_2.data.toList.drop 0 = dktX4_add_2_0 := by decide +kernel
theorem dksX4_add_2_1 : cX4_add_2.data.toList.drop 23 = dktX4_add_2_1 := dk_seg dksX4_add_2_0 23 rfl rfl
theorem dksX4_add_2_2 : cX4_add_2.data.toList.drop 45 = dktX4_add_2_2 := dk_seg dksX4_add_2_1 22 rfl rfl
theorem dX4_add_2_0 : decode cX4_add_2 0 = .ok (.lconst 0, 1) := dk_9 (dk_at dksX4_add_2_0 0 rfl rfl)
theorem dX4_add_2_1 : decode cX4_add_2 1 = .ok (.lstore_n 2, 1) := dk_65 (dk_at dksX4_add_2_0 1 rfl rfl)
theorem dX4_add_2_2 : decode cX4_add_2 2 = .ok (.iconst 0, 1) := dk_3 (dk_at dksX4_add_2_0 2 rfl rfl)
theorem dX4_add_2_3 : decode cX4_add_2 3 = .ok (.istore 4, 2) := dk_54 4 (dk_at dksX4_add_2_0 3 rfl rfl)
theorem dX4_add_2_5 : decode cX4_add_2 5 = .ok (.iload 4, 2) := dk_21 4 (dk_at dksX4_add_2_0 5 rfl rfl)
theorem dX4_add_2_7 : decode cX4_add_2 7 = .ok (.bipush 48, 2) := dk_16 48 (dk_at dksX4_add_2_0 7 rfl rfl)
theorem dX4_add_2_9 : decode cX4_add_2 9 = .ok (.if_icmp .ge 42, 3) := dk_162 0 42 (dk_at dksX4_add_2_0 9 rfl rfl)
theorem dX4_add_2_12 : decode cX4_add_2 12 = .ok (.lload_n 2, 1) := dk_32 (dk_at dksX4_add_2_0 12 rfl rfl)
theorem dX4_add_2_13 : decode cX4_add_2 13 = .ok (.aload_n 0, 1) := dk_42 (dk_at dksX4_add_2_0 13 rfl rfl)
theorem dX4_add_2_14 : decode cX4_add_2 14 = .ok (.iload 4, 2) := dk_21 4 (dk_at dksX4_add_2_0 14 rfl rfl)
theorem dX4_add_2_16 : decode cX4_add_2 16 = .ok (.iaload, 1) := dk_46 (dk_at dksX4_add_2_0 16 rfl rfl)
theorem dX4_add_2_17 : decode cX4_add_2 17 = .ok (.i2l, 1) := dk_133 (dk_at dksX4_add_2_0 17 rfl rfl)
theorem dX4_add_2_18 : decode cX4_add_2 18 = .ok (.ldc2_w 91, 3) := dk_20 0 91 (dk_at dksX4_add_2_0 18 rfl rfl)
theorem dX4_add_2_21 : decode cX4_add_2 21 = .ok (.land, 1) := dk_127 (dk_at dksX4_add_2_0 21 rfl rfl)
theorem dX4_add_2_22 : decode cX4_add_2 22 = .ok (.aload_n 1, 1) := dk_43 (dk_at dksX4_add_2_0 22 rfl rfl)
theorem dX4_add_2_23 : decode cX4_add_2 23 = .ok (.iload 4, 2) := dk_21 4 (dk_at dksX4_add_2_1 0 rfl rfl)
theorem dX4_add_2_25 : decode cX4_add_2 25 = .ok (.iaload, 1) := dk_46 (dk_at dksX4_add_2_1 2 rfl rfl)
theorem dX4_add_2_26 : decode cX4_add_2 26 = .ok (.i2l, 1) := dk_133 (dk_at dksX4_add_2_1 3 rfl rfl)
theorem dX4_add_2_27 : decode cX4_add_2 27 = .ok (.ldc2_w 91, 3) := dk_20 0 91 (dk_at dksX4_add_2_1 4 rfl rfl)
theorem dX4_add_2_30 : decode cX4_add_2 30 = .ok (.land, 1) := dk_127 (dk_at dksX4_add_2_1 7 rfl rfl)
theorem dX4_add_2_31 : decode cX4_add_2 31 = .ok (.ladd, 1) := dk_97 (dk_at dksX4_add_2_1 8 rfl rfl)
theorem dX4_add_2_32 : decode cX4_add_2 32 = .ok (.ladd, 1) := dk_97 (dk_at dksX4_add_2_1 9 rfl rfl)
theorem dX4_add_2_33 : decode cX4_add_2 33 = .ok (.lstore_n 2, 1) := dk_65 (dk_at dksX4_add_2_1 10 rfl rfl)
theorem dX4_add_2_34 : decode cX4_add_2 34 = .ok (.aload_n 0, 1) := dk_42 (dk_at dksX4_add_2_1 11 rfl rfl)
theorem dX4_add_2_35 : decode cX4_add_2 35 = .ok (.iload 4, 2) := dk_21 4 (dk_at dksX4_add_2_1 12 rfl rfl)
theorem dX4_add_2_37 : decode cX4_add_2 37 = .ok (.lload_n 2, 1) := dk_32 (dk_at dksX4_add_2_1 14 rfl rfl)
theorem dX4_add_2_38 : decode cX4_add_2 38 = .ok (.l2i, 1) := dk_136 (dk_at dksX4_add_2_1 15 rfl rfl)
theorem dX4_add_2_39 : decode cX4_add_2 39 = .ok (.iastore, 1) := dk_79 (dk_at dksX4_add_2_1 16 rfl rfl)
theorem dX4_add_2_40 : decode cX4_add_2 40 = .ok (.lload_n 2, 1) := dk_32 (dk_at dksX4_add_2_1 17 rfl rfl)
theorem dX4_add_2_41 : decode cX4_add_2 41 = .ok (.bipush 32, 2) := dk_16 32 (dk_at dksX4_add_2_1 18 rfl rfl)
theorem dX4_add_2_43 : decode cX4_add_2 43 = .ok (.lushr, 1) := dk_125 (dk_at dksX4_add_2_1 20 rfl rfl)
theorem dX4_add_2_44 : decode cX4_add_2 44 = .ok (.lstore_n 2, 1) := dk_65 (dk_at dksX4_add_2_1 21 rfl rfl)
theorem dX4_add_2_45 : decode cX4_add_2 45 = .ok (.iinc 4 1, 3) := dk_132 4 1 (dk_at dksX4_add_2_2 0 rfl rfl)
theorem dX4_add_2_48 : decode cX4_add_2 48 = .ok (.goto (-43), 3) := dk_167 255 213 (dk_at dksX4_add_2_2 3 rfl rfl)
theorem dX4_add_2_51 : decode cX4_add_2 51 = .ok (.return_, 1) := dk_177 (dk_at dksX4_add_2_2 6 rfl rfl)
abbrev cX4_sign_2 : ByteArray := prog_6_method_63_code
def yX4_sign_2 : MethodName := ⟨RX4, "sign", "(III)I"⟩
def dkwX4_sign_2_2 : List UInt8 := [133, 29, 182, 1, 7, 182, 0, 217, 172]
abbrev dktX4_sign_2_2 : List UInt8 := dkwX4_sign_2_2 ++ []
def dkwX4_sign_2_1 : List UInt8 := [182, 0, 212, 172, 42, 180, 0, 11, 27, 50, 42, 180, 0, 63, 184, 0, 236, 42, 42, 42, 180, 0, 63, 28]
abbrev dktX4_sign_2_1 : List UInt8 := dkwX4_sign_2_1 ++ dktX4_sign_2_2
def dkwX4_sign_2_0 : List UInt8 := [27, 184, 0, 228, 154, 0, 9, 42, 4, 182, 0, 212, 172, 28, 29, 184, 1, 3, 154, 0, 9, 42, 5]
abbrev dktX4_sign_2_0 : List UInt8 := dkwX4_sign_2_0 ++ dktX4_sign_2_1
theorem dksX4_sign_2_0 : cX4_sign_2.data.toList.drop 0 = dktX4_sign_2_0 := by decide +kernel
theorem dksX4_sign_2_1 : cX4_sign_2.data.toList.drop 23 = dktX4_sign_2_1 := dk_seg dksX4_sign_2_0 23 rfl rfl
theorem dksX4_sign_2_2 : cX4_sign_2.data.toList.drop 47 = dktX4_sign_2_2 := dk_seg dksX4_sign_2_1 24 rfl rfl
theorem dX4_sign_2_0 : decode cX4_sign_2 0 = .ok (.iload_n 1, 1) := dk_27 (dk_at dksX4_sign_2_0 0 rfl rfl)
theorem dX4_sign_2_1 : decode cX4_sign_2 1 = .ok (.invokestatic 228, 3) := dk_184 0 228 (dk_at dksX4_sign_2_0 1 rfl rfl)
theorem dX4_sign_2_4 : decode cX4_sign_2 4 = .ok (.ifCond .ne 9, 3) := dk_154 0 9 (dk_at dksX4_sign_2_0 4 rfl rfl)
theorem dX4_sign_2_7 : decode cX4_sign_2 7 = .ok (.aload_n 0, 1) := dk_42 (dk_at dksX4_sign_2_0 7 rfl rfl)
theorem dX4_sign_2_8 : decode cX4_sign_2 8 = .ok (.iconst 1, 1) := dk_4 (dk_at dksX4_sign_2_0 8 rfl rfl)
theorem dX4_sign_2_9 : decode cX4_sign_2 9 = .ok (.invokevirtual 212, 3) := dk_182 0 212 (dk_at dksX4_sign_2_0 9 rfl rfl)
theorem dX4_sign_2_12 : decode cX4_sign_2 12 = .ok (.ireturn, 1) := dk_172 (dk_at dksX4_sign_2_0 12 rfl rfl)
theorem dX4_sign_2_13 : decode cX4_sign_2 13 = .ok (.iload_n 2, 1) := dk_28 (dk_at dksX4_sign_2_0 13 rfl rfl)
theorem dX4_sign_2_14 : decode cX4_sign_2 14 = .ok (.iload_n 3, 1) := dk_29 (dk_at dksX4_sign_2_0 14 rfl rfl)
theorem dX4_sign_2_15 : decode cX4_sign_2 15 = .ok (.invokestatic 259, 3) := dk_184 1 3 (dk_at dksX4_sign_2_0 15 rfl rfl)
theorem dX4_sign_2_18 : decode cX4_sign_2 18 = .ok (.ifCond .ne 9, 3) := dk_154 0 9 (dk_at dksX4_sign_2_0 18 rfl rfl)
theorem dX4_sign_2_21 : decode cX4_sign_2 21 = .ok (.aload_n 0, 1) := dk_42 (dk_at dksX4_sign_2_0 21 rfl rfl)
theorem dX4_sign_2_22 : decode cX4_sign_2 22 = .ok (.iconst 2, 1) := dk_5 (dk_at dksX4_sign_2_0 22 rfl rfl)
theorem dX4_sign_2_23 : decode cX4_sign_2 23 = .ok (.invokevirtual 212, 3) := dk_182 0 212 (dk_at dksX4_sign_2_1 0 rfl rfl)
theorem dX4_sign_2_26 : decode cX4_sign_2 26 = .ok (.ireturn, 1) := dk_172 (dk_at dksX4_sign_2_1 3 rfl rfl)
theorem dX4_sign_2_27 : decode cX4_sign_2 27 = .ok (.aload_n 0, 1) := dk_42 (dk_at dksX4_sign_2_1 4 rfl rfl)
theorem dX4_sign_2_28 : decode cX4_sign_2 28 = .ok (.getfield 11, 3) := dk_180 0 11 (dk_at dksX4_sign_2_1 5 rfl rfl)
theorem dX4_sign_2_31 : decode cX4_sign_2 31 = .ok (.iload_n 1, 1) := dk_27 (dk_at dksX4_sign_2_1 8 rfl rfl)
theorem dX4_sign_2_32 : decode cX4_sign_2 32 = .ok (.aaload, 1) := dk_50 (dk_at dksX4_sign_2_1 9 rfl rfl)
theorem dX4_sign_2_33 : decode cX4_sign_2 33 = .ok (.aload_n 0, 1) := dk_42 (dk_at dksX4_sign_2_1 10 rfl rfl)
theorem dX4_sign_2_34 : decode cX4_sign_2 34 = .ok (.getfield 63, 3) := dk_180 0 63 (dk_at dksX4_sign_2_1 11 rfl rfl)
theorem dX4_sign_2_37 : decode cX4_sign_2 37 = .ok (.invokestatic 236, 3) := dk_184 0 236 (dk_at dksX4_sign_2_1 14 rfl rfl)
theorem dX4_sign_2_40 : decode cX4_sign_2 40 = .ok (.aload_n 0, 1) := dk_42 (dk_at dksX4_sign_2_1 17 rfl rfl)
theorem dX4_sign_2_41 : decode cX4_sign_2 41 = .ok (.aload_n 0, 1) := dk_42 (dk_at dksX4_sign_2_1 18 rfl rfl)
theorem dX4_sign_2_42 : decode cX4_sign_2 42 = .ok (.aload_n 0, 1) := dk_42 (dk_at dksX4_sign_2_1 19 rfl rfl)
theorem dX4_sign_2_43 : decode cX4_sign_2 43 = .ok (.getfield 63, 3) := dk_180 0 63 (dk_at dksX4_sign_2_1 20 rfl rfl)
theorem dX4_sign_2_46 : decode cX4_sign_2 46 = .ok (.iload_n 2, 1) := dk_28 (dk_at dksX4_sign_2_1 23 rfl rfl)
theorem dX4_sign_2_47 : decode cX4_sign_2 47 = .ok (.i2l, 1) := dk_133 (dk_at dksX4_sign_2_2 0 rfl rfl)
theorem dX4_sign_2_48 : decode cX4_sign_2 48 = .ok (.iload_n 3, 1) := dk_29 (dk_at dksX4_sign_2_2 1 rfl rfl)
theorem dX4_sign_2_49 : decode cX4_sign_2 49 = .ok (.invokevirtual 263, 3) := dk_182 1 7 (dk_at dksX4_sign_2_2 2 rfl rfl)
theorem dX4_sign_2_52 : decode cX4_sign_2 52 = .ok (.invokevirtual 217, 3) := dk_182 0 217 (dk_at dksX4_sign_2_2 5 rfl rfl)
theorem dX4_sign_2_55 : decode cX4_sign_2 55 = .ok (.ireturn, 1) := dk_172 (dk_at dksX4_sign_2_2 8 rfl rfl)
abbrev cX4_countDistinct : ByteArray := prog_6_method_66_code
def yX4_countDistinct : MethodName := ⟨RX4, "countDistinct", "(IIIII)I"⟩
def dkwX4_countDistinct_1 : List UInt8 := [167, 0, 17, 42, 42, 28, 29, 21, 4, 21, 5, 182, 1, 19, 182, 0, 217, 172]
abbrev dktX4_countDistinct_1 : List UInt8 := dkwX4_countDistinct_1 ++ []
def dkwX4_countDistinct_0 : List UInt8 := [42, 27, 28, 29, 21, 4, 21, 5, 182, 1, 15, 54, 6, 21, 6, 158, 0, 12, 42, 21, 6, 182, 0, 212]
abbrev dktX4_countDistinct_0 : List UInt8 := dkwX4_countDistinct_0 ++ dktX4_countDistinct_1
theorem dksX4_countDistinct_0 : cX4_countDistinct.data.toList.drop 0 = dktX4_countDistinct_0 := by decide +kernel
theorem dksX4_countDistinct_1 : cX4_countDistinct.data.toList.drop 24 = dktX4_countDistinct_1 := dk_seg dksX4_countDistinct_0 24 rfl rfl
theorem dX4_countDistinct_0 : decode cX4_countDistinct 0 = .ok (.aload_n 0, 1) := dk_42 (dk_at dksX4_countDistinct_0 0 rfl rfl)
theorem dX4_countDistinct_1 : decode cX4_countDistinct 1 = .ok (.iload_n 1, 1) := dk_27 (dk_at dksX4_countDistinct_0 1 rfl rfl)
theorem dX4_countDistinct_2 : decode cX4_countDistinct 2 = .ok (.iload_n 2, 1) := dk_28 (dk_at dksX4_countDistinct_0 2 rfl rfl)
theorem dX4_countDistinct_3 : decode cX4_countDistinct 3 = .ok (.iload_n 3, 1) := dk_29 (dk_at dksX4_countDistinct_0 3 rfl rfl)
theorem dX4_countDistinct_4 : decode cX4_countDistinct 4 = .ok (.iload 4, 2) := dk_21 4 (dk_at dksX4_countDistinct_0 4 rfl rfl)
theorem dX4_countDistinct_6 : decode cX4_countDistinct 6 = .ok (.iload 5, 2) := dk_21 5 (dk_at dksX4_countDistinct_0 6 rfl rfl)
theorem dX4_countDistinct_8 : decode cX4_countDistinct 8 = .ok (.invokevirtual 271, 3) := dk_182 1 15 (dk_at dksX4_countDistinct_0 8 rfl rfl)
theorem dX4_countDistinct_11 : decode cX4_countDistinct 11 = .ok (.istore 6, 2) := dk_54 6 (dk_at dksX4_countDistinct_0 11 rfl rfl)
theorem dX4_countDistinct_13 : decode cX4_countDistinct 13 = .ok (.iload 6, 2) := dk_21 6 (dk_at dksX4_countDistinct_0 13 rfl rfl)
theorem dX4_countDistinct_15 : decode cX4_countDistinct 15 = .ok (.ifCond .le 12, 3) := dk_158 0 12 (dk_at dksX4_countDistinct_0 15 rfl rfl)
theorem dX4_countDistinct_18 : decode cX4_countDistinct 18 = .ok (.aload_n 0, 1) := dk_42 (dk_at dksX4_countDistinct_0 18 rfl rfl)
theorem dX4_countDistinct_19 : decode cX4_countDistinct 19 = .ok (.iload 6, 2) := dk_21 6 (dk_at dksX4_countDistinct_0 19 rfl rfl)
theorem dX4_countDistinct_21 : decode cX4_countDistinct 21 = .ok (.invokevirtual 212, 3) := dk_182 0 212 (dk_at dksX4_countDistinct_0 21 rfl rfl)
theorem dX4_countDistinct_24 : decode cX4_countDistinct 24 = .ok (.goto 17, 3) := dk_167 0 17 (dk_at dksX4_countDistinct_1 0 rfl rfl)
theorem dX4_countDistinct_27 : decode cX4_countDistinct 27 = .ok (.aload_n 0, 1) := dk_42 (dk_at dksX4_countDistinct_1 3 rfl rfl)
theorem dX4_countDistinct_28 : decode cX4_countDistinct 28 = .ok (.aload_n 0, 1) := dk_42 (dk_at dksX4_countDistinct_1 4 rfl rfl)
theorem dX4_countDistinct_29 : decode cX4_countDistinct 29 = .ok (.iload_n 2, 1) := dk_28 (dk_at dksX4_countDistinct_1 5 rfl rfl)
theorem dX4_countDistinct_30 : decode cX4_countDistinct 30 = .ok (.iload_n 3, 1) := dk_29 (dk_at dksX4_countDistinct_1 6 rfl rfl)
theorem dX4_countDistinct_31 : decode cX4_countDistinct 31 = .ok (.iload 4, 2) := dk_21 4 (dk_at dksX4_countDistinct_1 7 rfl rfl)
theorem dX4_countDistinct_33 : decode cX4_countDistinct 33 = .ok (.iload 5, 2) := dk_21 5 (dk_at dksX4_countDistinct_1 9 rfl rfl)
theorem dX4_countDistinct_35 : decode cX4_countDistinct 35 = .ok (.invokevirtual 275, 3) := dk_182 1 19 (dk_at dksX4_countDistinct_1 11 rfl rfl)
theorem dX4_countDistinct_38 : decode cX4_countDistinct 38 = .ok (.invokevirtual 217, 3) := dk_182 0 217 (dk_at dksX4_countDistinct_1 14 rfl rfl)
theorem dX4_countDistinct_41 : decode cX4_countDistinct 41 = .ok (.ireturn, 1) := dk_172 (dk_at dksX4_countDistinct_1 17 rfl rfl)
abbrev cX4_refused : ByteArray := prog_6_method_64_code
def yX4_refused : MethodName := ⟨RX4, "refused", "(IIIII)I"⟩
def dkwX4_refused_4 : List UInt8 := [7, 167, 0, 4, 3, 172]
abbrev dktX4_refused_4 : List UInt8 := dkwX4_refused_4 ++ []
def dkwX4_refused_3 : List UInt8 := [133, 29, 182, 1, 7, 153, 0, 19, 42, 42, 180, 0, 63, 21, 4, 133, 21, 5, 182, 1, 7, 154, 0, 7]
abbrev dktX4_refused_3 : List UInt8 := dkwX4_refused_3 ++ dktX4_refused_4
def dkwX4_refused_2 : List UInt8 := [153, 0, 5, 6, 172, 42, 180, 0, 11, 27, 50, 42, 180, 0, 63, 184, 0, 236, 42, 42, 180, 0, 63, 28]
abbrev dktX4_refused_2 : List UInt8 := dkwX4_refused_2 ++ dktX4_refused_3
def dkwX4_refused_1 : List UInt8 := [153, 0, 17, 28, 133, 21, 5, 121, 21, 4, 133, 29, 121, 148, 155, 0, 5, 5, 172, 42, 27, 182, 0, 244]
abbrev dktX4_refused_1 : List UInt8 := dkwX4_refused_1 ++ dktX4_refused_2
def dkwX4_refused_0 : List UInt8 := [27, 184, 0, 228, 154, 0, 5, 4, 172, 28, 29, 184, 1, 3, 153, 0, 27, 21, 4, 21, 5, 184, 1, 3]
abbrev dktX4_refused_0 : List UInt8 := dkwX4_refused_0 ++ dktX4_refused_1
theorem dksX4_refused_0 : cX4_refused.data.toList.drop 0 = dktX4_refused_0 := by decide +kernel
theorem dksX4_refused_1 : cX4_refused.data.toList.drop 24 = dktX4_refused_1 := dk_seg dksX4_refused_0 24 rfl rfl
theorem dksX4_refused_2 : cX4_refused.data.toList.drop 48 = dktX4_refused_2 := dk_seg dksX4_refused_1 24 rfl rfl
theorem dksX4_refused_3 : cX4_refused.data.toList.drop 72 = dktX4_refused_3 := dk_seg dksX4_refused_2 24 rfl rfl
theorem dksX4_refused_4 : cX4_refused.data.toList.drop 96 = dktX4_refused_4 := dk_seg dksX4_refused_3 24 rfl rfl
theorem dX4_refused_0 : decode cX4_refused 0 = .ok (.iload_n 1, 1) := dk_27 (dk_at dksX4_refused_0 0 rfl rfl)
theorem dX4_refused_1 : decode cX4_refused 1 = .ok (.invokestatic 228, 3) := dk_184 0 228 (dk_at dksX4_refused_0 1 rfl rfl)
theorem dX4_refused_4 : decode cX4_refused 4 = .ok (.ifCond .ne 5, 3) := dk_154 0 5 (dk_at dksX4_refused_0 4 rfl rfl)
theorem dX4_refused_7 : decode cX4_refused 7 = .ok (.iconst 1, 1) := dk_4 (dk_at dksX4_refused_0 7 rfl rfl)
theorem dX4_refused_8 : decode cX4_refused 8 = .ok (.ireturn, 1) := dk_172 (dk_at dksX4_refused_0 8 rfl rfl)
theorem dX4_refused_9 : decode cX4_refused 9 = .ok (.iload_n 2, 1) := dk_28 (dk_at dksX4_refused_0 9 rfl rfl)
theorem dX4_refused_10 : decode cX4_refused 10 = .ok (.iload_n 3, 1) := dk_29 (dk_at dksX4_refused_0 10 rfl rfl)
theorem dX4_refused_11 : decode cX4_refused 11 = .ok (.invokestatic 259, 3) := dk_184 1 3 (dk_at dksX4_refused_0 11 rfl rfl)
theorem dX4_refused_14 : decode cX4_refused 14 = .ok (.ifCond .eq 27, 3) := dk_153 0 27 (dk_at dksX4_refused_0 14 rfl rfl)
theorem dX4_refused_17 : decode cX4_refused 17 = .ok (.iload 4, 2) := dk_21 4 (dk_at dksX4_refused_0 17 rfl rfl)
theorem dX4_refused_19 : decode cX4_refused 19 = .ok (.iload 5, 2) := dk_21 5 (dk_at dksX4_refused_0 19 rfl rfl)
theorem dX4_refused_21 : decode cX4_refused 21 = .ok (.invokestatic 259, 3) := dk_184 1 3 (dk_at dksX4_refused_0 21 rfl rfl)
theorem dX4_refused_24 : decode cX4_refused 24 = .ok (.ifCond .eq 17, 3) := dk_153 0 17 (dk_at dksX4_refused_1 0 rfl rfl)
theorem dX4_refused_27 : decode cX4_refused 27 = .ok (.iload_n 2, 1) := dk_28 (dk_at dksX4_refused_1 3 rfl rfl)
theorem dX4_refused_28 : decode cX4_refused 28 = .ok (.i2l, 1) := dk_133 (dk_at dksX4_refused_1 4 rfl rfl)
theorem dX4_refused_29 : decode cX4_refused 29 = .ok (.iload 5, 2) := dk_21 5 (dk_at dksX4_refused_1 5 rfl rfl)
theorem dX4_refused_31 : decode cX4_refused 31 = .ok (.lshl, 1) := dk_121 (dk_at dksX4_refused_1 7 rfl rfl)
theorem dX4_refused_32 : decode cX4_refused 32 = .ok (.iload 4, 2) := dk_21 4 (dk_at dksX4_refused_1 8 rfl rfl)
theorem dX4_refused_34 : decode cX4_refused 34 = .ok (.i2l, 1) := dk_133 (dk_at dksX4_refused_1 10 rfl rfl)
theorem dX4_refused_35 : decode cX4_refused 35 = .ok (.iload_n 3, 1) := dk_29 (dk_at dksX4_refused_1 11 rfl rfl)
theorem dX4_refused_36 : decode cX4_refused 36 = .ok (.lshl, 1) := dk_121 (dk_at dksX4_refused_1 12 rfl rfl)
theorem dX4_refused_37 : decode cX4_refused 37 = .ok (.lcmp, 1) := dk_148 (dk_at dksX4_refused_1 13 rfl rfl)
theorem dX4_refused_38 : decode cX4_refused 38 = .ok (.ifCond .lt 5, 3) := dk_155 0 5 (dk_at dksX4_refused_1 14 rfl rfl)
theorem dX4_refused_41 : decode cX4_refused 41 = .ok (.iconst 2, 1) := dk_5 (dk_at dksX4_refused_1 17 rfl rfl)
theorem dX4_refused_42 : decode cX4_refused 42 = .ok (.ireturn, 1) := dk_172 (dk_at dksX4_refused_1 18 rfl rfl)
theorem dX4_refused_43 : decode cX4_refused 43 = .ok (.aload_n 0, 1) := dk_42 (dk_at dksX4_refused_1 19 rfl rfl)
theorem dX4_refused_44 : decode cX4_refused 44 = .ok (.iload_n 1, 1) := dk_27 (dk_at dksX4_refused_1 20 rfl rfl)
theorem dX4_refused_45 : decode cX4_refused 45 = .ok (.invokevirtual 244, 3) := dk_182 0 244 (dk_at dksX4_refused_1 21 rfl rfl)
theorem dX4_refused_48 : decode cX4_refused 48 = .ok (.ifCond .eq 5, 3) := dk_153 0 5 (dk_at dksX4_refused_2 0 rfl rfl)
theorem dX4_refused_51 : decode cX4_refused 51 = .ok (.iconst 3, 1) := dk_6 (dk_at dksX4_refused_2 3 rfl rfl)
theorem dX4_refused_52 : decode cX4_refused 52 = .ok (.ireturn, 1) := dk_172 (dk_at dksX4_refused_2 4 rfl rfl)
theorem dX4_refused_53 : decode cX4_refused 53 = .ok (.aload_n 0, 1) := dk_42 (dk_at dksX4_refused_2 5 rfl rfl)
theorem dX4_refused_54 : decode cX4_refused 54 = .ok (.getfield 11, 3) := dk_180 0 11 (dk_at dksX4_refused_2 6 rfl rfl)
theorem dX4_refused_57 : decode cX4_refused 57 = .ok (.iload_n 1, 1) := dk_27 (dk_at dksX4_refused_2 9 rfl rfl)
theorem dX4_refused_58 : decode cX4_refused 58 = .ok (.aaload, 1) := dk_50 (dk_at dksX4_refused_2 10 rfl rfl)
theorem dX4_refused_59 : decode cX4_refused 59 = .ok (.aload_n 0, 1) := dk_42 (dk_at dksX4_refused_2 11 rfl rfl)
theorem dX4_refused_60 : decode cX4_refused 60 = .ok (.getfield 63, 3) := dk_180 0 63 (dk_at dksX4_refused_2 12 rfl rfl)
theorem dX4_refused_63 : decode cX4_refused 63 = .ok (.invokestatic 236, 3) := dk_184 0 236 (dk_at dksX4_refused_2 15 rfl rfl)
theorem dX4_refused_66 : decode cX4_refused 66 = .ok (.aload_n 0, 1) := dk_42 (dk_at dksX4_refused_2 18 rfl rfl)
theorem dX4_refused_67 : decode cX4_refused 67 = .ok (.aload_n 0, 1) := dk_42 (dk_at dksX4_refused_2 19 rfl rfl)
theorem dX4_refused_68 : decode cX4_refused 68 = .ok (.getfield 63, 3) := dk_180 0 63 (dk_at dksX4_refused_2 20 rfl rfl)
theorem dX4_refused_71 : decode cX4_refused 71 = .ok (.iload_n 2, 1) := dk_28 (dk_at dksX4_refused_2 23 rfl rfl)
theorem dX4_refused_72 : decode cX4_refused 72 = .ok (.i2l, 1) := dk_133 (dk_at dksX4_refused_3 0 rfl rfl)
theorem dX4_refused_73 : decode cX4_refused 73 = .ok (.iload_n 3, 1) := dk_29 (dk_at dksX4_refused_3 1 rfl rfl)
theorem dX4_refused_74 : decode cX4_refused 74 = .ok (.invokevirtual 263, 3) := dk_182 1 7 (dk_at dksX4_refused_3 2 rfl rfl)
theorem dX4_refused_77 : decode cX4_refused 77 = .ok (.ifCond .eq 19, 3) := dk_153 0 19 (dk_at dksX4_refused_3 5 rfl rfl)
theorem dX4_refused_80 : decode cX4_refused 80 = .ok (.aload_n 0, 1) := dk_42 (dk_at dksX4_refused_3 8 rfl rfl)
theorem dX4_refused_81 : decode cX4_refused 81 = .ok (.aload_n 0, 1) := dk_42 (dk_at dksX4_refused_3 9 rfl rfl)
theorem dX4_refused_82 : decode cX4_refused 82 = .ok (.getfield 63, 3) := dk_180 0 63 (dk_at dksX4_refused_3 10 rfl rfl)
theorem dX4_refused_85 : decode cX4_refused 85 = .ok (.iload 4, 2) := dk_21 4 (dk_at dksX4_refused_3 13 rfl rfl)
theorem dX4_refused_87 : decode cX4_refused 87 = .ok (.i2l, 1) := dk_133 (dk_at dksX4_refused_3 15 rfl rfl)
theorem dX4_refused_88 : decode cX4_refused 88 = .ok (.iload 5, 2) := dk_21 5 (dk_at dksX4_refused_3 16 rfl rfl)
theorem dX4_refused_90 : decode cX4_refused 90 = .ok (.invokevirtual 263, 3) := dk_182 1 7 (dk_at dksX4_refused_3 18 rfl rfl)
theorem dX4_refused_93 : decode cX4_refused 93 = .ok (.ifCond .ne 7, 3) := dk_154 0 7 (dk_at dksX4_refused_3 21 rfl rfl)
theorem dX4_refused_96 : decode cX4_refused 96 = .ok (.iconst 4, 1) := dk_7 (dk_at dksX4_refused_4 0 rfl rfl)
theorem dX4_refused_97 : decode cX4_refused 97 = .ok (.goto 4, 3) := dk_167 0 4 (dk_at dksX4_refused_4 1 rfl rfl)
theorem dX4_refused_100 : decode cX4_refused 100 = .ok (.iconst 0, 1) := dk_3 (dk_at dksX4_refused_4 4 rfl rfl)
theorem dX4_refused_101 : decode cX4_refused 101 = .ok (.ireturn, 1) := dk_172 (dk_at dksX4_refused_4 5 rfl rfl)
abbrev cX4_distinct : ByteArray := prog_6_method_65_code
def yX4_distinct : MethodName := ⟨RX4, "distinct", "(IIII)I"⟩
def dkwX4_distinct_1 : List UInt8 := [21, 5, 28, 100, 121, 29, 133, 21, 5, 21, 4, 100, 121, 21, 5, 182, 1, 11, 172]
abbrev dktX4_distinct_1 : List UInt8 := dkwX4_distinct_1 ++ []
def dkwX4_distinct_0 : List UInt8 := [28, 21, 4, 184, 0, 117, 54, 5, 42, 42, 180, 0, 63, 182, 0, 247, 42, 42, 180, 0, 45, 27, 133]
abbrev dktX4_distinct_0 : List UInt8 := dkwX4_distinct_0 ++ dktX4_distinct_1
theorem dksX4_distinct_0 : cX4_distinct.data.toList.drop 0 = dktX4_distinct_0 := by decide +kernel
theorem dksX4_distinct_1 : cX4_distinct.data.toList.drop 23 = dktX4_distinct_1 := dk_seg dksX4_distinct_0 23 rfl rfl
theorem dX4_distinct_0 : decode cX4_distinct 0 = .ok (.iload_n 2, 1) := dk_28 (dk_at dksX4_distinct_0 0 rfl rfl)
theorem dX4_distinct_1 : decode cX4_distinct 1 = .ok (.iload 4, 2) := dk_21 4 (dk_at dksX4_distinct_0 1 rfl rfl)
theorem dX4_distinct_3 : decode cX4_distinct 3 = .ok (.invokestatic 117, 3) := dk_184 0 117 (dk_at dksX4_distinct_0 3 rfl rfl)
theorem dX4_distinct_6 : decode cX4_distinct 6 = .ok (.istore 5, 2) := dk_54 5 (dk_at dksX4_distinct_0 6 rfl rfl)
theorem dX4_distinct_8 : decode cX4_distinct 8 = .ok (.aload_n 0, 1) := dk_42 (dk_at dksX4_distinct_0 8 rfl rfl)
theorem dX4_distinct_9 : decode cX4_distinct 9 = .ok (.aload_n 0, 1) := dk_42 (dk_at dksX4_distinct_0 9 rfl rfl)
theorem dX4_distinct_10 : decode cX4_distinct 10 = .ok (.getfield 63, 3) := dk_180 0 63 (dk_at dksX4_distinct_0 10 rfl rfl)
theorem dX4_distinct_13 : decode cX4_distinct 13 = .ok (.invokevirtual 247, 3) := dk_182 0 247 (dk_at dksX4_distinct_0 13 rfl rfl)
theorem dX4_distinct_16 : decode cX4_distinct 16 = .ok (.aload_n 0, 1) := dk_42 (dk_at dksX4_distinct_0 16 rfl rfl)
theorem dX4_distinct_17 : decode cX4_distinct 17 = .ok (.aload_n 0, 1) := dk_42 (dk_at dksX4_distinct_0 17 rfl rfl)
theorem dX4_distinct_18 : decode cX4_distinct 18 = .ok (.getfield 45, 3) := dk_180 0 45 (dk_at dksX4_distinct_0 18 rfl rfl)
theorem dX4_distinct_21 : decode cX4_distinct 21 = .ok (.iload_n 1, 1) := dk_27 (dk_at dksX4_distinct_0 21 rfl rfl)
theorem dX4_distinct_22 : decode cX4_distinct 22 = .ok (.i2l, 1) := dk_133 (dk_at dksX4_distinct_0 22 rfl rfl)
theorem dX4_distinct_23 : decode cX4_distinct 23 = .ok (.iload 5, 2) := dk_21 5 (dk_at dksX4_distinct_1 0 rfl rfl)
theorem dX4_distinct_25 : decode cX4_distinct 25 = .ok (.iload_n 2, 1) := dk_28 (dk_at dksX4_distinct_1 2 rfl rfl)
theorem dX4_distinct_26 : decode cX4_distinct 26 = .ok (.isub, 1) := dk_100 (dk_at dksX4_distinct_1 3 rfl rfl)
theorem dX4_distinct_27 : decode cX4_distinct 27 = .ok (.lshl, 1) := dk_121 (dk_at dksX4_distinct_1 4 rfl rfl)
theorem dX4_distinct_28 : decode cX4_distinct 28 = .ok (.iload_n 3, 1) := dk_29 (dk_at dksX4_distinct_1 5 rfl rfl)
theorem dX4_distinct_29 : decode cX4_distinct 29 = .ok (.i2l, 1) := dk_133 (dk_at dksX4_distinct_1 6 rfl rfl)
theorem dX4_distinct_30 : decode cX4_distinct 30 = .ok (.iload 5, 2) := dk_21 5 (dk_at dksX4_distinct_1 7 rfl rfl)
theorem dX4_distinct_32 : decode cX4_distinct 32 = .ok (.iload 4, 2) := dk_21 4 (dk_at dksX4_distinct_1 9 rfl rfl)
theorem dX4_distinct_34 : decode cX4_distinct 34 = .ok (.isub, 1) := dk_100 (dk_at dksX4_distinct_1 11 rfl rfl)
theorem dX4_distinct_35 : decode cX4_distinct 35 = .ok (.lshl, 1) := dk_121 (dk_at dksX4_distinct_1 12 rfl rfl)
theorem dX4_distinct_36 : decode cX4_distinct 36 = .ok (.iload 5, 2) := dk_21 5 (dk_at dksX4_distinct_1 13 rfl rfl)
theorem dX4_distinct_38 : decode cX4_distinct 38 = .ok (.invokevirtual 267, 3) := dk_182 1 11 (dk_at dksX4_distinct_1 15 rfl rfl)
theorem dX4_distinct_41 : decode cX4_distinct 41 = .ok (.ireturn, 1) := dk_172 (dk_at dksX4_distinct_1 18 rfl rfl)
abbrev cX4_between : ByteArray := prog_6_method_37_code
def yX4_between : MethodName := ⟨RX4, "between", "([[IJJI)I"⟩
def dkwX4_between_15 : List UInt8 := [21, 10, 3, 79, 167, 255, 77, 21, 9, 172]
abbrev dktX4_between_15 : List UInt8 := dkwX4_between_15 ++ []
def dkwX4_between_14 : List UInt8 := [167, 0, 4, 3, 96, 54, 9, 167, 0, 9, 132, 10, 255, 167, 255, 91, 132, 10, 1, 42, 180, 0, 53]
abbrev dktX4_between_14 : List UInt8 := dkwX4_between_14 ++ dktX4_between_15
def dkwX4_between_13 : List UInt8 := [160, 0, 33, 25, 12, 21, 7, 184, 0, 197, 21, 9, 25, 12, 3, 50, 184, 0, 110, 154, 0, 7, 4]
abbrev dktX4_between_13 : List UInt8 := dkwX4_between_13 ++ dktX4_between_14
def dkwX4_between_12 : List UInt8 := [21, 14, 100, 184, 0, 141, 132, 14, 1, 167, 255, 220, 167, 0, 50, 42, 180, 0, 53, 21, 10, 46, 5]
abbrev dktX4_between_12 : List UInt8 := dkwX4_between_12 ++ dktX4_between_13
def dkwX4_between_11 : List UInt8 := [163, 0, 35, 25, 11, 21, 14, 50, 25, 12, 21, 14, 50, 184, 0, 113, 25, 12, 21, 14, 50, 21, 7]
abbrev dktX4_between_11 : List UInt8 := dkwX4_between_11 ++ dktX4_between_12
def dkwX4_between_10 : List UInt8 := [162, 0, 16, 21, 9, 21, 13, 96, 54, 9, 132, 10, 255, 167, 255, 183, 3, 54, 14, 21, 14, 21, 7]
abbrev dktX4_between_10 : List UInt8 := dkwX4_between_10 ++ dktX4_between_11
def dkwX4_between_9 : List UInt8 := [180, 0, 53, 21, 10, 46, 4, 160, 0, 77, 42, 25, 11, 21, 7, 182, 0, 205, 54, 13, 21, 13, 5]
abbrev dktX4_between_9 : List UInt8 := dkwX4_between_9 ++ dktX4_between_10
def dkwX4_between_8 : List UInt8 := [180, 0, 50, 21, 10, 4, 96, 50, 58, 12, 42, 180, 0, 53, 21, 10, 92, 46, 4, 96, 79, 42]
abbrev dktX4_between_8 : List UInt8 := dkwX4_between_8 ++ dktX4_between_9
def dkwX4_between_7 : List UInt8 := [54, 10, 42, 180, 0, 53, 3, 3, 79, 21, 10, 155, 0, 180, 42, 180, 0, 50, 21, 10, 50, 58, 11, 42]
abbrev dktX4_between_7 : List UInt8 := dkwX4_between_7 ++ dktX4_between_8
def dkwX4_between_6 : List UInt8 := [184, 0, 141, 25, 8, 3, 50, 42, 180, 0, 18, 184, 0, 194, 132, 9, 255, 167, 255, 142, 3, 54, 9, 3]
abbrev dktX4_between_6 : List UInt8 := dkwX4_between_6 ++ dktX4_between_7
def dkwX4_between_5 : List UInt8 := [21, 9, 50, 42, 180, 0, 18, 184, 0, 113, 42, 180, 0, 18, 21, 6, 21, 7, 21, 9, 100, 104]
abbrev dktX4_between_5 : List UInt8 := dkwX4_between_5 ++ dktX4_between_6
def dkwX4_between_4 : List UInt8 := [101, 184, 0, 152, 25, 8, 21, 10, 50, 42, 180, 0, 18, 184, 0, 194, 132, 10, 255, 167, 255, 194, 43]
abbrev dktX4_between_4 : List UInt8 := dkwX4_between_4 ++ dktX4_between_5
def dkwX4_between_3 : List UInt8 := [167, 0, 40, 25, 8, 21, 10, 4, 100, 50, 42, 180, 0, 18, 184, 0, 113, 42, 180, 0, 18, 22, 4, 32]
abbrev dktX4_between_3 : List UInt8 := dkwX4_between_3 ++ dktX4_between_4
def dkwX4_between_2 : List UInt8 := [21, 7, 54, 10, 21, 10, 155, 0, 63, 25, 8, 21, 10, 50, 32, 184, 0, 152, 21, 10, 154, 0, 6]
abbrev dktX4_between_2 : List UInt8 := dkwX4_between_2 ++ dktX4_between_3
def dkwX4_between_1 : List UInt8 := [25, 8, 21, 9, 50, 9, 184, 0, 145, 132, 9, 1, 167, 255, 237, 21, 7, 54, 9, 21, 9, 155, 0, 115]
abbrev dktX4_between_1 : List UInt8 := dkwX4_between_1 ++ dktX4_between_2
def dkwX4_between_0 : List UInt8 := [43, 184, 0, 166, 54, 7, 42, 180, 0, 50, 3, 50, 58, 8, 3, 54, 9, 21, 9, 16, 7, 162, 0, 18]
abbrev dktX4_between_0 : List UInt8 := dkwX4_between_0 ++ dktX4_between_1
theorem dksX4_between_0 : cX4_between.data.toList.drop 0 = dktX4_between_0 := by decide +kernel
theorem dksX4_between_1 : cX4_between.data.toList.drop 24 = dktX4_between_1 := dk_seg dksX4_between_0 24 rfl rfl
theorem dksX4_between_2 : cX4_between.data.toList.drop 48 = dktX4_between_2 := dk_seg dksX4_between_1 24 rfl rfl
theorem dksX4_between_3 : cX4_between.data.toList.drop 71 = dktX4_between_3 := dk_seg dksX4_between_2 23 rfl rfl
theorem dksX4_between_4 : cX4_between.data.toList.drop 95 = dktX4_between_4 := dk_seg dksX4_between_3 24 rfl rfl
theorem dksX4_between_5 : cX4_between.data.toList.drop 118 = dktX4_between_5 := dk_seg dksX4_between_4 23 rfl rfl
theorem dksX4_between_6 : cX4_between.data.toList.drop 140 = dktX4_between_6 := dk_seg dksX4_between_5 22 rfl rfl
theorem dksX4_between_7 : cX4_between.data.toList.drop 164 = dktX4_between_7 := dk_seg dksX4_between_6 24 rfl rfl
theorem dksX4_between_8 : cX4_between.data.toList.drop 188 = dktX4_between_8 := dk_seg dksX4_between_7 24 rfl rfl
theorem dksX4_between_9 : cX4_between.data.toList.drop 210 = dktX4_between_9 := dk_seg dksX4_between_8 22 rfl rfl
theorem dksX4_between_10 : cX4_between.data.toList.drop 233 = dktX4_between_10 := dk_seg dksX4_between_9 23 rfl rfl
theorem dksX4_between_11 : cX4_between.data.toList.drop 256 = dktX4_between_11 := dk_seg dksX4_between_10 23 rfl rfl
theorem dksX4_between_12 : cX4_between.data.toList.drop 279 = dktX4_between_12 := dk_seg dksX4_between_11 23 rfl rfl
theorem dksX4_between_13 : cX4_between.data.toList.drop 302 = dktX4_between_13 := dk_seg dksX4_between_12 23 rfl rfl
theorem dksX4_between_14 : cX4_between.data.toList.drop 325 = dktX4_between_14 := dk_seg dksX4_between_13 23 rfl rfl
theorem dksX4_between_15 : cX4_between.data.toList.drop 348 = dktX4_between_15 := dk_seg dksX4_between_14 23 rfl rfl
theorem dX4_between_0 : decode cX4_between 0 = .ok (.aload_n 1, 1) := dk_43 (dk_at dksX4_between_0 0 rfl rfl)
theorem dX4_between_1 : decode cX4_between 1 = .ok (.invokestatic 166, 3) := dk_184 0 166 (dk_at dksX4_between_0 1 rfl rfl)
theorem dX4_between_4 : decode cX4_between 4 = .ok (.istore 7, 2) := dk_54 7 (dk_at dksX4_between_0 4 rfl rfl)
theorem dX4_between_6 : decode cX4_between 6 = .ok (.aload_n 0, 1) := dk_42 (dk_at dksX4_between_0 6 rfl rfl)
theorem dX4_between_7 : decode cX4_between 7 = .ok (.getfield 50, 3) := dk_180 0 50 (dk_at dksX4_between_0 7 rfl rfl)
theorem dX4_between_10 : decode cX4_between 10 = .ok (.iconst 0, 1) := dk_3 (dk_at dksX4_between_0 10 rfl rfl)
theorem dX4_between_11 : decode cX4_between 11 = .ok (.aaload, 1) := dk_50 (dk_at dksX4_between_0 11 rfl rfl)
theorem dX4_between_12 : decode cX4_between 12 = .ok (.astore 8, 2) := dk_58 8 (dk_at dksX4_between_0 12 rfl rfl)
theorem dX4_between_14 : decode cX4_between 14 = .ok (.iconst 0, 1) := dk_3 (dk_at dksX4_between_0 14 rfl rfl)
theorem dX4_between_15 : decode cX4_between 15 = .ok (.istore 9, 2) := dk_54 9 (dk_at dksX4_between_0 15 rfl rfl)
theorem dX4_between_17 : decode cX4_between 17 = .ok (.iload 9, 2) := dk_21 9 (dk_at dksX4_between_0 17 rfl rfl)
theorem dX4_between_19 : decode cX4_between 19 = .ok (.bipush 7, 2) := dk_16 7 (dk_at dksX4_between_0 19 rfl rfl)
theorem dX4_between_21 : decode cX4_between 21 = .ok (.if_icmp .ge 18, 3) := dk_162 0 18 (dk_at dksX4_between_0 21 rfl rfl)
theorem dX4_between_24 : decode cX4_between 24 = .ok (.aload 8, 2) := dk_25 8 (dk_at dksX4_between_1 0 rfl rfl)
theorem dX4_between_26 : decode cX4_between 26 = .ok (.iload 9, 2) := dk_21 9 (dk_at dksX4_between_1 2 rfl rfl)
theorem dX4_between_28 : decode cX4_between 28 = .ok (.aaload, 1) := dk_50 (dk_at dksX4_between_1 4 rfl rfl)
theorem dX4_between_29 : decode cX4_between 29 = .ok (.lconst 0, 1) := dk_9 (dk_at dksX4_between_1 5 rfl rfl)
theorem dX4_between_30 : decode cX4_between 30 = .ok (.invokestatic 145, 3) := dk_184 0 145 (dk_at dksX4_between_1 6 rfl rfl)
theorem dX4_between_33 : decode cX4_between 33 = .ok (.iinc 9 1, 3) := dk_132 9 1 (dk_at dksX4_between_1 9 rfl rfl)
theorem dX4_between_36 : decode cX4_between 36 = .ok (.goto (-19), 3) := dk_167 255 237 (dk_at dksX4_between_1 12 rfl rfl)
theorem dX4_between_39 : decode cX4_between 39 = .ok (.iload 7, 2) := dk_21 7 (dk_at dksX4_between_1 15 rfl rfl)
theorem dX4_between_41 : decode cX4_between 41 = .ok (.istore 9, 2) := dk_54 9 (dk_at dksX4_between_1 17 rfl rfl)
theorem dX4_between_43 : decode cX4_between 43 = .ok (.iload 9, 2) := dk_21 9 (dk_at dksX4_between_1 19 rfl rfl)
theorem dX4_between_45 : decode cX4_between 45 = .ok (.ifCond .lt 115, 3) := dk_155 0 115 (dk_at dksX4_between_1 21 rfl rfl)
theorem dX4_between_48 : decode cX4_between 48 = .ok (.iload 7, 2) := dk_21 7 (dk_at dksX4_between_2 0 rfl rfl)
theorem dX4_between_50 : decode cX4_between 50 = .ok (.istore 10, 2) := dk_54 10 (dk_at dksX4_between_2 2 rfl rfl)
theorem dX4_between_52 : decode cX4_between 52 = .ok (.iload 10, 2) := dk_21 10 (dk_at dksX4_between_2 4 rfl rfl)
theorem dX4_between_54 : decode cX4_between 54 = .ok (.ifCond .lt 63, 3) := dk_155 0 63 (dk_at dksX4_between_2 6 rfl rfl)
theorem dX4_between_57 : decode cX4_between 57 = .ok (.aload 8, 2) := dk_25 8 (dk_at dksX4_between_2 9 rfl rfl)
theorem dX4_between_59 : decode cX4_between 59 = .ok (.iload 10, 2) := dk_21 10 (dk_at dksX4_between_2 11 rfl rfl)
theorem dX4_between_61 : decode cX4_between 61 = .ok (.aaload, 1) := dk_50 (dk_at dksX4_between_2 13 rfl rfl)
theorem dX4_between_62 : decode cX4_between 62 = .ok (.lload_n 2, 1) := dk_32 (dk_at dksX4_between_2 14 rfl rfl)
theorem dX4_between_63 : decode cX4_between 63 = .ok (.invokestatic 152, 3) := dk_184 0 152 (dk_at dksX4_between_2 15 rfl rfl)
theorem dX4_between_66 : decode cX4_between 66 = .ok (.iload 10, 2) := dk_21 10 (dk_at dksX4_between_2 18 rfl rfl)
theorem dX4_between_68 : decode cX4_between 68 = .ok (.ifCond .ne 6, 3) := dk_154 0 6 (dk_at dksX4_between_2 20 rfl rfl)
theorem dX4_between_71 : decode cX4_between 71 = .ok (.goto 40, 3) := dk_167 0 40 (dk_at dksX4_between_3 0 rfl rfl)
theorem dX4_between_74 : decode cX4_between 74 = .ok (.aload 8, 2) := dk_25 8 (dk_at dksX4_between_3 3 rfl rfl)
theorem dX4_between_76 : decode cX4_between 76 = .ok (.iload 10, 2) := dk_21 10 (dk_at dksX4_between_3 5 rfl rfl)
theorem dX4_between_78 : decode cX4_between 78 = .ok (.iconst 1, 1) := dk_4 (dk_at dksX4_between_3 7 rfl rfl)
theorem dX4_between_79 : decode cX4_between 79 = .ok (.isub, 1) := dk_100 (dk_at dksX4_between_3 8 rfl rfl)
theorem dX4_between_80 : decode cX4_between 80 = .ok (.aaload, 1) := dk_50 (dk_at dksX4_between_3 9 rfl rfl)
theorem dX4_between_81 : decode cX4_between 81 = .ok (.aload_n 0, 1) := dk_42 (dk_at dksX4_between_3 10 rfl rfl)
theorem dX4_between_82 : decode cX4_between 82 = .ok (.getfield 18, 3) := dk_180 0 18 (dk_at dksX4_between_3 11 rfl rfl)
theorem dX4_between_85 : decode cX4_between 85 = .ok (.invokestatic 113, 3) := dk_184 0 113 (dk_at dksX4_between_3 14 rfl rfl)
theorem dX4_between_88 : decode cX4_between 88 = .ok (.aload_n 0, 1) := dk_42 (dk_at dksX4_between_3 17 rfl rfl)
theorem dX4_between_89 : decode cX4_between 89 = .ok (.getfield 18, 3) := dk_180 0 18 (dk_at dksX4_between_3 18 rfl rfl)
theorem dX4_between_92 : decode cX4_between 92 = .ok (.lload 4, 2) := dk_22 4 (dk_at dksX4_between_3 21 rfl rfl)
theorem dX4_between_94 : decode cX4_between 94 = .ok (.lload_n 2, 1) := dk_32 (dk_at dksX4_between_3 23 rfl rfl)
theorem dX4_between_95 : decode cX4_between 95 = .ok (.lsub, 1) := dk_101 (dk_at dksX4_between_4 0 rfl rfl)
theorem dX4_between_96 : decode cX4_between 96 = .ok (.invokestatic 152, 3) := dk_184 0 152 (dk_at dksX4_between_4 1 rfl rfl)
theorem dX4_between_99 : decode cX4_between 99 = .ok (.aload 8, 2) := dk_25 8 (dk_at dksX4_between_4 4 rfl rfl)
theorem dX4_between_101 : decode cX4_between 101 = .ok (.iload 10, 2) := dk_21 10 (dk_at dksX4_between_4 6 rfl rfl)
theorem dX4_between_103 : decode cX4_between 103 = .ok (.aaload, 1) := dk_50 (dk_at dksX4_between_4 8 rfl rfl)
theorem dX4_between_104 : decode cX4_between 104 = .ok (.aload_n 0, 1) := dk_42 (dk_at dksX4_between_4 9 rfl rfl)
theorem dX4_between_105 : decode cX4_between 105 = .ok (.getfield 18, 3) := dk_180 0 18 (dk_at dksX4_between_4 10 rfl rfl)
theorem dX4_between_108 : decode cX4_between 108 = .ok (.invokestatic 194, 3) := dk_184 0 194 (dk_at dksX4_between_4 13 rfl rfl)
theorem dX4_between_111 : decode cX4_between 111 = .ok (.iinc 10 (-1), 3) := dk_132 10 255 (dk_at dksX4_between_4 16 rfl rfl)
theorem dX4_between_114 : decode cX4_between 114 = .ok (.goto (-62), 3) := dk_167 255 194 (dk_at dksX4_between_4 19 rfl rfl)
theorem dX4_between_117 : decode cX4_between 117 = .ok (.aload_n 1, 1) := dk_43 (dk_at dksX4_between_4 22 rfl rfl)
theorem dX4_between_118 : decode cX4_between 118 = .ok (.iload 9, 2) := dk_21 9 (dk_at dksX4_between_5 0 rfl rfl)
theorem dX4_between_120 : decode cX4_between 120 = .ok (.aaload, 1) := dk_50 (dk_at dksX4_between_5 2 rfl rfl)
theorem dX4_between_121 : decode cX4_between 121 = .ok (.aload_n 0, 1) := dk_42 (dk_at dksX4_between_5 3 rfl rfl)
theorem dX4_between_122 : decode cX4_between 122 = .ok (.getfield 18, 3) := dk_180 0 18 (dk_at dksX4_between_5 4 rfl rfl)
theorem dX4_between_125 : decode cX4_between 125 = .ok (.invokestatic 113, 3) := dk_184 0 113 (dk_at dksX4_between_5 7 rfl rfl)
theorem dX4_between_128 : decode cX4_between 128 = .ok (.aload_n 0, 1) := dk_42 (dk_at dksX4_between_5 10 rfl rfl)
theorem dX4_between_129 : decode cX4_between 129 = .ok (.getfield 18, 3) := dk_180 0 18 (dk_at dksX4_between_5 11 rfl rfl)
theorem dX4_between_132 : decode cX4_between 132 = .ok (.iload 6, 2) := dk_21 6 (dk_at dksX4_between_5 14 rfl rfl)
theorem dX4_between_134 : decode cX4_between 134 = .ok (.iload 7, 2) := dk_21 7 (dk_at dksX4_between_5 16 rfl rfl)
theorem dX4_between_136 : decode cX4_between 136 = .ok (.iload 9, 2) := dk_21 9 (dk_at dksX4_between_5 18 rfl rfl)
theorem dX4_between_138 : decode cX4_between 138 = .ok (.isub, 1) := dk_100 (dk_at dksX4_between_5 20 rfl rfl)
theorem dX4_between_139 : decode cX4_between 139 = .ok (.imul, 1) := dk_104 (dk_at dksX4_between_5 21 rfl rfl)
theorem dX4_between_140 : decode cX4_between 140 = .ok (.invokestatic 141, 3) := dk_184 0 141 (dk_at dksX4_between_6 0 rfl rfl)
theorem dX4_between_143 : decode cX4_between 143 = .ok (.aload 8, 2) := dk_25 8 (dk_at dksX4_between_6 3 rfl rfl)
theorem dX4_between_145 : decode cX4_between 145 = .ok (.iconst 0, 1) := dk_3 (dk_at dksX4_between_6 5 rfl rfl)
theorem dX4_between_146 : decode cX4_between 146 = .ok (.aaload, 1) := dk_50 (dk_at dksX4_between_6 6 rfl rfl)
theorem dX4_between_147 : decode cX4_between 147 = .ok (.aload_n 0, 1) := dk_42 (dk_at dksX4_between_6 7 rfl rfl)
theorem dX4_between_148 : decode cX4_between 148 = .ok (.getfield 18, 3) := dk_180 0 18 (dk_at dksX4_between_6 8 rfl rfl)
theorem dX4_between_151 : decode cX4_between 151 = .ok (.invokestatic 194, 3) := dk_184 0 194 (dk_at dksX4_between_6 11 rfl rfl)
theorem dX4_between_154 : decode cX4_between 154 = .ok (.iinc 9 (-1), 3) := dk_132 9 255 (dk_at dksX4_between_6 14 rfl rfl)
theorem dX4_between_157 : decode cX4_between 157 = .ok (.goto (-114), 3) := dk_167 255 142 (dk_at dksX4_between_6 17 rfl rfl)
theorem dX4_between_160 : decode cX4_between 160 = .ok (.iconst 0, 1) := dk_3 (dk_at dksX4_between_6 20 rfl rfl)
theorem dX4_between_161 : decode cX4_between 161 = .ok (.istore 9, 2) := dk_54 9 (dk_at dksX4_between_6 21 rfl rfl)
theorem dX4_between_163 : decode cX4_between 163 = .ok (.iconst 0, 1) := dk_3 (dk_at dksX4_between_6 23 rfl rfl)
theorem dX4_between_164 : decode cX4_between 164 = .ok (.istore 10, 2) := dk_54 10 (dk_at dksX4_between_7 0 rfl rfl)
theorem dX4_between_166 : decode cX4_between 166 = .ok (.aload_n 0, 1) := dk_42 (dk_at dksX4_between_7 2 rfl rfl)
theorem dX4_between_167 : decode cX4_between 167 = .ok (.getfield 53, 3) := dk_180 0 53 (dk_at dksX4_between_7 3 rfl rfl)
theorem dX4_between_170 : decode cX4_between 170 = .ok (.iconst 0, 1) := dk_3 (dk_at dksX4_between_7 6 rfl rfl)
theorem dX4_between_171 : decode cX4_between 171 = .ok (.iconst 0, 1) := dk_3 (dk_at dksX4_between_7 7 rfl rfl)
theorem dX4_between_172 : decode cX4_between 172 = .ok (.iastore, 1) := dk_79 (dk_at dksX4_between_7 8 rfl rfl)
theorem dX4_between_173 : decode cX4_between 173 = .ok (.iload 10, 2) := dk_21 10 (dk_at dksX4_between_7 9 rfl rfl)
theorem dX4_between_175 : decode cX4_between 175 = .ok (.ifCond .lt 180, 3) := dk_155 0 180 (dk_at dksX4_between_7 11 rfl rfl)
theorem dX4_between_178 : decode cX4_between 178 = .ok (.aload_n 0, 1) := dk_42 (dk_at dksX4_between_7 14 rfl rfl)
theorem dX4_between_179 : decode cX4_between 179 = .ok (.getfield 50, 3) := dk_180 0 50 (dk_at dksX4_between_7 15 rfl rfl)
theorem dX4_between_182 : decode cX4_between 182 = .ok (.iload 10, 2) := dk_21 10 (dk_at dksX4_between_7 18 rfl rfl)
theorem dX4_between_184 : decode cX4_between 184 = .ok (.aaload, 1) := dk_50 (dk_at dksX4_between_7 20 rfl rfl)
theorem dX4_between_185 : decode cX4_between 185 = .ok (.astore 11, 2) := dk_58 11 (dk_at dksX4_between_7 21 rfl rfl)
theorem dX4_between_187 : decode cX4_between 187 = .ok (.aload_n 0, 1) := dk_42 (dk_at dksX4_between_7 23 rfl rfl)
theorem dX4_between_188 : decode cX4_between 188 = .ok (.getfield 50, 3) := dk_180 0 50 (dk_at dksX4_between_8 0 rfl rfl)
theorem dX4_between_191 : decode cX4_between 191 = .ok (.iload 10, 2) := dk_21 10 (dk_at dksX4_between_8 3 rfl rfl)
theorem dX4_between_193 : decode cX4_between 193 = .ok (.iconst 1, 1) := dk_4 (dk_at dksX4_between_8 5 rfl rfl)
theorem dX4_between_194 : decode cX4_between 194 = .ok (.iadd, 1) := dk_96 (dk_at dksX4_between_8 6 rfl rfl)
theorem dX4_between_195 : decode cX4_between 195 = .ok (.aaload, 1) := dk_50 (dk_at dksX4_between_8 7 rfl rfl)
theorem dX4_between_196 : decode cX4_between 196 = .ok (.astore 12, 2) := dk_58 12 (dk_at dksX4_between_8 8 rfl rfl)
theorem dX4_between_198 : decode cX4_between 198 = .ok (.aload_n 0, 1) := dk_42 (dk_at dksX4_between_8 10 rfl rfl)
theorem dX4_between_199 : decode cX4_between 199 = .ok (.getfield 53, 3) := dk_180 0 53 (dk_at dksX4_between_8 11 rfl rfl)
theorem dX4_between_202 : decode cX4_between 202 = .ok (.iload 10, 2) := dk_21 10 (dk_at dksX4_between_8 14 rfl rfl)
theorem dX4_between_204 : decode cX4_between 204 = .ok (.dup2, 1) := dk_92 (dk_at dksX4_between_8 16 rfl rfl)
theorem dX4_between_205 : decode cX4_between 205 = .ok (.iaload, 1) := dk_46 (dk_at dksX4_between_8 17 rfl rfl)
theorem dX4_between_206 : decode cX4_between 206 = .ok (.iconst 1, 1) := dk_4 (dk_at dksX4_between_8 18 rfl rfl)
theorem dX4_between_207 : decode cX4_between 207 = .ok (.iadd, 1) := dk_96 (dk_at dksX4_between_8 19 rfl rfl)
theorem dX4_between_208 : decode cX4_between 208 = .ok (.iastore, 1) := dk_79 (dk_at dksX4_between_8 20 rfl rfl)
theorem dX4_between_209 : decode cX4_between 209 = .ok (.aload_n 0, 1) := dk_42 (dk_at dksX4_between_8 21 rfl rfl)
theorem dX4_between_210 : decode cX4_between 210 = .ok (.getfield 53, 3) := dk_180 0 53 (dk_at dksX4_between_9 0 rfl rfl)
theorem dX4_between_213 : decode cX4_between 213 = .ok (.iload 10, 2) := dk_21 10 (dk_at dksX4_between_9 3 rfl rfl)
theorem dX4_between_215 : decode cX4_between 215 = .ok (.iaload, 1) := dk_46 (dk_at dksX4_between_9 5 rfl rfl)
theorem dX4_between_216 : decode cX4_between 216 = .ok (.iconst 1, 1) := dk_4 (dk_at dksX4_between_9 6 rfl rfl)
theorem dX4_between_217 : decode cX4_between 217 = .ok (.if_icmp .ne 77, 3) := dk_160 0 77 (dk_at dksX4_between_9 7 rfl rfl)
theorem dX4_between_220 : decode cX4_between 220 = .ok (.aload_n 0, 1) := dk_42 (dk_at dksX4_between_9 10 rfl rfl)
theorem dX4_between_221 : decode cX4_between 221 = .ok (.aload 11, 2) := dk_25 11 (dk_at dksX4_between_9 11 rfl rfl)
theorem dX4_between_223 : decode cX4_between 223 = .ok (.iload 7, 2) := dk_21 7 (dk_at dksX4_between_9 13 rfl rfl)
theorem dX4_between_225 : decode cX4_between 225 = .ok (.invokevirtual 205, 3) := dk_182 0 205 (dk_at dksX4_between_9 15 rfl rfl)
theorem dX4_between_228 : decode cX4_between 228 = .ok (.istore 13, 2) := dk_54 13 (dk_at dksX4_between_9 18 rfl rfl)
theorem dX4_between_230 : decode cX4_between 230 = .ok (.iload 13, 2) := dk_21 13 (dk_at dksX4_between_9 20 rfl rfl)
theorem dX4_between_232 : decode cX4_between 232 = .ok (.iconst 2, 1) := dk_5 (dk_at dksX4_between_9 22 rfl rfl)
theorem dX4_between_233 : decode cX4_between 233 = .ok (.if_icmp .ge 16, 3) := dk_162 0 16 (dk_at dksX4_between_10 0 rfl rfl)
theorem dX4_between_236 : decode cX4_between 236 = .ok (.iload 9, 2) := dk_21 9 (dk_at dksX4_between_10 3 rfl rfl)
theorem dX4_between_238 : decode cX4_between 238 = .ok (.iload 13, 2) := dk_21 13 (dk_at dksX4_between_10 5 rfl rfl)
theorem dX4_between_240 : decode cX4_between 240 = .ok (.iadd, 1) := dk_96 (dk_at dksX4_between_10 7 rfl rfl)
theorem dX4_between_241 : decode cX4_between 241 = .ok (.istore 9, 2) := dk_54 9 (dk_at dksX4_between_10 8 rfl rfl)
theorem dX4_between_243 : decode cX4_between 243 = .ok (.iinc 10 (-1), 3) := dk_132 10 255 (dk_at dksX4_between_10 10 rfl rfl)
theorem dX4_between_246 : decode cX4_between 246 = .ok (.goto (-73), 3) := dk_167 255 183 (dk_at dksX4_between_10 13 rfl rfl)
theorem dX4_between_249 : decode cX4_between 249 = .ok (.iconst 0, 1) := dk_3 (dk_at dksX4_between_10 16 rfl rfl)
theorem dX4_between_250 : decode cX4_between 250 = .ok (.istore 14, 2) := dk_54 14 (dk_at dksX4_between_10 17 rfl rfl)
theorem dX4_between_252 : decode cX4_between 252 = .ok (.iload 14, 2) := dk_21 14 (dk_at dksX4_between_10 19 rfl rfl)
theorem dX4_between_254 : decode cX4_between 254 = .ok (.iload 7, 2) := dk_21 7 (dk_at dksX4_between_10 21 rfl rfl)
theorem dX4_between_256 : decode cX4_between 256 = .ok (.if_icmp .gt 35, 3) := dk_163 0 35 (dk_at dksX4_between_11 0 rfl rfl)
theorem dX4_between_259 : decode cX4_between 259 = .ok (.aload 11, 2) := dk_25 11 (dk_at dksX4_between_11 3 rfl rfl)
theorem dX4_between_261 : decode cX4_between 261 = .ok (.iload 14, 2) := dk_21 14 (dk_at dksX4_between_11 5 rfl rfl)
theorem dX4_between_263 : decode cX4_between 263 = .ok (.aaload, 1) := dk_50 (dk_at dksX4_between_11 7 rfl rfl)
theorem dX4_between_264 : decode cX4_between 264 = .ok (.aload 12, 2) := dk_25 12 (dk_at dksX4_between_11 8 rfl rfl)
theorem dX4_between_266 : decode cX4_between 266 = .ok (.iload 14, 2) := dk_21 14 (dk_at dksX4_between_11 10 rfl rfl)
theorem dX4_between_268 : decode cX4_between 268 = .ok (.aaload, 1) := dk_50 (dk_at dksX4_between_11 12 rfl rfl)
theorem dX4_between_269 : decode cX4_between 269 = .ok (.invokestatic 113, 3) := dk_184 0 113 (dk_at dksX4_between_11 13 rfl rfl)
theorem dX4_between_272 : decode cX4_between 272 = .ok (.aload 12, 2) := dk_25 12 (dk_at dksX4_between_11 16 rfl rfl)
theorem dX4_between_274 : decode cX4_between 274 = .ok (.iload 14, 2) := dk_21 14 (dk_at dksX4_between_11 18 rfl rfl)
theorem dX4_between_276 : decode cX4_between 276 = .ok (.aaload, 1) := dk_50 (dk_at dksX4_between_11 20 rfl rfl)
theorem dX4_between_277 : decode cX4_between 277 = .ok (.iload 7, 2) := dk_21 7 (dk_at dksX4_between_11 21 rfl rfl)
theorem dX4_between_279 : decode cX4_between 279 = .ok (.iload 14, 2) := dk_21 14 (dk_at dksX4_between_12 0 rfl rfl)
theorem dX4_between_281 : decode cX4_between 281 = .ok (.isub, 1) := dk_100 (dk_at dksX4_between_12 2 rfl rfl)
theorem dX4_between_282 : decode cX4_between 282 = .ok (.invokestatic 141, 3) := dk_184 0 141 (dk_at dksX4_between_12 3 rfl rfl)
theorem dX4_between_285 : decode cX4_between 285 = .ok (.iinc 14 1, 3) := dk_132 14 1 (dk_at dksX4_between_12 6 rfl rfl)
theorem dX4_between_288 : decode cX4_between 288 = .ok (.goto (-36), 3) := dk_167 255 220 (dk_at dksX4_between_12 9 rfl rfl)
theorem dX4_between_291 : decode cX4_between 291 = .ok (.goto 50, 3) := dk_167 0 50 (dk_at dksX4_between_12 12 rfl rfl)
theorem dX4_between_294 : decode cX4_between 294 = .ok (.aload_n 0, 1) := dk_42 (dk_at dksX4_between_12 15 rfl rfl)
theorem dX4_between_295 : decode cX4_between 295 = .ok (.getfield 53, 3) := dk_180 0 53 (dk_at dksX4_between_12 16 rfl rfl)
theorem dX4_between_298 : decode cX4_between 298 = .ok (.iload 10, 2) := dk_21 10 (dk_at dksX4_between_12 19 rfl rfl)
theorem dX4_between_300 : decode cX4_between 300 = .ok (.iaload, 1) := dk_46 (dk_at dksX4_between_12 21 rfl rfl)
theorem dX4_between_301 : decode cX4_between 301 = .ok (.iconst 2, 1) := dk_5 (dk_at dksX4_between_12 22 rfl rfl)
theorem dX4_between_302 : decode cX4_between 302 = .ok (.if_icmp .ne 33, 3) := dk_160 0 33 (dk_at dksX4_between_13 0 rfl rfl)
theorem dX4_between_305 : decode cX4_between 305 = .ok (.aload 12, 2) := dk_25 12 (dk_at dksX4_between_13 3 rfl rfl)
theorem dX4_between_307 : decode cX4_between 307 = .ok (.iload 7, 2) := dk_21 7 (dk_at dksX4_between_13 5 rfl rfl)
theorem dX4_between_309 : decode cX4_between 309 = .ok (.invokestatic 197, 3) := dk_184 0 197 (dk_at dksX4_between_13 7 rfl rfl)
theorem dX4_between_312 : decode cX4_between 312 = .ok (.iload 9, 2) := dk_21 9 (dk_at dksX4_between_13 10 rfl rfl)
theorem dX4_between_314 : decode cX4_between 314 = .ok (.aload 12, 2) := dk_25 12 (dk_at dksX4_between_13 12 rfl rfl)
theorem dX4_between_316 : decode cX4_between 316 = .ok (.iconst 0, 1) := dk_3 (dk_at dksX4_between_13 14 rfl rfl)
theorem dX4_between_317 : decode cX4_between 317 = .ok (.aaload, 1) := dk_50 (dk_at dksX4_between_13 15 rfl rfl)
theorem dX4_between_318 : decode cX4_between 318 = .ok (.invokestatic 110, 3) := dk_184 0 110 (dk_at dksX4_between_13 16 rfl rfl)
theorem dX4_between_321 : decode cX4_between 321 = .ok (.ifCond .ne 7, 3) := dk_154 0 7 (dk_at dksX4_between_13 19 rfl rfl)
theorem dX4_between_324 : decode cX4_between 324 = .ok (.iconst 1, 1) := dk_4 (dk_at dksX4_between_13 22 rfl rfl)
theorem dX4_between_325 : decode cX4_between 325 = .ok (.goto 4, 3) := dk_167 0 4 (dk_at dksX4_between_14 0 rfl rfl)
theorem dX4_between_328 : decode cX4_between 328 = .ok (.iconst 0, 1) := dk_3 (dk_at dksX4_between_14 3 rfl rfl)
theorem dX4_between_329 : decode cX4_between 329 = .ok (.iadd, 1) := dk_96 (dk_at dksX4_between_14 4 rfl rfl)
theorem dX4_between_330 : decode cX4_between 330 = .ok (.istore 9, 2) := dk_54 9 (dk_at dksX4_between_14 5 rfl rfl)
theorem dX4_between_332 : decode cX4_between 332 = .ok (.goto 9, 3) := dk_167 0 9 (dk_at dksX4_between_14 7 rfl rfl)
theorem dX4_between_335 : decode cX4_between 335 = .ok (.iinc 10 (-1), 3) := dk_132 10 255 (dk_at dksX4_between_14 10 rfl rfl)
theorem dX4_between_338 : decode cX4_between 338 = .ok (.goto (-165), 3) := dk_167 255 91 (dk_at dksX4_between_14 13 rfl rfl)
theorem dX4_between_341 : decode cX4_between 341 = .ok (.iinc 10 1, 3) := dk_132 10 1 (dk_at dksX4_between_14 16 rfl rfl)
theorem dX4_between_344 : decode cX4_between 344 = .ok (.aload_n 0, 1) := dk_42 (dk_at dksX4_between_14 19 rfl rfl)
theorem dX4_between_345 : decode cX4_between 345 = .ok (.getfield 53, 3) := dk_180 0 53 (dk_at dksX4_between_14 20 rfl rfl)
theorem dX4_between_348 : decode cX4_between 348 = .ok (.iload 10, 2) := dk_21 10 (dk_at dksX4_between_15 0 rfl rfl)
theorem dX4_between_350 : decode cX4_between 350 = .ok (.iconst 0, 1) := dk_3 (dk_at dksX4_between_15 2 rfl rfl)
theorem dX4_between_351 : decode cX4_between 351 = .ok (.iastore, 1) := dk_79 (dk_at dksX4_between_15 3 rfl rfl)
theorem dX4_between_352 : decode cX4_between 352 = .ok (.goto (-179), 3) := dk_167 255 77 (dk_at dksX4_between_15 4 rfl rfl)
theorem dX4_between_355 : decode cX4_between 355 = .ok (.iload 9, 2) := dk_21 9 (dk_at dksX4_between_15 7 rfl rfl)
theorem dX4_between_357 : decode cX4_between 357 = .ok (.ireturn, 1) := dk_172 (dk_at dksX4_between_15 9 rfl rfl)
abbrev cX4_changesWithin : ByteArray := prog_6_method_36_code
def yX4_changesWithin : MethodName := ⟨RX4, "changesWithin", "([[II)I"⟩
def dkwX4_changesWithin_1 : List UInt8 := [167, 255, 234, 42, 180, 0, 56, 28, 184, 0, 197, 42, 180, 0, 56, 28, 184, 0, 201, 172]
abbrev dktX4_changesWithin_1 : List UInt8 := dkwX4_changesWithin_1 ++ []
def dkwX4_changesWithin_0 : List UInt8 := [3, 62, 29, 28, 163, 0, 23, 43, 28, 29, 100, 50, 42, 180, 0, 56, 29, 50, 184, 0, 113, 132, 3, 1]
abbrev dktX4_changesWithin_0 : List UInt8 := dkwX4_changesWithin_0 ++ dktX4_changesWithin_1
theorem dksX4_changesWithin_0 : cX4_changesWithin.data.toList.drop 0 = dktX4_changesWithin_0 := by decide +kernel
theorem dksX4_changesWithin_1 : cX4_changesWithin.data.toList.drop 24 = dktX4_changesWithin_1 := dk_seg dksX4_changesWithin_0 24 rfl rfl
theorem dX4_changesWithin_0 : decode cX4_changesWithin 0 = .ok (.iconst 0, 1) := dk_3 (dk_at dksX4_changesWithin_0 0 rfl rfl)
theorem dX4_changesWithin_1 : decode cX4_changesWithin 1 = .ok (.istore_n 3, 1) := dk_62 (dk_at dksX4_changesWithin_0 1 rfl rfl)
theorem dX4_changesWithin_2 : decode cX4_changesWithin 2 = .ok (.iload_n 3, 1) := dk_29 (dk_at dksX4_changesWithin_0 2 rfl rfl)
theorem dX4_changesWithin_3 : decode cX4_changesWithin 3 = .ok (.iload_n 2, 1) := dk_28 (dk_at dksX4_changesWithin_0 3 rfl rfl)
theorem dX4_changesWithin_4 : decode cX4_changesWithin 4 = .ok (.if_icmp .gt 23, 3) := dk_163 0 23 (dk_at dksX4_changesWithin_0 4 rfl rfl)
theorem dX4_changesWithin_7 : decode cX4_changesWithin 7 = .ok (.aload_n 1, 1) := dk_43 (dk_at dksX4_changesWithin_0 7 rfl rfl)
theorem dX4_changesWithin_8 : decode cX4_changesWithin 8 = .ok (.iload_n 2, 1) := dk_28 (dk_at dksX4_changesWithin_0 8 rfl rfl)
theorem dX4_changesWithin_9 : decode cX4_changesWithin 9 = .ok (.iload_n 3, 1) := dk_29 (dk_at dksX4_changesWithin_0 9 rfl rfl)
theorem dX4_changesWithin_10 : decode cX4_changesWithin 10 = .ok (.isub, 1) := dk_100 (dk_at dksX4_changesWithin_0 10 rfl rfl)
theorem dX4_changesWithin_11 : decode cX4_changesWithin 11 = .ok (.aaload, 1) := dk_50 (dk_at dksX4_changesWithin_0 11 rfl rfl)
theorem dX4_changesWithin_12 : decode cX4_changesWithin 12 = .ok (.aload_n 0, 1) := dk_42 (dk_at dksX4_changesWithin_0 12 rfl rfl)
theorem dX4_changesWithin_13 : decode cX4_changesWithin 13 = .ok (.getfield 56, 3) := dk_180 0 56 (dk_at dksX4_changesWithin_0 13 rfl rfl)
theorem dX4_changesWithin_16 : decode cX4_changesWithin 16 = .ok (.iload_n 3, 1) := dk_29 (dk_at dksX4_changesWithin_0 16 rfl rfl)
theorem dX4_changesWithin_17 : decode cX4_changesWithin 17 = .ok (.aaload, 1) := dk_50 (dk_at dksX4_changesWithin_0 17 rfl rfl)
theorem dX4_changesWithin_18 : decode cX4_changesWithin 18 = .ok (.invokestatic 113, 3) := dk_184 0 113 (dk_at dksX4_changesWithin_0 18 rfl rfl)
theorem dX4_changesWithin_21 : decode cX4_changesWithin 21 = .ok (.iinc 3 1, 3) := dk_132 3 1 (dk_at dksX4_changesWithin_0 21 rfl rfl)
theorem dX4_changesWithin_24 : decode cX4_changesWithin 24 = .ok (.goto (-22), 3) := dk_167 255 234 (dk_at dksX4_changesWithin_1 0 rfl rfl)
theorem dX4_changesWithin_27 : decode cX4_changesWithin 27 = .ok (.aload_n 0, 1) := dk_42 (dk_at dksX4_changesWithin_1 3 rfl rfl)
theorem dX4_changesWithin_28 : decode cX4_changesWithin 28 = .ok (.getfield 56, 3) := dk_180 0 56 (dk_at dksX4_changesWithin_1 4 rfl rfl)
theorem dX4_changesWithin_31 : decode cX4_changesWithin 31 = .ok (.iload_n 2, 1) := dk_28 (dk_at dksX4_changesWithin_1 7 rfl rfl)
theorem dX4_changesWithin_32 : decode cX4_changesWithin 32 = .ok (.invokestatic 197, 3) := dk_184 0 197 (dk_at dksX4_changesWithin_1 8 rfl rfl)
theorem dX4_changesWithin_35 : decode cX4_changesWithin 35 = .ok (.aload_n 0, 1) := dk_42 (dk_at dksX4_changesWithin_1 11 rfl rfl)
theorem dX4_changesWithin_36 : decode cX4_changesWithin 36 = .ok (.getfield 56, 3) := dk_180 0 56 (dk_at dksX4_changesWithin_1 12 rfl rfl)
theorem dX4_changesWithin_39 : decode cX4_changesWithin 39 = .ok (.iload_n 2, 1) := dk_28 (dk_at dksX4_changesWithin_1 15 rfl rfl)
theorem dX4_changesWithin_40 : decode cX4_changesWithin 40 = .ok (.invokestatic 201, 3) := dk_184 0 201 (dk_at dksX4_changesWithin_1 16 rfl rfl)
theorem dX4_changesWithin_43 : decode cX4_changesWithin 43 = .ok (.ireturn, 1) := dk_172 (dk_at dksX4_changesWithin_1 19 rfl rfl)
abbrev cX4_moves : ByteArray := prog_6_method_34_code
def yX4_moves : MethodName := ⟨RX4, "moves", "([[II)V"⟩
def dkwX4_moves_1 : List UInt8 := [184, 0, 194, 132, 3, 255, 167, 255, 237, 132, 2, 1, 167, 255, 222, 177]
abbrev dktX4_moves_1 : List UInt8 := dkwX4_moves_1 ++ []
def dkwX4_moves_0 : List UInt8 := [3, 61, 28, 27, 162, 0, 35, 27, 4, 100, 62, 29, 28, 161, 0, 20, 42, 29, 50, 42, 29, 4, 96, 50]
abbrev dktX4_moves_0 : List UInt8 := dkwX4_moves_0 ++ dktX4_moves_1
theorem dksX4_moves_0 : cX4_moves.data.toList.drop 0 = dktX4_moves_0 := by decide +kernel
theorem dksX4_moves_1 : cX4_moves.data.toList.drop 24 = dktX4_moves_1 := dk_seg dksX4_moves_0 24 rfl rfl
theorem dX4_moves_0 : decode cX4_moves 0 = .ok (.iconst 0, 1) := dk_3 (dk_at dksX4_moves_0 0 rfl rfl)
theorem dX4_moves_1 : decode cX4_moves 1 = .ok (.istore_n 2, 1) := dk_61 (dk_at dksX4_moves_0 1 rfl rfl)
theorem dX4_moves_2 : decode cX4_moves 2 = .ok (.iload_n 2, 1) := dk_28 (dk_at dksX4_moves_0 2 rfl rfl)
theorem dX4_moves_3 : decode cX4_moves 3 = .ok (.iload_n 1, 1) := dk_27 (dk_at dksX4_moves_0 3 rfl rfl)
theorem dX4_moves_4 : decode cX4_moves 4 = .ok (.if_icmp .ge 35, 3) := dk_162 0 35 (dk_at dksX4_moves_0 4 rfl rfl)
theorem dX4_moves_7 : decode cX4_moves 7 = .ok (.iload_n 1, 1) := dk_27 (dk_at dksX4_moves_0 7 rfl rfl)
theorem dX4_moves_8 : decode cX4_moves 8 = .ok (.iconst 1, 1) := dk_4 (dk_at dksX4_moves_0 8 rfl rfl)
theorem dX4_moves_9 : decode cX4_moves 9 = .ok (.isub, 1) := dk_100 (dk_at dksX4_moves_0 9 rfl rfl)
theorem dX4_moves_10 : decode cX4_moves 10 = .ok (.istore_n 3, 1) := dk_62 (dk_at dksX4_moves_0 10 rfl rfl)
theorem dX4_moves_11 : decode cX4_moves 11 = .ok (.iload_n 3, 1) := dk_29 (dk_at dksX4_moves_0 11 rfl rfl)
theorem dX4_moves_12 : decode cX4_moves 12 = .ok (.iload_n 2, 1) := dk_28 (dk_at dksX4_moves_0 12 rfl rfl)
theorem dX4_moves_13 : decode cX4_moves 13 = .ok (.if_icmp .lt 20, 3) := dk_161 0 20 (dk_at dksX4_moves_0 13 rfl rfl)
theorem dX4_moves_16 : decode cX4_moves 16 = .ok (.aload_n 0, 1) := dk_42 (dk_at dksX4_moves_0 16 rfl rfl)
theorem dX4_moves_17 : decode cX4_moves 17 = .ok (.iload_n 3, 1) := dk_29 (dk_at dksX4_moves_0 17 rfl rfl)
theorem dX4_moves_18 : decode cX4_moves 18 = .ok (.aaload, 1) := dk_50 (dk_at dksX4_moves_0 18 rfl rfl)
theorem dX4_moves_19 : decode cX4_moves 19 = .ok (.aload_n 0, 1) := dk_42 (dk_at dksX4_moves_0 19 rfl rfl)
theorem dX4_moves_20 : decode cX4_moves 20 = .ok (.iload_n 3, 1) := dk_29 (dk_at dksX4_moves_0 20 rfl rfl)
theorem dX4_moves_21 : decode cX4_moves 21 = .ok (.iconst 1, 1) := dk_4 (dk_at dksX4_moves_0 21 rfl rfl)
theorem dX4_moves_22 : decode cX4_moves 22 = .ok (.iadd, 1) := dk_96 (dk_at dksX4_moves_0 22 rfl rfl)
theorem dX4_moves_23 : decode cX4_moves 23 = .ok (.aaload, 1) := dk_50 (dk_at dksX4_moves_0 23 rfl rfl)
theorem dX4_moves_24 : decode cX4_moves 24 = .ok (.invokestatic 194, 3) := dk_184 0 194 (dk_at dksX4_moves_1 0 rfl rfl)
theorem dX4_moves_27 : decode cX4_moves 27 = .ok (.iinc 3 (-1), 3) := dk_132 3 255 (dk_at dksX4_moves_1 3 rfl rfl)
theorem dX4_moves_30 : decode cX4_moves 30 = .ok (.goto (-19), 3) := dk_167 255 237 (dk_at dksX4_moves_1 6 rfl rfl)
theorem dX4_moves_33 : decode cX4_moves 33 = .ok (.iinc 2 1, 3) := dk_132 2 1 (dk_at dksX4_moves_1 9 rfl rfl)
theorem dX4_moves_36 : decode cX4_moves 36 = .ok (.goto (-34), 3) := dk_167 255 222 (dk_at dksX4_moves_1 12 rfl rfl)
theorem dX4_moves_39 : decode cX4_moves 39 = .ok (.return_, 1) := dk_177 (dk_at dksX4_moves_1 15 rfl rfl)
abbrev cX4_changes : ByteArray := prog_6_method_35_code
def yX4_changes : MethodName := ⟨RX4, "changes", "([[II)I"⟩
def dkwX4_changes_2 : List UInt8 := [154, 0, 7, 29, 167, 0, 5, 21, 5, 62, 132, 4, 1, 167, 255, 203, 28, 172]
abbrev dktX4_changes_2 : List UInt8 := dkwX4_changes_2 ++ []
def dkwX4_changes_1 : List UInt8 := [21, 5, 153, 0, 17, 29, 153, 0, 13, 21, 5, 29, 159, 0, 7, 4, 167, 0, 4, 3, 96, 61, 21, 5]
abbrev dktX4_changes_1 : List UInt8 := dkwX4_changes_1 ++ dktX4_changes_2
def dkwX4_changes_0 : List UInt8 := [3, 61, 3, 62, 3, 54, 4, 21, 4, 27, 163, 0, 53, 42, 21, 4, 50, 184, 0, 110, 54, 5, 28]
abbrev dktX4_changes_0 : List UInt8 := dkwX4_changes_0 ++ dktX4_changes_1
theorem dksX4_changes_0 : cX4_changes.data.toList.drop 0 = dktX4_changes_0 := by decide +kernel
theorem dksX4_changes_1 : cX4_changes.data.toList.drop 23 = dktX4_changes_1 := dk_seg dksX4_changes_0 23 rfl rfl
theorem dksX4_changes_2 : cX4_changes.data.toList.drop 47 = dktX4_changes_2 := dk_seg dksX4_changes_1 24 rfl rfl
theorem dX4_changes_0 : decode cX4_changes 0 = .ok (.iconst 0, 1) := dk_3 (dk_at dksX4_changes_0 0 rfl rfl)
theorem dX4_changes_1 : decode cX4_changes 1 = .ok (.istore_n 2, 1) := dk_61 (dk_at dksX4_changes_0 1 rfl rfl)
theorem dX4_changes_2 : decode cX4_changes 2 = .ok (.iconst 0, 1) := dk_3 (dk_at dksX4_changes_0 2 rfl rfl)
theorem dX4_changes_3 : decode cX4_changes 3 = .ok (.istore_n 3, 1) := dk_62 (dk_at dksX4_changes_0 3 rfl rfl)
theorem dX4_changes_4 : decode cX4_changes 4 = .ok (.iconst 0, 1) := dk_3 (dk_at dksX4_changes_0 4 rfl rfl)
theorem dX4_changes_5 : decode cX4_changes 5 = .ok (.istore 4, 2) := dk_54 4 (dk_at dksX4_changes_0 5 rfl rfl)
theorem dX4_changes_7 : decode cX4_changes 7 = .ok (.iload 4, 2) := dk_21 4 (dk_at dksX4_changes_0 7 rfl rfl)
theorem dX4_changes_9 : decode cX4_changes 9 = .ok (.iload_n 1, 1) := dk_27 (dk_at dksX4_changes_0 9 rfl rfl)
theorem dX4_changes_10 : decode cX4_changes 10 = .ok (.if_icmp .gt 53, 3) := dk_163 0 53 (dk_at dksX4_changes_0 10 rfl rfl)
theorem dX4_changes_13 : decode cX4_changes 13 = .ok (.aload_n 0, 1) := dk_42 (dk_at dksX4_changes_0 13 rfl rfl)
theorem dX4_changes_14 : decode cX4_changes 14 = .ok (.iload 4, 2) := dk_21 4 (dk_at dksX4_changes_0 14 rfl rfl)
theorem dX4_changes_16 : decode cX4_changes 16 = .ok (.aaload, 1) := dk_50 (dk_at dksX4_changes_0 16 rfl rfl)
theorem dX4_changes_17 : decode cX4_changes 17 = .ok (.invokestatic 110, 3) := dk_184 0 110 (dk_at dksX4_changes_0 17 rfl rfl)
theorem dX4_changes_20 : decode cX4_changes 20 = .ok (.istore 5, 2) := dk_54 5 (dk_at dksX4_changes_0 20 rfl rfl)
theorem dX4_changes_22 : decode cX4_changes 22 = .ok (.iload_n 2, 1) := dk_28 (dk_at dksX4_changes_0 22 rfl rfl)
theorem dX4_changes_23 : decode cX4_changes 23 = .ok (.iload 5, 2) := dk_21 5 (dk_at dksX4_changes_1 0 rfl rfl)
theorem dX4_changes_25 : decode cX4_changes 25 = .ok (.ifCond .eq 17, 3) := dk_153 0 17 (dk_at dksX4_changes_1 2 rfl rfl)
theorem dX4_changes_28 : decode cX4_changes 28 = .ok (.iload_n 3, 1) := dk_29 (dk_at dksX4_changes_1 5 rfl rfl)
theorem dX4_changes_29 : decode cX4_changes 29 = .ok (.ifCond .eq 13, 3) := dk_153 0 13 (dk_at dksX4_changes_1 6 rfl rfl)
theorem dX4_changes_32 : decode cX4_changes 32 = .ok (.iload 5, 2) := dk_21 5 (dk_at dksX4_changes_1 9 rfl rfl)
theorem dX4_changes_34 : decode cX4_changes 34 = .ok (.iload_n 3, 1) := dk_29 (dk_at dksX4_changes_1 11 rfl rfl)
theorem dX4_changes_35 : decode cX4_changes 35 = .ok (.if_icmp .eq 7, 3) := dk_159 0 7 (dk_at dksX4_changes_1 12 rfl rfl)
theorem dX4_changes_38 : decode cX4_changes 38 = .ok (.iconst 1, 1) := dk_4 (dk_at dksX4_changes_1 15 rfl rfl)
theorem dX4_changes_39 : decode cX4_changes 39 = .ok (.goto 4, 3) := dk_167 0 4 (dk_at dksX4_changes_1 16 rfl rfl)
theorem dX4_changes_42 : decode cX4_changes 42 = .ok (.iconst 0, 1) := dk_3 (dk_at dksX4_changes_1 19 rfl rfl)
theorem dX4_changes_43 : decode cX4_changes 43 = .ok (.iadd, 1) := dk_96 (dk_at dksX4_changes_1 20 rfl rfl)
theorem dX4_changes_44 : decode cX4_changes 44 = .ok (.istore_n 2, 1) := dk_61 (dk_at dksX4_changes_1 21 rfl rfl)
theorem dX4_changes_45 : decode cX4_changes 45 = .ok (.iload 5, 2) := dk_21 5 (dk_at dksX4_changes_1 22 rfl rfl)
theorem dX4_changes_47 : decode cX4_changes 47 = .ok (.ifCond .ne 7, 3) := dk_154 0 7 (dk_at dksX4_changes_2 0 rfl rfl)
theorem dX4_changes_50 : decode cX4_changes 50 = .ok (.iload_n 3, 1) := dk_29 (dk_at dksX4_changes_2 3 rfl rfl)
theorem dX4_changes_51 : decode cX4_changes 51 = .ok (.goto 5, 3) := dk_167 0 5 (dk_at dksX4_changes_2 4 rfl rfl)
theorem dX4_changes_54 : decode cX4_changes 54 = .ok (.iload 5, 2) := dk_21 5 (dk_at dksX4_changes_2 7 rfl rfl)
theorem dX4_changes_56 : decode cX4_changes 56 = .ok (.istore_n 3, 1) := dk_62 (dk_at dksX4_changes_2 9 rfl rfl)
theorem dX4_changes_57 : decode cX4_changes 57 = .ok (.iinc 4 1, 3) := dk_132 4 1 (dk_at dksX4_changes_2 10 rfl rfl)
theorem dX4_changes_60 : decode cX4_changes 60 = .ok (.goto (-53), 3) := dk_167 255 203 (dk_at dksX4_changes_2 13 rfl rfl)
theorem dX4_changes_63 : decode cX4_changes 63 = .ok (.iload_n 2, 1) := dk_28 (dk_at dksX4_changes_2 16 rfl rfl)
theorem dX4_changes_64 : decode cX4_changes 64 = .ok (.ireturn, 1) := dk_172 (dk_at dksX4_changes_2 17 rfl rfl)
abbrev cX4_countAll : ByteArray := prog_6_method_67_code
def yX4_countAll : MethodName := ⟨RX4, "countAll", "(IIIII)I"⟩
def dkwX4_countAll_3 : List UInt8 := [182, 0, 217, 172]
abbrev dktX4_countAll_3 : List UInt8 := dkwX4_countAll_3 ++ []
def dkwX4_countAll_2 : List UInt8 := [182, 1, 19, 96, 54, 7, 42, 180, 0, 42, 42, 180, 0, 63, 184, 0, 186, 167, 255, 220, 42, 21, 7]
abbrev dktX4_countAll_2 : List UInt8 := dkwX4_countAll_2 ++ dktX4_countAll_3
def dkwX4_countAll_1 : List UInt8 := [172, 3, 54, 7, 42, 180, 0, 63, 184, 0, 166, 158, 0, 32, 21, 7, 42, 28, 29, 21, 4, 21, 5]
abbrev dktX4_countAll_1 : List UInt8 := dkwX4_countAll_1 ++ dktX4_countAll_2
def dkwX4_countAll_0 : List UInt8 := [42, 27, 28, 29, 21, 4, 21, 5, 182, 1, 15, 54, 6, 21, 6, 158, 0, 10, 42, 21, 6, 182, 0, 212]
abbrev dktX4_countAll_0 : List UInt8 := dkwX4_countAll_0 ++ dktX4_countAll_1
theorem dksX4_countAll_0 : cX4_countAll.data.toList.drop 0 = dktX4_countAll_0 := by decide +kernel
theorem dksX4_countAll_1 : cX4_countAll.data.toList.drop 24 = dktX4_countAll_1 := dk_seg dksX4_countAll_0 24 rfl rfl
theorem dksX4_countAll_2 : cX4_countAll.data.toList.drop 47 = dktX4_countAll_2 := dk_seg dksX4_countAll_1 23 rfl rfl
theorem dksX4_countAll_3 : cX4_countAll.data.toList.drop 70 = dktX4_countAll_3 := dk_seg dksX4_countAll_2 23 rfl rfl
theorem dX4_countAll_0 : decode cX4_countAll 0 = .ok (.aload_n 0, 1) := dk_42 (dk_at dksX4_countAll_0 0 rfl rfl)
theorem dX4_countAll_1 : decode cX4_countAll 1 = .ok (.iload_n 1, 1) := dk_27 (dk_at dksX4_countAll_0 1 rfl rfl)
theorem dX4_countAll_2 : decode cX4_countAll 2 = .ok (.iload_n 2, 1) := dk_28 (dk_at dksX4_countAll_0 2 rfl rfl)
theorem dX4_countAll_3 : decode cX4_countAll 3 = .ok (.iload_n 3, 1) := dk_29 (dk_at dksX4_countAll_0 3 rfl rfl)
theorem dX4_countAll_4 : decode cX4_countAll 4 = .ok (.iload 4, 2) := dk_21 4 (dk_at dksX4_countAll_0 4 rfl rfl)
theorem dX4_countAll_6 : decode cX4_countAll 6 = .ok (.iload 5, 2) := dk_21 5 (dk_at dksX4_countAll_0 6 rfl rfl)
theorem dX4_countAll_8 : decode cX4_countAll 8 = .ok (.invokevirtual 271, 3) := dk_182 1 15 (dk_at dksX4_countAll_0 8 rfl rfl)
theorem dX4_countAll_11 : decode cX4_countAll 11 = .ok (.istore 6, 2) := dk_54 6 (dk_at dksX4_countAll_0 11 rfl rfl)
theorem dX4_countAll_13 : decode cX4_countAll 13 = .ok (.iload 6, 2) := dk_21 6 (dk_at dksX4_countAll_0 13 rfl rfl)
theorem dX4_countAll_15 : decode cX4_countAll 15 = .ok (.ifCond .le 10, 3) := dk_158 0 10 (dk_at dksX4_countAll_0 15 rfl rfl)
theorem dX4_countAll_18 : decode cX4_countAll 18 = .ok (.aload_n 0, 1) := dk_42 (dk_at dksX4_countAll_0 18 rfl rfl)
theorem dX4_countAll_19 : decode cX4_countAll 19 = .ok (.iload 6, 2) := dk_21 6 (dk_at dksX4_countAll_0 19 rfl rfl)
theorem dX4_countAll_21 : decode cX4_countAll 21 = .ok (.invokevirtual 212, 3) := dk_182 0 212 (dk_at dksX4_countAll_0 21 rfl rfl)
theorem dX4_countAll_24 : decode cX4_countAll 24 = .ok (.ireturn, 1) := dk_172 (dk_at dksX4_countAll_1 0 rfl rfl)
theorem dX4_countAll_25 : decode cX4_countAll 25 = .ok (.iconst 0, 1) := dk_3 (dk_at dksX4_countAll_1 1 rfl rfl)
theorem dX4_countAll_26 : decode cX4_countAll 26 = .ok (.istore 7, 2) := dk_54 7 (dk_at dksX4_countAll_1 2 rfl rfl)
theorem dX4_countAll_28 : decode cX4_countAll 28 = .ok (.aload_n 0, 1) := dk_42 (dk_at dksX4_countAll_1 4 rfl rfl)
theorem dX4_countAll_29 : decode cX4_countAll 29 = .ok (.getfield 63, 3) := dk_180 0 63 (dk_at dksX4_countAll_1 5 rfl rfl)
theorem dX4_countAll_32 : decode cX4_countAll 32 = .ok (.invokestatic 166, 3) := dk_184 0 166 (dk_at dksX4_countAll_1 8 rfl rfl)
theorem dX4_countAll_35 : decode cX4_countAll 35 = .ok (.ifCond .le 32, 3) := dk_158 0 32 (dk_at dksX4_countAll_1 11 rfl rfl)
theorem dX4_countAll_38 : decode cX4_countAll 38 = .ok (.iload 7, 2) := dk_21 7 (dk_at dksX4_countAll_1 14 rfl rfl)
theorem dX4_countAll_40 : decode cX4_countAll 40 = .ok (.aload_n 0, 1) := dk_42 (dk_at dksX4_countAll_1 16 rfl rfl)
theorem dX4_countAll_41 : decode cX4_countAll 41 = .ok (.iload_n 2, 1) := dk_28 (dk_at dksX4_countAll_1 17 rfl rfl)
theorem dX4_countAll_42 : decode cX4_countAll 42 = .ok (.iload_n 3, 1) := dk_29 (dk_at dksX4_countAll_1 18 rfl rfl)
theorem dX4_countAll_43 : decode cX4_countAll 43 = .ok (.iload 4, 2) := dk_21 4 (dk_at dksX4_countAll_1 19 rfl rfl)
theorem dX4_countAll_45 : decode cX4_countAll 45 = .ok (.iload 5, 2) := dk_21 5 (dk_at dksX4_countAll_1 21 rfl rfl)
theorem dX4_countAll_47 : decode cX4_countAll 47 = .ok (.invokevirtual 275, 3) := dk_182 1 19 (dk_at dksX4_countAll_2 0 rfl rfl)
theorem dX4_countAll_50 : decode cX4_countAll 50 = .ok (.iadd, 1) := dk_96 (dk_at dksX4_countAll_2 3 rfl rfl)
theorem dX4_countAll_51 : decode cX4_countAll 51 = .ok (.istore 7, 2) := dk_54 7 (dk_at dksX4_countAll_2 4 rfl rfl)
theorem dX4_countAll_53 : decode cX4_countAll 53 = .ok (.aload_n 0, 1) := dk_42 (dk_at dksX4_countAll_2 6 rfl rfl)
theorem dX4_countAll_54 : decode cX4_countAll 54 = .ok (.getfield 42, 3) := dk_180 0 42 (dk_at dksX4_countAll_2 7 rfl rfl)
theorem dX4_countAll_57 : decode cX4_countAll 57 = .ok (.aload_n 0, 1) := dk_42 (dk_at dksX4_countAll_2 10 rfl rfl)
theorem dX4_countAll_58 : decode cX4_countAll 58 = .ok (.getfield 63, 3) := dk_180 0 63 (dk_at dksX4_countAll_2 11 rfl rfl)
theorem dX4_countAll_61 : decode cX4_countAll 61 = .ok (.invokestatic 186, 3) := dk_184 0 186 (dk_at dksX4_countAll_2 14 rfl rfl)
theorem dX4_countAll_64 : decode cX4_countAll 64 = .ok (.goto (-36), 3) := dk_167 255 220 (dk_at dksX4_countAll_2 17 rfl rfl)
theorem dX4_countAll_67 : decode cX4_countAll 67 = .ok (.aload_n 0, 1) := dk_42 (dk_at dksX4_countAll_2 20 rfl rfl)
theorem dX4_countAll_68 : decode cX4_countAll 68 = .ok (.iload 7, 2) := dk_21 7 (dk_at dksX4_countAll_2 21 rfl rfl)
theorem dX4_countAll_70 : decode cX4_countAll 70 = .ok (.invokevirtual 217, 3) := dk_182 0 217 (dk_at dksX4_countAll_3 0 rfl rfl)
theorem dX4_countAll_73 : decode cX4_countAll 73 = .ok (.ireturn, 1) := dk_172 (dk_at dksX4_countAll_3 3 rfl rfl)
abbrev cX4_distinctRoots : ByteArray := prog_6_method_69_code
def yX4_distinctRoots : MethodName := ⟨RX4, "distinctRoots", "(I)I"⟩
def dkwX4_distinctRoots_2 : List UInt8 := [184, 1, 26, 61, 42, 42, 28, 116, 3, 28, 3, 182, 1, 19, 182, 0, 217, 172]
abbrev dktX4_distinctRoots_2 : List UInt8 := dkwX4_distinctRoots_2 ++ []
def dkwX4_distinctRoots_1 : List UInt8 := [182, 0, 212, 172, 42, 180, 0, 11, 27, 50, 42, 180, 0, 63, 184, 0, 236, 42, 180, 0, 11, 27, 50]
abbrev dktX4_distinctRoots_1 : List UInt8 := dkwX4_distinctRoots_1 ++ dktX4_distinctRoots_2
def dkwX4_distinctRoots_0 : List UInt8 := [27, 184, 0, 228, 154, 0, 9, 42, 4, 182, 0, 212, 172, 42, 27, 182, 0, 244, 153, 0, 9, 42, 5]
abbrev dktX4_distinctRoots_0 : List UInt8 := dkwX4_distinctRoots_0 ++ dktX4_distinctRoots_1
theorem dksX4_distinctRoots_0 : cX4_distinctRoots.data.toList.drop 0 = dktX4_distinctRoots_0 := by decide +kernel
theorem dksX4_distinctRoots_1 : cX4_distinctRoots.data.toList.drop 23 = dktX4_distinctRoots_1 := dk_seg dksX4_distinctRoots_0 23 rfl rfl
theorem dksX4_distinctRoots_2 : cX4_distinctRoots.data.toList.drop 46 = dktX4_distinctRoots_2 := dk_seg dksX4_distinctRoots_1 23 rfl rfl
theorem dX4_distinctRoots_0 : decode cX4_distinctRoots 0 = .ok (.iload_n 1, 1) := dk_27 (dk_at dksX4_distinctRoots_0 0 rfl rfl)
theorem dX4_distinctRoots_1 : decode cX4_distinctRoots 1 = .ok (.invokestatic 228, 3) := dk_184 0 228 (dk_at dksX4_distinctRoots_0 1 rfl rfl)
theorem dX4_distinctRoots_4 : decode cX4_distinctRoots 4 = .ok (.ifCond .ne 9, 3) := dk_154 0 9 (dk_at dksX4_distinctRoots_0 4 rfl rfl)
theorem dX4_distinctRoots_7 : decode cX4_distinctRoots 7 = .ok (.aload_n 0, 1) := dk_42 (dk_at dksX4_distinctRoots_0 7 rfl rfl)
theorem dX4_distinctRoots_8 : decode cX4_distinctRoots 8 = .ok (.iconst 1, 1) := dk_4 (dk_at dksX4_distinctRoots_0 8 rfl rfl)
theorem dX4_distinctRoots_9 : decode cX4_distinctRoots 9 = .ok (.invokevirtual 212, 3) := dk_182 0 212 (dk_at dksX4_distinctRoots_0 9 rfl rfl)
theorem dX4_distinctRoots_12 : decode cX4_distinctRoots 12 = .ok (.ireturn, 1) := dk_172 (dk_at dksX4_distinctRoots_0 12 rfl rfl)
theorem dX4_distinctRoots_13 : decode cX4_distinctRoots 13 = .ok (.aload_n 0, 1) := dk_42 (dk_at dksX4_distinctRoots_0 13 rfl rfl)
theorem dX4_distinctRoots_14 : decode cX4_distinctRoots 14 = .ok (.iload_n 1, 1) := dk_27 (dk_at dksX4_distinctRoots_0 14 rfl rfl)
theorem dX4_distinctRoots_15 : decode cX4_distinctRoots 15 = .ok (.invokevirtual 244, 3) := dk_182 0 244 (dk_at dksX4_distinctRoots_0 15 rfl rfl)
theorem dX4_distinctRoots_18 : decode cX4_distinctRoots 18 = .ok (.ifCond .eq 9, 3) := dk_153 0 9 (dk_at dksX4_distinctRoots_0 18 rfl rfl)
theorem dX4_distinctRoots_21 : decode cX4_distinctRoots 21 = .ok (.aload_n 0, 1) := dk_42 (dk_at dksX4_distinctRoots_0 21 rfl rfl)
theorem dX4_distinctRoots_22 : decode cX4_distinctRoots 22 = .ok (.iconst 2, 1) := dk_5 (dk_at dksX4_distinctRoots_0 22 rfl rfl)
theorem dX4_distinctRoots_23 : decode cX4_distinctRoots 23 = .ok (.invokevirtual 212, 3) := dk_182 0 212 (dk_at dksX4_distinctRoots_1 0 rfl rfl)
theorem dX4_distinctRoots_26 : decode cX4_distinctRoots 26 = .ok (.ireturn, 1) := dk_172 (dk_at dksX4_distinctRoots_1 3 rfl rfl)
theorem dX4_distinctRoots_27 : decode cX4_distinctRoots 27 = .ok (.aload_n 0, 1) := dk_42 (dk_at dksX4_distinctRoots_1 4 rfl rfl)
theorem dX4_distinctRoots_28 : decode cX4_distinctRoots 28 = .ok (.getfield 11, 3) := dk_180 0 11 (dk_at dksX4_distinctRoots_1 5 rfl rfl)
theorem dX4_distinctRoots_31 : decode cX4_distinctRoots 31 = .ok (.iload_n 1, 1) := dk_27 (dk_at dksX4_distinctRoots_1 8 rfl rfl)
theorem dX4_distinctRoots_32 : decode cX4_distinctRoots 32 = .ok (.aaload, 1) := dk_50 (dk_at dksX4_distinctRoots_1 9 rfl rfl)
theorem dX4_distinctRoots_33 : decode cX4_distinctRoots 33 = .ok (.aload_n 0, 1) := dk_42 (dk_at dksX4_distinctRoots_1 10 rfl rfl)
theorem dX4_distinctRoots_34 : decode cX4_distinctRoots 34 = .ok (.getfield 63, 3) := dk_180 0 63 (dk_at dksX4_distinctRoots_1 11 rfl rfl)
theorem dX4_distinctRoots_37 : decode cX4_distinctRoots 37 = .ok (.invokestatic 236, 3) := dk_184 0 236 (dk_at dksX4_distinctRoots_1 14 rfl rfl)
theorem dX4_distinctRoots_40 : decode cX4_distinctRoots 40 = .ok (.aload_n 0, 1) := dk_42 (dk_at dksX4_distinctRoots_1 17 rfl rfl)
theorem dX4_distinctRoots_41 : decode cX4_distinctRoots 41 = .ok (.getfield 11, 3) := dk_180 0 11 (dk_at dksX4_distinctRoots_1 18 rfl rfl)
theorem dX4_distinctRoots_44 : decode cX4_distinctRoots 44 = .ok (.iload_n 1, 1) := dk_27 (dk_at dksX4_distinctRoots_1 21 rfl rfl)
theorem dX4_distinctRoots_45 : decode cX4_distinctRoots 45 = .ok (.aaload, 1) := dk_50 (dk_at dksX4_distinctRoots_1 22 rfl rfl)
theorem dX4_distinctRoots_46 : decode cX4_distinctRoots 46 = .ok (.invokestatic 282, 3) := dk_184 1 26 (dk_at dksX4_distinctRoots_2 0 rfl rfl)
theorem dX4_distinctRoots_49 : decode cX4_distinctRoots 49 = .ok (.istore_n 2, 1) := dk_61 (dk_at dksX4_distinctRoots_2 3 rfl rfl)
theorem dX4_distinctRoots_50 : decode cX4_distinctRoots 50 = .ok (.aload_n 0, 1) := dk_42 (dk_at dksX4_distinctRoots_2 4 rfl rfl)
theorem dX4_distinctRoots_51 : decode cX4_distinctRoots 51 = .ok (.aload_n 0, 1) := dk_42 (dk_at dksX4_distinctRoots_2 5 rfl rfl)
theorem dX4_distinctRoots_52 : decode cX4_distinctRoots 52 = .ok (.iload_n 2, 1) := dk_28 (dk_at dksX4_distinctRoots_2 6 rfl rfl)
theorem dX4_distinctRoots_53 : decode cX4_distinctRoots 53 = .ok (.ineg, 1) := dk_116 (dk_at dksX4_distinctRoots_2 7 rfl rfl)
theorem dX4_distinctRoots_54 : decode cX4_distinctRoots 54 = .ok (.iconst 0, 1) := dk_3 (dk_at dksX4_distinctRoots_2 8 rfl rfl)
theorem dX4_distinctRoots_55 : decode cX4_distinctRoots 55 = .ok (.iload_n 2, 1) := dk_28 (dk_at dksX4_distinctRoots_2 9 rfl rfl)
theorem dX4_distinctRoots_56 : decode cX4_distinctRoots 56 = .ok (.iconst 0, 1) := dk_3 (dk_at dksX4_distinctRoots_2 10 rfl rfl)
theorem dX4_distinctRoots_57 : decode cX4_distinctRoots 57 = .ok (.invokevirtual 275, 3) := dk_182 1 19 (dk_at dksX4_distinctRoots_2 11 rfl rfl)
theorem dX4_distinctRoots_60 : decode cX4_distinctRoots 60 = .ok (.invokevirtual 217, 3) := dk_182 0 217 (dk_at dksX4_distinctRoots_2 14 rfl rfl)
theorem dX4_distinctRoots_63 : decode cX4_distinctRoots 63 = .ok (.ireturn, 1) := dk_172 (dk_at dksX4_distinctRoots_2 17 rfl rfl)
abbrev cX4_bound : ByteArray := prog_6_method_68_code
def yX4_bound : MethodName := ⟨RX4, "bound", "([I)I"⟩
def dkwX4_bound_2 : List UInt8 := [105, 29, 133, 148, 156, 0, 10, 28, 5, 104, 61, 167, 255, 234, 28, 172]
abbrev dktX4_bound_2 : List UInt8 := dkwX4_bound_2 ++ []
def dkwX4_bound_1 : List UInt8 := [184, 1, 23, 184, 0, 117, 62, 132, 4, 1, 167, 255, 235, 28, 133, 10, 101, 42, 27, 46, 184, 1, 23, 133]
abbrev dktX4_bound_1 : List UInt8 := dkwX4_bound_1 ++ dktX4_bound_2
def dkwX4_bound_0 : List UInt8 := [42, 184, 0, 215, 60, 4, 61, 3, 62, 3, 54, 4, 21, 4, 27, 162, 0, 21, 29, 42, 21, 4, 46]
abbrev dktX4_bound_0 : List UInt8 := dkwX4_bound_0 ++ dktX4_bound_1
theorem dksX4_bound_0 : cX4_bound.data.toList.drop 0 = dktX4_bound_0 := by decide +kernel
theorem dksX4_bound_1 : cX4_bound.data.toList.drop 23 = dktX4_bound_1 := dk_seg dksX4_bound_0 23 rfl rfl
theorem dksX4_bound_2 : cX4_bound.data.toList.drop 47 = dktX4_bound_2 := dk_seg dksX4_bound_1 24 rfl rfl
theorem dX4_bound_0 : decode cX4_bound 0 = .ok (.aload_n 0, 1) := dk_42 (dk_at dksX4_bound_0 0 rfl rfl)
theorem dX4_bound_1 : decode cX4_bound 1 = .ok (.invokestatic 215, 3) := dk_184 0 215 (dk_at dksX4_bound_0 1 rfl rfl)
theorem dX4_bound_4 : decode cX4_bound 4 = .ok (.istore_n 1, 1) := dk_60 (dk_at dksX4_bound_0 4 rfl rfl)
theorem dX4_bound_5 : decode cX4_bound 5 = .ok (.iconst 1, 1) := dk_4 (dk_at dksX4_bound_0 5 rfl rfl)
theorem dX4_bound_6 : decode cX4_bound 6 = .ok (.istore_n 2, 1) := dk_61 (dk_at dksX4_bound_0 6 rfl rfl)
theorem dX4_bound_7 : decode cX4_bound 7 = .ok (.iconst 0, 1) := dk_3 (dk_at dksX4_bound_0 7 rfl rfl)
theorem dX4_bound_8 : decode cX4_bound 8 = .ok (.istore_n 3, 1) := dk_62 (dk_at dksX4_bound_0 8 rfl rfl)
theorem dX4_bound_9 : decode cX4_bound 9 = .ok (.iconst 0, 1) := dk_3 (dk_at dksX4_bound_0 9 rfl rfl)
theorem dX4_bound_10 : decode cX4_bound 10 = .ok (.istore 4, 2) := dk_54 4 (dk_at dksX4_bound_0 10 rfl rfl)
theorem dX4_bound_12 : decode cX4_bound 12 = .ok (.iload 4, 2) := dk_21 4 (dk_at dksX4_bound_0 12 rfl rfl)
theorem dX4_bound_14 : decode cX4_bound 14 = .ok (.iload_n 1, 1) := dk_27 (dk_at dksX4_bound_0 14 rfl rfl)
theorem dX4_bound_15 : decode cX4_bound 15 = .ok (.if_icmp .ge 21, 3) := dk_162 0 21 (dk_at dksX4_bound_0 15 rfl rfl)
theorem dX4_bound_18 : decode cX4_bound 18 = .ok (.iload_n 3, 1) := dk_29 (dk_at dksX4_bound_0 18 rfl rfl)
theorem dX4_bound_19 : decode cX4_bound 19 = .ok (.aload_n 0, 1) := dk_42 (dk_at dksX4_bound_0 19 rfl rfl)
theorem dX4_bound_20 : decode cX4_bound 20 = .ok (.iload 4, 2) := dk_21 4 (dk_at dksX4_bound_0 20 rfl rfl)
theorem dX4_bound_22 : decode cX4_bound 22 = .ok (.iaload, 1) := dk_46 (dk_at dksX4_bound_0 22 rfl rfl)
theorem dX4_bound_23 : decode cX4_bound 23 = .ok (.invokestatic 279, 3) := dk_184 1 23 (dk_at dksX4_bound_1 0 rfl rfl)
theorem dX4_bound_26 : decode cX4_bound 26 = .ok (.invokestatic 117, 3) := dk_184 0 117 (dk_at dksX4_bound_1 3 rfl rfl)
theorem dX4_bound_29 : decode cX4_bound 29 = .ok (.istore_n 3, 1) := dk_62 (dk_at dksX4_bound_1 6 rfl rfl)
theorem dX4_bound_30 : decode cX4_bound 30 = .ok (.iinc 4 1, 3) := dk_132 4 1 (dk_at dksX4_bound_1 7 rfl rfl)
theorem dX4_bound_33 : decode cX4_bound 33 = .ok (.goto (-21), 3) := dk_167 255 235 (dk_at dksX4_bound_1 10 rfl rfl)
theorem dX4_bound_36 : decode cX4_bound 36 = .ok (.iload_n 2, 1) := dk_28 (dk_at dksX4_bound_1 13 rfl rfl)
theorem dX4_bound_37 : decode cX4_bound 37 = .ok (.i2l, 1) := dk_133 (dk_at dksX4_bound_1 14 rfl rfl)
theorem dX4_bound_38 : decode cX4_bound 38 = .ok (.lconst 1, 1) := dk_10 (dk_at dksX4_bound_1 15 rfl rfl)
theorem dX4_bound_39 : decode cX4_bound 39 = .ok (.lsub, 1) := dk_101 (dk_at dksX4_bound_1 16 rfl rfl)
theorem dX4_bound_40 : decode cX4_bound 40 = .ok (.aload_n 0, 1) := dk_42 (dk_at dksX4_bound_1 17 rfl rfl)
theorem dX4_bound_41 : decode cX4_bound 41 = .ok (.iload_n 1, 1) := dk_27 (dk_at dksX4_bound_1 18 rfl rfl)
theorem dX4_bound_42 : decode cX4_bound 42 = .ok (.iaload, 1) := dk_46 (dk_at dksX4_bound_1 19 rfl rfl)
theorem dX4_bound_43 : decode cX4_bound 43 = .ok (.invokestatic 279, 3) := dk_184 1 23 (dk_at dksX4_bound_1 20 rfl rfl)
theorem dX4_bound_46 : decode cX4_bound 46 = .ok (.i2l, 1) := dk_133 (dk_at dksX4_bound_1 23 rfl rfl)
theorem dX4_bound_47 : decode cX4_bound 47 = .ok (.lmul, 1) := dk_105 (dk_at dksX4_bound_2 0 rfl rfl)
theorem dX4_bound_48 : decode cX4_bound 48 = .ok (.iload_n 3, 1) := dk_29 (dk_at dksX4_bound_2 1 rfl rfl)
theorem dX4_bound_49 : decode cX4_bound 49 = .ok (.i2l, 1) := dk_133 (dk_at dksX4_bound_2 2 rfl rfl)
theorem dX4_bound_50 : decode cX4_bound 50 = .ok (.lcmp, 1) := dk_148 (dk_at dksX4_bound_2 3 rfl rfl)
theorem dX4_bound_51 : decode cX4_bound 51 = .ok (.ifCond .ge 10, 3) := dk_156 0 10 (dk_at dksX4_bound_2 4 rfl rfl)
theorem dX4_bound_54 : decode cX4_bound 54 = .ok (.iload_n 2, 1) := dk_28 (dk_at dksX4_bound_2 7 rfl rfl)
theorem dX4_bound_55 : decode cX4_bound 55 = .ok (.iconst 2, 1) := dk_5 (dk_at dksX4_bound_2 8 rfl rfl)
theorem dX4_bound_56 : decode cX4_bound 56 = .ok (.imul, 1) := dk_104 (dk_at dksX4_bound_2 9 rfl rfl)
theorem dX4_bound_57 : decode cX4_bound 57 = .ok (.istore_n 2, 1) := dk_61 (dk_at dksX4_bound_2 10 rfl rfl)
theorem dX4_bound_58 : decode cX4_bound 58 = .ok (.goto (-22), 3) := dk_167 255 234 (dk_at dksX4_bound_2 11 rfl rfl)
theorem dX4_bound_61 : decode cX4_bound 61 = .ok (.iload_n 2, 1) := dk_28 (dk_at dksX4_bound_2 14 rfl rfl)
theorem dX4_bound_62 : decode cX4_bound 62 = .ok (.ireturn, 1) := dk_172 (dk_at dksX4_bound_2 15 rfl rfl)
abbrev cX4_coefficientSignChanges : ByteArray := prog_6_method_70_code
def yX4_coefficientSignChanges : MethodName := ⟨RX4, "coefficientSignChanges", "(I)I"⟩
def dkwX4_coefficientSignChanges_1 : List UInt8 := [184, 0, 236, 42, 42, 180, 0, 63, 16, 6, 184, 0, 201, 182, 0, 217, 172]
abbrev dktX4_coefficientSignChanges_1 : List UInt8 := dkwX4_coefficientSignChanges_1 ++ []
def dkwX4_coefficientSignChanges_0 : List UInt8 := [27, 184, 0, 228, 154, 0, 9, 42, 4, 182, 0, 212, 172, 42, 180, 0, 11, 27, 50, 42, 180, 0, 63]
abbrev dktX4_coefficientSignChanges_0 : List UInt8 := dkwX4_coefficientSignChanges_0 ++ dktX4_coefficientSignChanges_1
theorem dksX4_coefficientSignChanges_0 : cX4_coefficientSignChanges.data.toList.drop 0 = dktX4_coefficientSignChanges_0 := by decide +kernel
theorem dksX4_coefficientSignChanges_1 : cX4_coefficientSignChanges.data.toList.drop 23 = dktX4_coefficientSignChanges_1 := dk_seg dksX4_coefficientSignChanges_0 23 rfl rfl
theorem dX4_coefficientSignChanges_0 : decode cX4_coefficientSignChanges 0 = .ok (.iload_n 1, 1) := dk_27 (dk_at dksX4_coefficientSignChanges_0 0 rfl rfl)
theorem dX4_coefficientSignChanges_1 : decode cX4_coefficientSignChanges 1 = .ok (.invokestatic 228, 3) := dk_184 0 228 (dk_at dksX4_coefficientSignChanges_0 1 rfl rfl)
theorem dX4_coefficientSignChanges_4 : decode cX4_coefficientSignChanges 4 = .ok (.ifCond .ne 9, 3) := dk_154 0 9 (dk_at dksX4_coefficientSignChanges_0 4 rfl rfl)
theorem dX4_coefficientSignChanges_7 : decode cX4_coefficientSignChanges 7 = .ok (.aload_n 0, 1) := dk_42 (dk_at dksX4_coefficientSignChanges_0 7 rfl rfl)
theorem dX4_coefficientSignChanges_8 : decode cX4_coefficientSignChanges 8 = .ok (.iconst 1, 1) := dk_4 (dk_at dksX4_coefficientSignChanges_0 8 rfl rfl)
theorem dX4_coefficientSignChanges_9 : decode cX4_coefficientSignChanges 9 = .ok (.invokevirtual 212, 3) := dk_182 0 212 (dk_at dksX4_coefficientSignChanges_0 9 rfl rfl)
theorem dX4_coefficientSignChanges_12 : decode cX4_coefficientSignChanges 12 = .ok (.ireturn, 1) := dk_172 (dk_at dksX4_coefficientSignChanges_0 12 rfl rfl)
theorem dX4_coefficientSignChanges_13 : decode cX4_coefficientSignChanges 13 = .ok (.aload_n 0, 1) := dk_42 (dk_at dksX4_coefficientSignChanges_0 13 rfl rfl)
theorem dX4_coefficientSignChanges_14 : decode cX4_coefficientSignChanges 14 = .ok (.getfield 11, 3) := dk_180 0 11 (dk_at dksX4_coefficientSignChanges_0 14 rfl rfl)
theorem dX4_coefficientSignChanges_17 : decode cX4_coefficientSignChanges 17 = .ok (.iload_n 1, 1) := dk_27 (dk_at dksX4_coefficientSignChanges_0 17 rfl rfl)
theorem dX4_coefficientSignChanges_18 : decode cX4_coefficientSignChanges 18 = .ok (.aaload, 1) := dk_50 (dk_at dksX4_coefficientSignChanges_0 18 rfl rfl)
theorem dX4_coefficientSignChanges_19 : decode cX4_coefficientSignChanges 19 = .ok (.aload_n 0, 1) := dk_42 (dk_at dksX4_coefficientSignChanges_0 19 rfl rfl)
theorem dX4_coefficientSignChanges_20 : decode cX4_coefficientSignChanges 20 = .ok (.getfield 63, 3) := dk_180 0 63 (dk_at dksX4_coefficientSignChanges_0 20 rfl rfl)
theorem dX4_coefficientSignChanges_23 : decode cX4_coefficientSignChanges 23 = .ok (.invokestatic 236, 3) := dk_184 0 236 (dk_at dksX4_coefficientSignChanges_1 0 rfl rfl)
theorem dX4_coefficientSignChanges_26 : decode cX4_coefficientSignChanges 26 = .ok (.aload_n 0, 1) := dk_42 (dk_at dksX4_coefficientSignChanges_1 3 rfl rfl)
theorem dX4_coefficientSignChanges_27 : decode cX4_coefficientSignChanges 27 = .ok (.aload_n 0, 1) := dk_42 (dk_at dksX4_coefficientSignChanges_1 4 rfl rfl)
theorem dX4_coefficientSignChanges_28 : decode cX4_coefficientSignChanges 28 = .ok (.getfield 63, 3) := dk_180 0 63 (dk_at dksX4_coefficientSignChanges_1 5 rfl rfl)
theorem dX4_coefficientSignChanges_31 : decode cX4_coefficientSignChanges 31 = .ok (.bipush 6, 2) := dk_16 6 (dk_at dksX4_coefficientSignChanges_1 8 rfl rfl)
theorem dX4_coefficientSignChanges_33 : decode cX4_coefficientSignChanges 33 = .ok (.invokestatic 201, 3) := dk_184 0 201 (dk_at dksX4_coefficientSignChanges_1 10 rfl rfl)
theorem dX4_coefficientSignChanges_36 : decode cX4_coefficientSignChanges 36 = .ok (.invokevirtual 217, 3) := dk_182 0 217 (dk_at dksX4_coefficientSignChanges_1 13 rfl rfl)
theorem dX4_coefficientSignChanges_39 : decode cX4_coefficientSignChanges 39 = .ok (.ireturn, 1) := dk_172 (dk_at dksX4_coefficientSignChanges_1 16 rfl rfl)
abbrev cX4_isolate : ByteArray := prog_6_method_74_code
def yX4_isolate : MethodName := ⟨RX4, "isolate", "(I)I"⟩
def dkwX4_isolate_5 : List UInt8 := [182, 0, 217, 172]
abbrev dktX4_isolate_5 : List UInt8 := dkwX4_isolate_5 ++ []
def dkwX4_isolate_4 : List UInt8 := [180, 0, 69, 184, 1, 26, 116, 42, 180, 0, 69, 184, 1, 26, 182, 1, 36, 42, 42, 180, 0, 84, 3, 46]
abbrev dktX4_isolate_4 : List UInt8 := dkwX4_isolate_4 ++ dktX4_isolate_5
def dkwX4_isolate_3 : List UInt8 := [182, 0, 247, 42, 180, 0, 45, 42, 180, 0, 72, 184, 0, 186, 42, 4, 181, 1, 29, 42, 3, 3, 42]
abbrev dktX4_isolate_3 : List UInt8 := dkwX4_isolate_3 ++ dktX4_isolate_4
def dkwX4_isolate_2 : List UInt8 := [46, 79, 132, 2, 1, 167, 255, 233, 42, 180, 0, 69, 42, 180, 0, 63, 184, 0, 236, 42, 42, 180, 0, 63]
abbrev dktX4_isolate_2 : List UInt8 := dkwX4_isolate_2 ++ dktX4_isolate_3
def dkwX4_isolate_1 : List UInt8 := [182, 0, 212, 172, 3, 61, 28, 16, 7, 162, 0, 23, 42, 180, 0, 69, 28, 42, 180, 0, 11, 27, 50, 28]
abbrev dktX4_isolate_1 : List UInt8 := dkwX4_isolate_1 ++ dktX4_isolate_2
def dkwX4_isolate_0 : List UInt8 := [27, 184, 0, 228, 154, 0, 9, 42, 4, 182, 0, 212, 172, 42, 27, 182, 0, 244, 153, 0, 9, 42, 5]
abbrev dktX4_isolate_0 : List UInt8 := dkwX4_isolate_0 ++ dktX4_isolate_1
theorem dksX4_isolate_0 : cX4_isolate.data.toList.drop 0 = dktX4_isolate_0 := by decide +kernel
theorem dksX4_isolate_1 : cX4_isolate.data.toList.drop 23 = dktX4_isolate_1 := dk_seg dksX4_isolate_0 23 rfl rfl
theorem dksX4_isolate_2 : cX4_isolate.data.toList.drop 47 = dktX4_isolate_2 := dk_seg dksX4_isolate_1 24 rfl rfl
theorem dksX4_isolate_3 : cX4_isolate.data.toList.drop 71 = dktX4_isolate_3 := dk_seg dksX4_isolate_2 24 rfl rfl
theorem dksX4_isolate_4 : cX4_isolate.data.toList.drop 94 = dktX4_isolate_4 := dk_seg dksX4_isolate_3 23 rfl rfl
theorem dksX4_isolate_5 : cX4_isolate.data.toList.drop 118 = dktX4_isolate_5 := dk_seg dksX4_isolate_4 24 rfl rfl
theorem dX4_isolate_0 : decode cX4_isolate 0 = .ok (.iload_n 1, 1) := dk_27 (dk_at dksX4_isolate_0 0 rfl rfl)
theorem dX4_isolate_1 : decode cX4_isolate 1 = .ok (.invokestatic 228, 3) := dk_184 0 228 (dk_at dksX4_isolate_0 1 rfl rfl)
theorem dX4_isolate_4 : decode cX4_isolate 4 = .ok (.ifCond .ne 9, 3) := dk_154 0 9 (dk_at dksX4_isolate_0 4 rfl rfl)
theorem dX4_isolate_7 : decode cX4_isolate 7 = .ok (.aload_n 0, 1) := dk_42 (dk_at dksX4_isolate_0 7 rfl rfl)
theorem dX4_isolate_8 : decode cX4_isolate 8 = .ok (.iconst 1, 1) := dk_4 (dk_at dksX4_isolate_0 8 rfl rfl)
theorem dX4_isolate_9 : decode cX4_isolate 9 = .ok (.invokevirtual 212, 3) := dk_182 0 212 (dk_at dksX4_isolate_0 9 rfl rfl)
theorem dX4_isolate_12 : decode cX4_isolate 12 = .ok (.ireturn, 1) := dk_172 (dk_at dksX4_isolate_0 12 rfl rfl)
theorem dX4_isolate_13 : decode cX4_isolate 13 = .ok (.aload_n 0, 1) := dk_42 (dk_at dksX4_isolate_0 13 rfl rfl)
theorem dX4_isolate_14 : decode cX4_isolate 14 = .ok (.iload_n 1, 1) := dk_27 (dk_at dksX4_isolate_0 14 rfl rfl)
theorem dX4_isolate_15 : decode cX4_isolate 15 = .ok (.invokevirtual 244, 3) := dk_182 0 244 (dk_at dksX4_isolate_0 15 rfl rfl)
theorem dX4_isolate_18 : decode cX4_isolate 18 = .ok (.ifCond .eq 9, 3) := dk_153 0 9 (dk_at dksX4_isolate_0 18 rfl rfl)
theorem dX4_isolate_21 : decode cX4_isolate 21 = .ok (.aload_n 0, 1) := dk_42 (dk_at dksX4_isolate_0 21 rfl rfl)
theorem dX4_isolate_22 : decode cX4_isolate 22 = .ok (.iconst 2, 1) := dk_5 (dk_at dksX4_isolate_0 22 rfl rfl)
theorem dX4_isolate_23 : decode cX4_isolate 23 = .ok (.invokevirtual 212, 3) := dk_182 0 212 (dk_at dksX4_isolate_1 0 rfl rfl)
theorem dX4_isolate_26 : decode cX4_isolate 26 = .ok (.ireturn, 1) := dk_172 (dk_at dksX4_isolate_1 3 rfl rfl)
theorem dX4_isolate_27 : decode cX4_isolate 27 = .ok (.iconst 0, 1) := dk_3 (dk_at dksX4_isolate_1 4 rfl rfl)
theorem dX4_isolate_28 : decode cX4_isolate 28 = .ok (.istore_n 2, 1) := dk_61 (dk_at dksX4_isolate_1 5 rfl rfl)
theorem dX4_isolate_29 : decode cX4_isolate 29 = .ok (.iload_n 2, 1) := dk_28 (dk_at dksX4_isolate_1 6 rfl rfl)
theorem dX4_isolate_30 : decode cX4_isolate 30 = .ok (.bipush 7, 2) := dk_16 7 (dk_at dksX4_isolate_1 7 rfl rfl)
theorem dX4_isolate_32 : decode cX4_isolate 32 = .ok (.if_icmp .ge 23, 3) := dk_162 0 23 (dk_at dksX4_isolate_1 9 rfl rfl)
theorem dX4_isolate_35 : decode cX4_isolate 35 = .ok (.aload_n 0, 1) := dk_42 (dk_at dksX4_isolate_1 12 rfl rfl)
theorem dX4_isolate_36 : decode cX4_isolate 36 = .ok (.getfield 69, 3) := dk_180 0 69 (dk_at dksX4_isolate_1 13 rfl rfl)
theorem dX4_isolate_39 : decode cX4_isolate 39 = .ok (.iload_n 2, 1) := dk_28 (dk_at dksX4_isolate_1 16 rfl rfl)
theorem dX4_isolate_40 : decode cX4_isolate 40 = .ok (.aload_n 0, 1) := dk_42 (dk_at dksX4_isolate_1 17 rfl rfl)
theorem dX4_isolate_41 : decode cX4_isolate 41 = .ok (.getfield 11, 3) := dk_180 0 11 (dk_at dksX4_isolate_1 18 rfl rfl)
theorem dX4_isolate_44 : decode cX4_isolate 44 = .ok (.iload_n 1, 1) := dk_27 (dk_at dksX4_isolate_1 21 rfl rfl)
theorem dX4_isolate_45 : decode cX4_isolate 45 = .ok (.aaload, 1) := dk_50 (dk_at dksX4_isolate_1 22 rfl rfl)
theorem dX4_isolate_46 : decode cX4_isolate 46 = .ok (.iload_n 2, 1) := dk_28 (dk_at dksX4_isolate_1 23 rfl rfl)
theorem dX4_isolate_47 : decode cX4_isolate 47 = .ok (.iaload, 1) := dk_46 (dk_at dksX4_isolate_2 0 rfl rfl)
theorem dX4_isolate_48 : decode cX4_isolate 48 = .ok (.iastore, 1) := dk_79 (dk_at dksX4_isolate_2 1 rfl rfl)
theorem dX4_isolate_49 : decode cX4_isolate 49 = .ok (.iinc 2 1, 3) := dk_132 2 1 (dk_at dksX4_isolate_2 2 rfl rfl)
theorem dX4_isolate_52 : decode cX4_isolate 52 = .ok (.goto (-23), 3) := dk_167 255 233 (dk_at dksX4_isolate_2 5 rfl rfl)
theorem dX4_isolate_55 : decode cX4_isolate 55 = .ok (.aload_n 0, 1) := dk_42 (dk_at dksX4_isolate_2 8 rfl rfl)
theorem dX4_isolate_56 : decode cX4_isolate 56 = .ok (.getfield 69, 3) := dk_180 0 69 (dk_at dksX4_isolate_2 9 rfl rfl)
theorem dX4_isolate_59 : decode cX4_isolate 59 = .ok (.aload_n 0, 1) := dk_42 (dk_at dksX4_isolate_2 12 rfl rfl)
theorem dX4_isolate_60 : decode cX4_isolate 60 = .ok (.getfield 63, 3) := dk_180 0 63 (dk_at dksX4_isolate_2 13 rfl rfl)
theorem dX4_isolate_63 : decode cX4_isolate 63 = .ok (.invokestatic 236, 3) := dk_184 0 236 (dk_at dksX4_isolate_2 16 rfl rfl)
theorem dX4_isolate_66 : decode cX4_isolate 66 = .ok (.aload_n 0, 1) := dk_42 (dk_at dksX4_isolate_2 19 rfl rfl)
theorem dX4_isolate_67 : decode cX4_isolate 67 = .ok (.aload_n 0, 1) := dk_42 (dk_at dksX4_isolate_2 20 rfl rfl)
theorem dX4_isolate_68 : decode cX4_isolate 68 = .ok (.getfield 63, 3) := dk_180 0 63 (dk_at dksX4_isolate_2 21 rfl rfl)
theorem dX4_isolate_71 : decode cX4_isolate 71 = .ok (.invokevirtual 247, 3) := dk_182 0 247 (dk_at dksX4_isolate_3 0 rfl rfl)
theorem dX4_isolate_74 : decode cX4_isolate 74 = .ok (.aload_n 0, 1) := dk_42 (dk_at dksX4_isolate_3 3 rfl rfl)
theorem dX4_isolate_75 : decode cX4_isolate 75 = .ok (.getfield 45, 3) := dk_180 0 45 (dk_at dksX4_isolate_3 4 rfl rfl)
theorem dX4_isolate_78 : decode cX4_isolate 78 = .ok (.aload_n 0, 1) := dk_42 (dk_at dksX4_isolate_3 7 rfl rfl)
theorem dX4_isolate_79 : decode cX4_isolate 79 = .ok (.getfield 72, 3) := dk_180 0 72 (dk_at dksX4_isolate_3 8 rfl rfl)
theorem dX4_isolate_82 : decode cX4_isolate 82 = .ok (.invokestatic 186, 3) := dk_184 0 186 (dk_at dksX4_isolate_3 11 rfl rfl)
theorem dX4_isolate_85 : decode cX4_isolate 85 = .ok (.aload_n 0, 1) := dk_42 (dk_at dksX4_isolate_3 14 rfl rfl)
theorem dX4_isolate_86 : decode cX4_isolate 86 = .ok (.iconst 1, 1) := dk_4 (dk_at dksX4_isolate_3 15 rfl rfl)
theorem dX4_isolate_87 : decode cX4_isolate 87 = .ok (.putfield 285, 3) := dk_181 1 29 (dk_at dksX4_isolate_3 16 rfl rfl)
theorem dX4_isolate_90 : decode cX4_isolate 90 = .ok (.aload_n 0, 1) := dk_42 (dk_at dksX4_isolate_3 19 rfl rfl)
theorem dX4_isolate_91 : decode cX4_isolate 91 = .ok (.iconst 0, 1) := dk_3 (dk_at dksX4_isolate_3 20 rfl rfl)
theorem dX4_isolate_92 : decode cX4_isolate 92 = .ok (.iconst 0, 1) := dk_3 (dk_at dksX4_isolate_3 21 rfl rfl)
theorem dX4_isolate_93 : decode cX4_isolate 93 = .ok (.aload_n 0, 1) := dk_42 (dk_at dksX4_isolate_3 22 rfl rfl)
theorem dX4_isolate_94 : decode cX4_isolate 94 = .ok (.getfield 69, 3) := dk_180 0 69 (dk_at dksX4_isolate_4 0 rfl rfl)
theorem dX4_isolate_97 : decode cX4_isolate 97 = .ok (.invokestatic 282, 3) := dk_184 1 26 (dk_at dksX4_isolate_4 3 rfl rfl)
theorem dX4_isolate_100 : decode cX4_isolate 100 = .ok (.ineg, 1) := dk_116 (dk_at dksX4_isolate_4 6 rfl rfl)
theorem dX4_isolate_101 : decode cX4_isolate 101 = .ok (.aload_n 0, 1) := dk_42 (dk_at dksX4_isolate_4 7 rfl rfl)
theorem dX4_isolate_102 : decode cX4_isolate 102 = .ok (.getfield 69, 3) := dk_180 0 69 (dk_at dksX4_isolate_4 8 rfl rfl)
theorem dX4_isolate_105 : decode cX4_isolate 105 = .ok (.invokestatic 282, 3) := dk_184 1 26 (dk_at dksX4_isolate_4 11 rfl rfl)
theorem dX4_isolate_108 : decode cX4_isolate 108 = .ok (.invokevirtual 292, 3) := dk_182 1 36 (dk_at dksX4_isolate_4 14 rfl rfl)
theorem dX4_isolate_111 : decode cX4_isolate 111 = .ok (.aload_n 0, 1) := dk_42 (dk_at dksX4_isolate_4 17 rfl rfl)
theorem dX4_isolate_112 : decode cX4_isolate 112 = .ok (.aload_n 0, 1) := dk_42 (dk_at dksX4_isolate_4 18 rfl rfl)
theorem dX4_isolate_113 : decode cX4_isolate 113 = .ok (.getfield 84, 3) := dk_180 0 84 (dk_at dksX4_isolate_4 19 rfl rfl)
theorem dX4_isolate_116 : decode cX4_isolate 116 = .ok (.iconst 0, 1) := dk_3 (dk_at dksX4_isolate_4 22 rfl rfl)
theorem dX4_isolate_117 : decode cX4_isolate 117 = .ok (.iaload, 1) := dk_46 (dk_at dksX4_isolate_4 23 rfl rfl)
theorem dX4_isolate_118 : decode cX4_isolate 118 = .ok (.invokevirtual 217, 3) := dk_182 0 217 (dk_at dksX4_isolate_5 0 rfl rfl)
theorem dX4_isolate_121 : decode cX4_isolate 121 = .ok (.ireturn, 1) := dk_172 (dk_at dksX4_isolate_5 3 rfl rfl)
abbrev cX4_place : ByteArray := prog_6_method_72_code
def yX4_place : MethodName := ⟨RX4, "place", "(IIII)V"⟩
def dkwX4_place_2 : List UInt8 := [28, 182, 1, 11, 79, 177]
abbrev dktX4_place_2 : List UInt8 := dkwX4_place_2 ++ []
def dkwX4_place_1 : List UInt8 := [180, 0, 84, 27, 29, 21, 4, 160, 0, 7, 4, 167, 0, 17, 42, 42, 180, 0, 72, 29, 133, 21, 4, 133]
abbrev dktX4_place_1 : List UInt8 := dkwX4_place_1 ++ dktX4_place_2
def dkwX4_place_0 : List UInt8 := [42, 180, 0, 75, 27, 28, 79, 42, 180, 0, 78, 27, 29, 79, 42, 180, 0, 81, 27, 21, 4, 79, 42]
abbrev dktX4_place_0 : List UInt8 := dkwX4_place_0 ++ dktX4_place_1
theorem dksX4_place_0 : cX4_place.data.toList.drop 0 = dktX4_place_0 := by decide +kernel
theorem dksX4_place_1 : cX4_place.data.toList.drop 23 = dktX4_place_1 := dk_seg dksX4_place_0 23 rfl rfl
theorem dksX4_place_2 : cX4_place.data.toList.drop 47 = dktX4_place_2 := dk_seg dksX4_place_1 24 rfl rfl
theorem dX4_place_0 : decode cX4_place 0 = .ok (.aload_n 0, 1) := dk_42 (dk_at dksX4_place_0 0 rfl rfl)
theorem dX4_place_1 : decode cX4_place 1 = .ok (.getfield 75, 3) := dk_180 0 75 (dk_at dksX4_place_0 1 rfl rfl)
theorem dX4_place_4 : decode cX4_place 4 = .ok (.iload_n 1, 1) := dk_27 (dk_at dksX4_place_0 4 rfl rfl)
theorem dX4_place_5 : decode cX4_place 5 = .ok (.iload_n 2, 1) := dk_28 (dk_at dksX4_place_0 5 rfl rfl)
theorem dX4_place_6 : decode cX4_place 6 = .ok (.iastore, 1) := dk_79 (dk_at dksX4_place_0 6 rfl rfl)
theorem dX4_place_7 : decode cX4_place 7 = .ok (.aload_n 0, 1) := dk_42 (dk_at dksX4_place_0 7 rfl rfl)
theorem dX4_place_8 : decode cX4_place 8 = .ok (.getfield 78, 3) := dk_180 0 78 (dk_at dksX4_place_0 8 rfl rfl)
theorem dX4_place_11 : decode cX4_place 11 = .ok (.iload_n 1, 1) := dk_27 (dk_at dksX4_place_0 11 rfl rfl)
theorem dX4_place_12 : decode cX4_place 12 = .ok (.iload_n 3, 1) := dk_29 (dk_at dksX4_place_0 12 rfl rfl)
theorem dX4_place_13 : decode cX4_place 13 = .ok (.iastore, 1) := dk_79 (dk_at dksX4_place_0 13 rfl rfl)
theorem dX4_place_14 : decode cX4_place 14 = .ok (.aload_n 0, 1) := dk_42 (dk_at dksX4_place_0 14 rfl rfl)
theorem dX4_place_15 : decode cX4_place 15 = .ok (.getfield 81, 3) := dk_180 0 81 (dk_at dksX4_place_0 15 rfl rfl)
theorem dX4_place_18 : decode cX4_place 18 = .ok (.iload_n 1, 1) := dk_27 (dk_at dksX4_place_0 18 rfl rfl)
theorem dX4_place_19 : decode cX4_place 19 = .ok (.iload 4, 2) := dk_21 4 (dk_at dksX4_place_0 19 rfl rfl)
theorem dX4_place_21 : decode cX4_place 21 = .ok (.iastore, 1) := dk_79 (dk_at dksX4_place_0 21 rfl rfl)
theorem dX4_place_22 : decode cX4_place 22 = .ok (.aload_n 0, 1) := dk_42 (dk_at dksX4_place_0 22 rfl rfl)
theorem dX4_place_23 : decode cX4_place 23 = .ok (.getfield 84, 3) := dk_180 0 84 (dk_at dksX4_place_1 0 rfl rfl)
theorem dX4_place_26 : decode cX4_place 26 = .ok (.iload_n 1, 1) := dk_27 (dk_at dksX4_place_1 3 rfl rfl)
theorem dX4_place_27 : decode cX4_place 27 = .ok (.iload_n 3, 1) := dk_29 (dk_at dksX4_place_1 4 rfl rfl)
theorem dX4_place_28 : decode cX4_place 28 = .ok (.iload 4, 2) := dk_21 4 (dk_at dksX4_place_1 5 rfl rfl)
theorem dX4_place_30 : decode cX4_place 30 = .ok (.if_icmp .ne 7, 3) := dk_160 0 7 (dk_at dksX4_place_1 7 rfl rfl)
theorem dX4_place_33 : decode cX4_place 33 = .ok (.iconst 1, 1) := dk_4 (dk_at dksX4_place_1 10 rfl rfl)
theorem dX4_place_34 : decode cX4_place 34 = .ok (.goto 17, 3) := dk_167 0 17 (dk_at dksX4_place_1 11 rfl rfl)
theorem dX4_place_37 : decode cX4_place 37 = .ok (.aload_n 0, 1) := dk_42 (dk_at dksX4_place_1 14 rfl rfl)
theorem dX4_place_38 : decode cX4_place 38 = .ok (.aload_n 0, 1) := dk_42 (dk_at dksX4_place_1 15 rfl rfl)
theorem dX4_place_39 : decode cX4_place 39 = .ok (.getfield 72, 3) := dk_180 0 72 (dk_at dksX4_place_1 16 rfl rfl)
theorem dX4_place_42 : decode cX4_place 42 = .ok (.iload_n 3, 1) := dk_29 (dk_at dksX4_place_1 19 rfl rfl)
theorem dX4_place_43 : decode cX4_place 43 = .ok (.i2l, 1) := dk_133 (dk_at dksX4_place_1 20 rfl rfl)
theorem dX4_place_44 : decode cX4_place 44 = .ok (.iload 4, 2) := dk_21 4 (dk_at dksX4_place_1 21 rfl rfl)
theorem dX4_place_46 : decode cX4_place 46 = .ok (.i2l, 1) := dk_133 (dk_at dksX4_place_1 23 rfl rfl)
theorem dX4_place_47 : decode cX4_place 47 = .ok (.iload_n 2, 1) := dk_28 (dk_at dksX4_place_2 0 rfl rfl)
theorem dX4_place_48 : decode cX4_place 48 = .ok (.invokevirtual 267, 3) := dk_182 1 11 (dk_at dksX4_place_2 1 rfl rfl)
theorem dX4_place_51 : decode cX4_place 51 = .ok (.iastore, 1) := dk_79 (dk_at dksX4_place_2 4 rfl rfl)
theorem dX4_place_52 : decode cX4_place 52 = .ok (.return_, 1) := dk_177 (dk_at dksX4_place_2 5 rfl rfl)
abbrev cX4_intervals : ByteArray := prog_6_method_75_code
def yX4_intervals : MethodName := ⟨RX4, "intervals", "()I"⟩
def dkwX4_intervals_0 : List UInt8 := [42, 42, 180, 1, 29, 182, 0, 217, 172]
abbrev dktX4_intervals_0 : List UInt8 := dkwX4_intervals_0 ++ []
theorem dksX4_intervals_0 : cX4_intervals.data.toList.drop 0 = dktX4_intervals_0 := by decide +kernel
theorem dX4_intervals_0 : decode cX4_intervals 0 = .ok (.aload_n 0, 1) := dk_42 (dk_at dksX4_intervals_0 0 rfl rfl)
theorem dX4_intervals_1 : decode cX4_intervals 1 = .ok (.aload_n 0, 1) := dk_42 (dk_at dksX4_intervals_0 1 rfl rfl)
theorem dX4_intervals_2 : decode cX4_intervals 2 = .ok (.getfield 285, 3) := dk_180 1 29 (dk_at dksX4_intervals_0 2 rfl rfl)
theorem dX4_intervals_5 : decode cX4_intervals 5 = .ok (.invokevirtual 217, 3) := dk_182 0 217 (dk_at dksX4_intervals_0 5 rfl rfl)
theorem dX4_intervals_8 : decode cX4_intervals 8 = .ok (.ireturn, 1) := dk_172 (dk_at dksX4_intervals_0 8 rfl rfl)
abbrev cX4_rootsIn : ByteArray := prog_6_method_77_code
def yX4_rootsIn : MethodName := ⟨RX4, "rootsIn", "(I)I"⟩
def dkwX4_rootsIn_1 : List UInt8 := [182, 0, 212, 172]
abbrev dktX4_rootsIn_1 : List UInt8 := dkwX4_rootsIn_1 ++ []
def dkwX4_rootsIn_0 : List UInt8 := [42, 27, 182, 1, 40, 153, 0, 16, 42, 42, 180, 0, 84, 27, 46, 182, 0, 217, 167, 0, 8, 42, 4]
abbrev dktX4_rootsIn_0 : List UInt8 := dkwX4_rootsIn_0 ++ dktX4_rootsIn_1
theorem dksX4_rootsIn_0 : cX4_rootsIn.data.toList.drop 0 = dktX4_rootsIn_0 := by decide +kernel
theorem dksX4_rootsIn_1 : cX4_rootsIn.data.toList.drop 23 = dktX4_rootsIn_1 := dk_seg dksX4_rootsIn_0 23 rfl rfl
theorem dX4_rootsIn_0 : decode cX4_rootsIn 0 = .ok (.aload_n 0, 1) := dk_42 (dk_at dksX4_rootsIn_0 0 rfl rfl)
theorem dX4_rootsIn_1 : decode cX4_rootsIn 1 = .ok (.iload_n 1, 1) := dk_27 (dk_at dksX4_rootsIn_0 1 rfl rfl)
theorem dX4_rootsIn_2 : decode cX4_rootsIn 2 = .ok (.invokevirtual 296, 3) := dk_182 1 40 (dk_at dksX4_rootsIn_0 2 rfl rfl)
theorem dX4_rootsIn_5 : decode cX4_rootsIn 5 = .ok (.ifCond .eq 16, 3) := dk_153 0 16 (dk_at dksX4_rootsIn_0 5 rfl rfl)
theorem dX4_rootsIn_8 : decode cX4_rootsIn 8 = .ok (.aload_n 0, 1) := dk_42 (dk_at dksX4_rootsIn_0 8 rfl rfl)
theorem dX4_rootsIn_9 : decode cX4_rootsIn 9 = .ok (.aload_n 0, 1) := dk_42 (dk_at dksX4_rootsIn_0 9 rfl rfl)
theorem dX4_rootsIn_10 : decode cX4_rootsIn 10 = .ok (.getfield 84, 3) := dk_180 0 84 (dk_at dksX4_rootsIn_0 10 rfl rfl)
theorem dX4_rootsIn_13 : decode cX4_rootsIn 13 = .ok (.iload_n 1, 1) := dk_27 (dk_at dksX4_rootsIn_0 13 rfl rfl)
theorem dX4_rootsIn_14 : decode cX4_rootsIn 14 = .ok (.iaload, 1) := dk_46 (dk_at dksX4_rootsIn_0 14 rfl rfl)
theorem dX4_rootsIn_15 : decode cX4_rootsIn 15 = .ok (.invokevirtual 217, 3) := dk_182 0 217 (dk_at dksX4_rootsIn_0 15 rfl rfl)
theorem dX4_rootsIn_18 : decode cX4_rootsIn 18 = .ok (.goto 8, 3) := dk_167 0 8 (dk_at dksX4_rootsIn_0 18 rfl rfl)
theorem dX4_rootsIn_21 : decode cX4_rootsIn 21 = .ok (.aload_n 0, 1) := dk_42 (dk_at dksX4_rootsIn_0 21 rfl rfl)
theorem dX4_rootsIn_22 : decode cX4_rootsIn 22 = .ok (.iconst 1, 1) := dk_4 (dk_at dksX4_rootsIn_0 22 rfl rfl)
theorem dX4_rootsIn_23 : decode cX4_rootsIn 23 = .ok (.invokevirtual 212, 3) := dk_182 0 212 (dk_at dksX4_rootsIn_1 0 rfl rfl)
theorem dX4_rootsIn_26 : decode cX4_rootsIn 26 = .ok (.ireturn, 1) := dk_172 (dk_at dksX4_rootsIn_1 3 rfl rfl)
abbrev cX4_isInterval : ByteArray := prog_6_method_76_code
def yX4_isInterval : MethodName := ⟨RX4, "isInterval", "(I)Z"⟩
def dkwX4_isInterval_0 : List UInt8 := [27, 155, 0, 15, 27, 42, 180, 1, 29, 162, 0, 7, 4, 167, 0, 4, 3, 172]
abbrev dktX4_isInterval_0 : List UInt8 := dkwX4_isInterval_0 ++ []
theorem dksX4_isInterval_0 : cX4_isInterval.data.toList.drop 0 = dktX4_isInterval_0 := by decide +kernel
theorem dX4_isInterval_0 : decode cX4_isInterval 0 = .ok (.iload_n 1, 1) := dk_27 (dk_at dksX4_isInterval_0 0 rfl rfl)
theorem dX4_isInterval_1 : decode cX4_isInterval 1 = .ok (.ifCond .lt 15, 3) := dk_155 0 15 (dk_at dksX4_isInterval_0 1 rfl rfl)
theorem dX4_isInterval_4 : decode cX4_isInterval 4 = .ok (.iload_n 1, 1) := dk_27 (dk_at dksX4_isInterval_0 4 rfl rfl)
theorem dX4_isInterval_5 : decode cX4_isInterval 5 = .ok (.aload_n 0, 1) := dk_42 (dk_at dksX4_isInterval_0 5 rfl rfl)
theorem dX4_isInterval_6 : decode cX4_isInterval 6 = .ok (.getfield 285, 3) := dk_180 1 29 (dk_at dksX4_isInterval_0 6 rfl rfl)
theorem dX4_isInterval_9 : decode cX4_isInterval 9 = .ok (.if_icmp .ge 7, 3) := dk_162 0 7 (dk_at dksX4_isInterval_0 9 rfl rfl)
theorem dX4_isInterval_12 : decode cX4_isInterval 12 = .ok (.iconst 1, 1) := dk_4 (dk_at dksX4_isInterval_0 12 rfl rfl)
theorem dX4_isInterval_13 : decode cX4_isInterval 13 = .ok (.goto 4, 3) := dk_167 0 4 (dk_at dksX4_isInterval_0 13 rfl rfl)
theorem dX4_isInterval_16 : decode cX4_isInterval 16 = .ok (.iconst 0, 1) := dk_3 (dk_at dksX4_isInterval_0 16 rfl rfl)
theorem dX4_isInterval_17 : decode cX4_isInterval 17 = .ok (.ireturn, 1) := dk_172 (dk_at dksX4_isInterval_0 17 rfl rfl)
abbrev cX4_interval : ByteArray := prog_6_method_78_code
def yX4_interval : MethodName := ⟨RX4, "interval", "(IC)I"⟩
def dkwX4_interval_3 : List UInt8 := [180, 0, 81, 27, 46, 182, 0, 217, 172]
abbrev dktX4_interval_3 : List UInt8 := dkwX4_interval_3 ++ []
def dkwX4_interval_2 : List UInt8 := [180, 0, 75, 27, 46, 167, 0, 24, 28, 16, 109, 160, 0, 12, 42, 180, 0, 78, 27, 46, 167, 0, 9, 42]
abbrev dktX4_interval_2 : List UInt8 := dkwX4_interval_2 ++ dktX4_interval_3
def dkwX4_interval_1 : List UInt8 := [159, 0, 15, 28, 16, 110, 159, 0, 9, 42, 5, 182, 0, 212, 172, 42, 28, 16, 100, 160, 0, 12, 42]
abbrev dktX4_interval_1 : List UInt8 := dkwX4_interval_1 ++ dktX4_interval_2
def dkwX4_interval_0 : List UInt8 := [42, 27, 182, 1, 40, 154, 0, 9, 42, 4, 182, 0, 212, 172, 28, 16, 100, 159, 0, 21, 28, 16, 109]
abbrev dktX4_interval_0 : List UInt8 := dkwX4_interval_0 ++ dktX4_interval_1
theorem dksX4_interval_0 : cX4_interval.data.toList.drop 0 = dktX4_interval_0 := by decide +kernel
theorem dksX4_interval_1 : cX4_interval.data.toList.drop 23 = dktX4_interval_1 := dk_seg dksX4_interval_0 23 rfl rfl
theorem dksX4_interval_2 : cX4_interval.data.toList.drop 46 = dktX4_interval_2 := dk_seg dksX4_interval_1 23 rfl rfl
theorem dksX4_interval_3 : cX4_interval.data.toList.drop 70 = dktX4_interval_3 := dk_seg dksX4_interval_2 24 rfl rfl
theorem dX4_interval_0 : decode cX4_interval 0 = .ok (.aload_n 0, 1) := dk_42 (dk_at dksX4_interval_0 0 rfl rfl)
theorem dX4_interval_1 : decode cX4_interval 1 = .ok (.iload_n 1, 1) := dk_27 (dk_at dksX4_interval_0 1 rfl rfl)
theorem dX4_interval_2 : decode cX4_interval 2 = .ok (.invokevirtual 296, 3) := dk_182 1 40 (dk_at dksX4_interval_0 2 rfl rfl)
theorem dX4_interval_5 : decode cX4_interval 5 = .ok (.ifCond .ne 9, 3) := dk_154 0 9 (dk_at dksX4_interval_0 5 rfl rfl)
theorem dX4_interval_8 : decode cX4_interval 8 = .ok (.aload_n 0, 1) := dk_42 (dk_at dksX4_interval_0 8 rfl rfl)
theorem dX4_interval_9 : decode cX4_interval 9 = .ok (.iconst 1, 1) := dk_4 (dk_at dksX4_interval_0 9 rfl rfl)
theorem dX4_interval_10 : decode cX4_interval 10 = .ok (.invokevirtual 212, 3) := dk_182 0 212 (dk_at dksX4_interval_0 10 rfl rfl)
theorem dX4_interval_13 : decode cX4_interval 13 = .ok (.ireturn, 1) := dk_172 (dk_at dksX4_interval_0 13 rfl rfl)
theorem dX4_interval_14 : decode cX4_interval 14 = .ok (.iload_n 2, 1) := dk_28 (dk_at dksX4_interval_0 14 rfl rfl)
theorem dX4_interval_15 : decode cX4_interval 15 = .ok (.bipush 100, 2) := dk_16 100 (dk_at dksX4_interval_0 15 rfl rfl)
theorem dX4_interval_17 : decode cX4_interval 17 = .ok (.if_icmp .eq 21, 3) := dk_159 0 21 (dk_at dksX4_interval_0 17 rfl rfl)
theorem dX4_interval_20 : decode cX4_interval 20 = .ok (.iload_n 2, 1) := dk_28 (dk_at dksX4_interval_0 20 rfl rfl)
theorem dX4_interval_21 : decode cX4_interval 21 = .ok (.bipush 109, 2) := dk_16 109 (dk_at dksX4_interval_0 21 rfl rfl)
theorem dX4_interval_23 : decode cX4_interval 23 = .ok (.if_icmp .eq 15, 3) := dk_159 0 15 (dk_at dksX4_interval_1 0 rfl rfl)
theorem dX4_interval_26 : decode cX4_interval 26 = .ok (.iload_n 2, 1) := dk_28 (dk_at dksX4_interval_1 3 rfl rfl)
theorem dX4_interval_27 : decode cX4_interval 27 = .ok (.bipush 110, 2) := dk_16 110 (dk_at dksX4_interval_1 4 rfl rfl)
theorem dX4_interval_29 : decode cX4_interval 29 = .ok (.if_icmp .eq 9, 3) := dk_159 0 9 (dk_at dksX4_interval_1 6 rfl rfl)
theorem dX4_interval_32 : decode cX4_interval 32 = .ok (.aload_n 0, 1) := dk_42 (dk_at dksX4_interval_1 9 rfl rfl)
theorem dX4_interval_33 : decode cX4_interval 33 = .ok (.iconst 2, 1) := dk_5 (dk_at dksX4_interval_1 10 rfl rfl)
theorem dX4_interval_34 : decode cX4_interval 34 = .ok (.invokevirtual 212, 3) := dk_182 0 212 (dk_at dksX4_interval_1 11 rfl rfl)
theorem dX4_interval_37 : decode cX4_interval 37 = .ok (.ireturn, 1) := dk_172 (dk_at dksX4_interval_1 14 rfl rfl)
theorem dX4_interval_38 : decode cX4_interval 38 = .ok (.aload_n 0, 1) := dk_42 (dk_at dksX4_interval_1 15 rfl rfl)
theorem dX4_interval_39 : decode cX4_interval 39 = .ok (.iload_n 2, 1) := dk_28 (dk_at dksX4_interval_1 16 rfl rfl)
theorem dX4_interval_40 : decode cX4_interval 40 = .ok (.bipush 100, 2) := dk_16 100 (dk_at dksX4_interval_1 17 rfl rfl)
theorem dX4_interval_42 : decode cX4_interval 42 = .ok (.if_icmp .ne 12, 3) := dk_160 0 12 (dk_at dksX4_interval_1 19 rfl rfl)
theorem dX4_interval_45 : decode cX4_interval 45 = .ok (.aload_n 0, 1) := dk_42 (dk_at dksX4_interval_1 22 rfl rfl)
theorem dX4_interval_46 : decode cX4_interval 46 = .ok (.getfield 75, 3) := dk_180 0 75 (dk_at dksX4_interval_2 0 rfl rfl)
theorem dX4_interval_49 : decode cX4_interval 49 = .ok (.iload_n 1, 1) := dk_27 (dk_at dksX4_interval_2 3 rfl rfl)
theorem dX4_interval_50 : decode cX4_interval 50 = .ok (.iaload, 1) := dk_46 (dk_at dksX4_interval_2 4 rfl rfl)
theorem dX4_interval_51 : decode cX4_interval 51 = .ok (.goto 24, 3) := dk_167 0 24 (dk_at dksX4_interval_2 5 rfl rfl)
theorem dX4_interval_54 : decode cX4_interval 54 = .ok (.iload_n 2, 1) := dk_28 (dk_at dksX4_interval_2 8 rfl rfl)
theorem dX4_interval_55 : decode cX4_interval 55 = .ok (.bipush 109, 2) := dk_16 109 (dk_at dksX4_interval_2 9 rfl rfl)
theorem dX4_interval_57 : decode cX4_interval 57 = .ok (.if_icmp .ne 12, 3) := dk_160 0 12 (dk_at dksX4_interval_2 11 rfl rfl)
theorem dX4_interval_60 : decode cX4_interval 60 = .ok (.aload_n 0, 1) := dk_42 (dk_at dksX4_interval_2 14 rfl rfl)
theorem dX4_interval_61 : decode cX4_interval 61 = .ok (.getfield 78, 3) := dk_180 0 78 (dk_at dksX4_interval_2 15 rfl rfl)
theorem dX4_interval_64 : decode cX4_interval 64 = .ok (.iload_n 1, 1) := dk_27 (dk_at dksX4_interval_2 18 rfl rfl)
theorem dX4_interval_65 : decode cX4_interval 65 = .ok (.iaload, 1) := dk_46 (dk_at dksX4_interval_2 19 rfl rfl)
theorem dX4_interval_66 : decode cX4_interval 66 = .ok (.goto 9, 3) := dk_167 0 9 (dk_at dksX4_interval_2 20 rfl rfl)
theorem dX4_interval_69 : decode cX4_interval 69 = .ok (.aload_n 0, 1) := dk_42 (dk_at dksX4_interval_2 23 rfl rfl)
theorem dX4_interval_70 : decode cX4_interval 70 = .ok (.getfield 81, 3) := dk_180 0 81 (dk_at dksX4_interval_3 0 rfl rfl)
theorem dX4_interval_73 : decode cX4_interval 73 = .ok (.iload_n 1, 1) := dk_27 (dk_at dksX4_interval_3 3 rfl rfl)
theorem dX4_interval_74 : decode cX4_interval 74 = .ok (.iaload, 1) := dk_46 (dk_at dksX4_interval_3 4 rfl rfl)
theorem dX4_interval_75 : decode cX4_interval 75 = .ok (.invokevirtual 217, 3) := dk_182 0 217 (dk_at dksX4_interval_3 5 rfl rfl)
theorem dX4_interval_78 : decode cX4_interval 78 = .ok (.ireturn, 1) := dk_172 (dk_at dksX4_interval_3 8 rfl rfl)
abbrev cX4_bisect : ByteArray := prog_6_method_80_code
def yX4_bisect : MethodName := ⟨RX4, "bisect", "(I)I"⟩
def dkwX4_bisect_7 : List UInt8 := [180, 1, 29, 182, 0, 217, 172]
abbrev dktX4_bisect_7 : List UInt8 := dkwX4_bisect_7 ++ []
def dkwX4_bisect_6 : List UInt8 := [21, 6, 153, 0, 9, 27, 5, 96, 167, 0, 6, 27, 4, 96, 28, 21, 5, 21, 4, 182, 1, 36, 42, 42]
abbrev dktX4_bisect_6 : List UInt8 := dkwX4_bisect_6 ++ dktX4_bisect_7
def dkwX4_bisect_5 : List UInt8 := [21, 5, 182, 1, 36, 21, 6, 153, 0, 15, 42, 27, 4, 96, 28, 21, 5, 21, 5, 182, 1, 36, 42]
abbrev dktX4_bisect_5 : List UInt8 := dkwX4_bisect_5 ++ dktX4_bisect_6
def dkwX4_bisect_4 : List UInt8 := [182, 1, 43, 54, 6, 42, 27, 21, 6, 153, 0, 7, 5, 167, 0, 4, 4, 182, 1, 46, 42, 27, 28, 29]
abbrev dktX4_bisect_4 : List UInt8 := dkwX4_bisect_4 ++ dktX4_bisect_5
def dkwX4_bisect_3 : List UInt8 := [104, 54, 4, 42, 180, 0, 78, 27, 46, 42, 180, 0, 81, 27, 46, 96, 54, 5, 42, 21, 5, 28]
abbrev dktX4_bisect_3 : List UInt8 := dkwX4_bisect_3 ++ dktX4_bisect_4
def dkwX4_bisect_2 : List UInt8 := [180, 0, 75, 27, 46, 4, 96, 61, 5, 42, 180, 0, 78, 27, 46, 104, 62, 5, 42, 180, 0, 81, 27, 46]
abbrev dktX4_bisect_2 : List UInt8 := dkwX4_bisect_2 ++ dktX4_bisect_3
def dkwX4_bisect_1 : List UInt8 := [27, 46, 159, 0, 14, 42, 180, 0, 75, 27, 46, 16, 12, 160, 0, 9, 42, 5, 182, 0, 212, 172, 42]
abbrev dktX4_bisect_1 : List UInt8 := dkwX4_bisect_1 ++ dktX4_bisect_2
def dkwX4_bisect_0 : List UInt8 := [42, 27, 182, 1, 40, 154, 0, 9, 42, 4, 182, 0, 212, 172, 42, 180, 0, 78, 27, 46, 42, 180, 0, 81]
abbrev dktX4_bisect_0 : List UInt8 := dkwX4_bisect_0 ++ dktX4_bisect_1
theorem dksX4_bisect_0 : cX4_bisect.data.toList.drop 0 = dktX4_bisect_0 := by decide +kernel
theorem dksX4_bisect_1 : cX4_bisect.data.toList.drop 24 = dktX4_bisect_1 := dk_seg dksX4_bisect_0 24 rfl rfl
theorem dksX4_bisect_2 : cX4_bisect.data.toList.drop 47 = dktX4_bisect_2 := dk_seg dksX4_bisect_1 23 rfl rfl
theorem dksX4_bisect_3 : cX4_bisect.data.toList.drop 71 = dktX4_bisect_3 := dk_seg dksX4_bisect_2 24 rfl rfl
theorem dksX4_bisect_4 : cX4_bisect.data.toList.drop 93 = dktX4_bisect_4 := dk_seg dksX4_bisect_3 22 rfl rfl
theorem dksX4_bisect_5 : cX4_bisect.data.toList.drop 117 = dktX4_bisect_5 := dk_seg dksX4_bisect_4 24 rfl rfl
theorem dksX4_bisect_6 : cX4_bisect.data.toList.drop 140 = dktX4_bisect_6 := dk_seg dksX4_bisect_5 23 rfl rfl
theorem dksX4_bisect_7 : cX4_bisect.data.toList.drop 164 = dktX4_bisect_7 := dk_seg dksX4_bisect_6 24 rfl rfl
theorem dX4_bisect_0 : decode cX4_bisect 0 = .ok (.aload_n 0, 1) := dk_42 (dk_at dksX4_bisect_0 0 rfl rfl)
theorem dX4_bisect_1 : decode cX4_bisect 1 = .ok (.iload_n 1, 1) := dk_27 (dk_at dksX4_bisect_0 1 rfl rfl)
theorem dX4_bisect_2 : decode cX4_bisect 2 = .ok (.invokevirtual 296, 3) := dk_182 1 40 (dk_at dksX4_bisect_0 2 rfl rfl)
theorem dX4_bisect_5 : decode cX4_bisect 5 = .ok (.ifCond .ne 9, 3) := dk_154 0 9 (dk_at dksX4_bisect_0 5 rfl rfl)
theorem dX4_bisect_8 : decode cX4_bisect 8 = .ok (.aload_n 0, 1) := dk_42 (dk_at dksX4_bisect_0 8 rfl rfl)
theorem dX4_bisect_9 : decode cX4_bisect 9 = .ok (.iconst 1, 1) := dk_4 (dk_at dksX4_bisect_0 9 rfl rfl)
theorem dX4_bisect_10 : decode cX4_bisect 10 = .ok (.invokevirtual 212, 3) := dk_182 0 212 (dk_at dksX4_bisect_0 10 rfl rfl)
theorem dX4_bisect_13 : decode cX4_bisect 13 = .ok (.ireturn, 1) := dk_172 (dk_at dksX4_bisect_0 13 rfl rfl)
theorem dX4_bisect_14 : decode cX4_bisect 14 = .ok (.aload_n 0, 1) := dk_42 (dk_at dksX4_bisect_0 14 rfl rfl)
theorem dX4_bisect_15 : decode cX4_bisect 15 = .ok (.getfield 78, 3) := dk_180 0 78 (dk_at dksX4_bisect_0 15 rfl rfl)
theorem dX4_bisect_18 : decode cX4_bisect 18 = .ok (.iload_n 1, 1) := dk_27 (dk_at dksX4_bisect_0 18 rfl rfl)
theorem dX4_bisect_19 : decode cX4_bisect 19 = .ok (.iaload, 1) := dk_46 (dk_at dksX4_bisect_0 19 rfl rfl)
theorem dX4_bisect_20 : decode cX4_bisect 20 = .ok (.aload_n 0, 1) := dk_42 (dk_at dksX4_bisect_0 20 rfl rfl)
theorem dX4_bisect_21 : decode cX4_bisect 21 = .ok (.getfield 81, 3) := dk_180 0 81 (dk_at dksX4_bisect_0 21 rfl rfl)
theorem dX4_bisect_24 : decode cX4_bisect 24 = .ok (.iload_n 1, 1) := dk_27 (dk_at dksX4_bisect_1 0 rfl rfl)
theorem dX4_bisect_25 : decode cX4_bisect 25 = .ok (.iaload, 1) := dk_46 (dk_at dksX4_bisect_1 1 rfl rfl)
theorem dX4_bisect_26 : decode cX4_bisect 26 = .ok (.if_icmp .eq 14, 3) := dk_159 0 14 (dk_at dksX4_bisect_1 2 rfl rfl)
theorem dX4_bisect_29 : decode cX4_bisect 29 = .ok (.aload_n 0, 1) := dk_42 (dk_at dksX4_bisect_1 5 rfl rfl)
theorem dX4_bisect_30 : decode cX4_bisect 30 = .ok (.getfield 75, 3) := dk_180 0 75 (dk_at dksX4_bisect_1 6 rfl rfl)
theorem dX4_bisect_33 : decode cX4_bisect 33 = .ok (.iload_n 1, 1) := dk_27 (dk_at dksX4_bisect_1 9 rfl rfl)
theorem dX4_bisect_34 : decode cX4_bisect 34 = .ok (.iaload, 1) := dk_46 (dk_at dksX4_bisect_1 10 rfl rfl)
theorem dX4_bisect_35 : decode cX4_bisect 35 = .ok (.bipush 12, 2) := dk_16 12 (dk_at dksX4_bisect_1 11 rfl rfl)
theorem dX4_bisect_37 : decode cX4_bisect 37 = .ok (.if_icmp .ne 9, 3) := dk_160 0 9 (dk_at dksX4_bisect_1 13 rfl rfl)
theorem dX4_bisect_40 : decode cX4_bisect 40 = .ok (.aload_n 0, 1) := dk_42 (dk_at dksX4_bisect_1 16 rfl rfl)
theorem dX4_bisect_41 : decode cX4_bisect 41 = .ok (.iconst 2, 1) := dk_5 (dk_at dksX4_bisect_1 17 rfl rfl)
theorem dX4_bisect_42 : decode cX4_bisect 42 = .ok (.invokevirtual 212, 3) := dk_182 0 212 (dk_at dksX4_bisect_1 18 rfl rfl)
theorem dX4_bisect_45 : decode cX4_bisect 45 = .ok (.ireturn, 1) := dk_172 (dk_at dksX4_bisect_1 21 rfl rfl)
theorem dX4_bisect_46 : decode cX4_bisect 46 = .ok (.aload_n 0, 1) := dk_42 (dk_at dksX4_bisect_1 22 rfl rfl)
theorem dX4_bisect_47 : decode cX4_bisect 47 = .ok (.getfield 75, 3) := dk_180 0 75 (dk_at dksX4_bisect_2 0 rfl rfl)
theorem dX4_bisect_50 : decode cX4_bisect 50 = .ok (.iload_n 1, 1) := dk_27 (dk_at dksX4_bisect_2 3 rfl rfl)
theorem dX4_bisect_51 : decode cX4_bisect 51 = .ok (.iaload, 1) := dk_46 (dk_at dksX4_bisect_2 4 rfl rfl)
theorem dX4_bisect_52 : decode cX4_bisect 52 = .ok (.iconst 1, 1) := dk_4 (dk_at dksX4_bisect_2 5 rfl rfl)
theorem dX4_bisect_53 : decode cX4_bisect 53 = .ok (.iadd, 1) := dk_96 (dk_at dksX4_bisect_2 6 rfl rfl)
theorem dX4_bisect_54 : decode cX4_bisect 54 = .ok (.istore_n 2, 1) := dk_61 (dk_at dksX4_bisect_2 7 rfl rfl)
theorem dX4_bisect_55 : decode cX4_bisect 55 = .ok (.iconst 2, 1) := dk_5 (dk_at dksX4_bisect_2 8 rfl rfl)
theorem dX4_bisect_56 : decode cX4_bisect 56 = .ok (.aload_n 0, 1) := dk_42 (dk_at dksX4_bisect_2 9 rfl rfl)
theorem dX4_bisect_57 : decode cX4_bisect 57 = .ok (.getfield 78, 3) := dk_180 0 78 (dk_at dksX4_bisect_2 10 rfl rfl)
theorem dX4_bisect_60 : decode cX4_bisect 60 = .ok (.iload_n 1, 1) := dk_27 (dk_at dksX4_bisect_2 13 rfl rfl)
theorem dX4_bisect_61 : decode cX4_bisect 61 = .ok (.iaload, 1) := dk_46 (dk_at dksX4_bisect_2 14 rfl rfl)
theorem dX4_bisect_62 : decode cX4_bisect 62 = .ok (.imul, 1) := dk_104 (dk_at dksX4_bisect_2 15 rfl rfl)
theorem dX4_bisect_63 : decode cX4_bisect 63 = .ok (.istore_n 3, 1) := dk_62 (dk_at dksX4_bisect_2 16 rfl rfl)
theorem dX4_bisect_64 : decode cX4_bisect 64 = .ok (.iconst 2, 1) := dk_5 (dk_at dksX4_bisect_2 17 rfl rfl)
theorem dX4_bisect_65 : decode cX4_bisect 65 = .ok (.aload_n 0, 1) := dk_42 (dk_at dksX4_bisect_2 18 rfl rfl)
theorem dX4_bisect_66 : decode cX4_bisect 66 = .ok (.getfield 81, 3) := dk_180 0 81 (dk_at dksX4_bisect_2 19 rfl rfl)
theorem dX4_bisect_69 : decode cX4_bisect 69 = .ok (.iload_n 1, 1) := dk_27 (dk_at dksX4_bisect_2 22 rfl rfl)
theorem dX4_bisect_70 : decode cX4_bisect 70 = .ok (.iaload, 1) := dk_46 (dk_at dksX4_bisect_2 23 rfl rfl)
theorem dX4_bisect_71 : decode cX4_bisect 71 = .ok (.imul, 1) := dk_104 (dk_at dksX4_bisect_3 0 rfl rfl)
theorem dX4_bisect_72 : decode cX4_bisect 72 = .ok (.istore 4, 2) := dk_54 4 (dk_at dksX4_bisect_3 1 rfl rfl)
theorem dX4_bisect_74 : decode cX4_bisect 74 = .ok (.aload_n 0, 1) := dk_42 (dk_at dksX4_bisect_3 3 rfl rfl)
theorem dX4_bisect_75 : decode cX4_bisect 75 = .ok (.getfield 78, 3) := dk_180 0 78 (dk_at dksX4_bisect_3 4 rfl rfl)
theorem dX4_bisect_78 : decode cX4_bisect 78 = .ok (.iload_n 1, 1) := dk_27 (dk_at dksX4_bisect_3 7 rfl rfl)
theorem dX4_bisect_79 : decode cX4_bisect 79 = .ok (.iaload, 1) := dk_46 (dk_at dksX4_bisect_3 8 rfl rfl)
theorem dX4_bisect_80 : decode cX4_bisect 80 = .ok (.aload_n 0, 1) := dk_42 (dk_at dksX4_bisect_3 9 rfl rfl)
theorem dX4_bisect_81 : decode cX4_bisect 81 = .ok (.getfield 81, 3) := dk_180 0 81 (dk_at dksX4_bisect_3 10 rfl rfl)
theorem dX4_bisect_84 : decode cX4_bisect 84 = .ok (.iload_n 1, 1) := dk_27 (dk_at dksX4_bisect_3 13 rfl rfl)
theorem dX4_bisect_85 : decode cX4_bisect 85 = .ok (.iaload, 1) := dk_46 (dk_at dksX4_bisect_3 14 rfl rfl)
theorem dX4_bisect_86 : decode cX4_bisect 86 = .ok (.iadd, 1) := dk_96 (dk_at dksX4_bisect_3 15 rfl rfl)
theorem dX4_bisect_87 : decode cX4_bisect 87 = .ok (.istore 5, 2) := dk_54 5 (dk_at dksX4_bisect_3 16 rfl rfl)
theorem dX4_bisect_89 : decode cX4_bisect 89 = .ok (.aload_n 0, 1) := dk_42 (dk_at dksX4_bisect_3 18 rfl rfl)
theorem dX4_bisect_90 : decode cX4_bisect 90 = .ok (.iload 5, 2) := dk_21 5 (dk_at dksX4_bisect_3 19 rfl rfl)
theorem dX4_bisect_92 : decode cX4_bisect 92 = .ok (.iload_n 2, 1) := dk_28 (dk_at dksX4_bisect_3 21 rfl rfl)
theorem dX4_bisect_93 : decode cX4_bisect 93 = .ok (.invokevirtual 299, 3) := dk_182 1 43 (dk_at dksX4_bisect_4 0 rfl rfl)
theorem dX4_bisect_96 : decode cX4_bisect 96 = .ok (.istore 6, 2) := dk_54 6 (dk_at dksX4_bisect_4 3 rfl rfl)
theorem dX4_bisect_98 : decode cX4_bisect 98 = .ok (.aload_n 0, 1) := dk_42 (dk_at dksX4_bisect_4 5 rfl rfl)
theorem dX4_bisect_99 : decode cX4_bisect 99 = .ok (.iload_n 1, 1) := dk_27 (dk_at dksX4_bisect_4 6 rfl rfl)
theorem dX4_bisect_100 : decode cX4_bisect 100 = .ok (.iload 6, 2) := dk_21 6 (dk_at dksX4_bisect_4 7 rfl rfl)
theorem dX4_bisect_102 : decode cX4_bisect 102 = .ok (.ifCond .eq 7, 3) := dk_153 0 7 (dk_at dksX4_bisect_4 9 rfl rfl)
theorem dX4_bisect_105 : decode cX4_bisect 105 = .ok (.iconst 2, 1) := dk_5 (dk_at dksX4_bisect_4 12 rfl rfl)
theorem dX4_bisect_106 : decode cX4_bisect 106 = .ok (.goto 4, 3) := dk_167 0 4 (dk_at dksX4_bisect_4 13 rfl rfl)
theorem dX4_bisect_109 : decode cX4_bisect 109 = .ok (.iconst 1, 1) := dk_4 (dk_at dksX4_bisect_4 16 rfl rfl)
theorem dX4_bisect_110 : decode cX4_bisect 110 = .ok (.invokevirtual 302, 3) := dk_182 1 46 (dk_at dksX4_bisect_4 17 rfl rfl)
theorem dX4_bisect_113 : decode cX4_bisect 113 = .ok (.aload_n 0, 1) := dk_42 (dk_at dksX4_bisect_4 20 rfl rfl)
theorem dX4_bisect_114 : decode cX4_bisect 114 = .ok (.iload_n 1, 1) := dk_27 (dk_at dksX4_bisect_4 21 rfl rfl)
theorem dX4_bisect_115 : decode cX4_bisect 115 = .ok (.iload_n 2, 1) := dk_28 (dk_at dksX4_bisect_4 22 rfl rfl)
theorem dX4_bisect_116 : decode cX4_bisect 116 = .ok (.iload_n 3, 1) := dk_29 (dk_at dksX4_bisect_4 23 rfl rfl)
theorem dX4_bisect_117 : decode cX4_bisect 117 = .ok (.iload 5, 2) := dk_21 5 (dk_at dksX4_bisect_5 0 rfl rfl)
theorem dX4_bisect_119 : decode cX4_bisect 119 = .ok (.invokevirtual 292, 3) := dk_182 1 36 (dk_at dksX4_bisect_5 2 rfl rfl)
theorem dX4_bisect_122 : decode cX4_bisect 122 = .ok (.iload 6, 2) := dk_21 6 (dk_at dksX4_bisect_5 5 rfl rfl)
theorem dX4_bisect_124 : decode cX4_bisect 124 = .ok (.ifCond .eq 15, 3) := dk_153 0 15 (dk_at dksX4_bisect_5 7 rfl rfl)
theorem dX4_bisect_127 : decode cX4_bisect 127 = .ok (.aload_n 0, 1) := dk_42 (dk_at dksX4_bisect_5 10 rfl rfl)
theorem dX4_bisect_128 : decode cX4_bisect 128 = .ok (.iload_n 1, 1) := dk_27 (dk_at dksX4_bisect_5 11 rfl rfl)
theorem dX4_bisect_129 : decode cX4_bisect 129 = .ok (.iconst 1, 1) := dk_4 (dk_at dksX4_bisect_5 12 rfl rfl)
theorem dX4_bisect_130 : decode cX4_bisect 130 = .ok (.iadd, 1) := dk_96 (dk_at dksX4_bisect_5 13 rfl rfl)
theorem dX4_bisect_131 : decode cX4_bisect 131 = .ok (.iload_n 2, 1) := dk_28 (dk_at dksX4_bisect_5 14 rfl rfl)
theorem dX4_bisect_132 : decode cX4_bisect 132 = .ok (.iload 5, 2) := dk_21 5 (dk_at dksX4_bisect_5 15 rfl rfl)
theorem dX4_bisect_134 : decode cX4_bisect 134 = .ok (.iload 5, 2) := dk_21 5 (dk_at dksX4_bisect_5 17 rfl rfl)
theorem dX4_bisect_136 : decode cX4_bisect 136 = .ok (.invokevirtual 292, 3) := dk_182 1 36 (dk_at dksX4_bisect_5 19 rfl rfl)
theorem dX4_bisect_139 : decode cX4_bisect 139 = .ok (.aload_n 0, 1) := dk_42 (dk_at dksX4_bisect_5 22 rfl rfl)
theorem dX4_bisect_140 : decode cX4_bisect 140 = .ok (.iload 6, 2) := dk_21 6 (dk_at dksX4_bisect_6 0 rfl rfl)
theorem dX4_bisect_142 : decode cX4_bisect 142 = .ok (.ifCond .eq 9, 3) := dk_153 0 9 (dk_at dksX4_bisect_6 2 rfl rfl)
theorem dX4_bisect_145 : decode cX4_bisect 145 = .ok (.iload_n 1, 1) := dk_27 (dk_at dksX4_bisect_6 5 rfl rfl)
theorem dX4_bisect_146 : decode cX4_bisect 146 = .ok (.iconst 2, 1) := dk_5 (dk_at dksX4_bisect_6 6 rfl rfl)
theorem dX4_bisect_147 : decode cX4_bisect 147 = .ok (.iadd, 1) := dk_96 (dk_at dksX4_bisect_6 7 rfl rfl)
theorem dX4_bisect_148 : decode cX4_bisect 148 = .ok (.goto 6, 3) := dk_167 0 6 (dk_at dksX4_bisect_6 8 rfl rfl)
theorem dX4_bisect_151 : decode cX4_bisect 151 = .ok (.iload_n 1, 1) := dk_27 (dk_at dksX4_bisect_6 11 rfl rfl)
theorem dX4_bisect_152 : decode cX4_bisect 152 = .ok (.iconst 1, 1) := dk_4 (dk_at dksX4_bisect_6 12 rfl rfl)
theorem dX4_bisect_153 : decode cX4_bisect 153 = .ok (.iadd, 1) := dk_96 (dk_at dksX4_bisect_6 13 rfl rfl)
theorem dX4_bisect_154 : decode cX4_bisect 154 = .ok (.iload_n 2, 1) := dk_28 (dk_at dksX4_bisect_6 14 rfl rfl)
theorem dX4_bisect_155 : decode cX4_bisect 155 = .ok (.iload 5, 2) := dk_21 5 (dk_at dksX4_bisect_6 15 rfl rfl)
theorem dX4_bisect_157 : decode cX4_bisect 157 = .ok (.iload 4, 2) := dk_21 4 (dk_at dksX4_bisect_6 17 rfl rfl)
theorem dX4_bisect_159 : decode cX4_bisect 159 = .ok (.invokevirtual 292, 3) := dk_182 1 36 (dk_at dksX4_bisect_6 19 rfl rfl)
theorem dX4_bisect_162 : decode cX4_bisect 162 = .ok (.aload_n 0, 1) := dk_42 (dk_at dksX4_bisect_6 22 rfl rfl)
theorem dX4_bisect_163 : decode cX4_bisect 163 = .ok (.aload_n 0, 1) := dk_42 (dk_at dksX4_bisect_6 23 rfl rfl)
theorem dX4_bisect_164 : decode cX4_bisect 164 = .ok (.getfield 285, 3) := dk_180 1 29 (dk_at dksX4_bisect_7 0 rfl rfl)
theorem dX4_bisect_167 : decode cX4_bisect 167 = .ok (.invokevirtual 217, 3) := dk_182 0 217 (dk_at dksX4_bisect_7 3 rfl rfl)
theorem dX4_bisect_170 : decode cX4_bisect 170 = .ok (.ireturn, 1) := dk_172 (dk_at dksX4_bisect_7 6 rfl rfl)
abbrev cX4_isRoot : ByteArray := prog_6_method_79_code
def yX4_isRoot : MethodName := ⟨RX4, "isRoot", "(II)Z"⟩
def dkwX4_isRoot_1 : List UInt8 := [154, 0, 7, 4, 167, 0, 4, 3, 172]
abbrev dktX4_isRoot_1 : List UInt8 := dkwX4_isRoot_1 ++ []
def dkwX4_isRoot_0 : List UInt8 := [42, 180, 0, 69, 42, 180, 0, 63, 184, 0, 236, 42, 42, 180, 0, 63, 27, 133, 28, 182, 1, 7]
abbrev dktX4_isRoot_0 : List UInt8 := dkwX4_isRoot_0 ++ dktX4_isRoot_1
theorem dksX4_isRoot_0 : cX4_isRoot.data.toList.drop 0 = dktX4_isRoot_0 := by decide +kernel
theorem dksX4_isRoot_1 : cX4_isRoot.data.toList.drop 22 = dktX4_isRoot_1 := dk_seg dksX4_isRoot_0 22 rfl rfl
theorem dX4_isRoot_0 : decode cX4_isRoot 0 = .ok (.aload_n 0, 1) := dk_42 (dk_at dksX4_isRoot_0 0 rfl rfl)
theorem dX4_isRoot_1 : decode cX4_isRoot 1 = .ok (.getfield 69, 3) := dk_180 0 69 (dk_at dksX4_isRoot_0 1 rfl rfl)
theorem dX4_isRoot_4 : decode cX4_isRoot 4 = .ok (.aload_n 0, 1) := dk_42 (dk_at dksX4_isRoot_0 4 rfl rfl)
theorem dX4_isRoot_5 : decode cX4_isRoot 5 = .ok (.getfield 63, 3) := dk_180 0 63 (dk_at dksX4_isRoot_0 5 rfl rfl)
theorem dX4_isRoot_8 : decode cX4_isRoot 8 = .ok (.invokestatic 236, 3) := dk_184 0 236 (dk_at dksX4_isRoot_0 8 rfl rfl)
theorem dX4_isRoot_11 : decode cX4_isRoot 11 = .ok (.aload_n 0, 1) := dk_42 (dk_at dksX4_isRoot_0 11 rfl rfl)
theorem dX4_isRoot_12 : decode cX4_isRoot 12 = .ok (.aload_n 0, 1) := dk_42 (dk_at dksX4_isRoot_0 12 rfl rfl)
theorem dX4_isRoot_13 : decode cX4_isRoot 13 = .ok (.getfield 63, 3) := dk_180 0 63 (dk_at dksX4_isRoot_0 13 rfl rfl)
theorem dX4_isRoot_16 : decode cX4_isRoot 16 = .ok (.iload_n 1, 1) := dk_27 (dk_at dksX4_isRoot_0 16 rfl rfl)
theorem dX4_isRoot_17 : decode cX4_isRoot 17 = .ok (.i2l, 1) := dk_133 (dk_at dksX4_isRoot_0 17 rfl rfl)
theorem dX4_isRoot_18 : decode cX4_isRoot 18 = .ok (.iload_n 2, 1) := dk_28 (dk_at dksX4_isRoot_0 18 rfl rfl)
theorem dX4_isRoot_19 : decode cX4_isRoot 19 = .ok (.invokevirtual 263, 3) := dk_182 1 7 (dk_at dksX4_isRoot_0 19 rfl rfl)
theorem dX4_isRoot_22 : decode cX4_isRoot 22 = .ok (.ifCond .ne 7, 3) := dk_154 0 7 (dk_at dksX4_isRoot_1 0 rfl rfl)
theorem dX4_isRoot_25 : decode cX4_isRoot 25 = .ok (.iconst 1, 1) := dk_4 (dk_at dksX4_isRoot_1 3 rfl rfl)
theorem dX4_isRoot_26 : decode cX4_isRoot 26 = .ok (.goto 4, 3) := dk_167 0 4 (dk_at dksX4_isRoot_1 4 rfl rfl)
theorem dX4_isRoot_29 : decode cX4_isRoot 29 = .ok (.iconst 0, 1) := dk_3 (dk_at dksX4_isRoot_1 7 rfl rfl)
theorem dX4_isRoot_30 : decode cX4_isRoot 30 = .ok (.ireturn, 1) := dk_172 (dk_at dksX4_isRoot_1 8 rfl rfl)
abbrev cX4_opens : ByteArray := prog_6_method_73_code
def yX4_opens : MethodName := ⟨RX4, "opens", "(II)V"⟩
def dkwX4_opens_6 : List UInt8 := [28, 96, 181, 1, 29, 177]
abbrev dktX4_opens_6 : List UInt8 := dkwX4_opens_6 ++ []
def dkwX4_opens_5 : List UInt8 := [180, 0, 84, 29, 28, 96, 42, 180, 0, 84, 29, 46, 79, 132, 3, 255, 167, 255, 192, 42, 89, 180, 1, 29]
abbrev dktX4_opens_5 : List UInt8 := dkwX4_opens_5 ++ dktX4_opens_6
def dkwX4_opens_4 : List UInt8 := [42, 180, 0, 78, 29, 46, 79, 42, 180, 0, 81, 29, 28, 96, 42, 180, 0, 81, 29, 46, 79, 42]
abbrev dktX4_opens_4 : List UInt8 := dkwX4_opens_4 ++ dktX4_opens_5
def dkwX4_opens_3 : List UInt8 := [164, 0, 65, 42, 180, 0, 75, 29, 28, 96, 42, 180, 0, 75, 29, 46, 79, 42, 180, 0, 78, 29, 28, 96]
abbrev dktX4_opens_3 : List UInt8 := dkwX4_opens_3 ++ dktX4_opens_4
def dkwX4_opens_2 : List UInt8 := [181, 0, 81, 42, 42, 180, 0, 84, 184, 1, 32, 181, 0, 84, 42, 180, 1, 29, 4, 100, 62, 29, 27]
abbrev dktX4_opens_2 : List UInt8 := dkwX4_opens_2 ++ dktX4_opens_3
def dkwX4_opens_1 : List UInt8 := [181, 0, 75, 42, 42, 180, 0, 78, 184, 1, 32, 181, 0, 78, 42, 42, 180, 0, 81, 184, 1, 32]
abbrev dktX4_opens_1 : List UInt8 := dkwX4_opens_1 ++ dktX4_opens_2
def dkwX4_opens_0 : List UInt8 := [42, 180, 1, 29, 28, 96, 42, 180, 0, 75, 190, 164, 0, 47, 42, 42, 180, 0, 75, 184, 1, 32]
abbrev dktX4_opens_0 : List UInt8 := dkwX4_opens_0 ++ dktX4_opens_1
theorem dksX4_opens_0 : cX4_opens.data.toList.drop 0 = dktX4_opens_0 := by decide +kernel
theorem dksX4_opens_1 : cX4_opens.data.toList.drop 22 = dktX4_opens_1 := dk_seg dksX4_opens_0 22 rfl rfl
theorem dksX4_opens_2 : cX4_opens.data.toList.drop 44 = dktX4_opens_2 := dk_seg dksX4_opens_1 22 rfl rfl
theorem dksX4_opens_3 : cX4_opens.data.toList.drop 67 = dktX4_opens_3 := dk_seg dksX4_opens_2 23 rfl rfl
theorem dksX4_opens_4 : cX4_opens.data.toList.drop 91 = dktX4_opens_4 := dk_seg dksX4_opens_3 24 rfl rfl
theorem dksX4_opens_5 : cX4_opens.data.toList.drop 113 = dktX4_opens_5 := dk_seg dksX4_opens_4 22 rfl rfl
theorem dksX4_opens_6 : cX4_opens.data.toList.drop 137 = dktX4_opens_6 := dk_seg dksX4_opens_5 24 rfl rfl
theorem dX4_opens_0 : decode cX4_opens 0 = .ok (.aload_n 0, 1) := dk_42 (dk_at dksX4_opens_0 0 rfl rfl)
theorem dX4_opens_1 : decode cX4_opens 1 = .ok (.getfield 285, 3) := dk_180 1 29 (dk_at dksX4_opens_0 1 rfl rfl)
theorem dX4_opens_4 : decode cX4_opens 4 = .ok (.iload_n 2, 1) := dk_28 (dk_at dksX4_opens_0 4 rfl rfl)
theorem dX4_opens_5 : decode cX4_opens 5 = .ok (.iadd, 1) := dk_96 (dk_at dksX4_opens_0 5 rfl rfl)
theorem dX4_opens_6 : decode cX4_opens 6 = .ok (.aload_n 0, 1) := dk_42 (dk_at dksX4_opens_0 6 rfl rfl)
theorem dX4_opens_7 : decode cX4_opens 7 = .ok (.getfield 75, 3) := dk_180 0 75 (dk_at dksX4_opens_0 7 rfl rfl)
theorem dX4_opens_10 : decode cX4_opens 10 = .ok (.arraylength, 1) := dk_190 (dk_at dksX4_opens_0 10 rfl rfl)
theorem dX4_opens_11 : decode cX4_opens 11 = .ok (.if_icmp .le 47, 3) := dk_164 0 47 (dk_at dksX4_opens_0 11 rfl rfl)
theorem dX4_opens_14 : decode cX4_opens 14 = .ok (.aload_n 0, 1) := dk_42 (dk_at dksX4_opens_0 14 rfl rfl)
theorem dX4_opens_15 : decode cX4_opens 15 = .ok (.aload_n 0, 1) := dk_42 (dk_at dksX4_opens_0 15 rfl rfl)
theorem dX4_opens_16 : decode cX4_opens 16 = .ok (.getfield 75, 3) := dk_180 0 75 (dk_at dksX4_opens_0 16 rfl rfl)
theorem dX4_opens_19 : decode cX4_opens 19 = .ok (.invokestatic 288, 3) := dk_184 1 32 (dk_at dksX4_opens_0 19 rfl rfl)
theorem dX4_opens_22 : decode cX4_opens 22 = .ok (.putfield 75, 3) := dk_181 0 75 (dk_at dksX4_opens_1 0 rfl rfl)
theorem dX4_opens_25 : decode cX4_opens 25 = .ok (.aload_n 0, 1) := dk_42 (dk_at dksX4_opens_1 3 rfl rfl)
theorem dX4_opens_26 : decode cX4_opens 26 = .ok (.aload_n 0, 1) := dk_42 (dk_at dksX4_opens_1 4 rfl rfl)
theorem dX4_opens_27 : decode cX4_opens 27 = .ok (.getfield 78, 3) := dk_180 0 78 (dk_at dksX4_opens_1 5 rfl rfl)
theorem dX4_opens_30 : decode cX4_opens 30 = .ok (.invokestatic 288, 3) := dk_184 1 32 (dk_at dksX4_opens_1 8 rfl rfl)
theorem dX4_opens_33 : decode cX4_opens 33 = .ok (.putfield 78, 3) := dk_181 0 78 (dk_at dksX4_opens_1 11 rfl rfl)
theorem dX4_opens_36 : decode cX4_opens 36 = .ok (.aload_n 0, 1) := dk_42 (dk_at dksX4_opens_1 14 rfl rfl)
theorem dX4_opens_37 : decode cX4_opens 37 = .ok (.aload_n 0, 1) := dk_42 (dk_at dksX4_opens_1 15 rfl rfl)
theorem dX4_opens_38 : decode cX4_opens 38 = .ok (.getfield 81, 3) := dk_180 0 81 (dk_at dksX4_opens_1 16 rfl rfl)
theorem dX4_opens_41 : decode cX4_opens 41 = .ok (.invokestatic 288, 3) := dk_184 1 32 (dk_at dksX4_opens_1 19 rfl rfl)
theorem dX4_opens_44 : decode cX4_opens 44 = .ok (.putfield 81, 3) := dk_181 0 81 (dk_at dksX4_opens_2 0 rfl rfl)
theorem dX4_opens_47 : decode cX4_opens 47 = .ok (.aload_n 0, 1) := dk_42 (dk_at dksX4_opens_2 3 rfl rfl)
theorem dX4_opens_48 : decode cX4_opens 48 = .ok (.aload_n 0, 1) := dk_42 (dk_at dksX4_opens_2 4 rfl rfl)
theorem dX4_opens_49 : decode cX4_opens 49 = .ok (.getfield 84, 3) := dk_180 0 84 (dk_at dksX4_opens_2 5 rfl rfl)
theorem dX4_opens_52 : decode cX4_opens 52 = .ok (.invokestatic 288, 3) := dk_184 1 32 (dk_at dksX4_opens_2 8 rfl rfl)
theorem dX4_opens_55 : decode cX4_opens 55 = .ok (.putfield 84, 3) := dk_181 0 84 (dk_at dksX4_opens_2 11 rfl rfl)
theorem dX4_opens_58 : decode cX4_opens 58 = .ok (.aload_n 0, 1) := dk_42 (dk_at dksX4_opens_2 14 rfl rfl)
theorem dX4_opens_59 : decode cX4_opens 59 = .ok (.getfield 285, 3) := dk_180 1 29 (dk_at dksX4_opens_2 15 rfl rfl)
theorem dX4_opens_62 : decode cX4_opens 62 = .ok (.iconst 1, 1) := dk_4 (dk_at dksX4_opens_2 18 rfl rfl)
theorem dX4_opens_63 : decode cX4_opens 63 = .ok (.isub, 1) := dk_100 (dk_at dksX4_opens_2 19 rfl rfl)
theorem dX4_opens_64 : decode cX4_opens 64 = .ok (.istore_n 3, 1) := dk_62 (dk_at dksX4_opens_2 20 rfl rfl)
theorem dX4_opens_65 : decode cX4_opens 65 = .ok (.iload_n 3, 1) := dk_29 (dk_at dksX4_opens_2 21 rfl rfl)
theorem dX4_opens_66 : decode cX4_opens 66 = .ok (.iload_n 1, 1) := dk_27 (dk_at dksX4_opens_2 22 rfl rfl)
theorem dX4_opens_67 : decode cX4_opens 67 = .ok (.if_icmp .le 65, 3) := dk_164 0 65 (dk_at dksX4_opens_3 0 rfl rfl)
theorem dX4_opens_70 : decode cX4_opens 70 = .ok (.aload_n 0, 1) := dk_42 (dk_at dksX4_opens_3 3 rfl rfl)
theorem dX4_opens_71 : decode cX4_opens 71 = .ok (.getfield 75, 3) := dk_180 0 75 (dk_at dksX4_opens_3 4 rfl rfl)
theorem dX4_opens_74 : decode cX4_opens 74 = .ok (.iload_n 3, 1) := dk_29 (dk_at dksX4_opens_3 7 rfl rfl)
theorem dX4_opens_75 : decode cX4_opens 75 = .ok (.iload_n 2, 1) := dk_28 (dk_at dksX4_opens_3 8 rfl rfl)
theorem dX4_opens_76 : decode cX4_opens 76 = .ok (.iadd, 1) := dk_96 (dk_at dksX4_opens_3 9 rfl rfl)
theorem dX4_opens_77 : decode cX4_opens 77 = .ok (.aload_n 0, 1) := dk_42 (dk_at dksX4_opens_3 10 rfl rfl)
theorem dX4_opens_78 : decode cX4_opens 78 = .ok (.getfield 75, 3) := dk_180 0 75 (dk_at dksX4_opens_3 11 rfl rfl)
theorem dX4_opens_81 : decode cX4_opens 81 = .ok (.iload_n 3, 1) := dk_29 (dk_at dksX4_opens_3 14 rfl rfl)
theorem dX4_opens_82 : decode cX4_opens 82 = .ok (.iaload, 1) := dk_46 (dk_at dksX4_opens_3 15 rfl rfl)
theorem dX4_opens_83 : decode cX4_opens 83 = .ok (.iastore, 1) := dk_79 (dk_at dksX4_opens_3 16 rfl rfl)
theorem dX4_opens_84 : decode cX4_opens 84 = .ok (.aload_n 0, 1) := dk_42 (dk_at dksX4_opens_3 17 rfl rfl)
theorem dX4_opens_85 : decode cX4_opens 85 = .ok (.getfield 78, 3) := dk_180 0 78 (dk_at dksX4_opens_3 18 rfl rfl)
theorem dX4_opens_88 : decode cX4_opens 88 = .ok (.iload_n 3, 1) := dk_29 (dk_at dksX4_opens_3 21 rfl rfl)
theorem dX4_opens_89 : decode cX4_opens 89 = .ok (.iload_n 2, 1) := dk_28 (dk_at dksX4_opens_3 22 rfl rfl)
theorem dX4_opens_90 : decode cX4_opens 90 = .ok (.iadd, 1) := dk_96 (dk_at dksX4_opens_3 23 rfl rfl)
theorem dX4_opens_91 : decode cX4_opens 91 = .ok (.aload_n 0, 1) := dk_42 (dk_at dksX4_opens_4 0 rfl rfl)
theorem dX4_opens_92 : decode cX4_opens 92 = .ok (.getfield 78, 3) := dk_180 0 78 (dk_at dksX4_opens_4 1 rfl rfl)
theorem dX4_opens_95 : decode cX4_opens 95 = .ok (.iload_n 3, 1) := dk_29 (dk_at dksX4_opens_4 4 rfl rfl)
theorem dX4_opens_96 : decode cX4_opens 96 = .ok (.iaload, 1) := dk_46 (dk_at dksX4_opens_4 5 rfl rfl)
theorem dX4_opens_97 : decode cX4_opens 97 = .ok (.iastore, 1) := dk_79 (dk_at dksX4_opens_4 6 rfl rfl)
theorem dX4_opens_98 : decode cX4_opens 98 = .ok (.aload_n 0, 1) := dk_42 (dk_at dksX4_opens_4 7 rfl rfl)
theorem dX4_opens_99 : decode cX4_opens 99 = .ok (.getfield 81, 3) := dk_180 0 81 (dk_at dksX4_opens_4 8 rfl rfl)
theorem dX4_opens_102 : decode cX4_opens 102 = .ok (.iload_n 3, 1) := dk_29 (dk_at dksX4_opens_4 11 rfl rfl)
theorem dX4_opens_103 : decode cX4_opens 103 = .ok (.iload_n 2, 1) := dk_28 (dk_at dksX4_opens_4 12 rfl rfl)
theorem dX4_opens_104 : decode cX4_opens 104 = .ok (.iadd, 1) := dk_96 (dk_at dksX4_opens_4 13 rfl rfl)
theorem dX4_opens_105 : decode cX4_opens 105 = .ok (.aload_n 0, 1) := dk_42 (dk_at dksX4_opens_4 14 rfl rfl)
theorem dX4_opens_106 : decode cX4_opens 106 = .ok (.getfield 81, 3) := dk_180 0 81 (dk_at dksX4_opens_4 15 rfl rfl)
theorem dX4_opens_109 : decode cX4_opens 109 = .ok (.iload_n 3, 1) := dk_29 (dk_at dksX4_opens_4 18 rfl rfl)
theorem dX4_opens_110 : decode cX4_opens 110 = .ok (.iaload, 1) := dk_46 (dk_at dksX4_opens_4 19 rfl rfl)
theorem dX4_opens_111 : decode cX4_opens 111 = .ok (.iastore, 1) := dk_79 (dk_at dksX4_opens_4 20 rfl rfl)
theorem dX4_opens_112 : decode cX4_opens 112 = .ok (.aload_n 0, 1) := dk_42 (dk_at dksX4_opens_4 21 rfl rfl)
theorem dX4_opens_113 : decode cX4_opens 113 = .ok (.getfield 84, 3) := dk_180 0 84 (dk_at dksX4_opens_5 0 rfl rfl)
theorem dX4_opens_116 : decode cX4_opens 116 = .ok (.iload_n 3, 1) := dk_29 (dk_at dksX4_opens_5 3 rfl rfl)
theorem dX4_opens_117 : decode cX4_opens 117 = .ok (.iload_n 2, 1) := dk_28 (dk_at dksX4_opens_5 4 rfl rfl)
theorem dX4_opens_118 : decode cX4_opens 118 = .ok (.iadd, 1) := dk_96 (dk_at dksX4_opens_5 5 rfl rfl)
theorem dX4_opens_119 : decode cX4_opens 119 = .ok (.aload_n 0, 1) := dk_42 (dk_at dksX4_opens_5 6 rfl rfl)
theorem dX4_opens_120 : decode cX4_opens 120 = .ok (.getfield 84, 3) := dk_180 0 84 (dk_at dksX4_opens_5 7 rfl rfl)
theorem dX4_opens_123 : decode cX4_opens 123 = .ok (.iload_n 3, 1) := dk_29 (dk_at dksX4_opens_5 10 rfl rfl)
theorem dX4_opens_124 : decode cX4_opens 124 = .ok (.iaload, 1) := dk_46 (dk_at dksX4_opens_5 11 rfl rfl)
theorem dX4_opens_125 : decode cX4_opens 125 = .ok (.iastore, 1) := dk_79 (dk_at dksX4_opens_5 12 rfl rfl)
theorem dX4_opens_126 : decode cX4_opens 126 = .ok (.iinc 3 (-1), 3) := dk_132 3 255 (dk_at dksX4_opens_5 13 rfl rfl)
theorem dX4_opens_129 : decode cX4_opens 129 = .ok (.goto (-64), 3) := dk_167 255 192 (dk_at dksX4_opens_5 16 rfl rfl)
theorem dX4_opens_132 : decode cX4_opens 132 = .ok (.aload_n 0, 1) := dk_42 (dk_at dksX4_opens_5 19 rfl rfl)
theorem dX4_opens_133 : decode cX4_opens 133 = .ok (.dup, 1) := dk_89 (dk_at dksX4_opens_5 20 rfl rfl)
theorem dX4_opens_134 : decode cX4_opens 134 = .ok (.getfield 285, 3) := dk_180 1 29 (dk_at dksX4_opens_5 21 rfl rfl)
theorem dX4_opens_137 : decode cX4_opens 137 = .ok (.iload_n 2, 1) := dk_28 (dk_at dksX4_opens_6 0 rfl rfl)
theorem dX4_opens_138 : decode cX4_opens 138 = .ok (.iadd, 1) := dk_96 (dk_at dksX4_opens_6 1 rfl rfl)
theorem dX4_opens_139 : decode cX4_opens 139 = .ok (.putfield 285, 3) := dk_181 1 29 (dk_at dksX4_opens_6 2 rfl rfl)
theorem dX4_opens_142 : decode cX4_opens 142 = .ok (.return_, 1) := dk_177 (dk_at dksX4_opens_6 5 rfl rfl)
abbrev cX4_longer : ByteArray := prog_6_method_71_code
def yX4_longer : MethodName := ⟨RX4, "longer", "([I)[I"⟩
def dkwX4_longer_1 : List UInt8 := [167, 255, 241, 43, 176]
abbrev dktX4_longer_1 : List UInt8 := dkwX4_longer_1 ++ []
def dkwX4_longer_0 : List UInt8 := [5, 42, 190, 104, 188, 10, 76, 3, 61, 28, 42, 190, 162, 0, 15, 43, 28, 42, 28, 46, 79, 132, 2, 1]
abbrev dktX4_longer_0 : List UInt8 := dkwX4_longer_0 ++ dktX4_longer_1
theorem dksX4_longer_0 : cX4_longer.data.toList.drop 0 = dktX4_longer_0 := by decide +kernel
theorem dksX4_longer_1 : cX4_longer.data.toList.drop 24 = dktX4_longer_1 := dk_seg dksX4_longer_0 24 rfl rfl
theorem dX4_longer_0 : decode cX4_longer 0 = .ok (.iconst 2, 1) := dk_5 (dk_at dksX4_longer_0 0 rfl rfl)
theorem dX4_longer_1 : decode cX4_longer 1 = .ok (.aload_n 0, 1) := dk_42 (dk_at dksX4_longer_0 1 rfl rfl)
theorem dX4_longer_2 : decode cX4_longer 2 = .ok (.arraylength, 1) := dk_190 (dk_at dksX4_longer_0 2 rfl rfl)
theorem dX4_longer_3 : decode cX4_longer 3 = .ok (.imul, 1) := dk_104 (dk_at dksX4_longer_0 3 rfl rfl)
theorem dX4_longer_4 : decode cX4_longer 4 = .ok (.newarray .int, 2) := dk_188_10 (dk_at dksX4_longer_0 4 rfl rfl)
theorem dX4_longer_6 : decode cX4_longer 6 = .ok (.astore_n 1, 1) := dk_76 (dk_at dksX4_longer_0 6 rfl rfl)
theorem dX4_longer_7 : decode cX4_longer 7 = .ok (.iconst 0, 1) := dk_3 (dk_at dksX4_longer_0 7 rfl rfl)
theorem dX4_longer_8 : decode cX4_longer 8 = .ok (.istore_n 2, 1) := dk_61 (dk_at dksX4_longer_0 8 rfl rfl)
theorem dX4_longer_9 : decode cX4_longer 9 = .ok (.iload_n 2, 1) := dk_28 (dk_at dksX4_longer_0 9 rfl rfl)
theorem dX4_longer_10 : decode cX4_longer 10 = .ok (.aload_n 0, 1) := dk_42 (dk_at dksX4_longer_0 10 rfl rfl)
theorem dX4_longer_11 : decode cX4_longer 11 = .ok (.arraylength, 1) := dk_190 (dk_at dksX4_longer_0 11 rfl rfl)
theorem dX4_longer_12 : decode cX4_longer 12 = .ok (.if_icmp .ge 15, 3) := dk_162 0 15 (dk_at dksX4_longer_0 12 rfl rfl)
theorem dX4_longer_15 : decode cX4_longer 15 = .ok (.aload_n 1, 1) := dk_43 (dk_at dksX4_longer_0 15 rfl rfl)
theorem dX4_longer_16 : decode cX4_longer 16 = .ok (.iload_n 2, 1) := dk_28 (dk_at dksX4_longer_0 16 rfl rfl)
theorem dX4_longer_17 : decode cX4_longer 17 = .ok (.aload_n 0, 1) := dk_42 (dk_at dksX4_longer_0 17 rfl rfl)
theorem dX4_longer_18 : decode cX4_longer 18 = .ok (.iload_n 2, 1) := dk_28 (dk_at dksX4_longer_0 18 rfl rfl)
theorem dX4_longer_19 : decode cX4_longer 19 = .ok (.iaload, 1) := dk_46 (dk_at dksX4_longer_0 19 rfl rfl)
theorem dX4_longer_20 : decode cX4_longer 20 = .ok (.iastore, 1) := dk_79 (dk_at dksX4_longer_0 20 rfl rfl)
theorem dX4_longer_21 : decode cX4_longer 21 = .ok (.iinc 2 1, 3) := dk_132 2 1 (dk_at dksX4_longer_0 21 rfl rfl)
theorem dX4_longer_24 : decode cX4_longer 24 = .ok (.goto (-15), 3) := dk_167 255 241 (dk_at dksX4_longer_1 0 rfl rfl)
theorem dX4_longer_27 : decode cX4_longer 27 = .ok (.aload_n 1, 1) := dk_43 (dk_at dksX4_longer_1 3 rfl rfl)
theorem dX4_longer_28 : decode cX4_longer 28 = .ok (.areturn, 1) := dk_176 (dk_at dksX4_longer_1 4 rfl rfl)
abbrev cX4_refine : ByteArray := prog_6_method_81_code
def yX4_refine : MethodName := ⟨RX4, "refine", "(II)I"⟩
def dkwX4_refine_9 : List UInt8 := [182, 0, 217, 172]
abbrev dktX4_refine_9 : List UInt8 := dkwX4_refine_9 ++ []
def dkwX4_refine_8 : List UInt8 := [27, 21, 4, 21, 7, 21, 6, 182, 1, 36, 132, 3, 1, 167, 255, 132, 42, 42, 180, 0, 75, 27, 46]
abbrev dktX4_refine_8 : List UInt8 := dkwX4_refine_8 ++ dktX4_refine_9
def dkwX4_refine_7 : List UInt8 := [167, 0, 34, 42, 27, 21, 4, 21, 5, 21, 7, 182, 1, 36, 42, 180, 0, 84, 27, 46, 154, 0, 14, 42]
abbrev dktX4_refine_7 : List UInt8 := dkwX4_refine_7 ++ dktX4_refine_8
def dkwX4_refine_6 : List UInt8 := [42, 21, 7, 21, 4, 182, 1, 43, 153, 0, 17, 42, 27, 21, 4, 21, 7, 21, 7, 182, 1, 36]
abbrev dktX4_refine_6 : List UInt8 := dkwX4_refine_6 ++ dktX4_refine_7
def dkwX4_refine_5 : List UInt8 := [42, 180, 0, 81, 27, 46, 104, 54, 6, 42, 180, 0, 78, 27, 46, 42, 180, 0, 81, 27, 46, 96, 54, 7]
abbrev dktX4_refine_5 : List UInt8 := dkwX4_refine_5 ++ dktX4_refine_6
def dkwX4_refine_4 : List UInt8 := [162, 0, 110, 42, 180, 0, 75, 27, 46, 4, 96, 54, 4, 5, 42, 180, 0, 78, 27, 46, 104, 54, 5, 5]
abbrev dktX4_refine_4 : List UInt8 := dkwX4_refine_4 ++ dktX4_refine_5
def dkwX4_refine_3 : List UInt8 := [182, 0, 212, 172, 3, 62, 29, 28, 162, 0, 125, 42, 180, 0, 78, 27, 46, 42, 180, 0, 81, 27, 46]
abbrev dktX4_refine_3 : List UInt8 := dkwX4_refine_3 ++ dktX4_refine_4
def dkwX4_refine_2 : List UInt8 := [180, 0, 81, 27, 46, 159, 0, 16, 42, 180, 0, 75, 27, 46, 28, 96, 16, 12, 164, 0, 9, 42, 6]
abbrev dktX4_refine_2 : List UInt8 := dkwX4_refine_2 ++ dktX4_refine_3
def dkwX4_refine_1 : List UInt8 := [42, 5, 182, 0, 212, 172, 42, 180, 0, 84, 27, 46, 4, 160, 0, 31, 42, 180, 0, 78, 27, 46, 42]
abbrev dktX4_refine_1 : List UInt8 := dkwX4_refine_1 ++ dktX4_refine_2
def dkwX4_refine_0 : List UInt8 := [42, 27, 182, 1, 40, 154, 0, 9, 42, 4, 182, 0, 212, 172, 28, 4, 16, 6, 184, 0, 232, 154, 0, 9]
abbrev dktX4_refine_0 : List UInt8 := dkwX4_refine_0 ++ dktX4_refine_1
theorem dksX4_refine_0 : cX4_refine.data.toList.drop 0 = dktX4_refine_0 := by decide +kernel
theorem dksX4_refine_1 : cX4_refine.data.toList.drop 24 = dktX4_refine_1 := dk_seg dksX4_refine_0 24 rfl rfl
theorem dksX4_refine_2 : cX4_refine.data.toList.drop 47 = dktX4_refine_2 := dk_seg dksX4_refine_1 23 rfl rfl
theorem dksX4_refine_3 : cX4_refine.data.toList.drop 70 = dktX4_refine_3 := dk_seg dksX4_refine_2 23 rfl rfl
theorem dksX4_refine_4 : cX4_refine.data.toList.drop 93 = dktX4_refine_4 := dk_seg dksX4_refine_3 23 rfl rfl
theorem dksX4_refine_5 : cX4_refine.data.toList.drop 117 = dktX4_refine_5 := dk_seg dksX4_refine_4 24 rfl rfl
theorem dksX4_refine_6 : cX4_refine.data.toList.drop 141 = dktX4_refine_6 := dk_seg dksX4_refine_5 24 rfl rfl
theorem dksX4_refine_7 : cX4_refine.data.toList.drop 163 = dktX4_refine_7 := dk_seg dksX4_refine_6 22 rfl rfl
theorem dksX4_refine_8 : cX4_refine.data.toList.drop 187 = dktX4_refine_8 := dk_seg dksX4_refine_7 24 rfl rfl
theorem dksX4_refine_9 : cX4_refine.data.toList.drop 210 = dktX4_refine_9 := dk_seg dksX4_refine_8 23 rfl rfl
theorem dX4_refine_0 : decode cX4_refine 0 = .ok (.aload_n 0, 1) := dk_42 (dk_at dksX4_refine_0 0 rfl rfl)
theorem dX4_refine_1 : decode cX4_refine 1 = .ok (.iload_n 1, 1) := dk_27 (dk_at dksX4_refine_0 1 rfl rfl)
theorem dX4_refine_2 : decode cX4_refine 2 = .ok (.invokevirtual 296, 3) := dk_182 1 40 (dk_at dksX4_refine_0 2 rfl rfl)
theorem dX4_refine_5 : decode cX4_refine 5 = .ok (.ifCond .ne 9, 3) := dk_154 0 9 (dk_at dksX4_refine_0 5 rfl rfl)
theorem dX4_refine_8 : decode cX4_refine 8 = .ok (.aload_n 0, 1) := dk_42 (dk_at dksX4_refine_0 8 rfl rfl)
theorem dX4_refine_9 : decode cX4_refine 9 = .ok (.iconst 1, 1) := dk_4 (dk_at dksX4_refine_0 9 rfl rfl)
theorem dX4_refine_10 : decode cX4_refine 10 = .ok (.invokevirtual 212, 3) := dk_182 0 212 (dk_at dksX4_refine_0 10 rfl rfl)
theorem dX4_refine_13 : decode cX4_refine 13 = .ok (.ireturn, 1) := dk_172 (dk_at dksX4_refine_0 13 rfl rfl)
theorem dX4_refine_14 : decode cX4_refine 14 = .ok (.iload_n 2, 1) := dk_28 (dk_at dksX4_refine_0 14 rfl rfl)
theorem dX4_refine_15 : decode cX4_refine 15 = .ok (.iconst 1, 1) := dk_4 (dk_at dksX4_refine_0 15 rfl rfl)
theorem dX4_refine_16 : decode cX4_refine 16 = .ok (.bipush 6, 2) := dk_16 6 (dk_at dksX4_refine_0 16 rfl rfl)
theorem dX4_refine_18 : decode cX4_refine 18 = .ok (.invokestatic 232, 3) := dk_184 0 232 (dk_at dksX4_refine_0 18 rfl rfl)
theorem dX4_refine_21 : decode cX4_refine 21 = .ok (.ifCond .ne 9, 3) := dk_154 0 9 (dk_at dksX4_refine_0 21 rfl rfl)
theorem dX4_refine_24 : decode cX4_refine 24 = .ok (.aload_n 0, 1) := dk_42 (dk_at dksX4_refine_1 0 rfl rfl)
theorem dX4_refine_25 : decode cX4_refine 25 = .ok (.iconst 2, 1) := dk_5 (dk_at dksX4_refine_1 1 rfl rfl)
theorem dX4_refine_26 : decode cX4_refine 26 = .ok (.invokevirtual 212, 3) := dk_182 0 212 (dk_at dksX4_refine_1 2 rfl rfl)
theorem dX4_refine_29 : decode cX4_refine 29 = .ok (.ireturn, 1) := dk_172 (dk_at dksX4_refine_1 5 rfl rfl)
theorem dX4_refine_30 : decode cX4_refine 30 = .ok (.aload_n 0, 1) := dk_42 (dk_at dksX4_refine_1 6 rfl rfl)
theorem dX4_refine_31 : decode cX4_refine 31 = .ok (.getfield 84, 3) := dk_180 0 84 (dk_at dksX4_refine_1 7 rfl rfl)
theorem dX4_refine_34 : decode cX4_refine 34 = .ok (.iload_n 1, 1) := dk_27 (dk_at dksX4_refine_1 10 rfl rfl)
theorem dX4_refine_35 : decode cX4_refine 35 = .ok (.iaload, 1) := dk_46 (dk_at dksX4_refine_1 11 rfl rfl)
theorem dX4_refine_36 : decode cX4_refine 36 = .ok (.iconst 1, 1) := dk_4 (dk_at dksX4_refine_1 12 rfl rfl)
theorem dX4_refine_37 : decode cX4_refine 37 = .ok (.if_icmp .ne 31, 3) := dk_160 0 31 (dk_at dksX4_refine_1 13 rfl rfl)
theorem dX4_refine_40 : decode cX4_refine 40 = .ok (.aload_n 0, 1) := dk_42 (dk_at dksX4_refine_1 16 rfl rfl)
theorem dX4_refine_41 : decode cX4_refine 41 = .ok (.getfield 78, 3) := dk_180 0 78 (dk_at dksX4_refine_1 17 rfl rfl)
theorem dX4_refine_44 : decode cX4_refine 44 = .ok (.iload_n 1, 1) := dk_27 (dk_at dksX4_refine_1 20 rfl rfl)
theorem dX4_refine_45 : decode cX4_refine 45 = .ok (.iaload, 1) := dk_46 (dk_at dksX4_refine_1 21 rfl rfl)
theorem dX4_refine_46 : decode cX4_refine 46 = .ok (.aload_n 0, 1) := dk_42 (dk_at dksX4_refine_1 22 rfl rfl)
theorem dX4_refine_47 : decode cX4_refine 47 = .ok (.getfield 81, 3) := dk_180 0 81 (dk_at dksX4_refine_2 0 rfl rfl)
theorem dX4_refine_50 : decode cX4_refine 50 = .ok (.iload_n 1, 1) := dk_27 (dk_at dksX4_refine_2 3 rfl rfl)
theorem dX4_refine_51 : decode cX4_refine 51 = .ok (.iaload, 1) := dk_46 (dk_at dksX4_refine_2 4 rfl rfl)
theorem dX4_refine_52 : decode cX4_refine 52 = .ok (.if_icmp .eq 16, 3) := dk_159 0 16 (dk_at dksX4_refine_2 5 rfl rfl)
theorem dX4_refine_55 : decode cX4_refine 55 = .ok (.aload_n 0, 1) := dk_42 (dk_at dksX4_refine_2 8 rfl rfl)
theorem dX4_refine_56 : decode cX4_refine 56 = .ok (.getfield 75, 3) := dk_180 0 75 (dk_at dksX4_refine_2 9 rfl rfl)
theorem dX4_refine_59 : decode cX4_refine 59 = .ok (.iload_n 1, 1) := dk_27 (dk_at dksX4_refine_2 12 rfl rfl)
theorem dX4_refine_60 : decode cX4_refine 60 = .ok (.iaload, 1) := dk_46 (dk_at dksX4_refine_2 13 rfl rfl)
theorem dX4_refine_61 : decode cX4_refine 61 = .ok (.iload_n 2, 1) := dk_28 (dk_at dksX4_refine_2 14 rfl rfl)
theorem dX4_refine_62 : decode cX4_refine 62 = .ok (.iadd, 1) := dk_96 (dk_at dksX4_refine_2 15 rfl rfl)
theorem dX4_refine_63 : decode cX4_refine 63 = .ok (.bipush 12, 2) := dk_16 12 (dk_at dksX4_refine_2 16 rfl rfl)
theorem dX4_refine_65 : decode cX4_refine 65 = .ok (.if_icmp .le 9, 3) := dk_164 0 9 (dk_at dksX4_refine_2 18 rfl rfl)
theorem dX4_refine_68 : decode cX4_refine 68 = .ok (.aload_n 0, 1) := dk_42 (dk_at dksX4_refine_2 21 rfl rfl)
theorem dX4_refine_69 : decode cX4_refine 69 = .ok (.iconst 3, 1) := dk_6 (dk_at dksX4_refine_2 22 rfl rfl)
theorem dX4_refine_70 : decode cX4_refine 70 = .ok (.invokevirtual 212, 3) := dk_182 0 212 (dk_at dksX4_refine_3 0 rfl rfl)
theorem dX4_refine_73 : decode cX4_refine 73 = .ok (.ireturn, 1) := dk_172 (dk_at dksX4_refine_3 3 rfl rfl)
theorem dX4_refine_74 : decode cX4_refine 74 = .ok (.iconst 0, 1) := dk_3 (dk_at dksX4_refine_3 4 rfl rfl)
theorem dX4_refine_75 : decode cX4_refine 75 = .ok (.istore_n 3, 1) := dk_62 (dk_at dksX4_refine_3 5 rfl rfl)
theorem dX4_refine_76 : decode cX4_refine 76 = .ok (.iload_n 3, 1) := dk_29 (dk_at dksX4_refine_3 6 rfl rfl)
theorem dX4_refine_77 : decode cX4_refine 77 = .ok (.iload_n 2, 1) := dk_28 (dk_at dksX4_refine_3 7 rfl rfl)
theorem dX4_refine_78 : decode cX4_refine 78 = .ok (.if_icmp .ge 125, 3) := dk_162 0 125 (dk_at dksX4_refine_3 8 rfl rfl)
theorem dX4_refine_81 : decode cX4_refine 81 = .ok (.aload_n 0, 1) := dk_42 (dk_at dksX4_refine_3 11 rfl rfl)
theorem dX4_refine_82 : decode cX4_refine 82 = .ok (.getfield 78, 3) := dk_180 0 78 (dk_at dksX4_refine_3 12 rfl rfl)
theorem dX4_refine_85 : decode cX4_refine 85 = .ok (.iload_n 1, 1) := dk_27 (dk_at dksX4_refine_3 15 rfl rfl)
theorem dX4_refine_86 : decode cX4_refine 86 = .ok (.iaload, 1) := dk_46 (dk_at dksX4_refine_3 16 rfl rfl)
theorem dX4_refine_87 : decode cX4_refine 87 = .ok (.aload_n 0, 1) := dk_42 (dk_at dksX4_refine_3 17 rfl rfl)
theorem dX4_refine_88 : decode cX4_refine 88 = .ok (.getfield 81, 3) := dk_180 0 81 (dk_at dksX4_refine_3 18 rfl rfl)
theorem dX4_refine_91 : decode cX4_refine 91 = .ok (.iload_n 1, 1) := dk_27 (dk_at dksX4_refine_3 21 rfl rfl)
theorem dX4_refine_92 : decode cX4_refine 92 = .ok (.iaload, 1) := dk_46 (dk_at dksX4_refine_3 22 rfl rfl)
theorem dX4_refine_93 : decode cX4_refine 93 = .ok (.if_icmp .ge 110, 3) := dk_162 0 110 (dk_at dksX4_refine_4 0 rfl rfl)
theorem dX4_refine_96 : decode cX4_refine 96 = .ok (.aload_n 0, 1) := dk_42 (dk_at dksX4_refine_4 3 rfl rfl)
theorem dX4_refine_97 : decode cX4_refine 97 = .ok (.getfield 75, 3) := dk_180 0 75 (dk_at dksX4_refine_4 4 rfl rfl)
theorem dX4_refine_100 : decode cX4_refine 100 = .ok (.iload_n 1, 1) := dk_27 (dk_at dksX4_refine_4 7 rfl rfl)
theorem dX4_refine_101 : decode cX4_refine 101 = .ok (.iaload, 1) := dk_46 (dk_at dksX4_refine_4 8 rfl rfl)
theorem dX4_refine_102 : decode cX4_refine 102 = .ok (.iconst 1, 1) := dk_4 (dk_at dksX4_refine_4 9 rfl rfl)
theorem dX4_refine_103 : decode cX4_refine 103 = .ok (.iadd, 1) := dk_96 (dk_at dksX4_refine_4 10 rfl rfl)
theorem dX4_refine_104 : decode cX4_refine 104 = .ok (.istore 4, 2) := dk_54 4 (dk_at dksX4_refine_4 11 rfl rfl)
theorem dX4_refine_106 : decode cX4_refine 106 = .ok (.iconst 2, 1) := dk_5 (dk_at dksX4_refine_4 13 rfl rfl)
theorem dX4_refine_107 : decode cX4_refine 107 = .ok (.aload_n 0, 1) := dk_42 (dk_at dksX4_refine_4 14 rfl rfl)
theorem dX4_refine_108 : decode cX4_refine 108 = .ok (.getfield 78, 3) := dk_180 0 78 (dk_at dksX4_refine_4 15 rfl rfl)
theorem dX4_refine_111 : decode cX4_refine 111 = .ok (.iload_n 1, 1) := dk_27 (dk_at dksX4_refine_4 18 rfl rfl)
theorem dX4_refine_112 : decode cX4_refine 112 = .ok (.iaload, 1) := dk_46 (dk_at dksX4_refine_4 19 rfl rfl)
theorem dX4_refine_113 : decode cX4_refine 113 = .ok (.imul, 1) := dk_104 (dk_at dksX4_refine_4 20 rfl rfl)
theorem dX4_refine_114 : decode cX4_refine 114 = .ok (.istore 5, 2) := dk_54 5 (dk_at dksX4_refine_4 21 rfl rfl)
theorem dX4_refine_116 : decode cX4_refine 116 = .ok (.iconst 2, 1) := dk_5 (dk_at dksX4_refine_4 23 rfl rfl)
theorem dX4_refine_117 : decode cX4_refine 117 = .ok (.aload_n 0, 1) := dk_42 (dk_at dksX4_refine_5 0 rfl rfl)
theorem dX4_refine_118 : decode cX4_refine 118 = .ok (.getfield 81, 3) := dk_180 0 81 (dk_at dksX4_refine_5 1 rfl rfl)
theorem dX4_refine_121 : decode cX4_refine 121 = .ok (.iload_n 1, 1) := dk_27 (dk_at dksX4_refine_5 4 rfl rfl)
theorem dX4_refine_122 : decode cX4_refine 122 = .ok (.iaload, 1) := dk_46 (dk_at dksX4_refine_5 5 rfl rfl)
theorem dX4_refine_123 : decode cX4_refine 123 = .ok (.imul, 1) := dk_104 (dk_at dksX4_refine_5 6 rfl rfl)
theorem dX4_refine_124 : decode cX4_refine 124 = .ok (.istore 6, 2) := dk_54 6 (dk_at dksX4_refine_5 7 rfl rfl)
theorem dX4_refine_126 : decode cX4_refine 126 = .ok (.aload_n 0, 1) := dk_42 (dk_at dksX4_refine_5 9 rfl rfl)
theorem dX4_refine_127 : decode cX4_refine 127 = .ok (.getfield 78, 3) := dk_180 0 78 (dk_at dksX4_refine_5 10 rfl rfl)
theorem dX4_refine_130 : decode cX4_refine 130 = .ok (.iload_n 1, 1) := dk_27 (dk_at dksX4_refine_5 13 rfl rfl)
theorem dX4_refine_131 : decode cX4_refine 131 = .ok (.iaload, 1) := dk_46 (dk_at dksX4_refine_5 14 rfl rfl)
theorem dX4_refine_132 : decode cX4_refine 132 = .ok (.aload_n 0, 1) := dk_42 (dk_at dksX4_refine_5 15 rfl rfl)
theorem dX4_refine_133 : decode cX4_refine 133 = .ok (.getfield 81, 3) := dk_180 0 81 (dk_at dksX4_refine_5 16 rfl rfl)
theorem dX4_refine_136 : decode cX4_refine 136 = .ok (.iload_n 1, 1) := dk_27 (dk_at dksX4_refine_5 19 rfl rfl)
theorem dX4_refine_137 : decode cX4_refine 137 = .ok (.iaload, 1) := dk_46 (dk_at dksX4_refine_5 20 rfl rfl)
theorem dX4_refine_138 : decode cX4_refine 138 = .ok (.iadd, 1) := dk_96 (dk_at dksX4_refine_5 21 rfl rfl)
theorem dX4_refine_139 : decode cX4_refine 139 = .ok (.istore 7, 2) := dk_54 7 (dk_at dksX4_refine_5 22 rfl rfl)
theorem dX4_refine_141 : decode cX4_refine 141 = .ok (.aload_n 0, 1) := dk_42 (dk_at dksX4_refine_6 0 rfl rfl)
theorem dX4_refine_142 : decode cX4_refine 142 = .ok (.iload 7, 2) := dk_21 7 (dk_at dksX4_refine_6 1 rfl rfl)
theorem dX4_refine_144 : decode cX4_refine 144 = .ok (.iload 4, 2) := dk_21 4 (dk_at dksX4_refine_6 3 rfl rfl)
theorem dX4_refine_146 : decode cX4_refine 146 = .ok (.invokevirtual 299, 3) := dk_182 1 43 (dk_at dksX4_refine_6 5 rfl rfl)
theorem dX4_refine_149 : decode cX4_refine 149 = .ok (.ifCond .eq 17, 3) := dk_153 0 17 (dk_at dksX4_refine_6 8 rfl rfl)
theorem dX4_refine_152 : decode cX4_refine 152 = .ok (.aload_n 0, 1) := dk_42 (dk_at dksX4_refine_6 11 rfl rfl)
theorem dX4_refine_153 : decode cX4_refine 153 = .ok (.iload_n 1, 1) := dk_27 (dk_at dksX4_refine_6 12 rfl rfl)
theorem dX4_refine_154 : decode cX4_refine 154 = .ok (.iload 4, 2) := dk_21 4 (dk_at dksX4_refine_6 13 rfl rfl)
theorem dX4_refine_156 : decode cX4_refine 156 = .ok (.iload 7, 2) := dk_21 7 (dk_at dksX4_refine_6 15 rfl rfl)
theorem dX4_refine_158 : decode cX4_refine 158 = .ok (.iload 7, 2) := dk_21 7 (dk_at dksX4_refine_6 17 rfl rfl)
theorem dX4_refine_160 : decode cX4_refine 160 = .ok (.invokevirtual 292, 3) := dk_182 1 36 (dk_at dksX4_refine_6 19 rfl rfl)
theorem dX4_refine_163 : decode cX4_refine 163 = .ok (.goto 34, 3) := dk_167 0 34 (dk_at dksX4_refine_7 0 rfl rfl)
theorem dX4_refine_166 : decode cX4_refine 166 = .ok (.aload_n 0, 1) := dk_42 (dk_at dksX4_refine_7 3 rfl rfl)
theorem dX4_refine_167 : decode cX4_refine 167 = .ok (.iload_n 1, 1) := dk_27 (dk_at dksX4_refine_7 4 rfl rfl)
theorem dX4_refine_168 : decode cX4_refine 168 = .ok (.iload 4, 2) := dk_21 4 (dk_at dksX4_refine_7 5 rfl rfl)
theorem dX4_refine_170 : decode cX4_refine 170 = .ok (.iload 5, 2) := dk_21 5 (dk_at dksX4_refine_7 7 rfl rfl)
theorem dX4_refine_172 : decode cX4_refine 172 = .ok (.iload 7, 2) := dk_21 7 (dk_at dksX4_refine_7 9 rfl rfl)
theorem dX4_refine_174 : decode cX4_refine 174 = .ok (.invokevirtual 292, 3) := dk_182 1 36 (dk_at dksX4_refine_7 11 rfl rfl)
theorem dX4_refine_177 : decode cX4_refine 177 = .ok (.aload_n 0, 1) := dk_42 (dk_at dksX4_refine_7 14 rfl rfl)
theorem dX4_refine_178 : decode cX4_refine 178 = .ok (.getfield 84, 3) := dk_180 0 84 (dk_at dksX4_refine_7 15 rfl rfl)
theorem dX4_refine_181 : decode cX4_refine 181 = .ok (.iload_n 1, 1) := dk_27 (dk_at dksX4_refine_7 18 rfl rfl)
theorem dX4_refine_182 : decode cX4_refine 182 = .ok (.iaload, 1) := dk_46 (dk_at dksX4_refine_7 19 rfl rfl)
theorem dX4_refine_183 : decode cX4_refine 183 = .ok (.ifCond .ne 14, 3) := dk_154 0 14 (dk_at dksX4_refine_7 20 rfl rfl)
theorem dX4_refine_186 : decode cX4_refine 186 = .ok (.aload_n 0, 1) := dk_42 (dk_at dksX4_refine_7 23 rfl rfl)
theorem dX4_refine_187 : decode cX4_refine 187 = .ok (.iload_n 1, 1) := dk_27 (dk_at dksX4_refine_8 0 rfl rfl)
theorem dX4_refine_188 : decode cX4_refine 188 = .ok (.iload 4, 2) := dk_21 4 (dk_at dksX4_refine_8 1 rfl rfl)
theorem dX4_refine_190 : decode cX4_refine 190 = .ok (.iload 7, 2) := dk_21 7 (dk_at dksX4_refine_8 3 rfl rfl)
theorem dX4_refine_192 : decode cX4_refine 192 = .ok (.iload 6, 2) := dk_21 6 (dk_at dksX4_refine_8 5 rfl rfl)
theorem dX4_refine_194 : decode cX4_refine 194 = .ok (.invokevirtual 292, 3) := dk_182 1 36 (dk_at dksX4_refine_8 7 rfl rfl)
theorem dX4_refine_197 : decode cX4_refine 197 = .ok (.iinc 3 1, 3) := dk_132 3 1 (dk_at dksX4_refine_8 10 rfl rfl)
theorem dX4_refine_200 : decode cX4_refine 200 = .ok (.goto (-124), 3) := dk_167 255 132 (dk_at dksX4_refine_8 13 rfl rfl)
theorem dX4_refine_203 : decode cX4_refine 203 = .ok (.aload_n 0, 1) := dk_42 (dk_at dksX4_refine_8 16 rfl rfl)
theorem dX4_refine_204 : decode cX4_refine 204 = .ok (.aload_n 0, 1) := dk_42 (dk_at dksX4_refine_8 17 rfl rfl)
theorem dX4_refine_205 : decode cX4_refine 205 = .ok (.getfield 75, 3) := dk_180 0 75 (dk_at dksX4_refine_8 18 rfl rfl)
theorem dX4_refine_208 : decode cX4_refine 208 = .ok (.iload_n 1, 1) := dk_27 (dk_at dksX4_refine_8 21 rfl rfl)
theorem dX4_refine_209 : decode cX4_refine 209 = .ok (.iaload, 1) := dk_46 (dk_at dksX4_refine_8 22 rfl rfl)
theorem dX4_refine_210 : decode cX4_refine 210 = .ok (.invokevirtual 217, 3) := dk_182 0 217 (dk_at dksX4_refine_9 0 rfl rfl)
theorem dX4_refine_213 : decode cX4_refine 213 = .ok (.ireturn, 1) := dk_172 (dk_at dksX4_refine_9 3 rfl rfl)
abbrev cX4_removeEmpty : ByteArray := prog_6_method_82_code
def yX4_removeEmpty : MethodName := ⟨RX4, "removeEmpty", "()I"⟩
def dkwX4_removeEmpty_4 : List UInt8 := [42, 28, 182, 0, 217, 172]
abbrev dktX4_removeEmpty_4 : List UInt8 := dkwX4_removeEmpty_4 ++ []
def dkwX4_removeEmpty_3 : List UInt8 := [167, 0, 4, 3, 96, 60, 132, 2, 1, 167, 255, 180, 42, 180, 1, 29, 27, 100, 61, 42, 27, 181, 1, 29]
abbrev dktX4_removeEmpty_3 : List UInt8 := dkwX4_removeEmpty_3 ++ dktX4_removeEmpty_4
def dkwX4_removeEmpty_2 : List UInt8 := [42, 180, 0, 84, 27, 42, 180, 0, 84, 28, 46, 79, 27, 42, 180, 0, 84, 28, 46, 158, 0, 7, 4]
abbrev dktX4_removeEmpty_2 : List UInt8 := dkwX4_removeEmpty_2 ++ dktX4_removeEmpty_3
def dkwX4_removeEmpty_1 : List UInt8 := [42, 180, 0, 78, 27, 42, 180, 0, 78, 28, 46, 79, 42, 180, 0, 81, 27, 42, 180, 0, 81, 28, 46, 79]
abbrev dktX4_removeEmpty_1 : List UInt8 := dkwX4_removeEmpty_1 ++ dktX4_removeEmpty_2
def dkwX4_removeEmpty_0 : List UInt8 := [3, 60, 3, 61, 28, 42, 180, 1, 29, 162, 0, 74, 42, 180, 0, 75, 27, 42, 180, 0, 75, 28, 46, 79]
abbrev dktX4_removeEmpty_0 : List UInt8 := dkwX4_removeEmpty_0 ++ dktX4_removeEmpty_1
theorem dksX4_removeEmpty_0 : cX4_removeEmpty.data.toList.drop 0 = dktX4_removeEmpty_0 := by decide +kernel
theorem dksX4_removeEmpty_1 : cX4_removeEmpty.data.toList.drop 24 = dktX4_removeEmpty_1 := dk_seg dksX4_removeEmpty_0 24 rfl rfl
theorem dksX4_removeEmpty_2 : cX4_removeEmpty.data.toList.drop 48 = dktX4_removeEmpty_2 := dk_seg dksX4_removeEmpty_1 24 rfl rfl
theorem dksX4_removeEmpty_3 : cX4_removeEmpty.data.toList.drop 71 = dktX4_removeEmpty_3 := dk_seg dksX4_removeEmpty_2 23 rfl rfl
theorem dksX4_removeEmpty_4 : cX4_removeEmpty.data.toList.drop 95 = dktX4_removeEmpty_4 := dk_seg dksX4_removeEmpty_3 24 rfl rfl
theorem dX4_removeEmpty_0 : decode cX4_removeEmpty 0 = .ok (.iconst 0, 1) := dk_3 (dk_at dksX4_removeEmpty_0 0 rfl rfl)
theorem dX4_removeEmpty_1 : decode cX4_removeEmpty 1 = .ok (.istore_n 1, 1) := dk_60 (dk_at dksX4_removeEmpty_0 1 rfl rfl)
theorem dX4_removeEmpty_2 : decode cX4_removeEmpty 2 = .ok (.iconst 0, 1) := dk_3 (dk_at dksX4_removeEmpty_0 2 rfl rfl)
theorem dX4_removeEmpty_3 : decode cX4_removeEmpty 3 = .ok (.istore_n 2, 1) := dk_61 (dk_at dksX4_removeEmpty_0 3 rfl rfl)
theorem dX4_removeEmpty_4 : decode cX4_removeEmpty 4 = .ok (.iload_n 2, 1) := dk_28 (dk_at dksX4_removeEmpty_0 4 rfl rfl)
theorem dX4_removeEmpty_5 : decode cX4_removeEmpty 5 = .ok (.aload_n 0, 1) := dk_42 (dk_at dksX4_removeEmpty_0 5 rfl rfl)
theorem dX4_removeEmpty_6 : decode cX4_removeEmpty 6 = .ok (.getfield 285, 3) := dk_180 1 29 (dk_at dksX4_removeEmpty_0 6 rfl rfl)
theorem dX4_removeEmpty_9 : decode cX4_removeEmpty 9 = .ok (.if_icmp .ge 74, 3) := dk_162 0 74 (dk_at dksX4_removeEmpty_0 9 rfl rfl)
theorem dX4_removeEmpty_12 : decode cX4_removeEmpty 12 = .ok (.aload_n 0, 1) := dk_42 (dk_at dksX4_removeEmpty_0 12 rfl rfl)
theorem dX4_removeEmpty_13 : decode cX4_removeEmpty 13 = .ok (.getfield 75, 3) := dk_180 0 75 (dk_at dksX4_removeEmpty_0 13 rfl rfl)
theorem dX4_removeEmpty_16 : decode cX4_removeEmpty 16 = .ok (.iload_n 1, 1) := dk_27 (dk_at dksX4_removeEmpty_0 16 rfl rfl)
theorem dX4_removeEmpty_17 : decode cX4_removeEmpty 17 = .ok (.aload_n 0, 1) := dk_42 (dk_at dksX4_removeEmpty_0 17 rfl rfl)
theorem dX4_removeEmpty_18 : decode cX4_removeEmpty 18 = .ok (.getfield 75, 3) := dk_180 0 75 (dk_at dksX4_removeEmpty_0 18 rfl rfl)
theorem dX4_removeEmpty_21 : decode cX4_removeEmpty 21 = .ok (.iload_n 2, 1) := dk_28 (dk_at dksX4_removeEmpty_0 21 rfl rfl)
theorem dX4_removeEmpty_22 : decode cX4_removeEmpty 22 = .ok (.iaload, 1) := dk_46 (dk_at dksX4_removeEmpty_0 22 rfl rfl)
theorem dX4_removeEmpty_23 : decode cX4_removeEmpty 23 = .ok (.iastore, 1) := dk_79 (dk_at dksX4_removeEmpty_0 23 rfl rfl)
theorem dX4_removeEmpty_24 : decode cX4_removeEmpty 24 = .ok (.aload_n 0, 1) := dk_42 (dk_at dksX4_removeEmpty_1 0 rfl rfl)
theorem dX4_removeEmpty_25 : decode cX4_removeEmpty 25 = .ok (.getfield 78, 3) := dk_180 0 78 (dk_at dksX4_removeEmpty_1 1 rfl rfl)
theorem dX4_removeEmpty_28 : decode cX4_removeEmpty 28 = .ok (.iload_n 1, 1) := dk_27 (dk_at dksX4_removeEmpty_1 4 rfl rfl)
theorem dX4_removeEmpty_29 : decode cX4_removeEmpty 29 = .ok (.aload_n 0, 1) := dk_42 (dk_at dksX4_removeEmpty_1 5 rfl rfl)
theorem dX4_removeEmpty_30 : decode cX4_removeEmpty 30 = .ok (.getfield 78, 3) := dk_180 0 78 (dk_at dksX4_removeEmpty_1 6 rfl rfl)
theorem dX4_removeEmpty_33 : decode cX4_removeEmpty 33 = .ok (.iload_n 2, 1) := dk_28 (dk_at dksX4_removeEmpty_1 9 rfl rfl)
theorem dX4_removeEmpty_34 : decode cX4_removeEmpty 34 = .ok (.iaload, 1) := dk_46 (dk_at dksX4_removeEmpty_1 10 rfl rfl)
theorem dX4_removeEmpty_35 : decode cX4_removeEmpty 35 = .ok (.iastore, 1) := dk_79 (dk_at dksX4_removeEmpty_1 11 rfl rfl)
theorem dX4_removeEmpty_36 : decode cX4_removeEmpty 36 = .ok (.aload_n 0, 1) := dk_42 (dk_at dksX4_removeEmpty_1 12 rfl rfl)
theorem dX4_removeEmpty_37 : decode cX4_removeEmpty 37 = .ok (.getfield 81, 3) := dk_180 0 81 (dk_at dksX4_removeEmpty_1 13 rfl rfl)
theorem dX4_removeEmpty_40 : decode cX4_removeEmpty 40 = .ok (.iload_n 1, 1) := dk_27 (dk_at dksX4_removeEmpty_1 16 rfl rfl)
theorem dX4_removeEmpty_41 : decode cX4_removeEmpty 41 = .ok (.aload_n 0, 1) := dk_42 (dk_at dksX4_removeEmpty_1 17 rfl rfl)
theorem dX4_removeEmpty_42 : decode cX4_removeEmpty 42 = .ok (.getfield 81, 3) := dk_180 0 81 (dk_at dksX4_removeEmpty_1 18 rfl rfl)
theorem dX4_removeEmpty_45 : decode cX4_removeEmpty 45 = .ok (.iload_n 2, 1) := dk_28 (dk_at dksX4_removeEmpty_1 21 rfl rfl)
theorem dX4_removeEmpty_46 : decode cX4_removeEmpty 46 = .ok (.iaload, 1) := dk_46 (dk_at dksX4_removeEmpty_1 22 rfl rfl)
theorem dX4_removeEmpty_47 : decode cX4_removeEmpty 47 = .ok (.iastore, 1) := dk_79 (dk_at dksX4_removeEmpty_1 23 rfl rfl)
theorem dX4_removeEmpty_48 : decode cX4_removeEmpty 48 = .ok (.aload_n 0, 1) := dk_42 (dk_at dksX4_removeEmpty_2 0 rfl rfl)
theorem dX4_removeEmpty_49 : decode cX4_removeEmpty 49 = .ok (.getfield 84, 3) := dk_180 0 84 (dk_at dksX4_removeEmpty_2 1 rfl rfl)
theorem dX4_removeEmpty_52 : decode cX4_removeEmpty 52 = .ok (.iload_n 1, 1) := dk_27 (dk_at dksX4_removeEmpty_2 4 rfl rfl)
theorem dX4_removeEmpty_53 : decode cX4_removeEmpty 53 = .ok (.aload_n 0, 1) := dk_42 (dk_at dksX4_removeEmpty_2 5 rfl rfl)
theorem dX4_removeEmpty_54 : decode cX4_removeEmpty 54 = .ok (.getfield 84, 3) := dk_180 0 84 (dk_at dksX4_removeEmpty_2 6 rfl rfl)
theorem dX4_removeEmpty_57 : decode cX4_removeEmpty 57 = .ok (.iload_n 2, 1) := dk_28 (dk_at dksX4_removeEmpty_2 9 rfl rfl)
theorem dX4_removeEmpty_58 : decode cX4_removeEmpty 58 = .ok (.iaload, 1) := dk_46 (dk_at dksX4_removeEmpty_2 10 rfl rfl)
theorem dX4_removeEmpty_59 : decode cX4_removeEmpty 59 = .ok (.iastore, 1) := dk_79 (dk_at dksX4_removeEmpty_2 11 rfl rfl)
theorem dX4_removeEmpty_60 : decode cX4_removeEmpty 60 = .ok (.iload_n 1, 1) := dk_27 (dk_at dksX4_removeEmpty_2 12 rfl rfl)
theorem dX4_removeEmpty_61 : decode cX4_removeEmpty 61 = .ok (.aload_n 0, 1) := dk_42 (dk_at dksX4_removeEmpty_2 13 rfl rfl)
theorem dX4_removeEmpty_62 : decode cX4_removeEmpty 62 = .ok (.getfield 84, 3) := dk_180 0 84 (dk_at dksX4_removeEmpty_2 14 rfl rfl)
theorem dX4_removeEmpty_65 : decode cX4_removeEmpty 65 = .ok (.iload_n 2, 1) := dk_28 (dk_at dksX4_removeEmpty_2 17 rfl rfl)
theorem dX4_removeEmpty_66 : decode cX4_removeEmpty 66 = .ok (.iaload, 1) := dk_46 (dk_at dksX4_removeEmpty_2 18 rfl rfl)
theorem dX4_removeEmpty_67 : decode cX4_removeEmpty 67 = .ok (.ifCond .le 7, 3) := dk_158 0 7 (dk_at dksX4_removeEmpty_2 19 rfl rfl)
theorem dX4_removeEmpty_70 : decode cX4_removeEmpty 70 = .ok (.iconst 1, 1) := dk_4 (dk_at dksX4_removeEmpty_2 22 rfl rfl)
theorem dX4_removeEmpty_71 : decode cX4_removeEmpty 71 = .ok (.goto 4, 3) := dk_167 0 4 (dk_at dksX4_removeEmpty_3 0 rfl rfl)
theorem dX4_removeEmpty_74 : decode cX4_removeEmpty 74 = .ok (.iconst 0, 1) := dk_3 (dk_at dksX4_removeEmpty_3 3 rfl rfl)
theorem dX4_removeEmpty_75 : decode cX4_removeEmpty 75 = .ok (.iadd, 1) := dk_96 (dk_at dksX4_removeEmpty_3 4 rfl rfl)
theorem dX4_removeEmpty_76 : decode cX4_removeEmpty 76 = .ok (.istore_n 1, 1) := dk_60 (dk_at dksX4_removeEmpty_3 5 rfl rfl)
theorem dX4_removeEmpty_77 : decode cX4_removeEmpty 77 = .ok (.iinc 2 1, 3) := dk_132 2 1 (dk_at dksX4_removeEmpty_3 6 rfl rfl)
theorem dX4_removeEmpty_80 : decode cX4_removeEmpty 80 = .ok (.goto (-76), 3) := dk_167 255 180 (dk_at dksX4_removeEmpty_3 9 rfl rfl)
theorem dX4_removeEmpty_83 : decode cX4_removeEmpty 83 = .ok (.aload_n 0, 1) := dk_42 (dk_at dksX4_removeEmpty_3 12 rfl rfl)
theorem dX4_removeEmpty_84 : decode cX4_removeEmpty 84 = .ok (.getfield 285, 3) := dk_180 1 29 (dk_at dksX4_removeEmpty_3 13 rfl rfl)
theorem dX4_removeEmpty_87 : decode cX4_removeEmpty 87 = .ok (.iload_n 1, 1) := dk_27 (dk_at dksX4_removeEmpty_3 16 rfl rfl)
theorem dX4_removeEmpty_88 : decode cX4_removeEmpty 88 = .ok (.isub, 1) := dk_100 (dk_at dksX4_removeEmpty_3 17 rfl rfl)
theorem dX4_removeEmpty_89 : decode cX4_removeEmpty 89 = .ok (.istore_n 2, 1) := dk_61 (dk_at dksX4_removeEmpty_3 18 rfl rfl)
theorem dX4_removeEmpty_90 : decode cX4_removeEmpty 90 = .ok (.aload_n 0, 1) := dk_42 (dk_at dksX4_removeEmpty_3 19 rfl rfl)
theorem dX4_removeEmpty_91 : decode cX4_removeEmpty 91 = .ok (.iload_n 1, 1) := dk_27 (dk_at dksX4_removeEmpty_3 20 rfl rfl)
theorem dX4_removeEmpty_92 : decode cX4_removeEmpty 92 = .ok (.putfield 285, 3) := dk_181 1 29 (dk_at dksX4_removeEmpty_3 21 rfl rfl)
theorem dX4_removeEmpty_95 : decode cX4_removeEmpty 95 = .ok (.aload_n 0, 1) := dk_42 (dk_at dksX4_removeEmpty_4 0 rfl rfl)
theorem dX4_removeEmpty_96 : decode cX4_removeEmpty 96 = .ok (.iload_n 2, 1) := dk_28 (dk_at dksX4_removeEmpty_4 1 rfl rfl)
theorem dX4_removeEmpty_97 : decode cX4_removeEmpty 97 = .ok (.invokevirtual 217, 3) := dk_182 0 217 (dk_at dksX4_removeEmpty_4 2 rfl rfl)
theorem dX4_removeEmpty_100 : decode cX4_removeEmpty 100 = .ok (.ireturn, 1) := dk_172 (dk_at dksX4_removeEmpty_4 5 rfl rfl)
abbrev cX4_multiplicity : ByteArray := prog_6_method_83_code
def yX4_multiplicity : MethodName := ⟨RX4, "multiplicity", "(I)I"⟩
def dkwX4_multiplicity_7 : List UInt8 := [182, 1, 11, 158, 0, 7, 4, 167, 0, 4, 3, 54, 6, 167, 255, 151, 42, 21, 5, 182, 0, 217, 172]
abbrev dktX4_multiplicity_7 : List UInt8 := dkwX4_multiplicity_7 ++ []
def dkwX4_multiplicity_6 : List UInt8 := [162, 255, 186, 42, 42, 180, 0, 63, 182, 0, 247, 42, 42, 180, 0, 45, 28, 133, 29, 133, 21, 4]
abbrev dktX4_multiplicity_6 : List UInt8 := dkwX4_multiplicity_6 ++ dktX4_multiplicity_7
def dkwX4_multiplicity_5 : List UInt8 := [180, 0, 63, 28, 133, 21, 4, 182, 1, 7, 154, 0, 7, 4, 167, 0, 4, 3, 54, 6, 28, 29]
abbrev dktX4_multiplicity_5 : List UInt8 := dkwX4_multiplicity_5 ++ dktX4_multiplicity_6
def dkwX4_multiplicity_4 : List UInt8 := [184, 0, 186, 42, 180, 0, 63, 184, 0, 166, 4, 162, 0, 6, 167, 0, 70, 28, 29, 160, 0, 25, 42, 42]
abbrev dktX4_multiplicity_4 : List UInt8 := dkwX4_multiplicity_4 ++ dktX4_multiplicity_5
def dkwX4_multiplicity_3 : List UInt8 := [153, 0, 106, 132, 5, 1, 42, 42, 180, 0, 63, 182, 0, 247, 42, 180, 0, 42, 42, 180, 0, 63]
abbrev dktX4_multiplicity_3 : List UInt8 := dkwX4_multiplicity_3 ++ dktX4_multiplicity_4
def dkwX4_multiplicity_2 : List UInt8 := [27, 46, 54, 4, 3, 54, 5, 42, 180, 0, 69, 42, 180, 0, 63, 184, 0, 236, 4, 54, 6, 21, 6]
abbrev dktX4_multiplicity_2 : List UInt8 := dkwX4_multiplicity_2 ++ dktX4_multiplicity_3
def dkwX4_multiplicity_1 : List UInt8 := [42, 5, 182, 0, 212, 172, 42, 180, 0, 78, 27, 46, 61, 42, 180, 0, 81, 27, 46, 62, 42, 180, 0, 75]
abbrev dktX4_multiplicity_1 : List UInt8 := dkwX4_multiplicity_1 ++ dktX4_multiplicity_2
def dkwX4_multiplicity_0 : List UInt8 := [42, 27, 182, 1, 40, 154, 0, 9, 42, 4, 182, 0, 212, 172, 42, 180, 0, 84, 27, 46, 4, 159, 0, 9]
abbrev dktX4_multiplicity_0 : List UInt8 := dkwX4_multiplicity_0 ++ dktX4_multiplicity_1
theorem dksX4_multiplicity_0 : cX4_multiplicity.data.toList.drop 0 = dktX4_multiplicity_0 := by decide +kernel
theorem dksX4_multiplicity_1 : cX4_multiplicity.data.toList.drop 24 = dktX4_multiplicity_1 := dk_seg dksX4_multiplicity_0 24 rfl rfl
theorem dksX4_multiplicity_2 : cX4_multiplicity.data.toList.drop 48 = dktX4_multiplicity_2 := dk_seg dksX4_multiplicity_1 24 rfl rfl
theorem dksX4_multiplicity_3 : cX4_multiplicity.data.toList.drop 71 = dktX4_multiplicity_3 := dk_seg dksX4_multiplicity_2 23 rfl rfl
theorem dksX4_multiplicity_4 : cX4_multiplicity.data.toList.drop 93 = dktX4_multiplicity_4 := dk_seg dksX4_multiplicity_3 22 rfl rfl
theorem dksX4_multiplicity_5 : cX4_multiplicity.data.toList.drop 117 = dktX4_multiplicity_5 := dk_seg dksX4_multiplicity_4 24 rfl rfl
theorem dksX4_multiplicity_6 : cX4_multiplicity.data.toList.drop 139 = dktX4_multiplicity_6 := dk_seg dksX4_multiplicity_5 22 rfl rfl
theorem dksX4_multiplicity_7 : cX4_multiplicity.data.toList.drop 161 = dktX4_multiplicity_7 := dk_seg dksX4_multiplicity_6 22 rfl rfl
theorem dX4_multiplicity_0 : decode cX4_multiplicity 0 = .ok (.aload_n 0, 1) := dk_42 (dk_at dksX4_multiplicity_0 0 rfl rfl)
theorem dX4_multiplicity_1 : decode cX4_multiplicity 1 = .ok (.iload_n 1, 1) := dk_27 (dk_at dksX4_multiplicity_0 1 rfl rfl)
theorem dX4_multiplicity_2 : decode cX4_multiplicity 2 = .ok (.invokevirtual 296, 3) := dk_182 1 40 (dk_at dksX4_multiplicity_0 2 rfl rfl)
theorem dX4_multiplicity_5 : decode cX4_multiplicity 5 = .ok (.ifCond .ne 9, 3) := dk_154 0 9 (dk_at dksX4_multiplicity_0 5 rfl rfl)
theorem dX4_multiplicity_8 : decode cX4_multiplicity 8 = .ok (.aload_n 0, 1) := dk_42 (dk_at dksX4_multiplicity_0 8 rfl rfl)
theorem dX4_multiplicity_9 : decode cX4_multiplicity 9 = .ok (.iconst 1, 1) := dk_4 (dk_at dksX4_multiplicity_0 9 rfl rfl)
theorem dX4_multiplicity_10 : decode cX4_multiplicity 10 = .ok (.invokevirtual 212, 3) := dk_182 0 212 (dk_at dksX4_multiplicity_0 10 rfl rfl)
theorem dX4_multiplicity_13 : decode cX4_multiplicity 13 = .ok (.ireturn, 1) := dk_172 (dk_at dksX4_multiplicity_0 13 rfl rfl)
theorem dX4_multiplicity_14 : decode cX4_multiplicity 14 = .ok (.aload_n 0, 1) := dk_42 (dk_at dksX4_multiplicity_0 14 rfl rfl)
theorem dX4_multiplicity_15 : decode cX4_multiplicity 15 = .ok (.getfield 84, 3) := dk_180 0 84 (dk_at dksX4_multiplicity_0 15 rfl rfl)
theorem dX4_multiplicity_18 : decode cX4_multiplicity 18 = .ok (.iload_n 1, 1) := dk_27 (dk_at dksX4_multiplicity_0 18 rfl rfl)
theorem dX4_multiplicity_19 : decode cX4_multiplicity 19 = .ok (.iaload, 1) := dk_46 (dk_at dksX4_multiplicity_0 19 rfl rfl)
theorem dX4_multiplicity_20 : decode cX4_multiplicity 20 = .ok (.iconst 1, 1) := dk_4 (dk_at dksX4_multiplicity_0 20 rfl rfl)
theorem dX4_multiplicity_21 : decode cX4_multiplicity 21 = .ok (.if_icmp .eq 9, 3) := dk_159 0 9 (dk_at dksX4_multiplicity_0 21 rfl rfl)
theorem dX4_multiplicity_24 : decode cX4_multiplicity 24 = .ok (.aload_n 0, 1) := dk_42 (dk_at dksX4_multiplicity_1 0 rfl rfl)
theorem dX4_multiplicity_25 : decode cX4_multiplicity 25 = .ok (.iconst 2, 1) := dk_5 (dk_at dksX4_multiplicity_1 1 rfl rfl)
theorem dX4_multiplicity_26 : decode cX4_multiplicity 26 = .ok (.invokevirtual 212, 3) := dk_182 0 212 (dk_at dksX4_multiplicity_1 2 rfl rfl)
theorem dX4_multiplicity_29 : decode cX4_multiplicity 29 = .ok (.ireturn, 1) := dk_172 (dk_at dksX4_multiplicity_1 5 rfl rfl)
theorem dX4_multiplicity_30 : decode cX4_multiplicity 30 = .ok (.aload_n 0, 1) := dk_42 (dk_at dksX4_multiplicity_1 6 rfl rfl)
theorem dX4_multiplicity_31 : decode cX4_multiplicity 31 = .ok (.getfield 78, 3) := dk_180 0 78 (dk_at dksX4_multiplicity_1 7 rfl rfl)
theorem dX4_multiplicity_34 : decode cX4_multiplicity 34 = .ok (.iload_n 1, 1) := dk_27 (dk_at dksX4_multiplicity_1 10 rfl rfl)
theorem dX4_multiplicity_35 : decode cX4_multiplicity 35 = .ok (.iaload, 1) := dk_46 (dk_at dksX4_multiplicity_1 11 rfl rfl)
theorem dX4_multiplicity_36 : decode cX4_multiplicity 36 = .ok (.istore_n 2, 1) := dk_61 (dk_at dksX4_multiplicity_1 12 rfl rfl)
theorem dX4_multiplicity_37 : decode cX4_multiplicity 37 = .ok (.aload_n 0, 1) := dk_42 (dk_at dksX4_multiplicity_1 13 rfl rfl)
theorem dX4_multiplicity_38 : decode cX4_multiplicity 38 = .ok (.getfield 81, 3) := dk_180 0 81 (dk_at dksX4_multiplicity_1 14 rfl rfl)
theorem dX4_multiplicity_41 : decode cX4_multiplicity 41 = .ok (.iload_n 1, 1) := dk_27 (dk_at dksX4_multiplicity_1 17 rfl rfl)
theorem dX4_multiplicity_42 : decode cX4_multiplicity 42 = .ok (.iaload, 1) := dk_46 (dk_at dksX4_multiplicity_1 18 rfl rfl)
theorem dX4_multiplicity_43 : decode cX4_multiplicity 43 = .ok (.istore_n 3, 1) := dk_62 (dk_at dksX4_multiplicity_1 19 rfl rfl)
theorem dX4_multiplicity_44 : decode cX4_multiplicity 44 = .ok (.aload_n 0, 1) := dk_42 (dk_at dksX4_multiplicity_1 20 rfl rfl)
theorem dX4_multiplicity_45 : decode cX4_multiplicity 45 = .ok (.getfield 75, 3) := dk_180 0 75 (dk_at dksX4_multiplicity_1 21 rfl rfl)
theorem dX4_multiplicity_48 : decode cX4_multiplicity 48 = .ok (.iload_n 1, 1) := dk_27 (dk_at dksX4_multiplicity_2 0 rfl rfl)
theorem dX4_multiplicity_49 : decode cX4_multiplicity 49 = .ok (.iaload, 1) := dk_46 (dk_at dksX4_multiplicity_2 1 rfl rfl)
theorem dX4_multiplicity_50 : decode cX4_multiplicity 50 = .ok (.istore 4, 2) := dk_54 4 (dk_at dksX4_multiplicity_2 2 rfl rfl)
theorem dX4_multiplicity_52 : decode cX4_multiplicity 52 = .ok (.iconst 0, 1) := dk_3 (dk_at dksX4_multiplicity_2 4 rfl rfl)
theorem dX4_multiplicity_53 : decode cX4_multiplicity 53 = .ok (.istore 5, 2) := dk_54 5 (dk_at dksX4_multiplicity_2 5 rfl rfl)
theorem dX4_multiplicity_55 : decode cX4_multiplicity 55 = .ok (.aload_n 0, 1) := dk_42 (dk_at dksX4_multiplicity_2 7 rfl rfl)
theorem dX4_multiplicity_56 : decode cX4_multiplicity 56 = .ok (.getfield 69, 3) := dk_180 0 69 (dk_at dksX4_multiplicity_2 8 rfl rfl)
theorem dX4_multiplicity_59 : decode cX4_multiplicity 59 = .ok (.aload_n 0, 1) := dk_42 (dk_at dksX4_multiplicity_2 11 rfl rfl)
theorem dX4_multiplicity_60 : decode cX4_multiplicity 60 = .ok (.getfield 63, 3) := dk_180 0 63 (dk_at dksX4_multiplicity_2 12 rfl rfl)
theorem dX4_multiplicity_63 : decode cX4_multiplicity 63 = .ok (.invokestatic 236, 3) := dk_184 0 236 (dk_at dksX4_multiplicity_2 15 rfl rfl)
theorem dX4_multiplicity_66 : decode cX4_multiplicity 66 = .ok (.iconst 1, 1) := dk_4 (dk_at dksX4_multiplicity_2 18 rfl rfl)
theorem dX4_multiplicity_67 : decode cX4_multiplicity 67 = .ok (.istore 6, 2) := dk_54 6 (dk_at dksX4_multiplicity_2 19 rfl rfl)
theorem dX4_multiplicity_69 : decode cX4_multiplicity 69 = .ok (.iload 6, 2) := dk_21 6 (dk_at dksX4_multiplicity_2 21 rfl rfl)
theorem dX4_multiplicity_71 : decode cX4_multiplicity 71 = .ok (.ifCond .eq 106, 3) := dk_153 0 106 (dk_at dksX4_multiplicity_3 0 rfl rfl)
theorem dX4_multiplicity_74 : decode cX4_multiplicity 74 = .ok (.iinc 5 1, 3) := dk_132 5 1 (dk_at dksX4_multiplicity_3 3 rfl rfl)
theorem dX4_multiplicity_77 : decode cX4_multiplicity 77 = .ok (.aload_n 0, 1) := dk_42 (dk_at dksX4_multiplicity_3 6 rfl rfl)
theorem dX4_multiplicity_78 : decode cX4_multiplicity 78 = .ok (.aload_n 0, 1) := dk_42 (dk_at dksX4_multiplicity_3 7 rfl rfl)
theorem dX4_multiplicity_79 : decode cX4_multiplicity 79 = .ok (.getfield 63, 3) := dk_180 0 63 (dk_at dksX4_multiplicity_3 8 rfl rfl)
theorem dX4_multiplicity_82 : decode cX4_multiplicity 82 = .ok (.invokevirtual 247, 3) := dk_182 0 247 (dk_at dksX4_multiplicity_3 11 rfl rfl)
theorem dX4_multiplicity_85 : decode cX4_multiplicity 85 = .ok (.aload_n 0, 1) := dk_42 (dk_at dksX4_multiplicity_3 14 rfl rfl)
theorem dX4_multiplicity_86 : decode cX4_multiplicity 86 = .ok (.getfield 42, 3) := dk_180 0 42 (dk_at dksX4_multiplicity_3 15 rfl rfl)
theorem dX4_multiplicity_89 : decode cX4_multiplicity 89 = .ok (.aload_n 0, 1) := dk_42 (dk_at dksX4_multiplicity_3 18 rfl rfl)
theorem dX4_multiplicity_90 : decode cX4_multiplicity 90 = .ok (.getfield 63, 3) := dk_180 0 63 (dk_at dksX4_multiplicity_3 19 rfl rfl)
theorem dX4_multiplicity_93 : decode cX4_multiplicity 93 = .ok (.invokestatic 186, 3) := dk_184 0 186 (dk_at dksX4_multiplicity_4 0 rfl rfl)
theorem dX4_multiplicity_96 : decode cX4_multiplicity 96 = .ok (.aload_n 0, 1) := dk_42 (dk_at dksX4_multiplicity_4 3 rfl rfl)
theorem dX4_multiplicity_97 : decode cX4_multiplicity 97 = .ok (.getfield 63, 3) := dk_180 0 63 (dk_at dksX4_multiplicity_4 4 rfl rfl)
theorem dX4_multiplicity_100 : decode cX4_multiplicity 100 = .ok (.invokestatic 166, 3) := dk_184 0 166 (dk_at dksX4_multiplicity_4 7 rfl rfl)
theorem dX4_multiplicity_103 : decode cX4_multiplicity 103 = .ok (.iconst 1, 1) := dk_4 (dk_at dksX4_multiplicity_4 10 rfl rfl)
theorem dX4_multiplicity_104 : decode cX4_multiplicity 104 = .ok (.if_icmp .ge 6, 3) := dk_162 0 6 (dk_at dksX4_multiplicity_4 11 rfl rfl)
theorem dX4_multiplicity_107 : decode cX4_multiplicity 107 = .ok (.goto 70, 3) := dk_167 0 70 (dk_at dksX4_multiplicity_4 14 rfl rfl)
theorem dX4_multiplicity_110 : decode cX4_multiplicity 110 = .ok (.iload_n 2, 1) := dk_28 (dk_at dksX4_multiplicity_4 17 rfl rfl)
theorem dX4_multiplicity_111 : decode cX4_multiplicity 111 = .ok (.iload_n 3, 1) := dk_29 (dk_at dksX4_multiplicity_4 18 rfl rfl)
theorem dX4_multiplicity_112 : decode cX4_multiplicity 112 = .ok (.if_icmp .ne 25, 3) := dk_160 0 25 (dk_at dksX4_multiplicity_4 19 rfl rfl)
theorem dX4_multiplicity_115 : decode cX4_multiplicity 115 = .ok (.aload_n 0, 1) := dk_42 (dk_at dksX4_multiplicity_4 22 rfl rfl)
theorem dX4_multiplicity_116 : decode cX4_multiplicity 116 = .ok (.aload_n 0, 1) := dk_42 (dk_at dksX4_multiplicity_4 23 rfl rfl)
theorem dX4_multiplicity_117 : decode cX4_multiplicity 117 = .ok (.getfield 63, 3) := dk_180 0 63 (dk_at dksX4_multiplicity_5 0 rfl rfl)
theorem dX4_multiplicity_120 : decode cX4_multiplicity 120 = .ok (.iload_n 2, 1) := dk_28 (dk_at dksX4_multiplicity_5 3 rfl rfl)
theorem dX4_multiplicity_121 : decode cX4_multiplicity 121 = .ok (.i2l, 1) := dk_133 (dk_at dksX4_multiplicity_5 4 rfl rfl)
theorem dX4_multiplicity_122 : decode cX4_multiplicity 122 = .ok (.iload 4, 2) := dk_21 4 (dk_at dksX4_multiplicity_5 5 rfl rfl)
theorem dX4_multiplicity_124 : decode cX4_multiplicity 124 = .ok (.invokevirtual 263, 3) := dk_182 1 7 (dk_at dksX4_multiplicity_5 7 rfl rfl)
theorem dX4_multiplicity_127 : decode cX4_multiplicity 127 = .ok (.ifCond .ne 7, 3) := dk_154 0 7 (dk_at dksX4_multiplicity_5 10 rfl rfl)
theorem dX4_multiplicity_130 : decode cX4_multiplicity 130 = .ok (.iconst 1, 1) := dk_4 (dk_at dksX4_multiplicity_5 13 rfl rfl)
theorem dX4_multiplicity_131 : decode cX4_multiplicity 131 = .ok (.goto 4, 3) := dk_167 0 4 (dk_at dksX4_multiplicity_5 14 rfl rfl)
theorem dX4_multiplicity_134 : decode cX4_multiplicity 134 = .ok (.iconst 0, 1) := dk_3 (dk_at dksX4_multiplicity_5 17 rfl rfl)
theorem dX4_multiplicity_135 : decode cX4_multiplicity 135 = .ok (.istore 6, 2) := dk_54 6 (dk_at dksX4_multiplicity_5 18 rfl rfl)
theorem dX4_multiplicity_137 : decode cX4_multiplicity 137 = .ok (.iload_n 2, 1) := dk_28 (dk_at dksX4_multiplicity_5 20 rfl rfl)
theorem dX4_multiplicity_138 : decode cX4_multiplicity 138 = .ok (.iload_n 3, 1) := dk_29 (dk_at dksX4_multiplicity_5 21 rfl rfl)
theorem dX4_multiplicity_139 : decode cX4_multiplicity 139 = .ok (.if_icmp .ge (-70), 3) := dk_162 255 186 (dk_at dksX4_multiplicity_6 0 rfl rfl)
theorem dX4_multiplicity_142 : decode cX4_multiplicity 142 = .ok (.aload_n 0, 1) := dk_42 (dk_at dksX4_multiplicity_6 3 rfl rfl)
theorem dX4_multiplicity_143 : decode cX4_multiplicity 143 = .ok (.aload_n 0, 1) := dk_42 (dk_at dksX4_multiplicity_6 4 rfl rfl)
theorem dX4_multiplicity_144 : decode cX4_multiplicity 144 = .ok (.getfield 63, 3) := dk_180 0 63 (dk_at dksX4_multiplicity_6 5 rfl rfl)
theorem dX4_multiplicity_147 : decode cX4_multiplicity 147 = .ok (.invokevirtual 247, 3) := dk_182 0 247 (dk_at dksX4_multiplicity_6 8 rfl rfl)
theorem dX4_multiplicity_150 : decode cX4_multiplicity 150 = .ok (.aload_n 0, 1) := dk_42 (dk_at dksX4_multiplicity_6 11 rfl rfl)
theorem dX4_multiplicity_151 : decode cX4_multiplicity 151 = .ok (.aload_n 0, 1) := dk_42 (dk_at dksX4_multiplicity_6 12 rfl rfl)
theorem dX4_multiplicity_152 : decode cX4_multiplicity 152 = .ok (.getfield 45, 3) := dk_180 0 45 (dk_at dksX4_multiplicity_6 13 rfl rfl)
theorem dX4_multiplicity_155 : decode cX4_multiplicity 155 = .ok (.iload_n 2, 1) := dk_28 (dk_at dksX4_multiplicity_6 16 rfl rfl)
theorem dX4_multiplicity_156 : decode cX4_multiplicity 156 = .ok (.i2l, 1) := dk_133 (dk_at dksX4_multiplicity_6 17 rfl rfl)
theorem dX4_multiplicity_157 : decode cX4_multiplicity 157 = .ok (.iload_n 3, 1) := dk_29 (dk_at dksX4_multiplicity_6 18 rfl rfl)
theorem dX4_multiplicity_158 : decode cX4_multiplicity 158 = .ok (.i2l, 1) := dk_133 (dk_at dksX4_multiplicity_6 19 rfl rfl)
theorem dX4_multiplicity_159 : decode cX4_multiplicity 159 = .ok (.iload 4, 2) := dk_21 4 (dk_at dksX4_multiplicity_6 20 rfl rfl)
theorem dX4_multiplicity_161 : decode cX4_multiplicity 161 = .ok (.invokevirtual 267, 3) := dk_182 1 11 (dk_at dksX4_multiplicity_7 0 rfl rfl)
theorem dX4_multiplicity_164 : decode cX4_multiplicity 164 = .ok (.ifCond .le 7, 3) := dk_158 0 7 (dk_at dksX4_multiplicity_7 3 rfl rfl)
theorem dX4_multiplicity_167 : decode cX4_multiplicity 167 = .ok (.iconst 1, 1) := dk_4 (dk_at dksX4_multiplicity_7 6 rfl rfl)
theorem dX4_multiplicity_168 : decode cX4_multiplicity 168 = .ok (.goto 4, 3) := dk_167 0 4 (dk_at dksX4_multiplicity_7 7 rfl rfl)
theorem dX4_multiplicity_171 : decode cX4_multiplicity 171 = .ok (.iconst 0, 1) := dk_3 (dk_at dksX4_multiplicity_7 10 rfl rfl)
theorem dX4_multiplicity_172 : decode cX4_multiplicity 172 = .ok (.istore 6, 2) := dk_54 6 (dk_at dksX4_multiplicity_7 11 rfl rfl)
theorem dX4_multiplicity_174 : decode cX4_multiplicity 174 = .ok (.goto (-105), 3) := dk_167 255 151 (dk_at dksX4_multiplicity_7 13 rfl rfl)
theorem dX4_multiplicity_177 : decode cX4_multiplicity 177 = .ok (.aload_n 0, 1) := dk_42 (dk_at dksX4_multiplicity_7 16 rfl rfl)
theorem dX4_multiplicity_178 : decode cX4_multiplicity 178 = .ok (.iload 5, 2) := dk_21 5 (dk_at dksX4_multiplicity_7 17 rfl rfl)
theorem dX4_multiplicity_180 : decode cX4_multiplicity 180 = .ok (.invokevirtual 217, 3) := dk_182 0 217 (dk_at dksX4_multiplicity_7 19 rfl rfl)
theorem dX4_multiplicity_183 : decode cX4_multiplicity 183 = .ok (.ireturn, 1) := dk_172 (dk_at dksX4_multiplicity_7 22 rfl rfl)
abbrev cX4_isTrue : ByteArray := prog_6_method_84_code
def yX4_isTrue : MethodName := ⟨RX4, "isTrue", "(I)Z"⟩
def dkwX4_isTrue_1 : List UInt8 := [42, 4, 182, 0, 212, 4, 160, 0, 7, 4, 167, 0, 4, 3, 172]
abbrev dktX4_isTrue_1 : List UInt8 := dkwX4_isTrue_1 ++ []
def dkwX4_isTrue_0 : List UInt8 := [27, 184, 0, 228, 153, 0, 20, 42, 4, 182, 0, 217, 4, 160, 0, 7, 4, 167, 0, 21, 3, 167, 0, 17]
abbrev dktX4_isTrue_0 : List UInt8 := dkwX4_isTrue_0 ++ dktX4_isTrue_1
theorem dksX4_isTrue_0 : cX4_isTrue.data.toList.drop 0 = dktX4_isTrue_0 := by decide +kernel
theorem dksX4_isTrue_1 : cX4_isTrue.data.toList.drop 24 = dktX4_isTrue_1 := dk_seg dksX4_isTrue_0 24 rfl rfl
theorem dX4_isTrue_0 : decode cX4_isTrue 0 = .ok (.iload_n 1, 1) := dk_27 (dk_at dksX4_isTrue_0 0 rfl rfl)
theorem dX4_isTrue_1 : decode cX4_isTrue 1 = .ok (.invokestatic 228, 3) := dk_184 0 228 (dk_at dksX4_isTrue_0 1 rfl rfl)
theorem dX4_isTrue_4 : decode cX4_isTrue 4 = .ok (.ifCond .eq 20, 3) := dk_153 0 20 (dk_at dksX4_isTrue_0 4 rfl rfl)
theorem dX4_isTrue_7 : decode cX4_isTrue 7 = .ok (.aload_n 0, 1) := dk_42 (dk_at dksX4_isTrue_0 7 rfl rfl)
theorem dX4_isTrue_8 : decode cX4_isTrue 8 = .ok (.iconst 1, 1) := dk_4 (dk_at dksX4_isTrue_0 8 rfl rfl)
theorem dX4_isTrue_9 : decode cX4_isTrue 9 = .ok (.invokevirtual 217, 3) := dk_182 0 217 (dk_at dksX4_isTrue_0 9 rfl rfl)
theorem dX4_isTrue_12 : decode cX4_isTrue 12 = .ok (.iconst 1, 1) := dk_4 (dk_at dksX4_isTrue_0 12 rfl rfl)
theorem dX4_isTrue_13 : decode cX4_isTrue 13 = .ok (.if_icmp .ne 7, 3) := dk_160 0 7 (dk_at dksX4_isTrue_0 13 rfl rfl)
theorem dX4_isTrue_16 : decode cX4_isTrue 16 = .ok (.iconst 1, 1) := dk_4 (dk_at dksX4_isTrue_0 16 rfl rfl)
theorem dX4_isTrue_17 : decode cX4_isTrue 17 = .ok (.goto 21, 3) := dk_167 0 21 (dk_at dksX4_isTrue_0 17 rfl rfl)
theorem dX4_isTrue_20 : decode cX4_isTrue 20 = .ok (.iconst 0, 1) := dk_3 (dk_at dksX4_isTrue_0 20 rfl rfl)
theorem dX4_isTrue_21 : decode cX4_isTrue 21 = .ok (.goto 17, 3) := dk_167 0 17 (dk_at dksX4_isTrue_0 21 rfl rfl)
theorem dX4_isTrue_24 : decode cX4_isTrue 24 = .ok (.aload_n 0, 1) := dk_42 (dk_at dksX4_isTrue_1 0 rfl rfl)
theorem dX4_isTrue_25 : decode cX4_isTrue 25 = .ok (.iconst 1, 1) := dk_4 (dk_at dksX4_isTrue_1 1 rfl rfl)
theorem dX4_isTrue_26 : decode cX4_isTrue 26 = .ok (.invokevirtual 212, 3) := dk_182 0 212 (dk_at dksX4_isTrue_1 2 rfl rfl)
theorem dX4_isTrue_29 : decode cX4_isTrue 29 = .ok (.iconst 1, 1) := dk_4 (dk_at dksX4_isTrue_1 5 rfl rfl)
theorem dX4_isTrue_30 : decode cX4_isTrue 30 = .ok (.if_icmp .ne 7, 3) := dk_160 0 7 (dk_at dksX4_isTrue_1 6 rfl rfl)
theorem dX4_isTrue_33 : decode cX4_isTrue 33 = .ok (.iconst 1, 1) := dk_4 (dk_at dksX4_isTrue_1 9 rfl rfl)
theorem dX4_isTrue_34 : decode cX4_isTrue 34 = .ok (.goto 4, 3) := dk_167 0 4 (dk_at dksX4_isTrue_1 10 rfl rfl)
theorem dX4_isTrue_37 : decode cX4_isTrue 37 = .ok (.iconst 0, 1) := dk_3 (dk_at dksX4_isTrue_1 13 rfl rfl)
theorem dX4_isTrue_38 : decode cX4_isTrue 38 = .ok (.ireturn, 1) := dk_172 (dk_at dksX4_isTrue_1 14 rfl rfl)
abbrev cX4_checksum : ByteArray := prog_6_method_85_code
def yX4_checksum : MethodName := ⟨RX4, "checksum", "()J"⟩
def dkwX4_checksum_6 : List UInt8 := [97, 64, 132, 3, 1, 167, 255, 195, 31, 173]
abbrev dktX4_checksum_6 : List UInt8 := dkwX4_checksum_6 ++ []
def dkwX4_checksum_5 : List UInt8 := [180, 0, 78, 29, 46, 133, 97, 105, 42, 180, 0, 81, 29, 46, 133, 97, 105, 42, 180, 0, 84, 29, 46, 133]
abbrev dktX4_checksum_5 : List UInt8 := dkwX4_checksum_5 ++ dktX4_checksum_6
def dkwX4_checksum_4 : List UInt8 := [20, 1, 52, 20, 1, 52, 20, 1, 52, 20, 1, 52, 31, 105, 42, 180, 0, 75, 29, 46, 133, 97, 105, 42]
abbrev dktX4_checksum_4 : List UInt8 := dkwX4_checksum_4 ++ dktX4_checksum_5
def dkwX4_checksum_3 : List UInt8 := [20, 1, 52, 31, 105, 42, 180, 1, 29, 133, 97, 64, 3, 62, 29, 42, 180, 1, 29, 162, 0, 59]
abbrev dktX4_checksum_3 : List UInt8 := dkwX4_checksum_3 ++ dktX4_checksum_4
def dkwX4_checksum_2 : List UInt8 := [20, 1, 52, 31, 105, 21, 7, 133, 97, 64, 132, 6, 1, 167, 255, 229, 132, 3, 1, 167, 255, 202]
abbrev dktX4_checksum_2 : List UInt8 := dkwX4_checksum_2 ++ dktX4_checksum_3
def dkwX4_checksum_1 : List UInt8 := [25, 4, 190, 54, 5, 3, 54, 6, 21, 6, 21, 5, 162, 0, 26, 25, 4, 21, 6, 46, 54, 7]
abbrev dktX4_checksum_1 : List UInt8 := dkwX4_checksum_1 ++ dktX4_checksum_2
def dkwX4_checksum_0 : List UInt8 := [42, 3, 181, 0, 87, 20, 1, 50, 64, 3, 62, 29, 8, 162, 0, 55, 42, 180, 0, 11, 29, 50, 58, 4]
abbrev dktX4_checksum_0 : List UInt8 := dkwX4_checksum_0 ++ dktX4_checksum_1
theorem dksX4_checksum_0 : cX4_checksum.data.toList.drop 0 = dktX4_checksum_0 := by decide +kernel
theorem dksX4_checksum_1 : cX4_checksum.data.toList.drop 24 = dktX4_checksum_1 := dk_seg dksX4_checksum_0 24 rfl rfl
theorem dksX4_checksum_2 : cX4_checksum.data.toList.drop 46 = dktX4_checksum_2 := dk_seg dksX4_checksum_1 22 rfl rfl
theorem dksX4_checksum_3 : cX4_checksum.data.toList.drop 68 = dktX4_checksum_3 := dk_seg dksX4_checksum_2 22 rfl rfl
theorem dksX4_checksum_4 : cX4_checksum.data.toList.drop 90 = dktX4_checksum_4 := dk_seg dksX4_checksum_3 22 rfl rfl
theorem dksX4_checksum_5 : cX4_checksum.data.toList.drop 114 = dktX4_checksum_5 := dk_seg dksX4_checksum_4 24 rfl rfl
theorem dksX4_checksum_6 : cX4_checksum.data.toList.drop 138 = dktX4_checksum_6 := dk_seg dksX4_checksum_5 24 rfl rfl
theorem dX4_checksum_0 : decode cX4_checksum 0 = .ok (.aload_n 0, 1) := dk_42 (dk_at dksX4_checksum_0 0 rfl rfl)
theorem dX4_checksum_1 : decode cX4_checksum 1 = .ok (.iconst 0, 1) := dk_3 (dk_at dksX4_checksum_0 1 rfl rfl)
theorem dX4_checksum_2 : decode cX4_checksum 2 = .ok (.putfield 87, 3) := dk_181 0 87 (dk_at dksX4_checksum_0 2 rfl rfl)
theorem dX4_checksum_5 : decode cX4_checksum 5 = .ok (.ldc2_w 306, 3) := dk_20 1 50 (dk_at dksX4_checksum_0 5 rfl rfl)
theorem dX4_checksum_8 : decode cX4_checksum 8 = .ok (.lstore_n 1, 1) := dk_64 (dk_at dksX4_checksum_0 8 rfl rfl)
theorem dX4_checksum_9 : decode cX4_checksum 9 = .ok (.iconst 0, 1) := dk_3 (dk_at dksX4_checksum_0 9 rfl rfl)
theorem dX4_checksum_10 : decode cX4_checksum 10 = .ok (.istore_n 3, 1) := dk_62 (dk_at dksX4_checksum_0 10 rfl rfl)
theorem dX4_checksum_11 : decode cX4_checksum 11 = .ok (.iload_n 3, 1) := dk_29 (dk_at dksX4_checksum_0 11 rfl rfl)
theorem dX4_checksum_12 : decode cX4_checksum 12 = .ok (.iconst 5, 1) := dk_8 (dk_at dksX4_checksum_0 12 rfl rfl)
theorem dX4_checksum_13 : decode cX4_checksum 13 = .ok (.if_icmp .ge 55, 3) := dk_162 0 55 (dk_at dksX4_checksum_0 13 rfl rfl)
theorem dX4_checksum_16 : decode cX4_checksum 16 = .ok (.aload_n 0, 1) := dk_42 (dk_at dksX4_checksum_0 16 rfl rfl)
theorem dX4_checksum_17 : decode cX4_checksum 17 = .ok (.getfield 11, 3) := dk_180 0 11 (dk_at dksX4_checksum_0 17 rfl rfl)
theorem dX4_checksum_20 : decode cX4_checksum 20 = .ok (.iload_n 3, 1) := dk_29 (dk_at dksX4_checksum_0 20 rfl rfl)
theorem dX4_checksum_21 : decode cX4_checksum 21 = .ok (.aaload, 1) := dk_50 (dk_at dksX4_checksum_0 21 rfl rfl)
theorem dX4_checksum_22 : decode cX4_checksum 22 = .ok (.astore 4, 2) := dk_58 4 (dk_at dksX4_checksum_0 22 rfl rfl)
theorem dX4_checksum_24 : decode cX4_checksum 24 = .ok (.aload 4, 2) := dk_25 4 (dk_at dksX4_checksum_1 0 rfl rfl)
theorem dX4_checksum_26 : decode cX4_checksum 26 = .ok (.arraylength, 1) := dk_190 (dk_at dksX4_checksum_1 2 rfl rfl)
theorem dX4_checksum_27 : decode cX4_checksum 27 = .ok (.istore 5, 2) := dk_54 5 (dk_at dksX4_checksum_1 3 rfl rfl)
theorem dX4_checksum_29 : decode cX4_checksum 29 = .ok (.iconst 0, 1) := dk_3 (dk_at dksX4_checksum_1 5 rfl rfl)
theorem dX4_checksum_30 : decode cX4_checksum 30 = .ok (.istore 6, 2) := dk_54 6 (dk_at dksX4_checksum_1 6 rfl rfl)
theorem dX4_checksum_32 : decode cX4_checksum 32 = .ok (.iload 6, 2) := dk_21 6 (dk_at dksX4_checksum_1 8 rfl rfl)
theorem dX4_checksum_34 : decode cX4_checksum 34 = .ok (.iload 5, 2) := dk_21 5 (dk_at dksX4_checksum_1 10 rfl rfl)
theorem dX4_checksum_36 : decode cX4_checksum 36 = .ok (.if_icmp .ge 26, 3) := dk_162 0 26 (dk_at dksX4_checksum_1 12 rfl rfl)
theorem dX4_checksum_39 : decode cX4_checksum 39 = .ok (.aload 4, 2) := dk_25 4 (dk_at dksX4_checksum_1 15 rfl rfl)
theorem dX4_checksum_41 : decode cX4_checksum 41 = .ok (.iload 6, 2) := dk_21 6 (dk_at dksX4_checksum_1 17 rfl rfl)
theorem dX4_checksum_43 : decode cX4_checksum 43 = .ok (.iaload, 1) := dk_46 (dk_at dksX4_checksum_1 19 rfl rfl)
theorem dX4_checksum_44 : decode cX4_checksum 44 = .ok (.istore 7, 2) := dk_54 7 (dk_at dksX4_checksum_1 20 rfl rfl)
theorem dX4_checksum_46 : decode cX4_checksum 46 = .ok (.ldc2_w 308, 3) := dk_20 1 52 (dk_at dksX4_checksum_2 0 rfl rfl)
theorem dX4_checksum_49 : decode cX4_checksum 49 = .ok (.lload_n 1, 1) := dk_31 (dk_at dksX4_checksum_2 3 rfl rfl)
theorem dX4_checksum_50 : decode cX4_checksum 50 = .ok (.lmul, 1) := dk_105 (dk_at dksX4_checksum_2 4 rfl rfl)
theorem dX4_checksum_51 : decode cX4_checksum 51 = .ok (.iload 7, 2) := dk_21 7 (dk_at dksX4_checksum_2 5 rfl rfl)
theorem dX4_checksum_53 : decode cX4_checksum 53 = .ok (.i2l, 1) := dk_133 (dk_at dksX4_checksum_2 7 rfl rfl)
theorem dX4_checksum_54 : decode cX4_checksum 54 = .ok (.ladd, 1) := dk_97 (dk_at dksX4_checksum_2 8 rfl rfl)
theorem dX4_checksum_55 : decode cX4_checksum 55 = .ok (.lstore_n 1, 1) := dk_64 (dk_at dksX4_checksum_2 9 rfl rfl)
theorem dX4_checksum_56 : decode cX4_checksum 56 = .ok (.iinc 6 1, 3) := dk_132 6 1 (dk_at dksX4_checksum_2 10 rfl rfl)
theorem dX4_checksum_59 : decode cX4_checksum 59 = .ok (.goto (-27), 3) := dk_167 255 229 (dk_at dksX4_checksum_2 13 rfl rfl)
theorem dX4_checksum_62 : decode cX4_checksum 62 = .ok (.iinc 3 1, 3) := dk_132 3 1 (dk_at dksX4_checksum_2 16 rfl rfl)
theorem dX4_checksum_65 : decode cX4_checksum 65 = .ok (.goto (-54), 3) := dk_167 255 202 (dk_at dksX4_checksum_2 19 rfl rfl)
theorem dX4_checksum_68 : decode cX4_checksum 68 = .ok (.ldc2_w 308, 3) := dk_20 1 52 (dk_at dksX4_checksum_3 0 rfl rfl)
theorem dX4_checksum_71 : decode cX4_checksum 71 = .ok (.lload_n 1, 1) := dk_31 (dk_at dksX4_checksum_3 3 rfl rfl)
theorem dX4_checksum_72 : decode cX4_checksum 72 = .ok (.lmul, 1) := dk_105 (dk_at dksX4_checksum_3 4 rfl rfl)
theorem dX4_checksum_73 : decode cX4_checksum 73 = .ok (.aload_n 0, 1) := dk_42 (dk_at dksX4_checksum_3 5 rfl rfl)
theorem dX4_checksum_74 : decode cX4_checksum 74 = .ok (.getfield 285, 3) := dk_180 1 29 (dk_at dksX4_checksum_3 6 rfl rfl)
theorem dX4_checksum_77 : decode cX4_checksum 77 = .ok (.i2l, 1) := dk_133 (dk_at dksX4_checksum_3 9 rfl rfl)
theorem dX4_checksum_78 : decode cX4_checksum 78 = .ok (.ladd, 1) := dk_97 (dk_at dksX4_checksum_3 10 rfl rfl)
theorem dX4_checksum_79 : decode cX4_checksum 79 = .ok (.lstore_n 1, 1) := dk_64 (dk_at dksX4_checksum_3 11 rfl rfl)
theorem dX4_checksum_80 : decode cX4_checksum 80 = .ok (.iconst 0, 1) := dk_3 (dk_at dksX4_checksum_3 12 rfl rfl)
theorem dX4_checksum_81 : decode cX4_checksum 81 = .ok (.istore_n 3, 1) := dk_62 (dk_at dksX4_checksum_3 13 rfl rfl)
theorem dX4_checksum_82 : decode cX4_checksum 82 = .ok (.iload_n 3, 1) := dk_29 (dk_at dksX4_checksum_3 14 rfl rfl)
theorem dX4_checksum_83 : decode cX4_checksum 83 = .ok (.aload_n 0, 1) := dk_42 (dk_at dksX4_checksum_3 15 rfl rfl)
theorem dX4_checksum_84 : decode cX4_checksum 84 = .ok (.getfield 285, 3) := dk_180 1 29 (dk_at dksX4_checksum_3 16 rfl rfl)
theorem dX4_checksum_87 : decode cX4_checksum 87 = .ok (.if_icmp .ge 59, 3) := dk_162 0 59 (dk_at dksX4_checksum_3 19 rfl rfl)
theorem dX4_checksum_90 : decode cX4_checksum 90 = .ok (.ldc2_w 308, 3) := dk_20 1 52 (dk_at dksX4_checksum_4 0 rfl rfl)
theorem dX4_checksum_93 : decode cX4_checksum 93 = .ok (.ldc2_w 308, 3) := dk_20 1 52 (dk_at dksX4_checksum_4 3 rfl rfl)
theorem dX4_checksum_96 : decode cX4_checksum 96 = .ok (.ldc2_w 308, 3) := dk_20 1 52 (dk_at dksX4_checksum_4 6 rfl rfl)
theorem dX4_checksum_99 : decode cX4_checksum 99 = .ok (.ldc2_w 308, 3) := dk_20 1 52 (dk_at dksX4_checksum_4 9 rfl rfl)
theorem dX4_checksum_102 : decode cX4_checksum 102 = .ok (.lload_n 1, 1) := dk_31 (dk_at dksX4_checksum_4 12 rfl rfl)
theorem dX4_checksum_103 : decode cX4_checksum 103 = .ok (.lmul, 1) := dk_105 (dk_at dksX4_checksum_4 13 rfl rfl)
theorem dX4_checksum_104 : decode cX4_checksum 104 = .ok (.aload_n 0, 1) := dk_42 (dk_at dksX4_checksum_4 14 rfl rfl)
theorem dX4_checksum_105 : decode cX4_checksum 105 = .ok (.getfield 75, 3) := dk_180 0 75 (dk_at dksX4_checksum_4 15 rfl rfl)
theorem dX4_checksum_108 : decode cX4_checksum 108 = .ok (.iload_n 3, 1) := dk_29 (dk_at dksX4_checksum_4 18 rfl rfl)
theorem dX4_checksum_109 : decode cX4_checksum 109 = .ok (.iaload, 1) := dk_46 (dk_at dksX4_checksum_4 19 rfl rfl)
theorem dX4_checksum_110 : decode cX4_checksum 110 = .ok (.i2l, 1) := dk_133 (dk_at dksX4_checksum_4 20 rfl rfl)
theorem dX4_checksum_111 : decode cX4_checksum 111 = .ok (.ladd, 1) := dk_97 (dk_at dksX4_checksum_4 21 rfl rfl)
theorem dX4_checksum_112 : decode cX4_checksum 112 = .ok (.lmul, 1) := dk_105 (dk_at dksX4_checksum_4 22 rfl rfl)
theorem dX4_checksum_113 : decode cX4_checksum 113 = .ok (.aload_n 0, 1) := dk_42 (dk_at dksX4_checksum_4 23 rfl rfl)
theorem dX4_checksum_114 : decode cX4_checksum 114 = .ok (.getfield 78, 3) := dk_180 0 78 (dk_at dksX4_checksum_5 0 rfl rfl)
theorem dX4_checksum_117 : decode cX4_checksum 117 = .ok (.iload_n 3, 1) := dk_29 (dk_at dksX4_checksum_5 3 rfl rfl)
theorem dX4_checksum_118 : decode cX4_checksum 118 = .ok (.iaload, 1) := dk_46 (dk_at dksX4_checksum_5 4 rfl rfl)
theorem dX4_checksum_119 : decode cX4_checksum 119 = .ok (.i2l, 1) := dk_133 (dk_at dksX4_checksum_5 5 rfl rfl)
theorem dX4_checksum_120 : decode cX4_checksum 120 = .ok (.ladd, 1) := dk_97 (dk_at dksX4_checksum_5 6 rfl rfl)
theorem dX4_checksum_121 : decode cX4_checksum 121 = .ok (.lmul, 1) := dk_105 (dk_at dksX4_checksum_5 7 rfl rfl)
theorem dX4_checksum_122 : decode cX4_checksum 122 = .ok (.aload_n 0, 1) := dk_42 (dk_at dksX4_checksum_5 8 rfl rfl)
theorem dX4_checksum_123 : decode cX4_checksum 123 = .ok (.getfield 81, 3) := dk_180 0 81 (dk_at dksX4_checksum_5 9 rfl rfl)
theorem dX4_checksum_126 : decode cX4_checksum 126 = .ok (.iload_n 3, 1) := dk_29 (dk_at dksX4_checksum_5 12 rfl rfl)
theorem dX4_checksum_127 : decode cX4_checksum 127 = .ok (.iaload, 1) := dk_46 (dk_at dksX4_checksum_5 13 rfl rfl)
theorem dX4_checksum_128 : decode cX4_checksum 128 = .ok (.i2l, 1) := dk_133 (dk_at dksX4_checksum_5 14 rfl rfl)
theorem dX4_checksum_129 : decode cX4_checksum 129 = .ok (.ladd, 1) := dk_97 (dk_at dksX4_checksum_5 15 rfl rfl)
theorem dX4_checksum_130 : decode cX4_checksum 130 = .ok (.lmul, 1) := dk_105 (dk_at dksX4_checksum_5 16 rfl rfl)
theorem dX4_checksum_131 : decode cX4_checksum 131 = .ok (.aload_n 0, 1) := dk_42 (dk_at dksX4_checksum_5 17 rfl rfl)
theorem dX4_checksum_132 : decode cX4_checksum 132 = .ok (.getfield 84, 3) := dk_180 0 84 (dk_at dksX4_checksum_5 18 rfl rfl)
theorem dX4_checksum_135 : decode cX4_checksum 135 = .ok (.iload_n 3, 1) := dk_29 (dk_at dksX4_checksum_5 21 rfl rfl)
theorem dX4_checksum_136 : decode cX4_checksum 136 = .ok (.iaload, 1) := dk_46 (dk_at dksX4_checksum_5 22 rfl rfl)
theorem dX4_checksum_137 : decode cX4_checksum 137 = .ok (.i2l, 1) := dk_133 (dk_at dksX4_checksum_5 23 rfl rfl)
theorem dX4_checksum_138 : decode cX4_checksum 138 = .ok (.ladd, 1) := dk_97 (dk_at dksX4_checksum_6 0 rfl rfl)
theorem dX4_checksum_139 : decode cX4_checksum 139 = .ok (.lstore_n 1, 1) := dk_64 (dk_at dksX4_checksum_6 1 rfl rfl)
theorem dX4_checksum_140 : decode cX4_checksum 140 = .ok (.iinc 3 1, 3) := dk_132 3 1 (dk_at dksX4_checksum_6 2 rfl rfl)
theorem dX4_checksum_143 : decode cX4_checksum 143 = .ok (.goto (-61), 3) := dk_167 255 195 (dk_at dksX4_checksum_6 5 rfl rfl)
theorem dX4_checksum_146 : decode cX4_checksum 146 = .ok (.lload_n 1, 1) := dk_31 (dk_at dksX4_checksum_6 8 rfl rfl)
theorem dX4_checksum_147 : decode cX4_checksum 147 = .ok (.lreturn, 1) := dk_173 (dk_at dksX4_checksum_6 9 rfl rfl)
theorem q82 : (Jvm.Cond.initialized "SturmRootsModel") ∈ lw_all := lw_g (lw_at lw_m1 13 rfl) rfl
theorem q244 : (Jvm.Cond.selects "SturmRootsModel" ({ cls := "java/lang/Object", name := "getClass", desc := "()Ljava/lang/Class;" } : Jvm.MethodName) ({ cls := "java/lang/Object", name := "getClass", desc := "()Ljava/lang/Class;" } : Jvm.MethodName)) ∈ lw_all := lw_g (lw_at lw_m1 175 rfl) rfl
theorem q1751 : (Jvm.Cond.instantiable "SturmRootsModel" (27 : Nat)) ∈ lw_all := lw_g (lw_at lw_m8 2 rfl) rfl
theorem q1753 : (Jvm.Cond.instanceMethod ({ cls := "SturmRootsModel", name := "<init>", desc := "()V" } : Jvm.MethodName)) ∈ lw_all := lw_g (lw_at lw_m8 4 rfl) rfl
theorem q1754 : (Jvm.Cond.code ({ cls := "SturmRootsModel", name := "<init>", desc := "()V" } : Jvm.MethodName) prog_6_method_1_code (1 : Nat) (Option.none : Option Jvm.ClassFile.FieldType)) ∈ lw_all := lw_g (lw_at lw_m8 5 rfl) rfl
theorem q1755 : (Jvm.Cond.methodLink "SturmRootsModel" (1 : Nat) ({ cls := "java/lang/Object", name := "<init>", desc := "()V" } : Jvm.MethodName)) ∈ lw_all := lw_g (lw_at lw_m8 6 rfl) rfl
theorem q1756 : (Jvm.Cond.classLink "SturmRootsModel" (9 : Nat) "[[I") ∈ lw_all := lw_g (lw_at lw_m8 7 rfl) rfl
theorem q1758 : (Jvm.Cond.classLink "SturmRootsModel" (48 : Nat) "[[[I") ∈ lw_all := lw_g (lw_at lw_m8 9 rfl) rfl
theorem q1760 : (Jvm.Cond.fieldLink "SturmRootsModel" (87 : Nat) "SturmRootsModel" "thrown" "I") ∈ lw_all := lw_g (lw_at lw_m8 11 rfl) rfl
theorem q1761 : (Jvm.Cond.fieldLink "SturmRootsModel" (11 : Nat) "SturmRootsModel" "slots" "[[I") ∈ lw_all := lw_g (lw_at lw_m8 12 rfl) rfl
theorem q1762 : (Jvm.Cond.fieldLink "SturmRootsModel" (14 : Nat) "SturmRootsModel" "t" "[I") ∈ lw_all := lw_g (lw_at lw_m8 13 rfl) rfl
theorem q1763 : (Jvm.Cond.fieldLink "SturmRootsModel" (18 : Nat) "SturmRootsModel" "u" "[I") ∈ lw_all := lw_g (lw_at lw_m8 14 rfl) rfl
theorem q1764 : (Jvm.Cond.fieldLink "SturmRootsModel" (21 : Nat) "SturmRootsModel" "v" "[I") ∈ lw_all := lw_g (lw_at lw_m8 15 rfl) rfl
theorem q1765 : (Jvm.Cond.fieldLink "SturmRootsModel" (24 : Nat) "SturmRootsModel" "w" "[I") ∈ lw_all := lw_g (lw_at lw_m8 16 rfl) rfl
theorem q1766 : (Jvm.Cond.fieldLink "SturmRootsModel" (27 : Nat) "SturmRootsModel" "x" "[I") ∈ lw_all := lw_g (lw_at lw_m8 17 rfl) rfl
theorem q1767 : (Jvm.Cond.fieldLink "SturmRootsModel" (30 : Nat) "SturmRootsModel" "y" "[I") ∈ lw_all := lw_g (lw_at lw_m8 18 rfl) rfl
theorem q1768 : (Jvm.Cond.fieldLink "SturmRootsModel" (33 : Nat) "SturmRootsModel" "one" "[[I") ∈ lw_all := lw_g (lw_at lw_m8 19 rfl) rfl
theorem q1769 : (Jvm.Cond.fieldLink "SturmRootsModel" (36 : Nat) "SturmRootsModel" "other" "[[I") ∈ lw_all := lw_g (lw_at lw_m8 20 rfl) rfl
theorem q1770 : (Jvm.Cond.fieldLink "SturmRootsModel" (39 : Nat) "SturmRootsModel" "third" "[[I") ∈ lw_all := lw_g (lw_at lw_m8 21 rfl) rfl
theorem q1771 : (Jvm.Cond.fieldLink "SturmRootsModel" (42 : Nat) "SturmRootsModel" "common" "[[I") ∈ lw_all := lw_g (lw_at lw_m8 22 rfl) rfl
theorem q1772 : (Jvm.Cond.fieldLink "SturmRootsModel" (45 : Nat) "SturmRootsModel" "free" "[[I") ∈ lw_all := lw_g (lw_at lw_m8 23 rfl) rfl
theorem q1773 : (Jvm.Cond.fieldLink "SturmRootsModel" (50 : Nat) "SturmRootsModel" "halves" "[[[I") ∈ lw_all := lw_g (lw_at lw_m8 24 rfl) rfl
theorem q1774 : (Jvm.Cond.fieldLink "SturmRootsModel" (53 : Nat) "SturmRootsModel" "came" "[I") ∈ lw_all := lw_g (lw_at lw_m8 25 rfl) rfl
theorem q1775 : (Jvm.Cond.fieldLink "SturmRootsModel" (56 : Nat) "SturmRootsModel" "round" "[[I") ∈ lw_all := lw_g (lw_at lw_m8 26 rfl) rfl
theorem q1776 : (Jvm.Cond.fieldLink "SturmRootsModel" (59 : Nat) "SturmRootsModel" "made" "[J") ∈ lw_all := lw_g (lw_at lw_m8 27 rfl) rfl
theorem q1777 : (Jvm.Cond.fieldLink "SturmRootsModel" (63 : Nat) "SturmRootsModel" "here" "[[I") ∈ lw_all := lw_g (lw_at lw_m8 28 rfl) rfl
theorem q1778 : (Jvm.Cond.fieldLink "SturmRootsModel" (66 : Nat) "SturmRootsModel" "row" "[[[I") ∈ lw_all := lw_g (lw_at lw_m8 29 rfl) rfl
theorem q1779 : (Jvm.Cond.fieldLink "SturmRootsModel" (250 : Nat) "SturmRootsModel" "length" "I") ∈ lw_all := lw_g (lw_at lw_m8 30 rfl) rfl
theorem q1780 : (Jvm.Cond.fieldLink "SturmRootsModel" (69 : Nat) "SturmRootsModel" "kept" "[I") ∈ lw_all := lw_g (lw_at lw_m8 31 rfl) rfl
theorem q1781 : (Jvm.Cond.fieldLink "SturmRootsModel" (72 : Nat) "SturmRootsModel" "keptFree" "[[I") ∈ lw_all := lw_g (lw_at lw_m8 32 rfl) rfl
theorem q1782 : (Jvm.Cond.fieldLink "SturmRootsModel" (75 : Nat) "SturmRootsModel" "level" "[I") ∈ lw_all := lw_g (lw_at lw_m8 33 rfl) rfl
theorem q1783 : (Jvm.Cond.fieldLink "SturmRootsModel" (78 : Nat) "SturmRootsModel" "low" "[I") ∈ lw_all := lw_g (lw_at lw_m8 34 rfl) rfl
theorem q1784 : (Jvm.Cond.fieldLink "SturmRootsModel" (81 : Nat) "SturmRootsModel" "high" "[I") ∈ lw_all := lw_g (lw_at lw_m8 35 rfl) rfl
theorem q1785 : (Jvm.Cond.fieldLink "SturmRootsModel" (84 : Nat) "SturmRootsModel" "roots" "[I") ∈ lw_all := lw_g (lw_at lw_m8 36 rfl) rfl
theorem q1786 : (Jvm.Cond.fieldLink "SturmRootsModel" (285 : Nat) "SturmRootsModel" "many" "I") ∈ lw_all := lw_g (lw_at lw_m8 37 rfl) rfl
theorem q1787 : (Jvm.Cond.lays "SturmRootsModel" "SturmRootsModel" "thrown" "I") ∈ lw_all := lw_g (lw_at lw_m8 38 rfl) rfl
theorem q1788 : (Jvm.Cond.soleField "SturmRootsModel" "thrown") ∈ lw_all := lw_g (lw_at lw_m8 39 rfl) rfl
theorem q1789 : (Jvm.Cond.laysFinal "SturmRootsModel" "SturmRootsModel" "slots" "[[I") ∈ lw_all := lw_g (lw_at lw_m8 40 rfl) rfl
theorem q1790 : (Jvm.Cond.soleField "SturmRootsModel" "slots") ∈ lw_all := lw_g (lw_at lw_m8 41 rfl) rfl
theorem q1791 : (Jvm.Cond.laysFinal "SturmRootsModel" "SturmRootsModel" "t" "[I") ∈ lw_all := lw_g (lw_at lw_m8 42 rfl) rfl
theorem q1792 : (Jvm.Cond.soleField "SturmRootsModel" "t") ∈ lw_all := lw_g (lw_at lw_m8 43 rfl) rfl
theorem q1793 : (Jvm.Cond.laysFinal "SturmRootsModel" "SturmRootsModel" "u" "[I") ∈ lw_all := lw_g (lw_at lw_m8 44 rfl) rfl
theorem q1794 : (Jvm.Cond.soleField "SturmRootsModel" "u") ∈ lw_all := lw_g (lw_at lw_m8 45 rfl) rfl
theorem q1795 : (Jvm.Cond.laysFinal "SturmRootsModel" "SturmRootsModel" "v" "[I") ∈ lw_all := lw_g (lw_at lw_m8 46 rfl) rfl
theorem q1796 : (Jvm.Cond.soleField "SturmRootsModel" "v") ∈ lw_all := lw_g (lw_at lw_m8 47 rfl) rfl
theorem q1797 : (Jvm.Cond.laysFinal "SturmRootsModel" "SturmRootsModel" "w" "[I") ∈ lw_all := lw_g (lw_at lw_m8 48 rfl) rfl
theorem q1798 : (Jvm.Cond.soleField "SturmRootsModel" "w") ∈ lw_all := lw_g (lw_at lw_m8 49 rfl) rfl
theorem q1799 : (Jvm.Cond.laysFinal "SturmRootsModel" "SturmRootsModel" "x" "[I") ∈ lw_all := lw_g (lw_at lw_m8 50 rfl) rfl
theorem q1800 : (Jvm.Cond.soleField "SturmRootsModel" "x") ∈ lw_all := lw_g (lw_at lw_m8 51 rfl) rfl
theorem q1801 : (Jvm.Cond.laysFinal "SturmRootsModel" "SturmRootsModel" "y" "[I") ∈ lw_all := lw_g (lw_at lw_m8 52 rfl) rfl
theorem q1802 : (Jvm.Cond.soleField "SturmRootsModel" "y") ∈ lw_all := lw_g (lw_at lw_m8 53 rfl) rfl
theorem q1803 : (Jvm.Cond.laysFinal "SturmRootsModel" "SturmRootsModel" "one" "[[I") ∈ lw_all := lw_g (lw_at lw_m8 54 rfl) rfl
theorem q1804 : (Jvm.Cond.soleField "SturmRootsModel" "one") ∈ lw_all := lw_g (lw_at lw_m8 55 rfl) rfl
theorem q1805 : (Jvm.Cond.laysFinal "SturmRootsModel" "SturmRootsModel" "other" "[[I") ∈ lw_all := lw_g (lw_at lw_m8 56 rfl) rfl
theorem q1806 : (Jvm.Cond.soleField "SturmRootsModel" "other") ∈ lw_all := lw_g (lw_at lw_m8 57 rfl) rfl
theorem q1807 : (Jvm.Cond.laysFinal "SturmRootsModel" "SturmRootsModel" "third" "[[I") ∈ lw_all := lw_g (lw_at lw_m8 58 rfl) rfl
theorem q1808 : (Jvm.Cond.soleField "SturmRootsModel" "third") ∈ lw_all := lw_g (lw_at lw_m8 59 rfl) rfl
theorem q1809 : (Jvm.Cond.laysFinal "SturmRootsModel" "SturmRootsModel" "common" "[[I") ∈ lw_all := lw_g (lw_at lw_m8 60 rfl) rfl
theorem q1810 : (Jvm.Cond.soleField "SturmRootsModel" "common") ∈ lw_all := lw_g (lw_at lw_m8 61 rfl) rfl
theorem q1811 : (Jvm.Cond.laysFinal "SturmRootsModel" "SturmRootsModel" "free" "[[I") ∈ lw_all := lw_g (lw_at lw_m8 62 rfl) rfl
theorem q1812 : (Jvm.Cond.soleField "SturmRootsModel" "free") ∈ lw_all := lw_g (lw_at lw_m8 63 rfl) rfl
theorem q1813 : (Jvm.Cond.laysFinal "SturmRootsModel" "SturmRootsModel" "halves" "[[[I") ∈ lw_all := lw_g (lw_at lw_m8 64 rfl) rfl
theorem q1814 : (Jvm.Cond.soleField "SturmRootsModel" "halves") ∈ lw_all := lw_g (lw_at lw_m8 65 rfl) rfl
theorem q1815 : (Jvm.Cond.laysFinal "SturmRootsModel" "SturmRootsModel" "came" "[I") ∈ lw_all := lw_g (lw_at lw_m8 66 rfl) rfl
theorem q1816 : (Jvm.Cond.soleField "SturmRootsModel" "came") ∈ lw_all := lw_g (lw_at lw_m8 67 rfl) rfl
theorem q1817 : (Jvm.Cond.laysFinal "SturmRootsModel" "SturmRootsModel" "round" "[[I") ∈ lw_all := lw_g (lw_at lw_m8 68 rfl) rfl
theorem q1818 : (Jvm.Cond.soleField "SturmRootsModel" "round") ∈ lw_all := lw_g (lw_at lw_m8 69 rfl) rfl
theorem q1819 : (Jvm.Cond.laysFinal "SturmRootsModel" "SturmRootsModel" "made" "[J") ∈ lw_all := lw_g (lw_at lw_m8 70 rfl) rfl
theorem q1820 : (Jvm.Cond.soleField "SturmRootsModel" "made") ∈ lw_all := lw_g (lw_at lw_m8 71 rfl) rfl
theorem q1821 : (Jvm.Cond.laysFinal "SturmRootsModel" "SturmRootsModel" "here" "[[I") ∈ lw_all := lw_g (lw_at lw_m8 72 rfl) rfl
theorem q1822 : (Jvm.Cond.soleField "SturmRootsModel" "here") ∈ lw_all := lw_g (lw_at lw_m8 73 rfl) rfl
theorem q1823 : (Jvm.Cond.laysFinal "SturmRootsModel" "SturmRootsModel" "row" "[[[I") ∈ lw_all := lw_g (lw_at lw_m8 74 rfl) rfl
theorem q1824 : (Jvm.Cond.soleField "SturmRootsModel" "row") ∈ lw_all := lw_g (lw_at lw_m8 75 rfl) rfl
theorem q1825 : (Jvm.Cond.lays "SturmRootsModel" "SturmRootsModel" "length" "I") ∈ lw_all := lw_g (lw_at lw_m8 76 rfl) rfl
theorem q1826 : (Jvm.Cond.soleField "SturmRootsModel" "length") ∈ lw_all := lw_g (lw_at lw_m8 77 rfl) rfl
theorem q1827 : (Jvm.Cond.laysFinal "SturmRootsModel" "SturmRootsModel" "kept" "[I") ∈ lw_all := lw_g (lw_at lw_m8 78 rfl) rfl
theorem q1828 : (Jvm.Cond.soleField "SturmRootsModel" "kept") ∈ lw_all := lw_g (lw_at lw_m8 79 rfl) rfl
theorem q1829 : (Jvm.Cond.laysFinal "SturmRootsModel" "SturmRootsModel" "keptFree" "[[I") ∈ lw_all := lw_g (lw_at lw_m8 80 rfl) rfl
theorem q1830 : (Jvm.Cond.soleField "SturmRootsModel" "keptFree") ∈ lw_all := lw_g (lw_at lw_m8 81 rfl) rfl
theorem q1831 : (Jvm.Cond.lays "SturmRootsModel" "SturmRootsModel" "level" "[I") ∈ lw_all := lw_g (lw_at lw_m8 82 rfl) rfl
theorem q1832 : (Jvm.Cond.soleField "SturmRootsModel" "level") ∈ lw_all := lw_g (lw_at lw_m8 83 rfl) rfl
theorem q1833 : (Jvm.Cond.lays "SturmRootsModel" "SturmRootsModel" "low" "[I") ∈ lw_all := lw_g (lw_at lw_m8 84 rfl) rfl
theorem q1834 : (Jvm.Cond.soleField "SturmRootsModel" "low") ∈ lw_all := lw_g (lw_at lw_m8 85 rfl) rfl
theorem q1835 : (Jvm.Cond.lays "SturmRootsModel" "SturmRootsModel" "high" "[I") ∈ lw_all := lw_g (lw_at lw_m8 86 rfl) rfl
theorem q1836 : (Jvm.Cond.soleField "SturmRootsModel" "high") ∈ lw_all := lw_g (lw_at lw_m8 87 rfl) rfl
theorem q1837 : (Jvm.Cond.lays "SturmRootsModel" "SturmRootsModel" "roots" "[I") ∈ lw_all := lw_g (lw_at lw_m8 88 rfl) rfl
theorem q1838 : (Jvm.Cond.soleField "SturmRootsModel" "roots") ∈ lw_all := lw_g (lw_at lw_m8 89 rfl) rfl
theorem q1839 : (Jvm.Cond.lays "SturmRootsModel" "SturmRootsModel" "many" "I") ∈ lw_all := lw_g (lw_at lw_m8 90 rfl) rfl
theorem q1840 : (Jvm.Cond.soleField "SturmRootsModel" "many") ∈ lw_all := lw_g (lw_at lw_m8 91 rfl) rfl
theorem q1841 : (Jvm.Cond.superclass "SturmRootsModel" "java/lang/Object") ∈ lw_all := lw_g (lw_at lw_m8 92 rfl) rfl
theorem q1844 : (Jvm.Cond.instanceMethod ({ cls := "SturmRootsModel", name := "thrown", desc := "()I" } : Jvm.MethodName)) ∈ lw_all := lw_g (lw_at lw_m8 95 rfl) rfl
theorem q1845 : (Jvm.Cond.selects "SturmRootsModel" ({ cls := "SturmRootsModel", name := "thrown", desc := "()I" } : Jvm.MethodName) ({ cls := "SturmRootsModel", name := "thrown", desc := "()I" } : Jvm.MethodName)) ∈ lw_all := lw_g (lw_at lw_m8 96 rfl) rfl
theorem q1846 : (Jvm.Cond.code ({ cls := "SturmRootsModel", name := "thrown", desc := "()I" } : Jvm.MethodName) prog_6_method_2_code (1 : Nat) (Option.some Jvm.ClassFile.FieldType.int)) ∈ lw_all := lw_g (lw_at lw_m8 97 rfl) rfl
theorem q1848 : (Jvm.Cond.instanceMethod ({ cls := "SturmRootsModel", name := "set", desc := "(III)I" } : Jvm.MethodName)) ∈ lw_all := lw_g (lw_at lw_m8 99 rfl) rfl
theorem q1849 : (Jvm.Cond.selects "SturmRootsModel" ({ cls := "SturmRootsModel", name := "set", desc := "(III)I" } : Jvm.MethodName) ({ cls := "SturmRootsModel", name := "set", desc := "(III)I" } : Jvm.MethodName)) ∈ lw_all := lw_g (lw_at lw_m8 100 rfl) rfl
theorem q1850 : (Jvm.Cond.code ({ cls := "SturmRootsModel", name := "set", desc := "(III)I" } : Jvm.MethodName) prog_6_method_44_code (4 : Nat) (Option.some Jvm.ClassFile.FieldType.int)) ∈ lw_all := lw_g (lw_at lw_m8 101 rfl) rfl
theorem q1851 : (Jvm.Cond.methodLink "SturmRootsModel" (228 : Nat) ({ cls := "SturmRootsModel", name := "isSlot", desc := "(I)Z" } : Jvm.MethodName)) ∈ lw_all := lw_g (lw_at lw_m8 102 rfl) rfl
theorem q1852 : (Jvm.Cond.static ({ cls := "SturmRootsModel", name := "isSlot", desc := "(I)Z" } : Jvm.MethodName)) ∈ lw_all := lw_g (lw_at lw_m8 103 rfl) rfl
theorem q1853 : (Jvm.Cond.code ({ cls := "SturmRootsModel", name := "isSlot", desc := "(I)Z" } : Jvm.MethodName) prog_6_method_38_code (1 : Nat) (Option.some Jvm.ClassFile.FieldType.boolean)) ∈ lw_all := lw_g (lw_at lw_m8 104 rfl) rfl
theorem q1854 : (Jvm.Cond.methodLink "SturmRootsModel" (232 : Nat) ({ cls := "SturmRootsModel", name := "in", desc := "(III)Z" } : Jvm.MethodName)) ∈ lw_all := lw_g (lw_at lw_m8 105 rfl) rfl
theorem q1855 : (Jvm.Cond.static ({ cls := "SturmRootsModel", name := "in", desc := "(III)Z" } : Jvm.MethodName)) ∈ lw_all := lw_g (lw_at lw_m8 106 rfl) rfl
theorem q1856 : (Jvm.Cond.code ({ cls := "SturmRootsModel", name := "in", desc := "(III)Z" } : Jvm.MethodName) prog_6_method_39_code (3 : Nat) (Option.some Jvm.ClassFile.FieldType.boolean)) ∈ lw_all := lw_g (lw_at lw_m8 107 rfl) rfl
theorem q1857 : (Jvm.Cond.methodLink "SturmRootsModel" (212 : Nat) ({ cls := "SturmRootsModel", name := "fails", desc := "(I)I" } : Jvm.MethodName)) ∈ lw_all := lw_g (lw_at lw_m8 108 rfl) rfl
theorem q1858 : (Jvm.Cond.privateMethod ({ cls := "SturmRootsModel", name := "fails", desc := "(I)I" } : Jvm.MethodName)) ∈ lw_tbl := lw_at lw_m8 109 rfl
theorem q1859 : (Jvm.Cond.instanceMethod ({ cls := "SturmRootsModel", name := "fails", desc := "(I)I" } : Jvm.MethodName)) ∈ lw_all := lw_g (lw_at lw_m8 110 rfl) rfl
theorem q1860 : (Jvm.Cond.code ({ cls := "SturmRootsModel", name := "fails", desc := "(I)I" } : Jvm.MethodName) prog_6_method_3_code (2 : Nat) (Option.some Jvm.ClassFile.FieldType.int)) ∈ lw_all := lw_g (lw_at lw_m8 111 rfl) rfl
theorem q1861 : (Jvm.Cond.methodLink "SturmRootsModel" (215 : Nat) ({ cls := "SturmRootsModel", name := "degree", desc := "([I)I" } : Jvm.MethodName)) ∈ lw_all := lw_g (lw_at lw_m8 112 rfl) rfl
theorem q1862 : (Jvm.Cond.static ({ cls := "SturmRootsModel", name := "degree", desc := "([I)I" } : Jvm.MethodName)) ∈ lw_all := lw_g (lw_at lw_m8 113 rfl) rfl
theorem q1863 : (Jvm.Cond.code ({ cls := "SturmRootsModel", name := "degree", desc := "([I)I" } : Jvm.MethodName) prog_6_method_23_code (2 : Nat) (Option.some Jvm.ClassFile.FieldType.int)) ∈ lw_all := lw_g (lw_at lw_m8 114 rfl) rfl
theorem q1864 : (Jvm.Cond.methodLink "SturmRootsModel" (217 : Nat) ({ cls := "SturmRootsModel", name := "tells", desc := "(I)I" } : Jvm.MethodName)) ∈ lw_all := lw_g (lw_at lw_m8 115 rfl) rfl
theorem q1865 : (Jvm.Cond.privateMethod ({ cls := "SturmRootsModel", name := "tells", desc := "(I)I" } : Jvm.MethodName)) ∈ lw_tbl := lw_at lw_m8 116 rfl
theorem q1866 : (Jvm.Cond.instanceMethod ({ cls := "SturmRootsModel", name := "tells", desc := "(I)I" } : Jvm.MethodName)) ∈ lw_all := lw_g (lw_at lw_m8 117 rfl) rfl
theorem q1867 : (Jvm.Cond.code ({ cls := "SturmRootsModel", name := "tells", desc := "(I)I" } : Jvm.MethodName) prog_6_method_4_code (2 : Nat) (Option.some Jvm.ClassFile.FieldType.int)) ∈ lw_all := lw_g (lw_at lw_m8 118 rfl) rfl
theorem q1869 : (Jvm.Cond.instanceMethod ({ cls := "SturmRootsModel", name := "coefficient", desc := "(II)I" } : Jvm.MethodName)) ∈ lw_all := lw_g (lw_at lw_m8 120 rfl) rfl
theorem q1870 : (Jvm.Cond.selects "SturmRootsModel" ({ cls := "SturmRootsModel", name := "coefficient", desc := "(II)I" } : Jvm.MethodName) ({ cls := "SturmRootsModel", name := "coefficient", desc := "(II)I" } : Jvm.MethodName)) ∈ lw_all := lw_g (lw_at lw_m8 121 rfl) rfl
theorem q1871 : (Jvm.Cond.code ({ cls := "SturmRootsModel", name := "coefficient", desc := "(II)I" } : Jvm.MethodName) prog_6_method_45_code (3 : Nat) (Option.some Jvm.ClassFile.FieldType.int)) ∈ lw_all := lw_g (lw_at lw_m8 122 rfl) rfl
theorem q1873 : (Jvm.Cond.instanceMethod ({ cls := "SturmRootsModel", name := "degree", desc := "(I)I" } : Jvm.MethodName)) ∈ lw_all := lw_g (lw_at lw_m8 124 rfl) rfl
theorem q1874 : (Jvm.Cond.selects "SturmRootsModel" ({ cls := "SturmRootsModel", name := "degree", desc := "(I)I" } : Jvm.MethodName) ({ cls := "SturmRootsModel", name := "degree", desc := "(I)I" } : Jvm.MethodName)) ∈ lw_all := lw_g (lw_at lw_m8 125 rfl) rfl
theorem q1875 : (Jvm.Cond.code ({ cls := "SturmRootsModel", name := "degree", desc := "(I)I" } : Jvm.MethodName) prog_6_method_46_code (2 : Nat) (Option.some Jvm.ClassFile.FieldType.int)) ∈ lw_all := lw_g (lw_at lw_m8 126 rfl) rfl
theorem q1877 : (Jvm.Cond.instanceMethod ({ cls := "SturmRootsModel", name := "copy", desc := "(II)I" } : Jvm.MethodName)) ∈ lw_all := lw_g (lw_at lw_m8 128 rfl) rfl
theorem q1878 : (Jvm.Cond.selects "SturmRootsModel" ({ cls := "SturmRootsModel", name := "copy", desc := "(II)I" } : Jvm.MethodName) ({ cls := "SturmRootsModel", name := "copy", desc := "(II)I" } : Jvm.MethodName)) ∈ lw_all := lw_g (lw_at lw_m8 129 rfl) rfl
theorem q1879 : (Jvm.Cond.code ({ cls := "SturmRootsModel", name := "copy", desc := "(II)I" } : Jvm.MethodName) prog_6_method_47_code (4 : Nat) (Option.some Jvm.ClassFile.FieldType.int)) ∈ lw_all := lw_g (lw_at lw_m8 130 rfl) rfl
theorem q1880 : (Jvm.Cond.methodLink "SturmRootsModel" (220 : Nat) ({ cls := "SturmRootsModel", name := "clear", desc := "()V" } : Jvm.MethodName)) ∈ lw_all := lw_g (lw_at lw_m8 131 rfl) rfl
theorem q1881 : (Jvm.Cond.privateMethod ({ cls := "SturmRootsModel", name := "clear", desc := "()V" } : Jvm.MethodName)) ∈ lw_tbl := lw_at lw_m8 132 rfl
theorem q1882 : (Jvm.Cond.instanceMethod ({ cls := "SturmRootsModel", name := "clear", desc := "()V" } : Jvm.MethodName)) ∈ lw_all := lw_g (lw_at lw_m8 133 rfl) rfl
theorem q1883 : (Jvm.Cond.code ({ cls := "SturmRootsModel", name := "clear", desc := "()V" } : Jvm.MethodName) prog_6_method_42_code (2 : Nat) (Option.none : Option Jvm.ClassFile.FieldType)) ∈ lw_all := lw_g (lw_at lw_m8 134 rfl) rfl
theorem q1884 : (Jvm.Cond.methodLink "SturmRootsModel" (225 : Nat) ({ cls := "SturmRootsModel", name := "comes", desc := "(II)I" } : Jvm.MethodName)) ∈ lw_all := lw_g (lw_at lw_m8 135 rfl) rfl
theorem q1885 : (Jvm.Cond.privateMethod ({ cls := "SturmRootsModel", name := "comes", desc := "(II)I" } : Jvm.MethodName)) ∈ lw_tbl := lw_at lw_m8 136 rfl
theorem q1886 : (Jvm.Cond.instanceMethod ({ cls := "SturmRootsModel", name := "comes", desc := "(II)I" } : Jvm.MethodName)) ∈ lw_all := lw_g (lw_at lw_m8 137 rfl) rfl
theorem q1887 : (Jvm.Cond.code ({ cls := "SturmRootsModel", name := "comes", desc := "(II)I" } : Jvm.MethodName) prog_6_method_41_code (4 : Nat) (Option.some Jvm.ClassFile.FieldType.int)) ∈ lw_all := lw_g (lw_at lw_m8 138 rfl) rfl
theorem q1888 : (Jvm.Cond.constantLong "SturmRootsModel" (208 : Nat) (9999 : Int64)) ∈ lw_all := lw_g (lw_at lw_m8 139 rfl) rfl
theorem q1889 : (Jvm.Cond.constantLong "SturmRootsModel" (210 : Nat) (-9999 : Int64)) ∈ lw_all := lw_g (lw_at lw_m8 140 rfl) rfl
theorem q1891 : (Jvm.Cond.instanceMethod ({ cls := "SturmRootsModel", name := "add", desc := "(III)I" } : Jvm.MethodName)) ∈ lw_all := lw_g (lw_at lw_m8 142 rfl) rfl
theorem q1892 : (Jvm.Cond.selects "SturmRootsModel" ({ cls := "SturmRootsModel", name := "add", desc := "(III)I" } : Jvm.MethodName) ({ cls := "SturmRootsModel", name := "add", desc := "(III)I" } : Jvm.MethodName)) ∈ lw_all := lw_g (lw_at lw_m8 143 rfl) rfl
theorem q1893 : (Jvm.Cond.code ({ cls := "SturmRootsModel", name := "add", desc := "(III)I" } : Jvm.MethodName) prog_6_method_48_code (5 : Nat) (Option.some Jvm.ClassFile.FieldType.int)) ∈ lw_all := lw_g (lw_at lw_m8 144 rfl) rfl
theorem q1895 : (Jvm.Cond.instanceMethod ({ cls := "SturmRootsModel", name := "multiply", desc := "(III)I" } : Jvm.MethodName)) ∈ lw_all := lw_g (lw_at lw_m8 146 rfl) rfl
theorem q1896 : (Jvm.Cond.selects "SturmRootsModel" ({ cls := "SturmRootsModel", name := "multiply", desc := "(III)I" } : Jvm.MethodName) ({ cls := "SturmRootsModel", name := "multiply", desc := "(III)I" } : Jvm.MethodName)) ∈ lw_all := lw_g (lw_at lw_m8 147 rfl) rfl
theorem q1897 : (Jvm.Cond.code ({ cls := "SturmRootsModel", name := "multiply", desc := "(III)I" } : Jvm.MethodName) prog_6_method_49_code (6 : Nat) (Option.some Jvm.ClassFile.FieldType.int)) ∈ lw_all := lw_g (lw_at lw_m8 148 rfl) rfl
theorem q1899 : (Jvm.Cond.instanceMethod ({ cls := "SturmRootsModel", name := "derivative", desc := "(II)I" } : Jvm.MethodName)) ∈ lw_all := lw_g (lw_at lw_m8 150 rfl) rfl
theorem q1900 : (Jvm.Cond.selects "SturmRootsModel" ({ cls := "SturmRootsModel", name := "derivative", desc := "(II)I" } : Jvm.MethodName) ({ cls := "SturmRootsModel", name := "derivative", desc := "(II)I" } : Jvm.MethodName)) ∈ lw_all := lw_g (lw_at lw_m8 151 rfl) rfl
theorem q1901 : (Jvm.Cond.code ({ cls := "SturmRootsModel", name := "derivative", desc := "(II)I" } : Jvm.MethodName) prog_6_method_50_code (4 : Nat) (Option.some Jvm.ClassFile.FieldType.int)) ∈ lw_all := lw_g (lw_at lw_m8 152 rfl) rfl
theorem q1903 : (Jvm.Cond.instanceMethod ({ cls := "SturmRootsModel", name := "shift", desc := "(III)I" } : Jvm.MethodName)) ∈ lw_all := lw_g (lw_at lw_m8 154 rfl) rfl
theorem q1904 : (Jvm.Cond.selects "SturmRootsModel" ({ cls := "SturmRootsModel", name := "shift", desc := "(III)I" } : Jvm.MethodName) ({ cls := "SturmRootsModel", name := "shift", desc := "(III)I" } : Jvm.MethodName)) ∈ lw_all := lw_g (lw_at lw_m8 155 rfl) rfl
theorem q1905 : (Jvm.Cond.code ({ cls := "SturmRootsModel", name := "shift", desc := "(III)I" } : Jvm.MethodName) prog_6_method_51_code (6 : Nat) (Option.some Jvm.ClassFile.FieldType.int)) ∈ lw_all := lw_g (lw_at lw_m8 156 rfl) rfl
theorem q1907 : (Jvm.Cond.instanceMethod ({ cls := "SturmRootsModel", name := "reflect", desc := "(II)I" } : Jvm.MethodName)) ∈ lw_all := lw_g (lw_at lw_m8 158 rfl) rfl
theorem q1908 : (Jvm.Cond.selects "SturmRootsModel" ({ cls := "SturmRootsModel", name := "reflect", desc := "(II)I" } : Jvm.MethodName) ({ cls := "SturmRootsModel", name := "reflect", desc := "(II)I" } : Jvm.MethodName)) ∈ lw_all := lw_g (lw_at lw_m8 159 rfl) rfl
theorem q1909 : (Jvm.Cond.code ({ cls := "SturmRootsModel", name := "reflect", desc := "(II)I" } : Jvm.MethodName) prog_6_method_52_code (4 : Nat) (Option.some Jvm.ClassFile.FieldType.int)) ∈ lw_all := lw_g (lw_at lw_m8 160 rfl) rfl
theorem q1911 : (Jvm.Cond.instanceMethod ({ cls := "SturmRootsModel", name := "scale", desc := "(III)I" } : Jvm.MethodName)) ∈ lw_all := lw_g (lw_at lw_m8 162 rfl) rfl
theorem q1912 : (Jvm.Cond.selects "SturmRootsModel" ({ cls := "SturmRootsModel", name := "scale", desc := "(III)I" } : Jvm.MethodName) ({ cls := "SturmRootsModel", name := "scale", desc := "(III)I" } : Jvm.MethodName)) ∈ lw_all := lw_g (lw_at lw_m8 163 rfl) rfl
theorem q1913 : (Jvm.Cond.code ({ cls := "SturmRootsModel", name := "scale", desc := "(III)I" } : Jvm.MethodName) prog_6_method_53_code (7 : Nat) (Option.some Jvm.ClassFile.FieldType.int)) ∈ lw_all := lw_g (lw_at lw_m8 164 rfl) rfl
theorem q1915 : (Jvm.Cond.instanceMethod ({ cls := "SturmRootsModel", name := "gcd", desc := "(III)I" } : Jvm.MethodName)) ∈ lw_all := lw_g (lw_at lw_m8 166 rfl) rfl
theorem q1916 : (Jvm.Cond.selects "SturmRootsModel" ({ cls := "SturmRootsModel", name := "gcd", desc := "(III)I" } : Jvm.MethodName) ({ cls := "SturmRootsModel", name := "gcd", desc := "(III)I" } : Jvm.MethodName)) ∈ lw_all := lw_g (lw_at lw_m8 167 rfl) rfl
theorem q1917 : (Jvm.Cond.code ({ cls := "SturmRootsModel", name := "gcd", desc := "(III)I" } : Jvm.MethodName) prog_6_method_54_code (4 : Nat) (Option.some Jvm.ClassFile.FieldType.int)) ∈ lw_all := lw_g (lw_at lw_m8 168 rfl) rfl
theorem q1918 : (Jvm.Cond.methodLink "SturmRootsModel" (236 : Nat) ({ cls := "SturmRootsModel", name := "load", desc := "([I[[I)V" } : Jvm.MethodName)) ∈ lw_all := lw_g (lw_at lw_m8 169 rfl) rfl
theorem q1919 : (Jvm.Cond.static ({ cls := "SturmRootsModel", name := "load", desc := "([I[[I)V" } : Jvm.MethodName)) ∈ lw_all := lw_g (lw_at lw_m8 170 rfl) rfl
theorem q1920 : (Jvm.Cond.code ({ cls := "SturmRootsModel", name := "load", desc := "([I[[I)V" } : Jvm.MethodName) prog_6_method_26_code (3 : Nat) (Option.none : Option Jvm.ClassFile.FieldType)) ∈ lw_all := lw_g (lw_at lw_m8 171 rfl) rfl
theorem q1921 : (Jvm.Cond.methodLink "SturmRootsModel" (145 : Nat) ({ cls := "SturmRootsModel", name := "set", desc := "([IJ)V" } : Jvm.MethodName)) ∈ lw_all := lw_g (lw_at lw_m8 172 rfl) rfl
theorem q1922 : (Jvm.Cond.static ({ cls := "SturmRootsModel", name := "set", desc := "([IJ)V" } : Jvm.MethodName)) ∈ lw_all := lw_g (lw_at lw_m8 173 rfl) rfl
theorem q1923 : (Jvm.Cond.code ({ cls := "SturmRootsModel", name := "set", desc := "([IJ)V" } : Jvm.MethodName) prog_6_method_5_code (4 : Nat) (Option.none : Option Jvm.ClassFile.FieldType)) ∈ lw_all := lw_g (lw_at lw_m8 174 rfl) rfl
theorem q1924 : (Jvm.Cond.methodLink "SturmRootsModel" (191 : Nat) ({ cls := "SturmRootsModel", name := "findCommon", desc := "()V" } : Jvm.MethodName)) ∈ lw_all := lw_g (lw_at lw_m8 175 rfl) rfl
theorem q1925 : (Jvm.Cond.privateMethod ({ cls := "SturmRootsModel", name := "findCommon", desc := "()V" } : Jvm.MethodName)) ∈ lw_tbl := lw_at lw_m8 176 rfl
theorem q1926 : (Jvm.Cond.instanceMethod ({ cls := "SturmRootsModel", name := "findCommon", desc := "()V" } : Jvm.MethodName)) ∈ lw_all := lw_g (lw_at lw_m8 177 rfl) rfl
theorem q1927 : (Jvm.Cond.code ({ cls := "SturmRootsModel", name := "findCommon", desc := "()V" } : Jvm.MethodName) prog_6_method_31_code (4 : Nat) (Option.none : Option Jvm.ClassFile.FieldType)) ∈ lw_all := lw_g (lw_at lw_m8 178 rfl) rfl
theorem q1928 : (Jvm.Cond.methodLink "SturmRootsModel" (166 : Nat) ({ cls := "SturmRootsModel", name := "degree", desc := "([[I)I" } : Jvm.MethodName)) ∈ lw_all := lw_g (lw_at lw_m8 179 rfl) rfl
theorem q1929 : (Jvm.Cond.static ({ cls := "SturmRootsModel", name := "degree", desc := "([[I)I" } : Jvm.MethodName)) ∈ lw_all := lw_g (lw_at lw_m8 180 rfl) rfl
theorem q1930 : (Jvm.Cond.code ({ cls := "SturmRootsModel", name := "degree", desc := "([[I)I" } : Jvm.MethodName) prog_6_method_22_code (2 : Nat) (Option.some Jvm.ClassFile.FieldType.int)) ∈ lw_all := lw_g (lw_at lw_m8 181 rfl) rfl
theorem q1931 : (Jvm.Cond.methodLink "SturmRootsModel" (110 : Nat) ({ cls := "SturmRootsModel", name := "sign", desc := "([I)I" } : Jvm.MethodName)) ∈ lw_all := lw_g (lw_at lw_m8 182 rfl) rfl
theorem q1932 : (Jvm.Cond.static ({ cls := "SturmRootsModel", name := "sign", desc := "([I)I" } : Jvm.MethodName)) ∈ lw_all := lw_g (lw_at lw_m8 183 rfl) rfl
theorem q1933 : (Jvm.Cond.code ({ cls := "SturmRootsModel", name := "sign", desc := "([I)I" } : Jvm.MethodName) prog_6_method_7_code (2 : Nat) (Option.some Jvm.ClassFile.FieldType.int)) ∈ lw_all := lw_g (lw_at lw_m8 184 rfl) rfl
theorem q1934 : (Jvm.Cond.methodLink "SturmRootsModel" (179 : Nat) ({ cls := "SturmRootsModel", name := "remainder", desc := "([[I[[I)V" } : Jvm.MethodName)) ∈ lw_all := lw_g (lw_at lw_m8 185 rfl) rfl
theorem q1935 : (Jvm.Cond.privateMethod ({ cls := "SturmRootsModel", name := "remainder", desc := "([[I[[I)V" } : Jvm.MethodName)) ∈ lw_tbl := lw_at lw_m8 186 rfl
theorem q1936 : (Jvm.Cond.instanceMethod ({ cls := "SturmRootsModel", name := "remainder", desc := "([[I[[I)V" } : Jvm.MethodName)) ∈ lw_all := lw_g (lw_at lw_m8 187 rfl) rfl
theorem q1937 : (Jvm.Cond.code ({ cls := "SturmRootsModel", name := "remainder", desc := "([[I[[I)V" } : Jvm.MethodName) prog_6_method_30_code (6 : Nat) (Option.none : Option Jvm.ClassFile.FieldType)) ∈ lw_all := lw_g (lw_at lw_m8 188 rfl) rfl
theorem q1938 : (Jvm.Cond.methodLink "SturmRootsModel" (113 : Nat) ({ cls := "SturmRootsModel", name := "copy", desc := "([I[I)V" } : Jvm.MethodName)) ∈ lw_all := lw_g (lw_at lw_m8 189 rfl) rfl
theorem q1939 : (Jvm.Cond.static ({ cls := "SturmRootsModel", name := "copy", desc := "([I[I)V" } : Jvm.MethodName)) ∈ lw_all := lw_g (lw_at lw_m8 190 rfl) rfl
theorem q1940 : (Jvm.Cond.code ({ cls := "SturmRootsModel", name := "copy", desc := "([I[I)V" } : Jvm.MethodName) prog_6_method_6_code (3 : Nat) (Option.none : Option Jvm.ClassFile.FieldType)) ∈ lw_all := lw_g (lw_at lw_m8 191 rfl) rfl
theorem q1941 : (Jvm.Cond.methodLink "SturmRootsModel" (155 : Nat) ({ cls := "SturmRootsModel", name := "bare", desc := "([I)Z" } : Jvm.MethodName)) ∈ lw_all := lw_g (lw_at lw_m8 192 rfl) rfl
theorem q1942 : (Jvm.Cond.static ({ cls := "SturmRootsModel", name := "bare", desc := "([I)Z" } : Jvm.MethodName)) ∈ lw_all := lw_g (lw_at lw_m8 193 rfl) rfl
theorem q1943 : (Jvm.Cond.code ({ cls := "SturmRootsModel", name := "bare", desc := "([I)Z" } : Jvm.MethodName) prog_6_method_11_code (2 : Nat) (Option.some Jvm.ClassFile.FieldType.boolean)) ∈ lw_all := lw_g (lw_at lw_m8 194 rfl) rfl
theorem q1944 : (Jvm.Cond.methodLink "SturmRootsModel" (93 : Nat) ({ cls := "SturmRootsModel", name := "negate", desc := "([I)V" } : Jvm.MethodName)) ∈ lw_all := lw_g (lw_at lw_m8 195 rfl) rfl
theorem q1945 : (Jvm.Cond.static ({ cls := "SturmRootsModel", name := "negate", desc := "([I)V" } : Jvm.MethodName)) ∈ lw_all := lw_g (lw_at lw_m8 196 rfl) rfl
theorem q1946 : (Jvm.Cond.code ({ cls := "SturmRootsModel", name := "negate", desc := "([I)V" } : Jvm.MethodName) prog_6_method_10_code (4 : Nat) (Option.none : Option Jvm.ClassFile.FieldType)) ∈ lw_all := lw_g (lw_at lw_m8 197 rfl) rfl
theorem q1947 : (Jvm.Cond.constantLong "SturmRootsModel" (91 : Nat) (4294967295 : Int64)) ∈ lw_all := lw_g (lw_at lw_m8 198 rfl) rfl
theorem q1948 : (Jvm.Cond.methodLink "SturmRootsModel" (173 : Nat) ({ cls := "SturmRootsModel", name := "multiply", desc := "([I[I[I)V" } : Jvm.MethodName)) ∈ lw_all := lw_g (lw_at lw_m8 199 rfl) rfl
theorem q1949 : (Jvm.Cond.static ({ cls := "SturmRootsModel", name := "multiply", desc := "([I[I[I)V" } : Jvm.MethodName)) ∈ lw_all := lw_g (lw_at lw_m8 200 rfl) rfl
theorem q1950 : (Jvm.Cond.code ({ cls := "SturmRootsModel", name := "multiply", desc := "([I[I[I)V" } : Jvm.MethodName) prog_6_method_19_code (7 : Nat) (Option.none : Option Jvm.ClassFile.FieldType)) ∈ lw_all := lw_g (lw_at lw_m8 201 rfl) rfl
theorem q1951 : (Jvm.Cond.methodLink "SturmRootsModel" (134 : Nat) ({ cls := "SturmRootsModel", name := "less", desc := "([I[II)V" } : Jvm.MethodName)) ∈ lw_all := lw_g (lw_at lw_m8 202 rfl) rfl
theorem q1952 : (Jvm.Cond.static ({ cls := "SturmRootsModel", name := "less", desc := "([I[II)V" } : Jvm.MethodName)) ∈ lw_all := lw_g (lw_at lw_m8 203 rfl) rfl
theorem q1953 : (Jvm.Cond.code ({ cls := "SturmRootsModel", name := "less", desc := "([I[II)V" } : Jvm.MethodName) prog_6_method_9_code (6 : Nat) (Option.none : Option Jvm.ClassFile.FieldType)) ∈ lw_all := lw_g (lw_at lw_m8 204 rfl) rfl
theorem q1954 : (Jvm.Cond.methodLink "SturmRootsModel" (176 : Nat) ({ cls := "SturmRootsModel", name := "primitive", desc := "([[I)V" } : Jvm.MethodName)) ∈ lw_all := lw_g (lw_at lw_m8 205 rfl) rfl
theorem q1955 : (Jvm.Cond.privateMethod ({ cls := "SturmRootsModel", name := "primitive", desc := "([[I)V" } : Jvm.MethodName)) ∈ lw_tbl := lw_at lw_m8 206 rfl
theorem q1956 : (Jvm.Cond.instanceMethod ({ cls := "SturmRootsModel", name := "primitive", desc := "([[I)V" } : Jvm.MethodName)) ∈ lw_all := lw_g (lw_at lw_m8 207 rfl) rfl
theorem q1957 : (Jvm.Cond.code ({ cls := "SturmRootsModel", name := "primitive", desc := "([[I)V" } : Jvm.MethodName) prog_6_method_28_code (4 : Nat) (Option.none : Option Jvm.ClassFile.FieldType)) ∈ lw_all := lw_g (lw_at lw_m8 208 rfl) rfl
theorem q1958 : (Jvm.Cond.methodLink "SturmRootsModel" (159 : Nat) ({ cls := "SturmRootsModel", name := "divisor", desc := "([I[I)V" } : Jvm.MethodName)) ∈ lw_all := lw_g (lw_at lw_m8 209 rfl) rfl
theorem q1959 : (Jvm.Cond.static ({ cls := "SturmRootsModel", name := "divisor", desc := "([I[I)V" } : Jvm.MethodName)) ∈ lw_all := lw_g (lw_at lw_m8 210 rfl) rfl
theorem q1960 : (Jvm.Cond.code ({ cls := "SturmRootsModel", name := "divisor", desc := "([I[I)V" } : Jvm.MethodName) prog_6_method_20_code (7 : Nat) (Option.none : Option Jvm.ClassFile.FieldType)) ∈ lw_all := lw_g (lw_at lw_m8 211 rfl) rfl
theorem q1961 : (Jvm.Cond.methodLink "SturmRootsModel" (97 : Nat) ({ cls := "SturmRootsModel", name := "ints", desc := "([I)I" } : Jvm.MethodName)) ∈ lw_all := lw_g (lw_at lw_m8 212 rfl) rfl
theorem q1962 : (Jvm.Cond.static ({ cls := "SturmRootsModel", name := "ints", desc := "([I)I" } : Jvm.MethodName)) ∈ lw_all := lw_g (lw_at lw_m8 213 rfl) rfl
theorem q1963 : (Jvm.Cond.code ({ cls := "SturmRootsModel", name := "ints", desc := "([I)I" } : Jvm.MethodName) prog_6_method_15_code (2 : Nat) (Option.some Jvm.ClassFile.FieldType.int)) ∈ lw_all := lw_g (lw_at lw_m8 214 rfl) rfl
theorem q1964 : (Jvm.Cond.methodLink "SturmRootsModel" (117 : Nat) ({ cls := "java/lang/Math", name := "max", desc := "(II)I" } : Jvm.MethodName)) ∈ lw_all := lw_g (lw_at lw_m8 215 rfl) rfl
theorem q1965 : (Jvm.Cond.methodLink "SturmRootsModel" (123 : Nat) ({ cls := "SturmRootsModel", name := "zeros", desc := "([I)I" } : Jvm.MethodName)) ∈ lw_all := lw_g (lw_at lw_m8 216 rfl) rfl
theorem q1966 : (Jvm.Cond.static ({ cls := "SturmRootsModel", name := "zeros", desc := "([I)I" } : Jvm.MethodName)) ∈ lw_all := lw_g (lw_at lw_m8 217 rfl) rfl
theorem q1967 : (Jvm.Cond.code ({ cls := "SturmRootsModel", name := "zeros", desc := "([I)I" } : Jvm.MethodName) prog_6_method_17_code (2 : Nat) (Option.some Jvm.ClassFile.FieldType.int)) ∈ lw_all := lw_g (lw_at lw_m8 218 rfl) rfl
theorem q1968 : (Jvm.Cond.methodLink "SturmRootsModel" (107 : Nat) ({ cls := "java/lang/Integer", name := "numberOfTrailingZeros", desc := "(I)I" } : Jvm.MethodName)) ∈ lw_all := lw_g (lw_at lw_m8 219 rfl) rfl
theorem q1969 : (Jvm.Cond.methodLink "SturmRootsModel" (126 : Nat) ({ cls := "SturmRootsModel", name := "right", desc := "([III)V" } : Jvm.MethodName)) ∈ lw_all := lw_g (lw_at lw_m8 220 rfl) rfl
theorem q1970 : (Jvm.Cond.static ({ cls := "SturmRootsModel", name := "right", desc := "([III)V" } : Jvm.MethodName)) ∈ lw_all := lw_g (lw_at lw_m8 221 rfl) rfl
theorem q1971 : (Jvm.Cond.code ({ cls := "SturmRootsModel", name := "right", desc := "([III)V" } : Jvm.MethodName) prog_6_method_13_code (8 : Nat) (Option.none : Option Jvm.ClassFile.FieldType)) ∈ lw_all := lw_g (lw_at lw_m8 222 rfl) rfl
theorem q1972 : (Jvm.Cond.methodLink "SturmRootsModel" (130 : Nat) ({ cls := "SturmRootsModel", name := "compare", desc := "([I[II)I" } : Jvm.MethodName)) ∈ lw_all := lw_g (lw_at lw_m8 223 rfl) rfl
theorem q1973 : (Jvm.Cond.static ({ cls := "SturmRootsModel", name := "compare", desc := "([I[II)I" } : Jvm.MethodName)) ∈ lw_all := lw_g (lw_at lw_m8 224 rfl) rfl
theorem q1974 : (Jvm.Cond.code ({ cls := "SturmRootsModel", name := "compare", desc := "([I[II)I" } : Jvm.MethodName) prog_6_method_14_code (4 : Nat) (Option.some Jvm.ClassFile.FieldType.int)) ∈ lw_all := lw_g (lw_at lw_m8 225 rfl) rfl
theorem q1975 : (Jvm.Cond.methodLink "SturmRootsModel" (138 : Nat) ({ cls := "java/lang/Math", name := "min", desc := "(II)I" } : Jvm.MethodName)) ∈ lw_all := lw_g (lw_at lw_m8 226 rfl) rfl
theorem q1976 : (Jvm.Cond.methodLink "SturmRootsModel" (141 : Nat) ({ cls := "SturmRootsModel", name := "left", desc := "([II)V" } : Jvm.MethodName)) ∈ lw_all := lw_g (lw_at lw_m8 227 rfl) rfl
theorem q1977 : (Jvm.Cond.static ({ cls := "SturmRootsModel", name := "left", desc := "([II)V" } : Jvm.MethodName)) ∈ lw_all := lw_g (lw_at lw_m8 228 rfl) rfl
theorem q1978 : (Jvm.Cond.code ({ cls := "SturmRootsModel", name := "left", desc := "([II)V" } : Jvm.MethodName) prog_6_method_12_code (7 : Nat) (Option.none : Option Jvm.ClassFile.FieldType)) ∈ lw_all := lw_g (lw_at lw_m8 229 rfl) rfl
theorem q1979 : (Jvm.Cond.methodLink "SturmRootsModel" (149 : Nat) ({ cls := "SturmRootsModel", name := "bits", desc := "([I)I" } : Jvm.MethodName)) ∈ lw_all := lw_g (lw_at lw_m8 230 rfl) rfl
theorem q1980 : (Jvm.Cond.static ({ cls := "SturmRootsModel", name := "bits", desc := "([I)I" } : Jvm.MethodName)) ∈ lw_all := lw_g (lw_at lw_m8 231 rfl) rfl
theorem q1981 : (Jvm.Cond.code ({ cls := "SturmRootsModel", name := "bits", desc := "([I)I" } : Jvm.MethodName) prog_6_method_16_code (2 : Nat) (Option.some Jvm.ClassFile.FieldType.int)) ∈ lw_all := lw_g (lw_at lw_m8 232 rfl) rfl
theorem q1982 : (Jvm.Cond.methodLink "SturmRootsModel" (101 : Nat) ({ cls := "java/lang/Integer", name := "numberOfLeadingZeros", desc := "(I)I" } : Jvm.MethodName)) ∈ lw_all := lw_g (lw_at lw_m8 233 rfl) rfl
theorem q1983 : (Jvm.Cond.methodLink "SturmRootsModel" (162 : Nat) ({ cls := "SturmRootsModel", name := "quotient", desc := "([I[I[I)V" } : Jvm.MethodName)) ∈ lw_all := lw_g (lw_at lw_m8 234 rfl) rfl
theorem q1984 : (Jvm.Cond.privateMethod ({ cls := "SturmRootsModel", name := "quotient", desc := "([I[I[I)V" } : Jvm.MethodName)) ∈ lw_tbl := lw_at lw_m8 235 rfl
theorem q1985 : (Jvm.Cond.instanceMethod ({ cls := "SturmRootsModel", name := "quotient", desc := "([I[I[I)V" } : Jvm.MethodName)) ∈ lw_all := lw_g (lw_at lw_m8 236 rfl) rfl
theorem q1986 : (Jvm.Cond.code ({ cls := "SturmRootsModel", name := "quotient", desc := "([I[I[I)V" } : Jvm.MethodName) prog_6_method_21_code (7 : Nat) (Option.none : Option Jvm.ClassFile.FieldType)) ∈ lw_all := lw_g (lw_at lw_m8 237 rfl) rfl
theorem q1987 : (Jvm.Cond.methodLink "SturmRootsModel" (183 : Nat) ({ cls := "SturmRootsModel", name := "positive", desc := "([[I)V" } : Jvm.MethodName)) ∈ lw_all := lw_g (lw_at lw_m8 238 rfl) rfl
theorem q1988 : (Jvm.Cond.privateMethod ({ cls := "SturmRootsModel", name := "positive", desc := "([[I)V" } : Jvm.MethodName)) ∈ lw_tbl := lw_at lw_m8 239 rfl
theorem q1989 : (Jvm.Cond.instanceMethod ({ cls := "SturmRootsModel", name := "positive", desc := "([[I)V" } : Jvm.MethodName)) ∈ lw_all := lw_g (lw_at lw_m9 0 rfl) rfl
theorem q1990 : (Jvm.Cond.code ({ cls := "SturmRootsModel", name := "positive", desc := "([[I)V" } : Jvm.MethodName) prog_6_method_29_code (3 : Nat) (Option.none : Option Jvm.ClassFile.FieldType)) ∈ lw_all := lw_g (lw_at lw_m9 1 rfl) rfl
theorem q1991 : (Jvm.Cond.methodLink "SturmRootsModel" (170 : Nat) ({ cls := "SturmRootsModel", name := "negate", desc := "([[I)V" } : Jvm.MethodName)) ∈ lw_all := lw_g (lw_at lw_m9 2 rfl) rfl
theorem q1992 : (Jvm.Cond.static ({ cls := "SturmRootsModel", name := "negate", desc := "([[I)V" } : Jvm.MethodName)) ∈ lw_all := lw_g (lw_at lw_m9 3 rfl) rfl
theorem q1993 : (Jvm.Cond.code ({ cls := "SturmRootsModel", name := "negate", desc := "([[I)V" } : Jvm.MethodName) prog_6_method_25_code (2 : Nat) (Option.none : Option Jvm.ClassFile.FieldType)) ∈ lw_all := lw_g (lw_at lw_m9 4 rfl) rfl
theorem q1994 : (Jvm.Cond.methodLink "SturmRootsModel" (186 : Nat) ({ cls := "SturmRootsModel", name := "copy", desc := "([[I[[I)V" } : Jvm.MethodName)) ∈ lw_all := lw_g (lw_at lw_m9 5 rfl) rfl
theorem q1995 : (Jvm.Cond.static ({ cls := "SturmRootsModel", name := "copy", desc := "([[I[[I)V" } : Jvm.MethodName)) ∈ lw_all := lw_g (lw_at lw_m9 6 rfl) rfl
theorem q1996 : (Jvm.Cond.code ({ cls := "SturmRootsModel", name := "copy", desc := "([[I[[I)V" } : Jvm.MethodName) prog_6_method_24_code (3 : Nat) (Option.none : Option Jvm.ClassFile.FieldType)) ∈ lw_all := lw_g (lw_at lw_m9 7 rfl) rfl
theorem q1997 : (Jvm.Cond.methodLink "SturmRootsModel" (240 : Nat) ({ cls := "SturmRootsModel", name := "comesGreat", desc := "([[III)I" } : Jvm.MethodName)) ∈ lw_all := lw_g (lw_at lw_m9 8 rfl) rfl
theorem q1998 : (Jvm.Cond.privateMethod ({ cls := "SturmRootsModel", name := "comesGreat", desc := "([[III)I" } : Jvm.MethodName)) ∈ lw_tbl := lw_at lw_m9 9 rfl
theorem q1999 : (Jvm.Cond.instanceMethod ({ cls := "SturmRootsModel", name := "comesGreat", desc := "([[III)I" } : Jvm.MethodName)) ∈ lw_all := lw_g (lw_at lw_m9 10 rfl) rfl
theorem q2000 : (Jvm.Cond.code ({ cls := "SturmRootsModel", name := "comesGreat", desc := "([[III)I" } : Jvm.MethodName) prog_6_method_43_code (6 : Nat) (Option.some Jvm.ClassFile.FieldType.int)) ∈ lw_all := lw_g (lw_at lw_m9 11 rfl) rfl
theorem q2001 : (Jvm.Cond.constantLong "SturmRootsModel" (223 : Nat) (10000 : Int64)) ∈ lw_all := lw_g (lw_at lw_m9 12 rfl) rfl
theorem q2003 : (Jvm.Cond.instanceMethod ({ cls := "SturmRootsModel", name := "squareFreePart", desc := "(II)I" } : Jvm.MethodName)) ∈ lw_all := lw_g (lw_at lw_m9 14 rfl) rfl
theorem q2004 : (Jvm.Cond.selects "SturmRootsModel" ({ cls := "SturmRootsModel", name := "squareFreePart", desc := "(II)I" } : Jvm.MethodName) ({ cls := "SturmRootsModel", name := "squareFreePart", desc := "(II)I" } : Jvm.MethodName)) ∈ lw_all := lw_g (lw_at lw_m9 15 rfl) rfl
theorem q2005 : (Jvm.Cond.code ({ cls := "SturmRootsModel", name := "squareFreePart", desc := "(II)I" } : Jvm.MethodName) prog_6_method_56_code (3 : Nat) (Option.some Jvm.ClassFile.FieldType.int)) ∈ lw_all := lw_g (lw_at lw_m9 16 rfl) rfl
theorem q2006 : (Jvm.Cond.methodLink "SturmRootsModel" (244 : Nat) ({ cls := "SturmRootsModel", name := "isZero", desc := "(I)Z" } : Jvm.MethodName)) ∈ lw_all := lw_g (lw_at lw_m9 17 rfl) rfl
theorem q2007 : (Jvm.Cond.privateMethod ({ cls := "SturmRootsModel", name := "isZero", desc := "(I)Z" } : Jvm.MethodName)) ∈ lw_tbl := lw_at lw_m9 18 rfl
theorem q2008 : (Jvm.Cond.instanceMethod ({ cls := "SturmRootsModel", name := "isZero", desc := "(I)Z" } : Jvm.MethodName)) ∈ lw_all := lw_g (lw_at lw_m9 19 rfl) rfl
theorem q2009 : (Jvm.Cond.code ({ cls := "SturmRootsModel", name := "isZero", desc := "(I)Z" } : Jvm.MethodName) prog_6_method_55_code (2 : Nat) (Option.some Jvm.ClassFile.FieldType.boolean)) ∈ lw_all := lw_g (lw_at lw_m9 20 rfl) rfl
theorem q2010 : (Jvm.Cond.methodLink "SturmRootsModel" (247 : Nat) ({ cls := "SturmRootsModel", name := "findFree", desc := "([[I)V" } : Jvm.MethodName)) ∈ lw_all := lw_g (lw_at lw_m9 21 rfl) rfl
theorem q2011 : (Jvm.Cond.privateMethod ({ cls := "SturmRootsModel", name := "findFree", desc := "([[I)V" } : Jvm.MethodName)) ∈ lw_tbl := lw_at lw_m9 22 rfl
theorem q2012 : (Jvm.Cond.instanceMethod ({ cls := "SturmRootsModel", name := "findFree", desc := "([[I)V" } : Jvm.MethodName)) ∈ lw_all := lw_g (lw_at lw_m9 23 rfl) rfl
theorem q2013 : (Jvm.Cond.code ({ cls := "SturmRootsModel", name := "findFree", desc := "([[I)V" } : Jvm.MethodName) prog_6_method_32_code (6 : Nat) (Option.none : Option Jvm.ClassFile.FieldType)) ∈ lw_all := lw_g (lw_at lw_m9 24 rfl) rfl
theorem q2014 : (Jvm.Cond.methodLink "SturmRootsModel" (188 : Nat) ({ cls := "SturmRootsModel", name := "derive", desc := "([[I[[I)V" } : Jvm.MethodName)) ∈ lw_all := lw_g (lw_at lw_m9 25 rfl) rfl
theorem q2015 : (Jvm.Cond.static ({ cls := "SturmRootsModel", name := "derive", desc := "([[I[[I)V" } : Jvm.MethodName)) ∈ lw_all := lw_g (lw_at lw_m9 26 rfl) rfl
theorem q2016 : (Jvm.Cond.code ({ cls := "SturmRootsModel", name := "derive", desc := "([[I[[I)V" } : Jvm.MethodName) prog_6_method_27_code (3 : Nat) (Option.none : Option Jvm.ClassFile.FieldType)) ∈ lw_all := lw_g (lw_at lw_m9 27 rfl) rfl
theorem q2017 : (Jvm.Cond.methodLink "SturmRootsModel" (152 : Nat) ({ cls := "SturmRootsModel", name := "times", desc := "([IJ)V" } : Jvm.MethodName)) ∈ lw_all := lw_g (lw_at lw_m9 28 rfl) rfl
theorem q2018 : (Jvm.Cond.static ({ cls := "SturmRootsModel", name := "times", desc := "([IJ)V" } : Jvm.MethodName)) ∈ lw_all := lw_g (lw_at lw_m9 29 rfl) rfl
theorem q2019 : (Jvm.Cond.code ({ cls := "SturmRootsModel", name := "times", desc := "([IJ)V" } : Jvm.MethodName) prog_6_method_18_code (8 : Nat) (Option.none : Option Jvm.ClassFile.FieldType)) ∈ lw_all := lw_g (lw_at lw_m9 30 rfl) rfl
theorem q2021 : (Jvm.Cond.instanceMethod ({ cls := "SturmRootsModel", name := "sturmLength", desc := "(I)I" } : Jvm.MethodName)) ∈ lw_all := lw_g (lw_at lw_m9 32 rfl) rfl
theorem q2022 : (Jvm.Cond.selects "SturmRootsModel" ({ cls := "SturmRootsModel", name := "sturmLength", desc := "(I)I" } : Jvm.MethodName) ({ cls := "SturmRootsModel", name := "sturmLength", desc := "(I)I" } : Jvm.MethodName)) ∈ lw_all := lw_g (lw_at lw_m9 33 rfl) rfl
theorem q2023 : (Jvm.Cond.code ({ cls := "SturmRootsModel", name := "sturmLength", desc := "(I)I" } : Jvm.MethodName) prog_6_method_58_code (2 : Nat) (Option.some Jvm.ClassFile.FieldType.int)) ∈ lw_all := lw_g (lw_at lw_m9 34 rfl) rfl
theorem q2024 : (Jvm.Cond.methodLink "SturmRootsModel" (253 : Nat) ({ cls := "SturmRootsModel", name := "findRow", desc := "(I)V" } : Jvm.MethodName)) ∈ lw_all := lw_g (lw_at lw_m9 35 rfl) rfl
theorem q2025 : (Jvm.Cond.privateMethod ({ cls := "SturmRootsModel", name := "findRow", desc := "(I)V" } : Jvm.MethodName)) ∈ lw_tbl := lw_at lw_m9 36 rfl
theorem q2026 : (Jvm.Cond.instanceMethod ({ cls := "SturmRootsModel", name := "findRow", desc := "(I)V" } : Jvm.MethodName)) ∈ lw_all := lw_g (lw_at lw_m9 37 rfl) rfl
theorem q2027 : (Jvm.Cond.code ({ cls := "SturmRootsModel", name := "findRow", desc := "(I)V" } : Jvm.MethodName) prog_6_method_57_code (2 : Nat) (Option.none : Option Jvm.ClassFile.FieldType)) ∈ lw_all := lw_g (lw_at lw_m9 38 rfl) rfl
theorem q2029 : (Jvm.Cond.instanceMethod ({ cls := "SturmRootsModel", name := "sturmCoefficient", desc := "(III)J" } : Jvm.MethodName)) ∈ lw_all := lw_g (lw_at lw_m9 40 rfl) rfl
theorem q2030 : (Jvm.Cond.selects "SturmRootsModel" ({ cls := "SturmRootsModel", name := "sturmCoefficient", desc := "(III)J" } : Jvm.MethodName) ({ cls := "SturmRootsModel", name := "sturmCoefficient", desc := "(III)J" } : Jvm.MethodName)) ∈ lw_all := lw_g (lw_at lw_m9 41 rfl) rfl
theorem q2031 : (Jvm.Cond.code ({ cls := "SturmRootsModel", name := "sturmCoefficient", desc := "(III)J" } : Jvm.MethodName) prog_6_method_59_code (5 : Nat) (Option.some Jvm.ClassFile.FieldType.long)) ∈ lw_all := lw_g (lw_at lw_m9 42 rfl) rfl
theorem q2033 : (Jvm.Cond.instanceMethod ({ cls := "SturmRootsModel", name := "sturmDegree", desc := "(II)I" } : Jvm.MethodName)) ∈ lw_all := lw_g (lw_at lw_m9 44 rfl) rfl
theorem q2034 : (Jvm.Cond.selects "SturmRootsModel" ({ cls := "SturmRootsModel", name := "sturmDegree", desc := "(II)I" } : Jvm.MethodName) ({ cls := "SturmRootsModel", name := "sturmDegree", desc := "(II)I" } : Jvm.MethodName)) ∈ lw_all := lw_g (lw_at lw_m9 45 rfl) rfl
theorem q2035 : (Jvm.Cond.code ({ cls := "SturmRootsModel", name := "sturmDegree", desc := "(II)I" } : Jvm.MethodName) prog_6_method_60_code (3 : Nat) (Option.some Jvm.ClassFile.FieldType.int)) ∈ lw_all := lw_g (lw_at lw_m9 46 rfl) rfl
theorem q2037 : (Jvm.Cond.instanceMethod ({ cls := "SturmRootsModel", name := "signChanges", desc := "(III)I" } : Jvm.MethodName)) ∈ lw_all := lw_g (lw_at lw_m9 48 rfl) rfl
theorem q2038 : (Jvm.Cond.selects "SturmRootsModel" ({ cls := "SturmRootsModel", name := "signChanges", desc := "(III)I" } : Jvm.MethodName) ({ cls := "SturmRootsModel", name := "signChanges", desc := "(III)I" } : Jvm.MethodName)) ∈ lw_all := lw_g (lw_at lw_m9 49 rfl) rfl
theorem q2039 : (Jvm.Cond.code ({ cls := "SturmRootsModel", name := "signChanges", desc := "(III)I" } : Jvm.MethodName) prog_6_method_62_code (8 : Nat) (Option.some Jvm.ClassFile.FieldType.int)) ∈ lw_all := lw_g (lw_at lw_m9 50 rfl) rfl
theorem q2040 : (Jvm.Cond.methodLink "SturmRootsModel" (259 : Nat) ({ cls := "SturmRootsModel", name := "isPoint", desc := "(II)Z" } : Jvm.MethodName)) ∈ lw_all := lw_g (lw_at lw_m9 51 rfl) rfl
theorem q2041 : (Jvm.Cond.static ({ cls := "SturmRootsModel", name := "isPoint", desc := "(II)Z" } : Jvm.MethodName)) ∈ lw_all := lw_g (lw_at lw_m9 52 rfl) rfl
theorem q2042 : (Jvm.Cond.code ({ cls := "SturmRootsModel", name := "isPoint", desc := "(II)Z" } : Jvm.MethodName) prog_6_method_61_code (2 : Nat) (Option.some Jvm.ClassFile.FieldType.boolean)) ∈ lw_all := lw_g (lw_at lw_m9 53 rfl) rfl
theorem q2043 : (Jvm.Cond.constant "SturmRootsModel" (257 : Nat) (-1000000 : Int32)) ∈ lw_all := lw_g (lw_at lw_m9 54 rfl) rfl
theorem q2044 : (Jvm.Cond.constant "SturmRootsModel" (258 : Nat) (1000000 : Int32)) ∈ lw_all := lw_g (lw_at lw_m9 55 rfl) rfl
theorem q2045 : (Jvm.Cond.methodLink "SturmRootsModel" (263 : Nat) ({ cls := "SturmRootsModel", name := "signAt", desc := "([[IJI)I" } : Jvm.MethodName)) ∈ lw_all := lw_g (lw_at lw_m9 56 rfl) rfl
theorem q2046 : (Jvm.Cond.privateMethod ({ cls := "SturmRootsModel", name := "signAt", desc := "([[IJI)I" } : Jvm.MethodName)) ∈ lw_tbl := lw_at lw_m9 57 rfl
theorem q2047 : (Jvm.Cond.instanceMethod ({ cls := "SturmRootsModel", name := "signAt", desc := "([[IJI)I" } : Jvm.MethodName)) ∈ lw_all := lw_g (lw_at lw_m9 58 rfl) rfl
theorem q2048 : (Jvm.Cond.code ({ cls := "SturmRootsModel", name := "signAt", desc := "([[IJI)I" } : Jvm.MethodName) prog_6_method_33_code (7 : Nat) (Option.some Jvm.ClassFile.FieldType.int)) ∈ lw_all := lw_g (lw_at lw_m9 59 rfl) rfl
theorem q2049 : (Jvm.Cond.methodLink "SturmRootsModel" (194 : Nat) ({ cls := "SturmRootsModel", name := "add", desc := "([I[I)V" } : Jvm.MethodName)) ∈ lw_all := lw_g (lw_at lw_m9 60 rfl) rfl
theorem q2050 : (Jvm.Cond.static ({ cls := "SturmRootsModel", name := "add", desc := "([I[I)V" } : Jvm.MethodName)) ∈ lw_all := lw_g (lw_at lw_m9 61 rfl) rfl
theorem q2051 : (Jvm.Cond.code ({ cls := "SturmRootsModel", name := "add", desc := "([I[I)V" } : Jvm.MethodName) prog_6_method_8_code (5 : Nat) (Option.none : Option Jvm.ClassFile.FieldType)) ∈ lw_all := lw_g (lw_at lw_m9 62 rfl) rfl
theorem q2053 : (Jvm.Cond.instanceMethod ({ cls := "SturmRootsModel", name := "sign", desc := "(III)I" } : Jvm.MethodName)) ∈ lw_all := lw_g (lw_at lw_m9 64 rfl) rfl
theorem q2054 : (Jvm.Cond.selects "SturmRootsModel" ({ cls := "SturmRootsModel", name := "sign", desc := "(III)I" } : Jvm.MethodName) ({ cls := "SturmRootsModel", name := "sign", desc := "(III)I" } : Jvm.MethodName)) ∈ lw_all := lw_g (lw_at lw_m9 65 rfl) rfl
theorem q2055 : (Jvm.Cond.code ({ cls := "SturmRootsModel", name := "sign", desc := "(III)I" } : Jvm.MethodName) prog_6_method_63_code (4 : Nat) (Option.some Jvm.ClassFile.FieldType.int)) ∈ lw_all := lw_g (lw_at lw_m9 66 rfl) rfl
theorem q2057 : (Jvm.Cond.instanceMethod ({ cls := "SturmRootsModel", name := "countDistinct", desc := "(IIIII)I" } : Jvm.MethodName)) ∈ lw_all := lw_g (lw_at lw_m9 68 rfl) rfl
theorem q2058 : (Jvm.Cond.selects "SturmRootsModel" ({ cls := "SturmRootsModel", name := "countDistinct", desc := "(IIIII)I" } : Jvm.MethodName) ({ cls := "SturmRootsModel", name := "countDistinct", desc := "(IIIII)I" } : Jvm.MethodName)) ∈ lw_all := lw_g (lw_at lw_m9 69 rfl) rfl
theorem q2059 : (Jvm.Cond.code ({ cls := "SturmRootsModel", name := "countDistinct", desc := "(IIIII)I" } : Jvm.MethodName) prog_6_method_66_code (7 : Nat) (Option.some Jvm.ClassFile.FieldType.int)) ∈ lw_all := lw_g (lw_at lw_m9 70 rfl) rfl
theorem q2060 : (Jvm.Cond.methodLink "SturmRootsModel" (271 : Nat) ({ cls := "SturmRootsModel", name := "refused", desc := "(IIIII)I" } : Jvm.MethodName)) ∈ lw_all := lw_g (lw_at lw_m9 71 rfl) rfl
theorem q2061 : (Jvm.Cond.privateMethod ({ cls := "SturmRootsModel", name := "refused", desc := "(IIIII)I" } : Jvm.MethodName)) ∈ lw_tbl := lw_at lw_m9 72 rfl
theorem q2062 : (Jvm.Cond.instanceMethod ({ cls := "SturmRootsModel", name := "refused", desc := "(IIIII)I" } : Jvm.MethodName)) ∈ lw_all := lw_g (lw_at lw_m9 73 rfl) rfl
theorem q2063 : (Jvm.Cond.code ({ cls := "SturmRootsModel", name := "refused", desc := "(IIIII)I" } : Jvm.MethodName) prog_6_method_64_code (6 : Nat) (Option.some Jvm.ClassFile.FieldType.int)) ∈ lw_all := lw_g (lw_at lw_m9 74 rfl) rfl
theorem q2064 : (Jvm.Cond.methodLink "SturmRootsModel" (275 : Nat) ({ cls := "SturmRootsModel", name := "distinct", desc := "(IIII)I" } : Jvm.MethodName)) ∈ lw_all := lw_g (lw_at lw_m9 75 rfl) rfl
theorem q2065 : (Jvm.Cond.privateMethod ({ cls := "SturmRootsModel", name := "distinct", desc := "(IIII)I" } : Jvm.MethodName)) ∈ lw_tbl := lw_at lw_m9 76 rfl
theorem q2066 : (Jvm.Cond.instanceMethod ({ cls := "SturmRootsModel", name := "distinct", desc := "(IIII)I" } : Jvm.MethodName)) ∈ lw_all := lw_g (lw_at lw_m9 77 rfl) rfl
theorem q2067 : (Jvm.Cond.code ({ cls := "SturmRootsModel", name := "distinct", desc := "(IIII)I" } : Jvm.MethodName) prog_6_method_65_code (6 : Nat) (Option.some Jvm.ClassFile.FieldType.int)) ∈ lw_all := lw_g (lw_at lw_m9 78 rfl) rfl
theorem q2068 : (Jvm.Cond.methodLink "SturmRootsModel" (267 : Nat) ({ cls := "SturmRootsModel", name := "between", desc := "([[IJJI)I" } : Jvm.MethodName)) ∈ lw_all := lw_g (lw_at lw_m9 79 rfl) rfl
theorem q2069 : (Jvm.Cond.privateMethod ({ cls := "SturmRootsModel", name := "between", desc := "([[IJJI)I" } : Jvm.MethodName)) ∈ lw_tbl := lw_at lw_m9 80 rfl
theorem q2070 : (Jvm.Cond.instanceMethod ({ cls := "SturmRootsModel", name := "between", desc := "([[IJJI)I" } : Jvm.MethodName)) ∈ lw_all := lw_g (lw_at lw_m9 81 rfl) rfl
theorem q2071 : (Jvm.Cond.code ({ cls := "SturmRootsModel", name := "between", desc := "([[IJJI)I" } : Jvm.MethodName) prog_6_method_37_code (15 : Nat) (Option.some Jvm.ClassFile.FieldType.int)) ∈ lw_all := lw_g (lw_at lw_m9 82 rfl) rfl
theorem q2072 : (Jvm.Cond.methodLink "SturmRootsModel" (205 : Nat) ({ cls := "SturmRootsModel", name := "changesWithin", desc := "([[II)I" } : Jvm.MethodName)) ∈ lw_all := lw_g (lw_at lw_m9 83 rfl) rfl
theorem q2073 : (Jvm.Cond.privateMethod ({ cls := "SturmRootsModel", name := "changesWithin", desc := "([[II)I" } : Jvm.MethodName)) ∈ lw_tbl := lw_at lw_m9 84 rfl
theorem q2074 : (Jvm.Cond.instanceMethod ({ cls := "SturmRootsModel", name := "changesWithin", desc := "([[II)I" } : Jvm.MethodName)) ∈ lw_all := lw_g (lw_at lw_m9 85 rfl) rfl
theorem q2075 : (Jvm.Cond.code ({ cls := "SturmRootsModel", name := "changesWithin", desc := "([[II)I" } : Jvm.MethodName) prog_6_method_36_code (4 : Nat) (Option.some Jvm.ClassFile.FieldType.int)) ∈ lw_all := lw_g (lw_at lw_m9 86 rfl) rfl
theorem q2076 : (Jvm.Cond.methodLink "SturmRootsModel" (197 : Nat) ({ cls := "SturmRootsModel", name := "moves", desc := "([[II)V" } : Jvm.MethodName)) ∈ lw_all := lw_g (lw_at lw_m9 87 rfl) rfl
theorem q2077 : (Jvm.Cond.static ({ cls := "SturmRootsModel", name := "moves", desc := "([[II)V" } : Jvm.MethodName)) ∈ lw_all := lw_g (lw_at lw_m9 88 rfl) rfl
theorem q2078 : (Jvm.Cond.code ({ cls := "SturmRootsModel", name := "moves", desc := "([[II)V" } : Jvm.MethodName) prog_6_method_34_code (4 : Nat) (Option.none : Option Jvm.ClassFile.FieldType)) ∈ lw_all := lw_g (lw_at lw_m9 89 rfl) rfl
theorem q2079 : (Jvm.Cond.methodLink "SturmRootsModel" (201 : Nat) ({ cls := "SturmRootsModel", name := "changes", desc := "([[II)I" } : Jvm.MethodName)) ∈ lw_all := lw_g (lw_at lw_m9 90 rfl) rfl
theorem q2080 : (Jvm.Cond.static ({ cls := "SturmRootsModel", name := "changes", desc := "([[II)I" } : Jvm.MethodName)) ∈ lw_all := lw_g (lw_at lw_m9 91 rfl) rfl
theorem q2081 : (Jvm.Cond.code ({ cls := "SturmRootsModel", name := "changes", desc := "([[II)I" } : Jvm.MethodName) prog_6_method_35_code (6 : Nat) (Option.some Jvm.ClassFile.FieldType.int)) ∈ lw_all := lw_g (lw_at lw_m9 92 rfl) rfl
theorem q2083 : (Jvm.Cond.instanceMethod ({ cls := "SturmRootsModel", name := "countAll", desc := "(IIIII)I" } : Jvm.MethodName)) ∈ lw_all := lw_g (lw_at lw_m9 94 rfl) rfl
theorem q2084 : (Jvm.Cond.selects "SturmRootsModel" ({ cls := "SturmRootsModel", name := "countAll", desc := "(IIIII)I" } : Jvm.MethodName) ({ cls := "SturmRootsModel", name := "countAll", desc := "(IIIII)I" } : Jvm.MethodName)) ∈ lw_all := lw_g (lw_at lw_m9 95 rfl) rfl
theorem q2085 : (Jvm.Cond.code ({ cls := "SturmRootsModel", name := "countAll", desc := "(IIIII)I" } : Jvm.MethodName) prog_6_method_67_code (8 : Nat) (Option.some Jvm.ClassFile.FieldType.int)) ∈ lw_all := lw_g (lw_at lw_m9 96 rfl) rfl
theorem q2087 : (Jvm.Cond.instanceMethod ({ cls := "SturmRootsModel", name := "distinctRoots", desc := "(I)I" } : Jvm.MethodName)) ∈ lw_all := lw_g (lw_at lw_m9 98 rfl) rfl
theorem q2088 : (Jvm.Cond.selects "SturmRootsModel" ({ cls := "SturmRootsModel", name := "distinctRoots", desc := "(I)I" } : Jvm.MethodName) ({ cls := "SturmRootsModel", name := "distinctRoots", desc := "(I)I" } : Jvm.MethodName)) ∈ lw_all := lw_g (lw_at lw_m9 99 rfl) rfl
theorem q2089 : (Jvm.Cond.code ({ cls := "SturmRootsModel", name := "distinctRoots", desc := "(I)I" } : Jvm.MethodName) prog_6_method_69_code (3 : Nat) (Option.some Jvm.ClassFile.FieldType.int)) ∈ lw_all := lw_g (lw_at lw_m9 100 rfl) rfl
theorem q2090 : (Jvm.Cond.methodLink "SturmRootsModel" (282 : Nat) ({ cls := "SturmRootsModel", name := "bound", desc := "([I)I" } : Jvm.MethodName)) ∈ lw_all := lw_g (lw_at lw_m9 101 rfl) rfl
theorem q2091 : (Jvm.Cond.static ({ cls := "SturmRootsModel", name := "bound", desc := "([I)I" } : Jvm.MethodName)) ∈ lw_all := lw_g (lw_at lw_m9 102 rfl) rfl
theorem q2092 : (Jvm.Cond.code ({ cls := "SturmRootsModel", name := "bound", desc := "([I)I" } : Jvm.MethodName) prog_6_method_68_code (5 : Nat) (Option.some Jvm.ClassFile.FieldType.int)) ∈ lw_all := lw_g (lw_at lw_m9 103 rfl) rfl
theorem q2093 : (Jvm.Cond.methodLink "SturmRootsModel" (279 : Nat) ({ cls := "java/lang/Math", name := "abs", desc := "(I)I" } : Jvm.MethodName)) ∈ lw_all := lw_g (lw_at lw_m9 104 rfl) rfl
theorem q2095 : (Jvm.Cond.instanceMethod ({ cls := "SturmRootsModel", name := "coefficientSignChanges", desc := "(I)I" } : Jvm.MethodName)) ∈ lw_all := lw_g (lw_at lw_m9 106 rfl) rfl
theorem q2096 : (Jvm.Cond.selects "SturmRootsModel" ({ cls := "SturmRootsModel", name := "coefficientSignChanges", desc := "(I)I" } : Jvm.MethodName) ({ cls := "SturmRootsModel", name := "coefficientSignChanges", desc := "(I)I" } : Jvm.MethodName)) ∈ lw_all := lw_g (lw_at lw_m9 107 rfl) rfl
theorem q2097 : (Jvm.Cond.code ({ cls := "SturmRootsModel", name := "coefficientSignChanges", desc := "(I)I" } : Jvm.MethodName) prog_6_method_70_code (2 : Nat) (Option.some Jvm.ClassFile.FieldType.int)) ∈ lw_all := lw_g (lw_at lw_m9 108 rfl) rfl
theorem q2099 : (Jvm.Cond.instanceMethod ({ cls := "SturmRootsModel", name := "isolate", desc := "(I)I" } : Jvm.MethodName)) ∈ lw_all := lw_g (lw_at lw_m9 110 rfl) rfl
theorem q2100 : (Jvm.Cond.selects "SturmRootsModel" ({ cls := "SturmRootsModel", name := "isolate", desc := "(I)I" } : Jvm.MethodName) ({ cls := "SturmRootsModel", name := "isolate", desc := "(I)I" } : Jvm.MethodName)) ∈ lw_all := lw_g (lw_at lw_m9 111 rfl) rfl
theorem q2101 : (Jvm.Cond.code ({ cls := "SturmRootsModel", name := "isolate", desc := "(I)I" } : Jvm.MethodName) prog_6_method_74_code (3 : Nat) (Option.some Jvm.ClassFile.FieldType.int)) ∈ lw_all := lw_g (lw_at lw_m9 112 rfl) rfl
theorem q2102 : (Jvm.Cond.methodLink "SturmRootsModel" (292 : Nat) ({ cls := "SturmRootsModel", name := "place", desc := "(IIII)V" } : Jvm.MethodName)) ∈ lw_all := lw_g (lw_at lw_m9 113 rfl) rfl
theorem q2103 : (Jvm.Cond.privateMethod ({ cls := "SturmRootsModel", name := "place", desc := "(IIII)V" } : Jvm.MethodName)) ∈ lw_tbl := lw_at lw_m9 114 rfl
theorem q2104 : (Jvm.Cond.instanceMethod ({ cls := "SturmRootsModel", name := "place", desc := "(IIII)V" } : Jvm.MethodName)) ∈ lw_all := lw_g (lw_at lw_m9 115 rfl) rfl
theorem q2105 : (Jvm.Cond.code ({ cls := "SturmRootsModel", name := "place", desc := "(IIII)V" } : Jvm.MethodName) prog_6_method_72_code (5 : Nat) (Option.none : Option Jvm.ClassFile.FieldType)) ∈ lw_all := lw_g (lw_at lw_m9 116 rfl) rfl
theorem q2107 : (Jvm.Cond.instanceMethod ({ cls := "SturmRootsModel", name := "intervals", desc := "()I" } : Jvm.MethodName)) ∈ lw_all := lw_g (lw_at lw_m9 118 rfl) rfl
theorem q2108 : (Jvm.Cond.selects "SturmRootsModel" ({ cls := "SturmRootsModel", name := "intervals", desc := "()I" } : Jvm.MethodName) ({ cls := "SturmRootsModel", name := "intervals", desc := "()I" } : Jvm.MethodName)) ∈ lw_all := lw_g (lw_at lw_m9 119 rfl) rfl
theorem q2109 : (Jvm.Cond.code ({ cls := "SturmRootsModel", name := "intervals", desc := "()I" } : Jvm.MethodName) prog_6_method_75_code (1 : Nat) (Option.some Jvm.ClassFile.FieldType.int)) ∈ lw_all := lw_g (lw_at lw_m9 120 rfl) rfl
theorem q2111 : (Jvm.Cond.instanceMethod ({ cls := "SturmRootsModel", name := "rootsIn", desc := "(I)I" } : Jvm.MethodName)) ∈ lw_all := lw_g (lw_at lw_m9 122 rfl) rfl
theorem q2112 : (Jvm.Cond.selects "SturmRootsModel" ({ cls := "SturmRootsModel", name := "rootsIn", desc := "(I)I" } : Jvm.MethodName) ({ cls := "SturmRootsModel", name := "rootsIn", desc := "(I)I" } : Jvm.MethodName)) ∈ lw_all := lw_g (lw_at lw_m9 123 rfl) rfl
theorem q2113 : (Jvm.Cond.code ({ cls := "SturmRootsModel", name := "rootsIn", desc := "(I)I" } : Jvm.MethodName) prog_6_method_77_code (2 : Nat) (Option.some Jvm.ClassFile.FieldType.int)) ∈ lw_all := lw_g (lw_at lw_m9 124 rfl) rfl
theorem q2114 : (Jvm.Cond.methodLink "SturmRootsModel" (296 : Nat) ({ cls := "SturmRootsModel", name := "isInterval", desc := "(I)Z" } : Jvm.MethodName)) ∈ lw_all := lw_g (lw_at lw_m9 125 rfl) rfl
theorem q2115 : (Jvm.Cond.privateMethod ({ cls := "SturmRootsModel", name := "isInterval", desc := "(I)Z" } : Jvm.MethodName)) ∈ lw_tbl := lw_at lw_m9 126 rfl
theorem q2116 : (Jvm.Cond.instanceMethod ({ cls := "SturmRootsModel", name := "isInterval", desc := "(I)Z" } : Jvm.MethodName)) ∈ lw_all := lw_g (lw_at lw_m9 127 rfl) rfl
theorem q2117 : (Jvm.Cond.code ({ cls := "SturmRootsModel", name := "isInterval", desc := "(I)Z" } : Jvm.MethodName) prog_6_method_76_code (2 : Nat) (Option.some Jvm.ClassFile.FieldType.boolean)) ∈ lw_all := lw_g (lw_at lw_m9 128 rfl) rfl
theorem q2119 : (Jvm.Cond.instanceMethod ({ cls := "SturmRootsModel", name := "interval", desc := "(IC)I" } : Jvm.MethodName)) ∈ lw_all := lw_g (lw_at lw_m9 130 rfl) rfl
theorem q2120 : (Jvm.Cond.selects "SturmRootsModel" ({ cls := "SturmRootsModel", name := "interval", desc := "(IC)I" } : Jvm.MethodName) ({ cls := "SturmRootsModel", name := "interval", desc := "(IC)I" } : Jvm.MethodName)) ∈ lw_all := lw_g (lw_at lw_m9 131 rfl) rfl
theorem q2121 : (Jvm.Cond.code ({ cls := "SturmRootsModel", name := "interval", desc := "(IC)I" } : Jvm.MethodName) prog_6_method_78_code (3 : Nat) (Option.some Jvm.ClassFile.FieldType.int)) ∈ lw_all := lw_g (lw_at lw_m9 132 rfl) rfl
theorem q2123 : (Jvm.Cond.instanceMethod ({ cls := "SturmRootsModel", name := "bisect", desc := "(I)I" } : Jvm.MethodName)) ∈ lw_all := lw_g (lw_at lw_m9 134 rfl) rfl
theorem q2124 : (Jvm.Cond.selects "SturmRootsModel" ({ cls := "SturmRootsModel", name := "bisect", desc := "(I)I" } : Jvm.MethodName) ({ cls := "SturmRootsModel", name := "bisect", desc := "(I)I" } : Jvm.MethodName)) ∈ lw_all := lw_g (lw_at lw_m9 135 rfl) rfl
theorem q2125 : (Jvm.Cond.code ({ cls := "SturmRootsModel", name := "bisect", desc := "(I)I" } : Jvm.MethodName) prog_6_method_80_code (7 : Nat) (Option.some Jvm.ClassFile.FieldType.int)) ∈ lw_all := lw_g (lw_at lw_m9 136 rfl) rfl
theorem q2126 : (Jvm.Cond.methodLink "SturmRootsModel" (299 : Nat) ({ cls := "SturmRootsModel", name := "isRoot", desc := "(II)Z" } : Jvm.MethodName)) ∈ lw_all := lw_g (lw_at lw_m9 137 rfl) rfl
theorem q2127 : (Jvm.Cond.privateMethod ({ cls := "SturmRootsModel", name := "isRoot", desc := "(II)Z" } : Jvm.MethodName)) ∈ lw_tbl := lw_at lw_m9 138 rfl
theorem q2128 : (Jvm.Cond.instanceMethod ({ cls := "SturmRootsModel", name := "isRoot", desc := "(II)Z" } : Jvm.MethodName)) ∈ lw_all := lw_g (lw_at lw_m9 139 rfl) rfl
theorem q2129 : (Jvm.Cond.code ({ cls := "SturmRootsModel", name := "isRoot", desc := "(II)Z" } : Jvm.MethodName) prog_6_method_79_code (3 : Nat) (Option.some Jvm.ClassFile.FieldType.boolean)) ∈ lw_all := lw_g (lw_at lw_m9 140 rfl) rfl
theorem q2130 : (Jvm.Cond.methodLink "SturmRootsModel" (302 : Nat) ({ cls := "SturmRootsModel", name := "opens", desc := "(II)V" } : Jvm.MethodName)) ∈ lw_all := lw_g (lw_at lw_m9 141 rfl) rfl
theorem q2131 : (Jvm.Cond.privateMethod ({ cls := "SturmRootsModel", name := "opens", desc := "(II)V" } : Jvm.MethodName)) ∈ lw_tbl := lw_at lw_m9 142 rfl
theorem q2132 : (Jvm.Cond.instanceMethod ({ cls := "SturmRootsModel", name := "opens", desc := "(II)V" } : Jvm.MethodName)) ∈ lw_all := lw_g (lw_at lw_m9 143 rfl) rfl
theorem q2133 : (Jvm.Cond.code ({ cls := "SturmRootsModel", name := "opens", desc := "(II)V" } : Jvm.MethodName) prog_6_method_73_code (4 : Nat) (Option.none : Option Jvm.ClassFile.FieldType)) ∈ lw_all := lw_g (lw_at lw_m9 144 rfl) rfl
theorem q2134 : (Jvm.Cond.methodLink "SturmRootsModel" (288 : Nat) ({ cls := "SturmRootsModel", name := "longer", desc := "([I)[I" } : Jvm.MethodName)) ∈ lw_all := lw_g (lw_at lw_m9 145 rfl) rfl
theorem q2135 : (Jvm.Cond.static ({ cls := "SturmRootsModel", name := "longer", desc := "([I)[I" } : Jvm.MethodName)) ∈ lw_all := lw_g (lw_at lw_m9 146 rfl) rfl
theorem q2136 : (Jvm.Cond.code ({ cls := "SturmRootsModel", name := "longer", desc := "([I)[I" } : Jvm.MethodName) prog_6_method_71_code (3 : Nat) (Option.some (Jvm.ClassFile.FieldType.array Jvm.ClassFile.FieldType.int))) ∈ lw_all := lw_g (lw_at lw_m9 147 rfl) rfl
theorem q2138 : (Jvm.Cond.instanceMethod ({ cls := "SturmRootsModel", name := "refine", desc := "(II)I" } : Jvm.MethodName)) ∈ lw_all := lw_g (lw_at lw_m9 149 rfl) rfl
theorem q2139 : (Jvm.Cond.selects "SturmRootsModel" ({ cls := "SturmRootsModel", name := "refine", desc := "(II)I" } : Jvm.MethodName) ({ cls := "SturmRootsModel", name := "refine", desc := "(II)I" } : Jvm.MethodName)) ∈ lw_all := lw_g (lw_at lw_m9 150 rfl) rfl
theorem q2140 : (Jvm.Cond.code ({ cls := "SturmRootsModel", name := "refine", desc := "(II)I" } : Jvm.MethodName) prog_6_method_81_code (8 : Nat) (Option.some Jvm.ClassFile.FieldType.int)) ∈ lw_all := lw_g (lw_at lw_m9 151 rfl) rfl
theorem q2142 : (Jvm.Cond.instanceMethod ({ cls := "SturmRootsModel", name := "removeEmpty", desc := "()I" } : Jvm.MethodName)) ∈ lw_all := lw_g (lw_at lw_m9 153 rfl) rfl
theorem q2143 : (Jvm.Cond.selects "SturmRootsModel" ({ cls := "SturmRootsModel", name := "removeEmpty", desc := "()I" } : Jvm.MethodName) ({ cls := "SturmRootsModel", name := "removeEmpty", desc := "()I" } : Jvm.MethodName)) ∈ lw_all := lw_g (lw_at lw_m9 154 rfl) rfl
theorem q2144 : (Jvm.Cond.code ({ cls := "SturmRootsModel", name := "removeEmpty", desc := "()I" } : Jvm.MethodName) prog_6_method_82_code (3 : Nat) (Option.some Jvm.ClassFile.FieldType.int)) ∈ lw_all := lw_g (lw_at lw_m9 155 rfl) rfl
theorem q2146 : (Jvm.Cond.instanceMethod ({ cls := "SturmRootsModel", name := "multiplicity", desc := "(I)I" } : Jvm.MethodName)) ∈ lw_all := lw_g (lw_at lw_m9 157 rfl) rfl
theorem q2147 : (Jvm.Cond.selects "SturmRootsModel" ({ cls := "SturmRootsModel", name := "multiplicity", desc := "(I)I" } : Jvm.MethodName) ({ cls := "SturmRootsModel", name := "multiplicity", desc := "(I)I" } : Jvm.MethodName)) ∈ lw_all := lw_g (lw_at lw_m9 158 rfl) rfl
theorem q2148 : (Jvm.Cond.code ({ cls := "SturmRootsModel", name := "multiplicity", desc := "(I)I" } : Jvm.MethodName) prog_6_method_83_code (7 : Nat) (Option.some Jvm.ClassFile.FieldType.int)) ∈ lw_all := lw_g (lw_at lw_m9 159 rfl) rfl
theorem q2150 : (Jvm.Cond.instanceMethod ({ cls := "SturmRootsModel", name := "isTrue", desc := "(I)Z" } : Jvm.MethodName)) ∈ lw_all := lw_g (lw_at lw_m9 161 rfl) rfl
theorem q2151 : (Jvm.Cond.selects "SturmRootsModel" ({ cls := "SturmRootsModel", name := "isTrue", desc := "(I)Z" } : Jvm.MethodName) ({ cls := "SturmRootsModel", name := "isTrue", desc := "(I)Z" } : Jvm.MethodName)) ∈ lw_all := lw_g (lw_at lw_m9 162 rfl) rfl
theorem q2152 : (Jvm.Cond.code ({ cls := "SturmRootsModel", name := "isTrue", desc := "(I)Z" } : Jvm.MethodName) prog_6_method_84_code (2 : Nat) (Option.some Jvm.ClassFile.FieldType.boolean)) ∈ lw_all := lw_g (lw_at lw_m9 163 rfl) rfl
theorem q2154 : (Jvm.Cond.instanceMethod ({ cls := "SturmRootsModel", name := "checksum", desc := "()J" } : Jvm.MethodName)) ∈ lw_all := lw_g (lw_at lw_m9 165 rfl) rfl
theorem q2155 : (Jvm.Cond.selects "SturmRootsModel" ({ cls := "SturmRootsModel", name := "checksum", desc := "()J" } : Jvm.MethodName) ({ cls := "SturmRootsModel", name := "checksum", desc := "()J" } : Jvm.MethodName)) ∈ lw_all := lw_g (lw_at lw_m9 166 rfl) rfl
theorem q2156 : (Jvm.Cond.code ({ cls := "SturmRootsModel", name := "checksum", desc := "()J" } : Jvm.MethodName) prog_6_method_85_code (8 : Nat) (Option.some Jvm.ClassFile.FieldType.long)) ∈ lw_all := lw_g (lw_at lw_m9 167 rfl) rfl
theorem q2157 : (Jvm.Cond.constantLong "SturmRootsModel" (306 : Nat) (7 : Int64)) ∈ lw_all := lw_g (lw_at lw_m9 168 rfl) rfl
theorem q2158 : (Jvm.Cond.constantLong "SturmRootsModel" (308 : Nat) (31 : Int64)) ∈ lw_all := lw_g (lw_at lw_m9 169 rfl) rfl
theorem q2175 : (Jvm.Cond.castable "SturmRootsModel" "java/lang/Object") ∈ lw_tbl := lw_at lw_m9 186 rfl
theorem in_X4 : ∀ w ∈ wsX40, w ∈ lw_all := lw_in wsX40 [1787, 1789, 1791, 1793, 1795, 1797, 1799, 1801, 1803, 1805, 1807, 1809, 1811, 1813, 1815, 1817, 1819, 1821, 1823, 1825, 1827, 1829, 1831, 1833, 1835, 1837, 1839] (by decide +kernel) (by decide +kernel)
