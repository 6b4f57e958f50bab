set_option maxRecDepth 100000
/-! PaidSecrets$Reader -/
set_option maxRecDepth 100000
def RX2 : String := "PaidSecrets$Reader"
def TX2 : u_T := fun k => match k with
  | 0 => ("PaidSecrets$Reader", "facts", "[Ljava/lang/String;", true)
  | 1 => ("PaidSecrets$Reader", "kinds", "[Ljava/lang/String;", true)
  | 2 => ("PaidSecrets$Reader", "kept", "[Ljava/lang/String;", true)
  | 3 => ("PaidSecrets$Reader", "draft", "LPaidSecrets$Town;", false)
  | 4 => ("PaidSecrets$Reader", "tape", "[I", true)
  | 5 => ("PaidSecrets$Reader", "taped", "I", false)
  | 6 => ("PaidSecrets$Reader", "sort", "[I", true)
  | 7 => ("PaidSecrets$Reader", "value", "[J", true)
  | 8 => ("PaidSecrets$Reader", "place", "[I", true)
  | 9 => ("PaidSecrets$Reader", "at", "I", false)
  | _ => ("PaidSecrets$Reader", "deep", "I", false)
def tyX2 : Nat → FieldType := fun k => match k with
  | 0 => .array (.object "java/lang/String")
  | 1 => .array (.object "java/lang/String")
  | 2 => .array (.object "java/lang/String")
  | 3 => .object "PaidSecrets$Town"
  | 4 => .array .int
  | 5 => .int
  | 6 => .array .int
  | 7 => .array .long
  | 8 => .array .int
  | 9 => .int
  | _ => .int
abbrev wsX20 : List Cond := u_ws RX2 TX2 11
theorem nmX2 : ∀ a, a < 11 → ∀ b, b < 11 → a ≠ b → (TX2 a).2.1 ≠ (TX2 b).2.1 := by decide +kernel
theorem tyX2_ok : ∀ k, k < 11 → parseFieldDescriptor (TX2 k).2.2.1 = some (tyX2 k) := by decide +kernel
abbrev cX2_init : ByteArray := prog_25_method_1_code
def yX2_init : MethodName := ⟨RX2, "<init>", "()V"⟩
def dkwX2_init_9 : List UInt8 := [181, 0, 90, 177]
abbrev dktX2_init_9 : List UInt8 := dkwX2_init_9 ++ []
def dkwX2_init_8 : List UInt8 := [42, 17, 3, 233, 188, 10, 181, 0, 83, 42, 17, 3, 233, 188, 11, 181, 0, 86, 42, 17, 3, 233, 188, 10]
abbrev dktX2_init_8 : List UInt8 := dkwX2_init_8 ++ dktX2_init_9
def dkwX2_init_7 : List UInt8 := [89, 16, 18, 18, 72, 83, 89, 16, 19, 18, 74, 83, 181, 0, 76, 42, 17, 3, 232, 188, 10, 181, 0, 79]
abbrev dktX2_init_7 : List UInt8 := dkwX2_init_7 ++ dktX2_init_8
def dkwX2_init_6 : List UInt8 := [89, 16, 14, 18, 64, 83, 89, 16, 15, 18, 66, 83, 89, 16, 16, 18, 68, 83, 89, 16, 17, 18, 70, 83]
abbrev dktX2_init_6 : List UInt8 := dkwX2_init_6 ++ dktX2_init_7
def dkwX2_init_5 : List UInt8 := [89, 16, 10, 18, 56, 83, 89, 16, 11, 18, 58, 83, 89, 16, 12, 18, 60, 83, 89, 16, 13, 18, 62, 83]
abbrev dktX2_init_5 : List UInt8 := dkwX2_init_5 ++ dktX2_init_6
def dkwX2_init_4 : List UInt8 := [89, 16, 6, 18, 48, 83, 89, 16, 7, 18, 50, 83, 89, 16, 8, 18, 52, 83, 89, 16, 9, 18, 54, 83]
abbrev dktX2_init_4 : List UInt8 := dkwX2_init_4 ++ dktX2_init_5
def dkwX2_init_3 : List UInt8 := [4, 18, 38, 83, 89, 5, 18, 40, 83, 89, 6, 18, 42, 83, 89, 7, 18, 44, 83, 89, 8, 18, 46, 83]
abbrev dktX2_init_3 : List UInt8 := dkwX2_init_3 ++ dktX2_init_4
def dkwX2_init_2 : List UInt8 := [5, 18, 29, 83, 89, 6, 18, 31, 83, 181, 0, 33, 42, 16, 20, 189, 0, 9, 89, 3, 18, 36, 83, 89]
abbrev dktX2_init_2 : List UInt8 := dkwX2_init_2 ++ dktX2_init_3
def dkwX2_init_1 : List UInt8 := [89, 6, 18, 17, 83, 181, 0, 19, 42, 7, 189, 0, 9, 89, 3, 18, 25, 83, 89, 4, 18, 27, 83, 89]
abbrev dktX2_init_1 : List UInt8 := dkwX2_init_1 ++ dktX2_init_2
def dkwX2_init_0 : List UInt8 := [42, 183, 0, 3, 42, 7, 189, 0, 9, 89, 3, 18, 11, 83, 89, 4, 18, 13, 83, 89, 5, 18, 15, 83]
abbrev dktX2_init_0 : List UInt8 := dkwX2_init_0 ++ dktX2_init_1
theorem dksX2_init_0 : cX2_init.data.toList.drop 0 = dktX2_init_0 := by decide +kernel
theorem dksX2_init_1 : cX2_init.data.toList.drop 24 = dktX2_init_1 := dk_seg dksX2_init_0 24 rfl rfl
theorem dksX2_init_2 : cX2_init.data.toList.drop 48 = dktX2_init_2 := dk_seg dksX2_init_1 24 rfl rfl
theorem dksX2_init_3 : cX2_init.data.toList.drop 72 = dktX2_init_3 := dk_seg dksX2_init_2 24 rfl rfl
theorem dksX2_init_4 : cX2_init.data.toList.drop 96 = dktX2_init_4 := dk_seg dksX2_init_3 24 rfl rfl
theorem dksX2_init_5 : cX2_init.data.toList.drop 120 = dktX2_init_5 := dk_seg dksX2_init_4 24 rfl rfl
theorem dksX2_init_6 : cX2_init.data.toList.drop 144 = dktX2_init_6 := dk_seg dksX2_init_5 24 rfl rfl
theorem dksX2_init_7 : cX2_init.data.toList.drop 168 = dktX2_init_7 := dk_seg dksX2_init_6 24 rfl rfl
theorem dksX2_init_8 : cX2_init.data.toList.drop 192 = dktX2_init_8 := dk_seg dksX2_init_7 24 rfl rfl
theorem dksX2_init_9 : cX2_init.data.toList.drop 216 = dktX2_init_9 := dk_seg dksX2_init_8 24 rfl rfl
theorem dX2_init_0 : decode cX2_init 0 = .ok (.aload_n 0, 1) := dk_42 (dk_at dksX2_init_0 0 rfl rfl)
theorem dX2_init_1 : decode cX2_init 1 = .ok (.invokespecial 3, 3) := dk_183 0 3 (dk_at dksX2_init_0 1 rfl rfl)
theorem dX2_init_4 : decode cX2_init 4 = .ok (.aload_n 0, 1) := dk_42 (dk_at dksX2_init_0 4 rfl rfl)
theorem dX2_init_5 : decode cX2_init 5 = .ok (.iconst 4, 1) := dk_7 (dk_at dksX2_init_0 5 rfl rfl)
theorem dX2_init_6 : decode cX2_init 6 = .ok (.anewarray 9, 3) := dk_189 0 9 (dk_at dksX2_init_0 6 rfl rfl)
theorem dX2_init_9 : decode cX2_init 9 = .ok (.dup, 1) := dk_89 (dk_at dksX2_init_0 9 rfl rfl)
theorem dX2_init_10 : decode cX2_init 10 = .ok (.iconst 0, 1) := dk_3 (dk_at dksX2_init_0 10 rfl rfl)
theorem dX2_init_11 : decode cX2_init 11 = .ok (.ldc 11, 2) := dk_18 11 (dk_at dksX2_init_0 11 rfl rfl)
theorem dX2_init_13 : decode cX2_init 13 = .ok (.aastore, 1) := dk_83 (dk_at dksX2_init_0 13 rfl rfl)
theorem dX2_init_14 : decode cX2_init 14 = .ok (.dup, 1) := dk_89 (dk_at dksX2_init_0 14 rfl rfl)
theorem dX2_init_15 : decode cX2_init 15 = .ok (.iconst 1, 1) := dk_4 (dk_at dksX2_init_0 15 rfl rfl)
theorem dX2_init_16 : decode cX2_init 16 = .ok (.ldc 13, 2) := dk_18 13 (dk_at dksX2_init_0 16 rfl rfl)
theorem dX2_init_18 : decode cX2_init 18 = .ok (.aastore, 1) := dk_83 (dk_at dksX2_init_0 18 rfl rfl)
theorem dX2_init_19 : decode cX2_init 19 = .ok (.dup, 1) := dk_89 (dk_at dksX2_init_0 19 rfl rfl)
theorem dX2_init_20 : decode cX2_init 20 = .ok (.iconst 2, 1) := dk_5 (dk_at dksX2_init_0 20 rfl rfl)
theorem dX2_init_21 : decode cX2_init 21 = .ok (.ldc 15, 2) := dk_18 15 (dk_at dksX2_init_0 21 rfl rfl)
theorem dX2_init_23 : decode cX2_init 23 = .ok (.aastore, 1) := dk_83 (dk_at dksX2_init_0 23 rfl rfl)
theorem dX2_init_24 : decode cX2_init 24 = .ok (.dup, 1) := dk_89 (dk_at dksX2_init_1 0 rfl rfl)
theorem dX2_init_25 : decode cX2_init 25 = .ok (.iconst 3, 1) := dk_6 (dk_at dksX2_init_1 1 rfl rfl)
theorem dX2_init_26 : decode cX2_init 26 = .ok (.ldc 17, 2) := dk_18 17 (dk_at dksX2_init_1 2 rfl rfl)
theorem dX2_init_28 : decode cX2_init 28 = .ok (.aastore, 1) := dk_83 (dk_at dksX2_init_1 4 rfl rfl)
theorem dX2_init_29 : decode cX2_init 29 = .ok (.putfield 19, 3) := dk_181 0 19 (dk_at dksX2_init_1 5 rfl rfl)
theorem dX2_init_32 : decode cX2_init 32 = .ok (.aload_n 0, 1) := dk_42 (dk_at dksX2_init_1 8 rfl rfl)
theorem dX2_init_33 : decode cX2_init 33 = .ok (.iconst 4, 1) := dk_7 (dk_at dksX2_init_1 9 rfl rfl)
theorem dX2_init_34 : decode cX2_init 34 = .ok (.anewarray 9, 3) := dk_189 0 9 (dk_at dksX2_init_1 10 rfl rfl)
theorem dX2_init_37 : decode cX2_init 37 = .ok (.dup, 1) := dk_89 (dk_at dksX2_init_1 13 rfl rfl)
theorem dX2_init_38 : decode cX2_init 38 = .ok (.iconst 0, 1) := dk_3 (dk_at dksX2_init_1 14 rfl rfl)
theorem dX2_init_39 : decode cX2_init 39 = .ok (.ldc 25, 2) := dk_18 25 (dk_at dksX2_init_1 15 rfl rfl)
theorem dX2_init_41 : decode cX2_init 41 = .ok (.aastore, 1) := dk_83 (dk_at dksX2_init_1 17 rfl rfl)
theorem dX2_init_42 : decode cX2_init 42 = .ok (.dup, 1) := dk_89 (dk_at dksX2_init_1 18 rfl rfl)
theorem dX2_init_43 : decode cX2_init 43 = .ok (.iconst 1, 1) := dk_4 (dk_at dksX2_init_1 19 rfl rfl)
theorem dX2_init_44 : decode cX2_init 44 = .ok (.ldc 27, 2) := dk_18 27 (dk_at dksX2_init_1 20 rfl rfl)
theorem dX2_init_46 : decode cX2_init 46 = .ok (.aastore, 1) := dk_83 (dk_at dksX2_init_1 22 rfl rfl)
theorem dX2_init_47 : decode cX2_init 47 = .ok (.dup, 1) := dk_89 (dk_at dksX2_init_1 23 rfl rfl)
theorem dX2_init_48 : decode cX2_init 48 = .ok (.iconst 2, 1) := dk_5 (dk_at dksX2_init_2 0 rfl rfl)
theorem dX2_init_49 : decode cX2_init 49 = .ok (.ldc 29, 2) := dk_18 29 (dk_at dksX2_init_2 1 rfl rfl)
theorem dX2_init_51 : decode cX2_init 51 = .ok (.aastore, 1) := dk_83 (dk_at dksX2_init_2 3 rfl rfl)
theorem dX2_init_52 : decode cX2_init 52 = .ok (.dup, 1) := dk_89 (dk_at dksX2_init_2 4 rfl rfl)
theorem dX2_init_53 : decode cX2_init 53 = .ok (.iconst 3, 1) := dk_6 (dk_at dksX2_init_2 5 rfl rfl)
theorem dX2_init_54 : decode cX2_init 54 = .ok (.ldc 31, 2) := dk_18 31 (dk_at dksX2_init_2 6 rfl rfl)
theorem dX2_init_56 : decode cX2_init 56 = .ok (.aastore, 1) := dk_83 (dk_at dksX2_init_2 8 rfl rfl)
theorem dX2_init_57 : decode cX2_init 57 = .ok (.putfield 33, 3) := dk_181 0 33 (dk_at dksX2_init_2 9 rfl rfl)
theorem dX2_init_60 : decode cX2_init 60 = .ok (.aload_n 0, 1) := dk_42 (dk_at dksX2_init_2 12 rfl rfl)
theorem dX2_init_61 : decode cX2_init 61 = .ok (.bipush 20, 2) := dk_16 20 (dk_at dksX2_init_2 13 rfl rfl)
theorem dX2_init_63 : decode cX2_init 63 = .ok (.anewarray 9, 3) := dk_189 0 9 (dk_at dksX2_init_2 15 rfl rfl)
theorem dX2_init_66 : decode cX2_init 66 = .ok (.dup, 1) := dk_89 (dk_at dksX2_init_2 18 rfl rfl)
theorem dX2_init_67 : decode cX2_init 67 = .ok (.iconst 0, 1) := dk_3 (dk_at dksX2_init_2 19 rfl rfl)
theorem dX2_init_68 : decode cX2_init 68 = .ok (.ldc 36, 2) := dk_18 36 (dk_at dksX2_init_2 20 rfl rfl)
theorem dX2_init_70 : decode cX2_init 70 = .ok (.aastore, 1) := dk_83 (dk_at dksX2_init_2 22 rfl rfl)
theorem dX2_init_71 : decode cX2_init 71 = .ok (.dup, 1) := dk_89 (dk_at dksX2_init_2 23 rfl rfl)
theorem dX2_init_72 : decode cX2_init 72 = .ok (.iconst 1, 1) := dk_4 (dk_at dksX2_init_3 0 rfl rfl)
theorem dX2_init_73 : decode cX2_init 73 = .ok (.ldc 38, 2) := dk_18 38 (dk_at dksX2_init_3 1 rfl rfl)
theorem dX2_init_75 : decode cX2_init 75 = .ok (.aastore, 1) := dk_83 (dk_at dksX2_init_3 3 rfl rfl)
theorem dX2_init_76 : decode cX2_init 76 = .ok (.dup, 1) := dk_89 (dk_at dksX2_init_3 4 rfl rfl)
theorem dX2_init_77 : decode cX2_init 77 = .ok (.iconst 2, 1) := dk_5 (dk_at dksX2_init_3 5 rfl rfl)
theorem dX2_init_78 : decode cX2_init 78 = .ok (.ldc 40, 2) := dk_18 40 (dk_at dksX2_init_3 6 rfl rfl)
theorem dX2_init_80 : decode cX2_init 80 = .ok (.aastore, 1) := dk_83 (dk_at dksX2_init_3 8 rfl rfl)
theorem dX2_init_81 : decode cX2_init 81 = .ok (.dup, 1) := dk_89 (dk_at dksX2_init_3 9 rfl rfl)
theorem dX2_init_82 : decode cX2_init 82 = .ok (.iconst 3, 1) := dk_6 (dk_at dksX2_init_3 10 rfl rfl)
theorem dX2_init_83 : decode cX2_init 83 = .ok (.ldc 42, 2) := dk_18 42 (dk_at dksX2_init_3 11 rfl rfl)
theorem dX2_init_85 : decode cX2_init 85 = .ok (.aastore, 1) := dk_83 (dk_at dksX2_init_3 13 rfl rfl)
theorem dX2_init_86 : decode cX2_init 86 = .ok (.dup, 1) := dk_89 (dk_at dksX2_init_3 14 rfl rfl)
theorem dX2_init_87 : decode cX2_init 87 = .ok (.iconst 4, 1) := dk_7 (dk_at dksX2_init_3 15 rfl rfl)
theorem dX2_init_88 : decode cX2_init 88 = .ok (.ldc 44, 2) := dk_18 44 (dk_at dksX2_init_3 16 rfl rfl)
theorem dX2_init_90 : decode cX2_init 90 = .ok (.aastore, 1) := dk_83 (dk_at dksX2_init_3 18 rfl rfl)
theorem dX2_init_91 : decode cX2_init 91 = .ok (.dup, 1) := dk_89 (dk_at dksX2_init_3 19 rfl rfl)
theorem dX2_init_92 : decode cX2_init 92 = .ok (.iconst 5, 1) := dk_8 (dk_at dksX2_init_3 20 rfl rfl)
theorem dX2_init_93 : decode cX2_init 93 = .ok (.ldc 46, 2) := dk_18 46 (dk_at dksX2_init_3 21 rfl rfl)
theorem dX2_init_95 : decode cX2_init 95 = .ok (.aastore, 1) := dk_83 (dk_at dksX2_init_3 23 rfl rfl)
theorem dX2_init_96 : decode cX2_init 96 = .ok (.dup, 1) := dk_89 (dk_at dksX2_init_4 0 rfl rfl)
theorem dX2_init_97 : decode cX2_init 97 = .ok (.bipush 6, 2) := dk_16 6 (dk_at dksX2_init_4 1 rfl rfl)
theorem dX2_init_99 : decode cX2_init 99 = .ok (.ldc 48, 2) := dk_18 48 (dk_at dksX2_init_4 3 rfl rfl)
theorem dX2_init_101 : decode cX2_init 101 = .ok (.aastore, 1) := dk_83 (dk_at dksX2_init_4 5 rfl rfl)
theorem dX2_init_102 : decode cX2_init 102 = .ok (.dup, 1) := dk_89 (dk_at dksX2_init_4 6 rfl rfl)
theorem dX2_init_103 : decode cX2_init 103 = .ok (.bipush 7, 2) := dk_16 7 (dk_at dksX2_init_4 7 rfl rfl)
theorem dX2_init_105 : decode cX2_init 105 = .ok (.ldc 50, 2) := dk_18 50 (dk_at dksX2_init_4 9 rfl rfl)
theorem dX2_init_107 : decode cX2_init 107 = .ok (.aastore, 1) := dk_83 (dk_at dksX2_init_4 11 rfl rfl)
theorem dX2_init_108 : decode cX2_init 108 = .ok (.dup, 1) := dk_89 (dk_at dksX2_init_4 12 rfl rfl)
theorem dX2_init_109 : decode cX2_init 109 = .ok (.bipush 8, 2) := dk_16 8 (dk_at dksX2_init_4 13 rfl rfl)
theorem dX2_init_111 : decode cX2_init 111 = .ok (.ldc 52, 2) := dk_18 52 (dk_at dksX2_init_4 15 rfl rfl)
theorem dX2_init_113 : decode cX2_init 113 = .ok (.aastore, 1) := dk_83 (dk_at dksX2_init_4 17 rfl rfl)
theorem dX2_init_114 : decode cX2_init 114 = .ok (.dup, 1) := dk_89 (dk_at dksX2_init_4 18 rfl rfl)
theorem dX2_init_115 : decode cX2_init 115 = .ok (.bipush 9, 2) := dk_16 9 (dk_at dksX2_init_4 19 rfl rfl)
theorem dX2_init_117 : decode cX2_init 117 = .ok (.ldc 54, 2) := dk_18 54 (dk_at dksX2_init_4 21 rfl rfl)
theorem dX2_init_119 : decode cX2_init 119 = .ok (.aastore, 1) := dk_83 (dk_at dksX2_init_4 23 rfl rfl)
theorem dX2_init_120 : decode cX2_init 120 = .ok (.dup, 1) := dk_89 (dk_at dksX2_init_5 0 rfl rfl)
theorem dX2_init_121 : decode cX2_init 121 = .ok (.bipush 10, 2) := dk_16 10 (dk_at dksX2_init_5 1 rfl rfl)
theorem dX2_init_123 : decode cX2_init 123 = .ok (.ldc 56, 2) := dk_18 56 (dk_at dksX2_init_5 3 rfl rfl)
theorem dX2_init_125 : decode cX2_init 125 = .ok (.aastore, 1) := dk_83 (dk_at dksX2_init_5 5 rfl rfl)
theorem dX2_init_126 : decode cX2_init 126 = .ok (.dup, 1) := dk_89 (dk_at dksX2_init_5 6 rfl rfl)
theorem dX2_init_127 : decode cX2_init 127 = .ok (.bipush 11, 2) := dk_16 11 (dk_at dksX2_init_5 7 rfl rfl)
theorem dX2_init_129 : decode cX2_init 129 = .ok (.ldc 58, 2) := dk_18 58 (dk_at dksX2_init_5 9 rfl rfl)
theorem dX2_init_131 : decode cX2_init 131 = .ok (.aastore, 1) := dk_83 (dk_at dksX2_init_5 11 rfl rfl)
theorem dX2_init_132 : decode cX2_init 132 = .ok (.dup, 1) := dk_89 (dk_at dksX2_init_5 12 rfl rfl)
theorem dX2_init_133 : decode cX2_init 133 = .ok (.bipush 12, 2) := dk_16 12 (dk_at dksX2_init_5 13 rfl rfl)
theorem dX2_init_135 : decode cX2_init 135 = .ok (.ldc 60, 2) := dk_18 60 (dk_at dksX2_init_5 15 rfl rfl)
theorem dX2_init_137 : decode cX2_init 137 = .ok (.aastore, 1) := dk_83 (dk_at dksX2_init_5 17 rfl rfl)
theorem dX2_init_138 : decode cX2_init 138 = .ok (.dup, 1) := dk_89 (dk_at dksX2_init_5 18 rfl rfl)
theorem dX2_init_139 : decode cX2_init 139 = .ok (.bipush 13, 2) := dk_16 13 (dk_at dksX2_init_5 19 rfl rfl)
theorem dX2_init_141 : decode cX2_init 141 = .ok (.ldc 62, 2) := dk_18 62 (dk_at dksX2_init_5 21 rfl rfl)
theorem dX2_init_143 : decode cX2_init 143 = .ok (.aastore, 1) := dk_83 (dk_at dksX2_init_5 23 rfl rfl)
theorem dX2_init_144 : decode cX2_init 144 = .ok (.dup, 1) := dk_89 (dk_at dksX2_init_6 0 rfl rfl)
theorem dX2_init_145 : decode cX2_init 145 = .ok (.bipush 14, 2) := dk_16 14 (dk_at dksX2_init_6 1 rfl rfl)
theorem dX2_init_147 : decode cX2_init 147 = .ok (.ldc 64, 2) := dk_18 64 (dk_at dksX2_init_6 3 rfl rfl)
theorem dX2_init_149 : decode cX2_init 149 = .ok (.aastore, 1) := dk_83 (dk_at dksX2_init_6 5 rfl rfl)
theorem dX2_init_150 : decode cX2_init 150 = .ok (.dup, 1) := dk_89 (dk_at dksX2_init_6 6 rfl rfl)
theorem dX2_init_151 : decode cX2_init 151 = .ok (.bipush 15, 2) := dk_16 15 (dk_at dksX2_init_6 7 rfl rfl)
theorem dX2_init_153 : decode cX2_init 153 = .ok (.ldc 66, 2) := dk_18 66 (dk_at dksX2_init_6 9 rfl rfl)
theorem dX2_init_155 : decode cX2_init 155 = .ok (.aastore, 1) := dk_83 (dk_at dksX2_init_6 11 rfl rfl)
theorem dX2_init_156 : decode cX2_init 156 = .ok (.dup, 1) := dk_89 (dk_at dksX2_init_6 12 rfl rfl)
theorem dX2_init_157 : decode cX2_init 157 = .ok (.bipush 16, 2) := dk_16 16 (dk_at dksX2_init_6 13 rfl rfl)
theorem dX2_init_159 : decode cX2_init 159 = .ok (.ldc 68, 2) := dk_18 68 (dk_at dksX2_init_6 15 rfl rfl)
theorem dX2_init_161 : decode cX2_init 161 = .ok (.aastore, 1) := dk_83 (dk_at dksX2_init_6 17 rfl rfl)
theorem dX2_init_162 : decode cX2_init 162 = .ok (.dup, 1) := dk_89 (dk_at dksX2_init_6 18 rfl rfl)
theorem dX2_init_163 : decode cX2_init 163 = .ok (.bipush 17, 2) := dk_16 17 (dk_at dksX2_init_6 19 rfl rfl)
theorem dX2_init_165 : decode cX2_init 165 = .ok (.ldc 70, 2) := dk_18 70 (dk_at dksX2_init_6 21 rfl rfl)
theorem dX2_init_167 : decode cX2_init 167 = .ok (.aastore, 1) := dk_83 (dk_at dksX2_init_6 23 rfl rfl)
theorem dX2_init_168 : decode cX2_init 168 = .ok (.dup, 1) := dk_89 (dk_at dksX2_init_7 0 rfl rfl)
theorem dX2_init_169 : decode cX2_init 169 = .ok (.bipush 18, 2) := dk_16 18 (dk_at dksX2_init_7 1 rfl rfl)
theorem dX2_init_171 : decode cX2_init 171 = .ok (.ldc 72, 2) := dk_18 72 (dk_at dksX2_init_7 3 rfl rfl)
theorem dX2_init_173 : decode cX2_init 173 = .ok (.aastore, 1) := dk_83 (dk_at dksX2_init_7 5 rfl rfl)
theorem dX2_init_174 : decode cX2_init 174 = .ok (.dup, 1) := dk_89 (dk_at dksX2_init_7 6 rfl rfl)
theorem dX2_init_175 : decode cX2_init 175 = .ok (.bipush 19, 2) := dk_16 19 (dk_at dksX2_init_7 7 rfl rfl)
theorem dX2_init_177 : decode cX2_init 177 = .ok (.ldc 74, 2) := dk_18 74 (dk_at dksX2_init_7 9 rfl rfl)
theorem dX2_init_179 : decode cX2_init 179 = .ok (.aastore, 1) := dk_83 (dk_at dksX2_init_7 11 rfl rfl)
theorem dX2_init_180 : decode cX2_init 180 = .ok (.putfield 76, 3) := dk_181 0 76 (dk_at dksX2_init_7 12 rfl rfl)
theorem dX2_init_183 : decode cX2_init 183 = .ok (.aload_n 0, 1) := dk_42 (dk_at dksX2_init_7 15 rfl rfl)
theorem dX2_init_184 : decode cX2_init 184 = .ok (.sipush 1000, 3) := dk_17 3 232 (dk_at dksX2_init_7 16 rfl rfl)
theorem dX2_init_187 : decode cX2_init 187 = .ok (.newarray .int, 2) := dk_188_10 (dk_at dksX2_init_7 19 rfl rfl)
theorem dX2_init_189 : decode cX2_init 189 = .ok (.putfield 79, 3) := dk_181 0 79 (dk_at dksX2_init_7 21 rfl rfl)
theorem dX2_init_192 : decode cX2_init 192 = .ok (.aload_n 0, 1) := dk_42 (dk_at dksX2_init_8 0 rfl rfl)
theorem dX2_init_193 : decode cX2_init 193 = .ok (.sipush 1001, 3) := dk_17 3 233 (dk_at dksX2_init_8 1 rfl rfl)
theorem dX2_init_196 : decode cX2_init 196 = .ok (.newarray .int, 2) := dk_188_10 (dk_at dksX2_init_8 4 rfl rfl)
theorem dX2_init_198 : decode cX2_init 198 = .ok (.putfield 83, 3) := dk_181 0 83 (dk_at dksX2_init_8 6 rfl rfl)
theorem dX2_init_201 : decode cX2_init 201 = .ok (.aload_n 0, 1) := dk_42 (dk_at dksX2_init_8 9 rfl rfl)
theorem dX2_init_202 : decode cX2_init 202 = .ok (.sipush 1001, 3) := dk_17 3 233 (dk_at dksX2_init_8 10 rfl rfl)
theorem dX2_init_205 : decode cX2_init 205 = .ok (.newarray .long, 2) := dk_188_11 (dk_at dksX2_init_8 13 rfl rfl)
theorem dX2_init_207 : decode cX2_init 207 = .ok (.putfield 86, 3) := dk_181 0 86 (dk_at dksX2_init_8 15 rfl rfl)
theorem dX2_init_210 : decode cX2_init 210 = .ok (.aload_n 0, 1) := dk_42 (dk_at dksX2_init_8 18 rfl rfl)
theorem dX2_init_211 : decode cX2_init 211 = .ok (.sipush 1001, 3) := dk_17 3 233 (dk_at dksX2_init_8 19 rfl rfl)
theorem dX2_init_214 : decode cX2_init 214 = .ok (.newarray .int, 2) := dk_188_10 (dk_at dksX2_init_8 22 rfl rfl)
theorem dX2_init_216 : decode cX2_init 216 = .ok (.putfield 90, 3) := dk_181 0 90 (dk_at dksX2_init_9 0 rfl rfl)
theorem dX2_init_219 : decode cX2_init 219 = .ok (.return_, 1) := dk_177 (dk_at dksX2_init_9 3 rfl rfl)
abbrev cX2_feed : ByteArray := prog_25_method_2_code
def yX2_feed : MethodName := ⟨RX2, "feed", "(J)V"⟩
def dkwX2_feed_3 : List UInt8 := [167, 255, 189, 177]
abbrev dktX2_feed_3 : List UInt8 := dkwX2_feed_3 ++ []
def dkwX2_feed_2 : List UInt8 := [180, 0, 79, 42, 180, 0, 99, 21, 4, 79, 42, 89, 180, 0, 99, 4, 96, 181, 0, 99, 132, 3, 248]
abbrev dktX2_feed_2 : List UInt8 := dkwX2_feed_2 ++ dktX2_feed_3
def dkwX2_feed_1 : List UInt8 := [21, 4, 16, 32, 16, 126, 184, 0, 95, 153, 0, 34, 42, 180, 0, 99, 17, 3, 232, 162, 0, 24, 42]
abbrev dktX2_feed_1 : List UInt8 := dkwX2_feed_1 ++ dktX2_feed_2
def dkwX2_feed_0 : List UInt8 := [16, 56, 62, 29, 155, 0, 69, 31, 29, 125, 20, 0, 93, 127, 136, 54, 4, 21, 4, 16, 10, 159, 0, 15]
abbrev dktX2_feed_0 : List UInt8 := dkwX2_feed_0 ++ dktX2_feed_1
theorem dksX2_feed_0 : cX2_feed.data.toList.drop 0 = dktX2_feed_0 := by decide +kernel
theorem dksX2_feed_1 : cX2_feed.data.toList.drop 24 = dktX2_feed_1 := dk_seg dksX2_feed_0 24 rfl rfl
theorem dksX2_feed_2 : cX2_feed.data.toList.drop 47 = dktX2_feed_2 := dk_seg dksX2_feed_1 23 rfl rfl
theorem dksX2_feed_3 : cX2_feed.data.toList.drop 70 = dktX2_feed_3 := dk_seg dksX2_feed_2 23 rfl rfl
theorem dX2_feed_0 : decode cX2_feed 0 = .ok (.bipush 56, 2) := dk_16 56 (dk_at dksX2_feed_0 0 rfl rfl)
theorem dX2_feed_2 : decode cX2_feed 2 = .ok (.istore_n 3, 1) := dk_62 (dk_at dksX2_feed_0 2 rfl rfl)
theorem dX2_feed_3 : decode cX2_feed 3 = .ok (.iload_n 3, 1) := dk_29 (dk_at dksX2_feed_0 3 rfl rfl)
theorem dX2_feed_4 : decode cX2_feed 4 = .ok (.ifCond .lt 69, 3) := dk_155 0 69 (dk_at dksX2_feed_0 4 rfl rfl)
theorem dX2_feed_7 : decode cX2_feed 7 = .ok (.lload_n 1, 1) := dk_31 (dk_at dksX2_feed_0 7 rfl rfl)
theorem dX2_feed_8 : decode cX2_feed 8 = .ok (.iload_n 3, 1) := dk_29 (dk_at dksX2_feed_0 8 rfl rfl)
theorem dX2_feed_9 : decode cX2_feed 9 = .ok (.lushr, 1) := dk_125 (dk_at dksX2_feed_0 9 rfl rfl)
theorem dX2_feed_10 : decode cX2_feed 10 = .ok (.ldc2_w 93, 3) := dk_20 0 93 (dk_at dksX2_feed_0 10 rfl rfl)
theorem dX2_feed_13 : decode cX2_feed 13 = .ok (.land, 1) := dk_127 (dk_at dksX2_feed_0 13 rfl rfl)
theorem dX2_feed_14 : decode cX2_feed 14 = .ok (.l2i, 1) := dk_136 (dk_at dksX2_feed_0 14 rfl rfl)
theorem dX2_feed_15 : decode cX2_feed 15 = .ok (.istore 4, 2) := dk_54 4 (dk_at dksX2_feed_0 15 rfl rfl)
theorem dX2_feed_17 : decode cX2_feed 17 = .ok (.iload 4, 2) := dk_21 4 (dk_at dksX2_feed_0 17 rfl rfl)
theorem dX2_feed_19 : decode cX2_feed 19 = .ok (.bipush 10, 2) := dk_16 10 (dk_at dksX2_feed_0 19 rfl rfl)
theorem dX2_feed_21 : decode cX2_feed 21 = .ok (.if_icmp .eq 15, 3) := dk_159 0 15 (dk_at dksX2_feed_0 21 rfl rfl)
theorem dX2_feed_24 : decode cX2_feed 24 = .ok (.iload 4, 2) := dk_21 4 (dk_at dksX2_feed_1 0 rfl rfl)
theorem dX2_feed_26 : decode cX2_feed 26 = .ok (.bipush 32, 2) := dk_16 32 (dk_at dksX2_feed_1 2 rfl rfl)
theorem dX2_feed_28 : decode cX2_feed 28 = .ok (.bipush 126, 2) := dk_16 126 (dk_at dksX2_feed_1 4 rfl rfl)
theorem dX2_feed_30 : decode cX2_feed 30 = .ok (.invokestatic 95, 3) := dk_184 0 95 (dk_at dksX2_feed_1 6 rfl rfl)
theorem dX2_feed_33 : decode cX2_feed 33 = .ok (.ifCond .eq 34, 3) := dk_153 0 34 (dk_at dksX2_feed_1 9 rfl rfl)
theorem dX2_feed_36 : decode cX2_feed 36 = .ok (.aload_n 0, 1) := dk_42 (dk_at dksX2_feed_1 12 rfl rfl)
theorem dX2_feed_37 : decode cX2_feed 37 = .ok (.getfield 99, 3) := dk_180 0 99 (dk_at dksX2_feed_1 13 rfl rfl)
theorem dX2_feed_40 : decode cX2_feed 40 = .ok (.sipush 1000, 3) := dk_17 3 232 (dk_at dksX2_feed_1 16 rfl rfl)
theorem dX2_feed_43 : decode cX2_feed 43 = .ok (.if_icmp .ge 24, 3) := dk_162 0 24 (dk_at dksX2_feed_1 19 rfl rfl)
theorem dX2_feed_46 : decode cX2_feed 46 = .ok (.aload_n 0, 1) := dk_42 (dk_at dksX2_feed_1 22 rfl rfl)
theorem dX2_feed_47 : decode cX2_feed 47 = .ok (.getfield 79, 3) := dk_180 0 79 (dk_at dksX2_feed_2 0 rfl rfl)
theorem dX2_feed_50 : decode cX2_feed 50 = .ok (.aload_n 0, 1) := dk_42 (dk_at dksX2_feed_2 3 rfl rfl)
theorem dX2_feed_51 : decode cX2_feed 51 = .ok (.getfield 99, 3) := dk_180 0 99 (dk_at dksX2_feed_2 4 rfl rfl)
theorem dX2_feed_54 : decode cX2_feed 54 = .ok (.iload 4, 2) := dk_21 4 (dk_at dksX2_feed_2 7 rfl rfl)
theorem dX2_feed_56 : decode cX2_feed 56 = .ok (.iastore, 1) := dk_79 (dk_at dksX2_feed_2 9 rfl rfl)
theorem dX2_feed_57 : decode cX2_feed 57 = .ok (.aload_n 0, 1) := dk_42 (dk_at dksX2_feed_2 10 rfl rfl)
theorem dX2_feed_58 : decode cX2_feed 58 = .ok (.dup, 1) := dk_89 (dk_at dksX2_feed_2 11 rfl rfl)
theorem dX2_feed_59 : decode cX2_feed 59 = .ok (.getfield 99, 3) := dk_180 0 99 (dk_at dksX2_feed_2 12 rfl rfl)
theorem dX2_feed_62 : decode cX2_feed 62 = .ok (.iconst 1, 1) := dk_4 (dk_at dksX2_feed_2 15 rfl rfl)
theorem dX2_feed_63 : decode cX2_feed 63 = .ok (.iadd, 1) := dk_96 (dk_at dksX2_feed_2 16 rfl rfl)
theorem dX2_feed_64 : decode cX2_feed 64 = .ok (.putfield 99, 3) := dk_181 0 99 (dk_at dksX2_feed_2 17 rfl rfl)
theorem dX2_feed_67 : decode cX2_feed 67 = .ok (.iinc 3 (-8), 3) := dk_132 3 248 (dk_at dksX2_feed_2 20 rfl rfl)
theorem dX2_feed_70 : decode cX2_feed 70 = .ok (.goto (-67), 3) := dk_167 255 189 (dk_at dksX2_feed_3 0 rfl rfl)
theorem dX2_feed_73 : decode cX2_feed 73 = .ok (.return_, 1) := dk_177 (dk_at dksX2_feed_3 3 rfl rfl)
abbrev cX2_town : ByteArray := prog_25_method_16_code
def yX2_town : MethodName := ⟨RX2, "town", "()LPaidSecrets$Town;"⟩
def dkwX2_town_5 : List UInt8 := [182, 0, 182, 167, 255, 152, 42, 180, 0, 168, 176]
abbrev dktX2_town_5 : List UInt8 := dkwX2_town_5 ++ []
def dkwX2_town_4 : List UInt8 := [18, 56, 182, 0, 144, 153, 0, 10, 42, 182, 0, 180, 167, 0, 9, 42, 4, 182, 0, 154, 191, 42, 16, 59]
abbrev dktX2_town_4 : List UInt8 := dkwX2_town_4 ++ dktX2_town_5
def dkwX2_town_3 : List UInt8 := [182, 0, 176, 167, 0, 41, 42, 18, 54, 182, 0, 144, 153, 0, 10, 42, 182, 0, 178, 167, 0, 25, 42]
abbrev dktX2_town_3 : List UInt8 := dkwX2_town_3 ++ dktX2_town_4
def dkwX2_town_2 : List UInt8 := [182, 0, 144, 153, 0, 10, 42, 182, 0, 174, 167, 0, 57, 42, 18, 52, 182, 0, 144, 153, 0, 10, 42]
abbrev dktX2_town_2 : List UInt8 := dkwX2_town_2 ++ dktX2_town_3
def dkwX2_town_1 : List UInt8 := [153, 0, 98, 42, 18, 36, 182, 0, 144, 153, 0, 10, 42, 182, 0, 172, 167, 0, 73, 42, 18, 42]
abbrev dktX2_town_1 : List UInt8 := dkwX2_town_1 ++ dktX2_town_2
def dkwX2_town_0 : List UInt8 := [42, 182, 0, 162, 42, 187, 0, 165, 89, 183, 0, 167, 181, 0, 168, 42, 180, 0, 83, 42, 180, 0, 132, 46]
abbrev dktX2_town_0 : List UInt8 := dkwX2_town_0 ++ dktX2_town_1
theorem dksX2_town_0 : cX2_town.data.toList.drop 0 = dktX2_town_0 := by decide +kernel
theorem dksX2_town_1 : cX2_town.data.toList.drop 24 = dktX2_town_1 := dk_seg dksX2_town_0 24 rfl rfl
theorem dksX2_town_2 : cX2_town.data.toList.drop 46 = dktX2_town_2 := dk_seg dksX2_town_1 22 rfl rfl
theorem dksX2_town_3 : cX2_town.data.toList.drop 69 = dktX2_town_3 := dk_seg dksX2_town_2 23 rfl rfl
theorem dksX2_town_4 : cX2_town.data.toList.drop 92 = dktX2_town_4 := dk_seg dksX2_town_3 23 rfl rfl
theorem dksX2_town_5 : cX2_town.data.toList.drop 116 = dktX2_town_5 := dk_seg dksX2_town_4 24 rfl rfl
theorem dX2_town_0 : decode cX2_town 0 = .ok (.aload_n 0, 1) := dk_42 (dk_at dksX2_town_0 0 rfl rfl)
theorem dX2_town_1 : decode cX2_town 1 = .ok (.invokevirtual 162, 3) := dk_182 0 162 (dk_at dksX2_town_0 1 rfl rfl)
theorem dX2_town_4 : decode cX2_town 4 = .ok (.aload_n 0, 1) := dk_42 (dk_at dksX2_town_0 4 rfl rfl)
theorem dX2_town_5 : decode cX2_town 5 = .ok (.new 165, 3) := dk_187 0 165 (dk_at dksX2_town_0 5 rfl rfl)
theorem dX2_town_8 : decode cX2_town 8 = .ok (.dup, 1) := dk_89 (dk_at dksX2_town_0 8 rfl rfl)
theorem dX2_town_9 : decode cX2_town 9 = .ok (.invokespecial 167, 3) := dk_183 0 167 (dk_at dksX2_town_0 9 rfl rfl)
theorem dX2_town_12 : decode cX2_town 12 = .ok (.putfield 168, 3) := dk_181 0 168 (dk_at dksX2_town_0 12 rfl rfl)
theorem dX2_town_15 : decode cX2_town 15 = .ok (.aload_n 0, 1) := dk_42 (dk_at dksX2_town_0 15 rfl rfl)
theorem dX2_town_16 : decode cX2_town 16 = .ok (.getfield 83, 3) := dk_180 0 83 (dk_at dksX2_town_0 16 rfl rfl)
theorem dX2_town_19 : decode cX2_town 19 = .ok (.aload_n 0, 1) := dk_42 (dk_at dksX2_town_0 19 rfl rfl)
theorem dX2_town_20 : decode cX2_town 20 = .ok (.getfield 132, 3) := dk_180 0 132 (dk_at dksX2_town_0 20 rfl rfl)
theorem dX2_town_23 : decode cX2_town 23 = .ok (.iaload, 1) := dk_46 (dk_at dksX2_town_0 23 rfl rfl)
theorem dX2_town_24 : decode cX2_town 24 = .ok (.ifCond .eq 98, 3) := dk_153 0 98 (dk_at dksX2_town_1 0 rfl rfl)
theorem dX2_town_27 : decode cX2_town 27 = .ok (.aload_n 0, 1) := dk_42 (dk_at dksX2_town_1 3 rfl rfl)
theorem dX2_town_28 : decode cX2_town 28 = .ok (.ldc 36, 2) := dk_18 36 (dk_at dksX2_town_1 4 rfl rfl)
theorem dX2_town_30 : decode cX2_town 30 = .ok (.invokevirtual 144, 3) := dk_182 0 144 (dk_at dksX2_town_1 6 rfl rfl)
theorem dX2_town_33 : decode cX2_town 33 = .ok (.ifCond .eq 10, 3) := dk_153 0 10 (dk_at dksX2_town_1 9 rfl rfl)
theorem dX2_town_36 : decode cX2_town 36 = .ok (.aload_n 0, 1) := dk_42 (dk_at dksX2_town_1 12 rfl rfl)
theorem dX2_town_37 : decode cX2_town 37 = .ok (.invokevirtual 172, 3) := dk_182 0 172 (dk_at dksX2_town_1 13 rfl rfl)
theorem dX2_town_40 : decode cX2_town 40 = .ok (.goto 73, 3) := dk_167 0 73 (dk_at dksX2_town_1 16 rfl rfl)
theorem dX2_town_43 : decode cX2_town 43 = .ok (.aload_n 0, 1) := dk_42 (dk_at dksX2_town_1 19 rfl rfl)
theorem dX2_town_44 : decode cX2_town 44 = .ok (.ldc 42, 2) := dk_18 42 (dk_at dksX2_town_1 20 rfl rfl)
theorem dX2_town_46 : decode cX2_town 46 = .ok (.invokevirtual 144, 3) := dk_182 0 144 (dk_at dksX2_town_2 0 rfl rfl)
theorem dX2_town_49 : decode cX2_town 49 = .ok (.ifCond .eq 10, 3) := dk_153 0 10 (dk_at dksX2_town_2 3 rfl rfl)
theorem dX2_town_52 : decode cX2_town 52 = .ok (.aload_n 0, 1) := dk_42 (dk_at dksX2_town_2 6 rfl rfl)
theorem dX2_town_53 : decode cX2_town 53 = .ok (.invokevirtual 174, 3) := dk_182 0 174 (dk_at dksX2_town_2 7 rfl rfl)
theorem dX2_town_56 : decode cX2_town 56 = .ok (.goto 57, 3) := dk_167 0 57 (dk_at dksX2_town_2 10 rfl rfl)
theorem dX2_town_59 : decode cX2_town 59 = .ok (.aload_n 0, 1) := dk_42 (dk_at dksX2_town_2 13 rfl rfl)
theorem dX2_town_60 : decode cX2_town 60 = .ok (.ldc 52, 2) := dk_18 52 (dk_at dksX2_town_2 14 rfl rfl)
theorem dX2_town_62 : decode cX2_town 62 = .ok (.invokevirtual 144, 3) := dk_182 0 144 (dk_at dksX2_town_2 16 rfl rfl)
theorem dX2_town_65 : decode cX2_town 65 = .ok (.ifCond .eq 10, 3) := dk_153 0 10 (dk_at dksX2_town_2 19 rfl rfl)
theorem dX2_town_68 : decode cX2_town 68 = .ok (.aload_n 0, 1) := dk_42 (dk_at dksX2_town_2 22 rfl rfl)
theorem dX2_town_69 : decode cX2_town 69 = .ok (.invokevirtual 176, 3) := dk_182 0 176 (dk_at dksX2_town_3 0 rfl rfl)
theorem dX2_town_72 : decode cX2_town 72 = .ok (.goto 41, 3) := dk_167 0 41 (dk_at dksX2_town_3 3 rfl rfl)
theorem dX2_town_75 : decode cX2_town 75 = .ok (.aload_n 0, 1) := dk_42 (dk_at dksX2_town_3 6 rfl rfl)
theorem dX2_town_76 : decode cX2_town 76 = .ok (.ldc 54, 2) := dk_18 54 (dk_at dksX2_town_3 7 rfl rfl)
theorem dX2_town_78 : decode cX2_town 78 = .ok (.invokevirtual 144, 3) := dk_182 0 144 (dk_at dksX2_town_3 9 rfl rfl)
theorem dX2_town_81 : decode cX2_town 81 = .ok (.ifCond .eq 10, 3) := dk_153 0 10 (dk_at dksX2_town_3 12 rfl rfl)
theorem dX2_town_84 : decode cX2_town 84 = .ok (.aload_n 0, 1) := dk_42 (dk_at dksX2_town_3 15 rfl rfl)
theorem dX2_town_85 : decode cX2_town 85 = .ok (.invokevirtual 178, 3) := dk_182 0 178 (dk_at dksX2_town_3 16 rfl rfl)
theorem dX2_town_88 : decode cX2_town 88 = .ok (.goto 25, 3) := dk_167 0 25 (dk_at dksX2_town_3 19 rfl rfl)
theorem dX2_town_91 : decode cX2_town 91 = .ok (.aload_n 0, 1) := dk_42 (dk_at dksX2_town_3 22 rfl rfl)
theorem dX2_town_92 : decode cX2_town 92 = .ok (.ldc 56, 2) := dk_18 56 (dk_at dksX2_town_4 0 rfl rfl)
theorem dX2_town_94 : decode cX2_town 94 = .ok (.invokevirtual 144, 3) := dk_182 0 144 (dk_at dksX2_town_4 2 rfl rfl)
theorem dX2_town_97 : decode cX2_town 97 = .ok (.ifCond .eq 10, 3) := dk_153 0 10 (dk_at dksX2_town_4 5 rfl rfl)
theorem dX2_town_100 : decode cX2_town 100 = .ok (.aload_n 0, 1) := dk_42 (dk_at dksX2_town_4 8 rfl rfl)
theorem dX2_town_101 : decode cX2_town 101 = .ok (.invokevirtual 180, 3) := dk_182 0 180 (dk_at dksX2_town_4 9 rfl rfl)
theorem dX2_town_104 : decode cX2_town 104 = .ok (.goto 9, 3) := dk_167 0 9 (dk_at dksX2_town_4 12 rfl rfl)
theorem dX2_town_107 : decode cX2_town 107 = .ok (.aload_n 0, 1) := dk_42 (dk_at dksX2_town_4 15 rfl rfl)
theorem dX2_town_108 : decode cX2_town 108 = .ok (.iconst 1, 1) := dk_4 (dk_at dksX2_town_4 16 rfl rfl)
theorem dX2_town_109 : decode cX2_town 109 = .ok (.invokevirtual 154, 3) := dk_182 0 154 (dk_at dksX2_town_4 17 rfl rfl)
theorem dX2_town_112 : decode cX2_town 112 = .ok (.athrow, 1) := dk_191 (dk_at dksX2_town_4 20 rfl rfl)
theorem dX2_town_113 : decode cX2_town 113 = .ok (.aload_n 0, 1) := dk_42 (dk_at dksX2_town_4 21 rfl rfl)
theorem dX2_town_114 : decode cX2_town 114 = .ok (.bipush 59, 2) := dk_16 59 (dk_at dksX2_town_4 22 rfl rfl)
theorem dX2_town_116 : decode cX2_town 116 = .ok (.invokevirtual 182, 3) := dk_182 0 182 (dk_at dksX2_town_5 0 rfl rfl)
theorem dX2_town_119 : decode cX2_town 119 = .ok (.goto (-104), 3) := dk_167 255 152 (dk_at dksX2_town_5 3 rfl rfl)
theorem dX2_town_122 : decode cX2_town 122 = .ok (.aload_n 0, 1) := dk_42 (dk_at dksX2_town_5 6 rfl rfl)
theorem dX2_town_123 : decode cX2_town 123 = .ok (.getfield 168, 3) := dk_180 0 168 (dk_at dksX2_town_5 7 rfl rfl)
theorem dX2_town_126 : decode cX2_town 126 = .ok (.areturn, 1) := dk_176 (dk_at dksX2_town_5 10 rfl rfl)
abbrev cX2_cut : ByteArray := prog_25_method_6_code
def yX2_cut : MethodName := ⟨RX2, "cut", "()V"⟩
def dkwX2_cut_12 : List UInt8 := [181, 0, 132, 177]
abbrev dktX2_cut_12 : List UInt8 := dkwX2_cut_12 ++ []
def dkwX2_cut_11 : List UInt8 := [79, 132, 2, 1, 167, 255, 5, 42, 180, 0, 83, 28, 3, 79, 42, 180, 0, 90, 28, 27, 79, 42, 3]
abbrev dktX2_cut_11 : List UInt8 := dkwX2_cut_11 ++ dktX2_cut_12
def dkwX2_cut_10 : List UInt8 := [155, 0, 7, 6, 167, 0, 4, 7, 79, 42, 180, 0, 86, 28, 22, 6, 80, 42, 180, 0, 90, 28, 21, 5]
abbrev dktX2_cut_10 : List UInt8 := dkwX2_cut_10 ++ dktX2_cut_11
def dkwX2_cut_9 : List UInt8 := [79, 167, 0, 32, 21, 4, 133, 55, 6, 132, 3, 1, 42, 180, 0, 83, 28, 18, 126, 21, 4, 182, 0, 128]
abbrev dktX2_cut_9 : List UInt8 := dkwX2_cut_9 ++ dktX2_cut_10
def dkwX2_cut_8 : List UInt8 := [132, 3, 1, 167, 255, 208, 42, 180, 0, 83, 28, 29, 21, 5, 100, 7, 164, 0, 7, 7, 167, 0, 4, 5]
abbrev dktX2_cut_8 : List UInt8 := dkwX2_cut_8 ++ dktX2_cut_9
def dkwX2_cut_7 : List UInt8 := [7, 162, 0, 23, 20, 0, 122, 22, 6, 105, 42, 180, 0, 79, 29, 46, 133, 97, 20, 0, 124, 101, 55, 6]
abbrev dktX2_cut_7 : List UInt8 := dkwX2_cut_7 ++ dktX2_cut_8
def dkwX2_cut_6 : List UInt8 := [153, 0, 76, 29, 27, 162, 0, 49, 42, 180, 0, 79, 29, 46, 184, 0, 119, 153, 0, 37, 29, 21, 5, 100]
abbrev dktX2_cut_6 : List UInt8 := dkwX2_cut_6 ++ dktX2_cut_7
def dkwX2_cut_5 : List UInt8 := [29, 21, 5, 100, 16, 8, 164, 0, 7, 7, 167, 0, 4, 4, 79, 167, 0, 113, 21, 4, 184, 0, 119]
abbrev dktX2_cut_5 : List UInt8 := dkwX2_cut_5 ++ dktX2_cut_6
def dkwX2_cut_4 : List UInt8 := [180, 0, 79, 29, 46, 133, 97, 20, 0, 113, 101, 55, 6, 132, 3, 1, 167, 255, 207, 42, 180, 0, 83, 28]
abbrev dktX2_cut_4 : List UInt8 := dkwX2_cut_4 ++ dktX2_cut_5
def dkwX2_cut_3 : List UInt8 := [184, 0, 115, 153, 0, 38, 29, 21, 5, 100, 16, 8, 162, 0, 23, 20, 0, 107, 22, 6, 105, 42]
abbrev dktX2_cut_3 : List UInt8 := dkwX2_cut_3 ++ dktX2_cut_4
def dkwX2_cut_2 : List UInt8 := [54, 5, 9, 55, 6, 21, 4, 184, 0, 115, 153, 0, 78, 29, 27, 162, 0, 50, 42, 180, 0, 79, 29, 46]
abbrev dktX2_cut_2 : List UInt8 := dkwX2_cut_2 ++ dktX2_cut_3
def dkwX2_cut_1 : List UInt8 := [46, 54, 4, 21, 4, 16, 10, 159, 0, 10, 21, 4, 16, 32, 160, 0, 9, 132, 3, 1, 167, 255, 226, 29]
abbrev dktX2_cut_1 : List UInt8 := dkwX2_cut_1 ++ dktX2_cut_2
def dkwX2_cut_0 : List UInt8 := [42, 180, 0, 99, 60, 42, 3, 181, 0, 99, 3, 61, 3, 62, 29, 27, 162, 0, 252, 42, 180, 0, 79, 29]
abbrev dktX2_cut_0 : List UInt8 := dkwX2_cut_0 ++ dktX2_cut_1
theorem dksX2_cut_0 : cX2_cut.data.toList.drop 0 = dktX2_cut_0 := by decide +kernel
theorem dksX2_cut_1 : cX2_cut.data.toList.drop 24 = dktX2_cut_1 := dk_seg dksX2_cut_0 24 rfl rfl
theorem dksX2_cut_2 : cX2_cut.data.toList.drop 48 = dktX2_cut_2 := dk_seg dksX2_cut_1 24 rfl rfl
theorem dksX2_cut_3 : cX2_cut.data.toList.drop 72 = dktX2_cut_3 := dk_seg dksX2_cut_2 24 rfl rfl
theorem dksX2_cut_4 : cX2_cut.data.toList.drop 94 = dktX2_cut_4 := dk_seg dksX2_cut_3 22 rfl rfl
theorem dksX2_cut_5 : cX2_cut.data.toList.drop 118 = dktX2_cut_5 := dk_seg dksX2_cut_4 24 rfl rfl
theorem dksX2_cut_6 : cX2_cut.data.toList.drop 141 = dktX2_cut_6 := dk_seg dksX2_cut_5 23 rfl rfl
theorem dksX2_cut_7 : cX2_cut.data.toList.drop 165 = dktX2_cut_7 := dk_seg dksX2_cut_6 24 rfl rfl
theorem dksX2_cut_8 : cX2_cut.data.toList.drop 189 = dktX2_cut_8 := dk_seg dksX2_cut_7 24 rfl rfl
theorem dksX2_cut_9 : cX2_cut.data.toList.drop 213 = dktX2_cut_9 := dk_seg dksX2_cut_8 24 rfl rfl
theorem dksX2_cut_10 : cX2_cut.data.toList.drop 237 = dktX2_cut_10 := dk_seg dksX2_cut_9 24 rfl rfl
theorem dksX2_cut_11 : cX2_cut.data.toList.drop 261 = dktX2_cut_11 := dk_seg dksX2_cut_10 24 rfl rfl
theorem dksX2_cut_12 : cX2_cut.data.toList.drop 284 = dktX2_cut_12 := dk_seg dksX2_cut_11 23 rfl rfl
theorem dX2_cut_0 : decode cX2_cut 0 = .ok (.aload_n 0, 1) := dk_42 (dk_at dksX2_cut_0 0 rfl rfl)
theorem dX2_cut_1 : decode cX2_cut 1 = .ok (.getfield 99, 3) := dk_180 0 99 (dk_at dksX2_cut_0 1 rfl rfl)
theorem dX2_cut_4 : decode cX2_cut 4 = .ok (.istore_n 1, 1) := dk_60 (dk_at dksX2_cut_0 4 rfl rfl)
theorem dX2_cut_5 : decode cX2_cut 5 = .ok (.aload_n 0, 1) := dk_42 (dk_at dksX2_cut_0 5 rfl rfl)
theorem dX2_cut_6 : decode cX2_cut 6 = .ok (.iconst 0, 1) := dk_3 (dk_at dksX2_cut_0 6 rfl rfl)
theorem dX2_cut_7 : decode cX2_cut 7 = .ok (.putfield 99, 3) := dk_181 0 99 (dk_at dksX2_cut_0 7 rfl rfl)
theorem dX2_cut_10 : decode cX2_cut 10 = .ok (.iconst 0, 1) := dk_3 (dk_at dksX2_cut_0 10 rfl rfl)
theorem dX2_cut_11 : decode cX2_cut 11 = .ok (.istore_n 2, 1) := dk_61 (dk_at dksX2_cut_0 11 rfl rfl)
theorem dX2_cut_12 : decode cX2_cut 12 = .ok (.iconst 0, 1) := dk_3 (dk_at dksX2_cut_0 12 rfl rfl)
theorem dX2_cut_13 : decode cX2_cut 13 = .ok (.istore_n 3, 1) := dk_62 (dk_at dksX2_cut_0 13 rfl rfl)
theorem dX2_cut_14 : decode cX2_cut 14 = .ok (.iload_n 3, 1) := dk_29 (dk_at dksX2_cut_0 14 rfl rfl)
theorem dX2_cut_15 : decode cX2_cut 15 = .ok (.iload_n 1, 1) := dk_27 (dk_at dksX2_cut_0 15 rfl rfl)
theorem dX2_cut_16 : decode cX2_cut 16 = .ok (.if_icmp .ge 252, 3) := dk_162 0 252 (dk_at dksX2_cut_0 16 rfl rfl)
theorem dX2_cut_19 : decode cX2_cut 19 = .ok (.aload_n 0, 1) := dk_42 (dk_at dksX2_cut_0 19 rfl rfl)
theorem dX2_cut_20 : decode cX2_cut 20 = .ok (.getfield 79, 3) := dk_180 0 79 (dk_at dksX2_cut_0 20 rfl rfl)
theorem dX2_cut_23 : decode cX2_cut 23 = .ok (.iload_n 3, 1) := dk_29 (dk_at dksX2_cut_0 23 rfl rfl)
theorem dX2_cut_24 : decode cX2_cut 24 = .ok (.iaload, 1) := dk_46 (dk_at dksX2_cut_1 0 rfl rfl)
theorem dX2_cut_25 : decode cX2_cut 25 = .ok (.istore 4, 2) := dk_54 4 (dk_at dksX2_cut_1 1 rfl rfl)
theorem dX2_cut_27 : decode cX2_cut 27 = .ok (.iload 4, 2) := dk_21 4 (dk_at dksX2_cut_1 3 rfl rfl)
theorem dX2_cut_29 : decode cX2_cut 29 = .ok (.bipush 10, 2) := dk_16 10 (dk_at dksX2_cut_1 5 rfl rfl)
theorem dX2_cut_31 : decode cX2_cut 31 = .ok (.if_icmp .eq 10, 3) := dk_159 0 10 (dk_at dksX2_cut_1 7 rfl rfl)
theorem dX2_cut_34 : decode cX2_cut 34 = .ok (.iload 4, 2) := dk_21 4 (dk_at dksX2_cut_1 10 rfl rfl)
theorem dX2_cut_36 : decode cX2_cut 36 = .ok (.bipush 32, 2) := dk_16 32 (dk_at dksX2_cut_1 12 rfl rfl)
theorem dX2_cut_38 : decode cX2_cut 38 = .ok (.if_icmp .ne 9, 3) := dk_160 0 9 (dk_at dksX2_cut_1 14 rfl rfl)
theorem dX2_cut_41 : decode cX2_cut 41 = .ok (.iinc 3 1, 3) := dk_132 3 1 (dk_at dksX2_cut_1 17 rfl rfl)
theorem dX2_cut_44 : decode cX2_cut 44 = .ok (.goto (-30), 3) := dk_167 255 226 (dk_at dksX2_cut_1 20 rfl rfl)
theorem dX2_cut_47 : decode cX2_cut 47 = .ok (.iload_n 3, 1) := dk_29 (dk_at dksX2_cut_1 23 rfl rfl)
theorem dX2_cut_48 : decode cX2_cut 48 = .ok (.istore 5, 2) := dk_54 5 (dk_at dksX2_cut_2 0 rfl rfl)
theorem dX2_cut_50 : decode cX2_cut 50 = .ok (.lconst 0, 1) := dk_9 (dk_at dksX2_cut_2 2 rfl rfl)
theorem dX2_cut_51 : decode cX2_cut 51 = .ok (.lstore 6, 2) := dk_55 6 (dk_at dksX2_cut_2 3 rfl rfl)
theorem dX2_cut_53 : decode cX2_cut 53 = .ok (.iload 4, 2) := dk_21 4 (dk_at dksX2_cut_2 5 rfl rfl)
theorem dX2_cut_55 : decode cX2_cut 55 = .ok (.invokestatic 115, 3) := dk_184 0 115 (dk_at dksX2_cut_2 7 rfl rfl)
theorem dX2_cut_58 : decode cX2_cut 58 = .ok (.ifCond .eq 78, 3) := dk_153 0 78 (dk_at dksX2_cut_2 10 rfl rfl)
theorem dX2_cut_61 : decode cX2_cut 61 = .ok (.iload_n 3, 1) := dk_29 (dk_at dksX2_cut_2 13 rfl rfl)
theorem dX2_cut_62 : decode cX2_cut 62 = .ok (.iload_n 1, 1) := dk_27 (dk_at dksX2_cut_2 14 rfl rfl)
theorem dX2_cut_63 : decode cX2_cut 63 = .ok (.if_icmp .ge 50, 3) := dk_162 0 50 (dk_at dksX2_cut_2 15 rfl rfl)
theorem dX2_cut_66 : decode cX2_cut 66 = .ok (.aload_n 0, 1) := dk_42 (dk_at dksX2_cut_2 18 rfl rfl)
theorem dX2_cut_67 : decode cX2_cut 67 = .ok (.getfield 79, 3) := dk_180 0 79 (dk_at dksX2_cut_2 19 rfl rfl)
theorem dX2_cut_70 : decode cX2_cut 70 = .ok (.iload_n 3, 1) := dk_29 (dk_at dksX2_cut_2 22 rfl rfl)
theorem dX2_cut_71 : decode cX2_cut 71 = .ok (.iaload, 1) := dk_46 (dk_at dksX2_cut_2 23 rfl rfl)
theorem dX2_cut_72 : decode cX2_cut 72 = .ok (.invokestatic 115, 3) := dk_184 0 115 (dk_at dksX2_cut_3 0 rfl rfl)
theorem dX2_cut_75 : decode cX2_cut 75 = .ok (.ifCond .eq 38, 3) := dk_153 0 38 (dk_at dksX2_cut_3 3 rfl rfl)
theorem dX2_cut_78 : decode cX2_cut 78 = .ok (.iload_n 3, 1) := dk_29 (dk_at dksX2_cut_3 6 rfl rfl)
theorem dX2_cut_79 : decode cX2_cut 79 = .ok (.iload 5, 2) := dk_21 5 (dk_at dksX2_cut_3 7 rfl rfl)
theorem dX2_cut_81 : decode cX2_cut 81 = .ok (.isub, 1) := dk_100 (dk_at dksX2_cut_3 9 rfl rfl)
theorem dX2_cut_82 : decode cX2_cut 82 = .ok (.bipush 8, 2) := dk_16 8 (dk_at dksX2_cut_3 10 rfl rfl)
theorem dX2_cut_84 : decode cX2_cut 84 = .ok (.if_icmp .ge 23, 3) := dk_162 0 23 (dk_at dksX2_cut_3 12 rfl rfl)
theorem dX2_cut_87 : decode cX2_cut 87 = .ok (.ldc2_w 107, 3) := dk_20 0 107 (dk_at dksX2_cut_3 15 rfl rfl)
theorem dX2_cut_90 : decode cX2_cut 90 = .ok (.lload 6, 2) := dk_22 6 (dk_at dksX2_cut_3 18 rfl rfl)
theorem dX2_cut_92 : decode cX2_cut 92 = .ok (.lmul, 1) := dk_105 (dk_at dksX2_cut_3 20 rfl rfl)
theorem dX2_cut_93 : decode cX2_cut 93 = .ok (.aload_n 0, 1) := dk_42 (dk_at dksX2_cut_3 21 rfl rfl)
theorem dX2_cut_94 : decode cX2_cut 94 = .ok (.getfield 79, 3) := dk_180 0 79 (dk_at dksX2_cut_4 0 rfl rfl)
theorem dX2_cut_97 : decode cX2_cut 97 = .ok (.iload_n 3, 1) := dk_29 (dk_at dksX2_cut_4 3 rfl rfl)
theorem dX2_cut_98 : decode cX2_cut 98 = .ok (.iaload, 1) := dk_46 (dk_at dksX2_cut_4 4 rfl rfl)
theorem dX2_cut_99 : decode cX2_cut 99 = .ok (.i2l, 1) := dk_133 (dk_at dksX2_cut_4 5 rfl rfl)
theorem dX2_cut_100 : decode cX2_cut 100 = .ok (.ladd, 1) := dk_97 (dk_at dksX2_cut_4 6 rfl rfl)
theorem dX2_cut_101 : decode cX2_cut 101 = .ok (.ldc2_w 113, 3) := dk_20 0 113 (dk_at dksX2_cut_4 7 rfl rfl)
theorem dX2_cut_104 : decode cX2_cut 104 = .ok (.lsub, 1) := dk_101 (dk_at dksX2_cut_4 10 rfl rfl)
theorem dX2_cut_105 : decode cX2_cut 105 = .ok (.lstore 6, 2) := dk_55 6 (dk_at dksX2_cut_4 11 rfl rfl)
theorem dX2_cut_107 : decode cX2_cut 107 = .ok (.iinc 3 1, 3) := dk_132 3 1 (dk_at dksX2_cut_4 13 rfl rfl)
theorem dX2_cut_110 : decode cX2_cut 110 = .ok (.goto (-49), 3) := dk_167 255 207 (dk_at dksX2_cut_4 16 rfl rfl)
theorem dX2_cut_113 : decode cX2_cut 113 = .ok (.aload_n 0, 1) := dk_42 (dk_at dksX2_cut_4 19 rfl rfl)
theorem dX2_cut_114 : decode cX2_cut 114 = .ok (.getfield 83, 3) := dk_180 0 83 (dk_at dksX2_cut_4 20 rfl rfl)
theorem dX2_cut_117 : decode cX2_cut 117 = .ok (.iload_n 2, 1) := dk_28 (dk_at dksX2_cut_4 23 rfl rfl)
theorem dX2_cut_118 : decode cX2_cut 118 = .ok (.iload_n 3, 1) := dk_29 (dk_at dksX2_cut_5 0 rfl rfl)
theorem dX2_cut_119 : decode cX2_cut 119 = .ok (.iload 5, 2) := dk_21 5 (dk_at dksX2_cut_5 1 rfl rfl)
theorem dX2_cut_121 : decode cX2_cut 121 = .ok (.isub, 1) := dk_100 (dk_at dksX2_cut_5 3 rfl rfl)
theorem dX2_cut_122 : decode cX2_cut 122 = .ok (.bipush 8, 2) := dk_16 8 (dk_at dksX2_cut_5 4 rfl rfl)
theorem dX2_cut_124 : decode cX2_cut 124 = .ok (.if_icmp .le 7, 3) := dk_164 0 7 (dk_at dksX2_cut_5 6 rfl rfl)
theorem dX2_cut_127 : decode cX2_cut 127 = .ok (.iconst 4, 1) := dk_7 (dk_at dksX2_cut_5 9 rfl rfl)
theorem dX2_cut_128 : decode cX2_cut 128 = .ok (.goto 4, 3) := dk_167 0 4 (dk_at dksX2_cut_5 10 rfl rfl)
theorem dX2_cut_131 : decode cX2_cut 131 = .ok (.iconst 1, 1) := dk_4 (dk_at dksX2_cut_5 13 rfl rfl)
theorem dX2_cut_132 : decode cX2_cut 132 = .ok (.iastore, 1) := dk_79 (dk_at dksX2_cut_5 14 rfl rfl)
theorem dX2_cut_133 : decode cX2_cut 133 = .ok (.goto 113, 3) := dk_167 0 113 (dk_at dksX2_cut_5 15 rfl rfl)
theorem dX2_cut_136 : decode cX2_cut 136 = .ok (.iload 4, 2) := dk_21 4 (dk_at dksX2_cut_5 18 rfl rfl)
theorem dX2_cut_138 : decode cX2_cut 138 = .ok (.invokestatic 119, 3) := dk_184 0 119 (dk_at dksX2_cut_5 20 rfl rfl)
theorem dX2_cut_141 : decode cX2_cut 141 = .ok (.ifCond .eq 76, 3) := dk_153 0 76 (dk_at dksX2_cut_6 0 rfl rfl)
theorem dX2_cut_144 : decode cX2_cut 144 = .ok (.iload_n 3, 1) := dk_29 (dk_at dksX2_cut_6 3 rfl rfl)
theorem dX2_cut_145 : decode cX2_cut 145 = .ok (.iload_n 1, 1) := dk_27 (dk_at dksX2_cut_6 4 rfl rfl)
theorem dX2_cut_146 : decode cX2_cut 146 = .ok (.if_icmp .ge 49, 3) := dk_162 0 49 (dk_at dksX2_cut_6 5 rfl rfl)
theorem dX2_cut_149 : decode cX2_cut 149 = .ok (.aload_n 0, 1) := dk_42 (dk_at dksX2_cut_6 8 rfl rfl)
theorem dX2_cut_150 : decode cX2_cut 150 = .ok (.getfield 79, 3) := dk_180 0 79 (dk_at dksX2_cut_6 9 rfl rfl)
theorem dX2_cut_153 : decode cX2_cut 153 = .ok (.iload_n 3, 1) := dk_29 (dk_at dksX2_cut_6 12 rfl rfl)
theorem dX2_cut_154 : decode cX2_cut 154 = .ok (.iaload, 1) := dk_46 (dk_at dksX2_cut_6 13 rfl rfl)
theorem dX2_cut_155 : decode cX2_cut 155 = .ok (.invokestatic 119, 3) := dk_184 0 119 (dk_at dksX2_cut_6 14 rfl rfl)
theorem dX2_cut_158 : decode cX2_cut 158 = .ok (.ifCond .eq 37, 3) := dk_153 0 37 (dk_at dksX2_cut_6 17 rfl rfl)
theorem dX2_cut_161 : decode cX2_cut 161 = .ok (.iload_n 3, 1) := dk_29 (dk_at dksX2_cut_6 20 rfl rfl)
theorem dX2_cut_162 : decode cX2_cut 162 = .ok (.iload 5, 2) := dk_21 5 (dk_at dksX2_cut_6 21 rfl rfl)
theorem dX2_cut_164 : decode cX2_cut 164 = .ok (.isub, 1) := dk_100 (dk_at dksX2_cut_6 23 rfl rfl)
theorem dX2_cut_165 : decode cX2_cut 165 = .ok (.iconst 4, 1) := dk_7 (dk_at dksX2_cut_7 0 rfl rfl)
theorem dX2_cut_166 : decode cX2_cut 166 = .ok (.if_icmp .ge 23, 3) := dk_162 0 23 (dk_at dksX2_cut_7 1 rfl rfl)
theorem dX2_cut_169 : decode cX2_cut 169 = .ok (.ldc2_w 122, 3) := dk_20 0 122 (dk_at dksX2_cut_7 4 rfl rfl)
theorem dX2_cut_172 : decode cX2_cut 172 = .ok (.lload 6, 2) := dk_22 6 (dk_at dksX2_cut_7 7 rfl rfl)
theorem dX2_cut_174 : decode cX2_cut 174 = .ok (.lmul, 1) := dk_105 (dk_at dksX2_cut_7 9 rfl rfl)
theorem dX2_cut_175 : decode cX2_cut 175 = .ok (.aload_n 0, 1) := dk_42 (dk_at dksX2_cut_7 10 rfl rfl)
theorem dX2_cut_176 : decode cX2_cut 176 = .ok (.getfield 79, 3) := dk_180 0 79 (dk_at dksX2_cut_7 11 rfl rfl)
theorem dX2_cut_179 : decode cX2_cut 179 = .ok (.iload_n 3, 1) := dk_29 (dk_at dksX2_cut_7 14 rfl rfl)
theorem dX2_cut_180 : decode cX2_cut 180 = .ok (.iaload, 1) := dk_46 (dk_at dksX2_cut_7 15 rfl rfl)
theorem dX2_cut_181 : decode cX2_cut 181 = .ok (.i2l, 1) := dk_133 (dk_at dksX2_cut_7 16 rfl rfl)
theorem dX2_cut_182 : decode cX2_cut 182 = .ok (.ladd, 1) := dk_97 (dk_at dksX2_cut_7 17 rfl rfl)
theorem dX2_cut_183 : decode cX2_cut 183 = .ok (.ldc2_w 124, 3) := dk_20 0 124 (dk_at dksX2_cut_7 18 rfl rfl)
theorem dX2_cut_186 : decode cX2_cut 186 = .ok (.lsub, 1) := dk_101 (dk_at dksX2_cut_7 21 rfl rfl)
theorem dX2_cut_187 : decode cX2_cut 187 = .ok (.lstore 6, 2) := dk_55 6 (dk_at dksX2_cut_7 22 rfl rfl)
theorem dX2_cut_189 : decode cX2_cut 189 = .ok (.iinc 3 1, 3) := dk_132 3 1 (dk_at dksX2_cut_8 0 rfl rfl)
theorem dX2_cut_192 : decode cX2_cut 192 = .ok (.goto (-48), 3) := dk_167 255 208 (dk_at dksX2_cut_8 3 rfl rfl)
theorem dX2_cut_195 : decode cX2_cut 195 = .ok (.aload_n 0, 1) := dk_42 (dk_at dksX2_cut_8 6 rfl rfl)
theorem dX2_cut_196 : decode cX2_cut 196 = .ok (.getfield 83, 3) := dk_180 0 83 (dk_at dksX2_cut_8 7 rfl rfl)
theorem dX2_cut_199 : decode cX2_cut 199 = .ok (.iload_n 2, 1) := dk_28 (dk_at dksX2_cut_8 10 rfl rfl)
theorem dX2_cut_200 : decode cX2_cut 200 = .ok (.iload_n 3, 1) := dk_29 (dk_at dksX2_cut_8 11 rfl rfl)
theorem dX2_cut_201 : decode cX2_cut 201 = .ok (.iload 5, 2) := dk_21 5 (dk_at dksX2_cut_8 12 rfl rfl)
theorem dX2_cut_203 : decode cX2_cut 203 = .ok (.isub, 1) := dk_100 (dk_at dksX2_cut_8 14 rfl rfl)
theorem dX2_cut_204 : decode cX2_cut 204 = .ok (.iconst 4, 1) := dk_7 (dk_at dksX2_cut_8 15 rfl rfl)
theorem dX2_cut_205 : decode cX2_cut 205 = .ok (.if_icmp .le 7, 3) := dk_164 0 7 (dk_at dksX2_cut_8 16 rfl rfl)
theorem dX2_cut_208 : decode cX2_cut 208 = .ok (.iconst 4, 1) := dk_7 (dk_at dksX2_cut_8 19 rfl rfl)
theorem dX2_cut_209 : decode cX2_cut 209 = .ok (.goto 4, 3) := dk_167 0 4 (dk_at dksX2_cut_8 20 rfl rfl)
theorem dX2_cut_212 : decode cX2_cut 212 = .ok (.iconst 2, 1) := dk_5 (dk_at dksX2_cut_8 23 rfl rfl)
theorem dX2_cut_213 : decode cX2_cut 213 = .ok (.iastore, 1) := dk_79 (dk_at dksX2_cut_9 0 rfl rfl)
theorem dX2_cut_214 : decode cX2_cut 214 = .ok (.goto 32, 3) := dk_167 0 32 (dk_at dksX2_cut_9 1 rfl rfl)
theorem dX2_cut_217 : decode cX2_cut 217 = .ok (.iload 4, 2) := dk_21 4 (dk_at dksX2_cut_9 4 rfl rfl)
theorem dX2_cut_219 : decode cX2_cut 219 = .ok (.i2l, 1) := dk_133 (dk_at dksX2_cut_9 6 rfl rfl)
theorem dX2_cut_220 : decode cX2_cut 220 = .ok (.lstore 6, 2) := dk_55 6 (dk_at dksX2_cut_9 7 rfl rfl)
theorem dX2_cut_222 : decode cX2_cut 222 = .ok (.iinc 3 1, 3) := dk_132 3 1 (dk_at dksX2_cut_9 9 rfl rfl)
theorem dX2_cut_225 : decode cX2_cut 225 = .ok (.aload_n 0, 1) := dk_42 (dk_at dksX2_cut_9 12 rfl rfl)
theorem dX2_cut_226 : decode cX2_cut 226 = .ok (.getfield 83, 3) := dk_180 0 83 (dk_at dksX2_cut_9 13 rfl rfl)
theorem dX2_cut_229 : decode cX2_cut 229 = .ok (.iload_n 2, 1) := dk_28 (dk_at dksX2_cut_9 16 rfl rfl)
theorem dX2_cut_230 : decode cX2_cut 230 = .ok (.ldc 126, 2) := dk_18 126 (dk_at dksX2_cut_9 17 rfl rfl)
theorem dX2_cut_232 : decode cX2_cut 232 = .ok (.iload 4, 2) := dk_21 4 (dk_at dksX2_cut_9 19 rfl rfl)
theorem dX2_cut_234 : decode cX2_cut 234 = .ok (.invokevirtual 128, 3) := dk_182 0 128 (dk_at dksX2_cut_9 21 rfl rfl)
theorem dX2_cut_237 : decode cX2_cut 237 = .ok (.ifCond .lt 7, 3) := dk_155 0 7 (dk_at dksX2_cut_10 0 rfl rfl)
theorem dX2_cut_240 : decode cX2_cut 240 = .ok (.iconst 3, 1) := dk_6 (dk_at dksX2_cut_10 3 rfl rfl)
theorem dX2_cut_241 : decode cX2_cut 241 = .ok (.goto 4, 3) := dk_167 0 4 (dk_at dksX2_cut_10 4 rfl rfl)
theorem dX2_cut_244 : decode cX2_cut 244 = .ok (.iconst 4, 1) := dk_7 (dk_at dksX2_cut_10 7 rfl rfl)
theorem dX2_cut_245 : decode cX2_cut 245 = .ok (.iastore, 1) := dk_79 (dk_at dksX2_cut_10 8 rfl rfl)
theorem dX2_cut_246 : decode cX2_cut 246 = .ok (.aload_n 0, 1) := dk_42 (dk_at dksX2_cut_10 9 rfl rfl)
theorem dX2_cut_247 : decode cX2_cut 247 = .ok (.getfield 86, 3) := dk_180 0 86 (dk_at dksX2_cut_10 10 rfl rfl)
theorem dX2_cut_250 : decode cX2_cut 250 = .ok (.iload_n 2, 1) := dk_28 (dk_at dksX2_cut_10 13 rfl rfl)
theorem dX2_cut_251 : decode cX2_cut 251 = .ok (.lload 6, 2) := dk_22 6 (dk_at dksX2_cut_10 14 rfl rfl)
theorem dX2_cut_253 : decode cX2_cut 253 = .ok (.lastore, 1) := dk_80 (dk_at dksX2_cut_10 16 rfl rfl)
theorem dX2_cut_254 : decode cX2_cut 254 = .ok (.aload_n 0, 1) := dk_42 (dk_at dksX2_cut_10 17 rfl rfl)
theorem dX2_cut_255 : decode cX2_cut 255 = .ok (.getfield 90, 3) := dk_180 0 90 (dk_at dksX2_cut_10 18 rfl rfl)
theorem dX2_cut_258 : decode cX2_cut 258 = .ok (.iload_n 2, 1) := dk_28 (dk_at dksX2_cut_10 21 rfl rfl)
theorem dX2_cut_259 : decode cX2_cut 259 = .ok (.iload 5, 2) := dk_21 5 (dk_at dksX2_cut_10 22 rfl rfl)
theorem dX2_cut_261 : decode cX2_cut 261 = .ok (.iastore, 1) := dk_79 (dk_at dksX2_cut_11 0 rfl rfl)
theorem dX2_cut_262 : decode cX2_cut 262 = .ok (.iinc 2 1, 3) := dk_132 2 1 (dk_at dksX2_cut_11 1 rfl rfl)
theorem dX2_cut_265 : decode cX2_cut 265 = .ok (.goto (-251), 3) := dk_167 255 5 (dk_at dksX2_cut_11 4 rfl rfl)
theorem dX2_cut_268 : decode cX2_cut 268 = .ok (.aload_n 0, 1) := dk_42 (dk_at dksX2_cut_11 7 rfl rfl)
theorem dX2_cut_269 : decode cX2_cut 269 = .ok (.getfield 83, 3) := dk_180 0 83 (dk_at dksX2_cut_11 8 rfl rfl)
theorem dX2_cut_272 : decode cX2_cut 272 = .ok (.iload_n 2, 1) := dk_28 (dk_at dksX2_cut_11 11 rfl rfl)
theorem dX2_cut_273 : decode cX2_cut 273 = .ok (.iconst 0, 1) := dk_3 (dk_at dksX2_cut_11 12 rfl rfl)
theorem dX2_cut_274 : decode cX2_cut 274 = .ok (.iastore, 1) := dk_79 (dk_at dksX2_cut_11 13 rfl rfl)
theorem dX2_cut_275 : decode cX2_cut 275 = .ok (.aload_n 0, 1) := dk_42 (dk_at dksX2_cut_11 14 rfl rfl)
theorem dX2_cut_276 : decode cX2_cut 276 = .ok (.getfield 90, 3) := dk_180 0 90 (dk_at dksX2_cut_11 15 rfl rfl)
theorem dX2_cut_279 : decode cX2_cut 279 = .ok (.iload_n 2, 1) := dk_28 (dk_at dksX2_cut_11 18 rfl rfl)
theorem dX2_cut_280 : decode cX2_cut 280 = .ok (.iload_n 1, 1) := dk_27 (dk_at dksX2_cut_11 19 rfl rfl)
theorem dX2_cut_281 : decode cX2_cut 281 = .ok (.iastore, 1) := dk_79 (dk_at dksX2_cut_11 20 rfl rfl)
theorem dX2_cut_282 : decode cX2_cut 282 = .ok (.aload_n 0, 1) := dk_42 (dk_at dksX2_cut_11 21 rfl rfl)
theorem dX2_cut_283 : decode cX2_cut 283 = .ok (.iconst 0, 1) := dk_3 (dk_at dksX2_cut_11 22 rfl rfl)
theorem dX2_cut_284 : decode cX2_cut 284 = .ok (.putfield 132, 3) := dk_181 0 132 (dk_at dksX2_cut_12 0 rfl rfl)
theorem dX2_cut_287 : decode cX2_cut 287 = .ok (.return_, 1) := dk_177 (dk_at dksX2_cut_12 3 rfl rfl)
abbrev cX2_isLetter : ByteArray := prog_25_method_4_code
def yX2_isLetter : MethodName := ⟨RX2, "isLetter", "(I)Z"⟩
def dkwX2_isLetter_0 : List UInt8 := [26, 16, 97, 16, 122, 184, 0, 95, 172]
abbrev dktX2_isLetter_0 : List UInt8 := dkwX2_isLetter_0 ++ []
theorem dksX2_isLetter_0 : cX2_isLetter.data.toList.drop 0 = dktX2_isLetter_0 := by decide +kernel
theorem dX2_isLetter_0 : decode cX2_isLetter 0 = .ok (.iload_n 0, 1) := dk_26 (dk_at dksX2_isLetter_0 0 rfl rfl)
theorem dX2_isLetter_1 : decode cX2_isLetter 1 = .ok (.bipush 97, 2) := dk_16 97 (dk_at dksX2_isLetter_0 1 rfl rfl)
theorem dX2_isLetter_3 : decode cX2_isLetter 3 = .ok (.bipush 122, 2) := dk_16 122 (dk_at dksX2_isLetter_0 3 rfl rfl)
theorem dX2_isLetter_5 : decode cX2_isLetter 5 = .ok (.invokestatic 95, 3) := dk_184 0 95 (dk_at dksX2_isLetter_0 5 rfl rfl)
theorem dX2_isLetter_8 : decode cX2_isLetter 8 = .ok (.ireturn, 1) := dk_172 (dk_at dksX2_isLetter_0 8 rfl rfl)
abbrev cX2_isDigit : ByteArray := prog_25_method_5_code
def yX2_isDigit : MethodName := ⟨RX2, "isDigit", "(I)Z"⟩
def dkwX2_isDigit_0 : List UInt8 := [26, 16, 48, 16, 57, 184, 0, 95, 172]
abbrev dktX2_isDigit_0 : List UInt8 := dkwX2_isDigit_0 ++ []
theorem dksX2_isDigit_0 : cX2_isDigit.data.toList.drop 0 = dktX2_isDigit_0 := by decide +kernel
theorem dX2_isDigit_0 : decode cX2_isDigit 0 = .ok (.iload_n 0, 1) := dk_26 (dk_at dksX2_isDigit_0 0 rfl rfl)
theorem dX2_isDigit_1 : decode cX2_isDigit 1 = .ok (.bipush 48, 2) := dk_16 48 (dk_at dksX2_isDigit_0 1 rfl rfl)
theorem dX2_isDigit_3 : decode cX2_isDigit 3 = .ok (.bipush 57, 2) := dk_16 57 (dk_at dksX2_isDigit_0 3 rfl rfl)
theorem dX2_isDigit_5 : decode cX2_isDigit 5 = .ok (.invokestatic 95, 3) := dk_184 0 95 (dk_at dksX2_isDigit_0 5 rfl rfl)
theorem dX2_isDigit_8 : decode cX2_isDigit 8 = .ok (.ireturn, 1) := dk_172 (dk_at dksX2_isDigit_0 8 rfl rfl)
abbrev cX2_isWord : ByteArray := prog_25_method_8_code
def yX2_isWord : MethodName := ⟨RX2, "isWord", "(Ljava/lang/String;)Z"⟩
def dkwX2_isWord_1 : List UInt8 := [184, 0, 140, 148, 154, 0, 7, 4, 167, 0, 4, 3, 172]
abbrev dktX2_isWord_1 : List UInt8 := dkwX2_isWord_1 ++ []
def dkwX2_isWord_0 : List UInt8 := [42, 180, 0, 83, 42, 180, 0, 132, 46, 4, 160, 0, 24, 42, 180, 0, 86, 42, 180, 0, 132, 47, 43]
abbrev dktX2_isWord_0 : List UInt8 := dkwX2_isWord_0 ++ dktX2_isWord_1
theorem dksX2_isWord_0 : cX2_isWord.data.toList.drop 0 = dktX2_isWord_0 := by decide +kernel
theorem dksX2_isWord_1 : cX2_isWord.data.toList.drop 23 = dktX2_isWord_1 := dk_seg dksX2_isWord_0 23 rfl rfl
theorem dX2_isWord_0 : decode cX2_isWord 0 = .ok (.aload_n 0, 1) := dk_42 (dk_at dksX2_isWord_0 0 rfl rfl)
theorem dX2_isWord_1 : decode cX2_isWord 1 = .ok (.getfield 83, 3) := dk_180 0 83 (dk_at dksX2_isWord_0 1 rfl rfl)
theorem dX2_isWord_4 : decode cX2_isWord 4 = .ok (.aload_n 0, 1) := dk_42 (dk_at dksX2_isWord_0 4 rfl rfl)
theorem dX2_isWord_5 : decode cX2_isWord 5 = .ok (.getfield 132, 3) := dk_180 0 132 (dk_at dksX2_isWord_0 5 rfl rfl)
theorem dX2_isWord_8 : decode cX2_isWord 8 = .ok (.iaload, 1) := dk_46 (dk_at dksX2_isWord_0 8 rfl rfl)
theorem dX2_isWord_9 : decode cX2_isWord 9 = .ok (.iconst 1, 1) := dk_4 (dk_at dksX2_isWord_0 9 rfl rfl)
theorem dX2_isWord_10 : decode cX2_isWord 10 = .ok (.if_icmp .ne 24, 3) := dk_160 0 24 (dk_at dksX2_isWord_0 10 rfl rfl)
theorem dX2_isWord_13 : decode cX2_isWord 13 = .ok (.aload_n 0, 1) := dk_42 (dk_at dksX2_isWord_0 13 rfl rfl)
theorem dX2_isWord_14 : decode cX2_isWord 14 = .ok (.getfield 86, 3) := dk_180 0 86 (dk_at dksX2_isWord_0 14 rfl rfl)
theorem dX2_isWord_17 : decode cX2_isWord 17 = .ok (.aload_n 0, 1) := dk_42 (dk_at dksX2_isWord_0 17 rfl rfl)
theorem dX2_isWord_18 : decode cX2_isWord 18 = .ok (.getfield 132, 3) := dk_180 0 132 (dk_at dksX2_isWord_0 18 rfl rfl)
theorem dX2_isWord_21 : decode cX2_isWord 21 = .ok (.laload, 1) := dk_47 (dk_at dksX2_isWord_0 21 rfl rfl)
theorem dX2_isWord_22 : decode cX2_isWord 22 = .ok (.aload_n 1, 1) := dk_43 (dk_at dksX2_isWord_0 22 rfl rfl)
theorem dX2_isWord_23 : decode cX2_isWord 23 = .ok (.invokestatic 140, 3) := dk_184 0 140 (dk_at dksX2_isWord_1 0 rfl rfl)
theorem dX2_isWord_26 : decode cX2_isWord 26 = .ok (.lcmp, 1) := dk_148 (dk_at dksX2_isWord_1 3 rfl rfl)
theorem dX2_isWord_27 : decode cX2_isWord 27 = .ok (.ifCond .ne 7, 3) := dk_154 0 7 (dk_at dksX2_isWord_1 4 rfl rfl)
theorem dX2_isWord_30 : decode cX2_isWord 30 = .ok (.iconst 1, 1) := dk_4 (dk_at dksX2_isWord_1 7 rfl rfl)
theorem dX2_isWord_31 : decode cX2_isWord 31 = .ok (.goto 4, 3) := dk_167 0 4 (dk_at dksX2_isWord_1 8 rfl rfl)
theorem dX2_isWord_34 : decode cX2_isWord 34 = .ok (.iconst 0, 1) := dk_3 (dk_at dksX2_isWord_1 11 rfl rfl)
theorem dX2_isWord_35 : decode cX2_isWord 35 = .ok (.ireturn, 1) := dk_172 (dk_at dksX2_isWord_1 12 rfl rfl)
abbrev cX2_word : ByteArray := prog_25_method_3_code
def yX2_word : MethodName := ⟨RX2, "word", "(Ljava/lang/String;)J"⟩
def dkwX2_word_1 : List UInt8 := [20, 0, 113, 101, 64, 132, 3, 1, 167, 255, 228, 31, 173]
abbrev dktX2_word_1 : List UInt8 := dkwX2_word_1 ++ []
def dkwX2_word_0 : List UInt8 := [9, 64, 3, 62, 29, 42, 182, 0, 103, 162, 0, 26, 20, 0, 107, 31, 105, 42, 29, 182, 0, 109, 133, 97]
abbrev dktX2_word_0 : List UInt8 := dkwX2_word_0 ++ dktX2_word_1
theorem dksX2_word_0 : cX2_word.data.toList.drop 0 = dktX2_word_0 := by decide +kernel
theorem dksX2_word_1 : cX2_word.data.toList.drop 24 = dktX2_word_1 := dk_seg dksX2_word_0 24 rfl rfl
theorem dX2_word_0 : decode cX2_word 0 = .ok (.lconst 0, 1) := dk_9 (dk_at dksX2_word_0 0 rfl rfl)
theorem dX2_word_1 : decode cX2_word 1 = .ok (.lstore_n 1, 1) := dk_64 (dk_at dksX2_word_0 1 rfl rfl)
theorem dX2_word_2 : decode cX2_word 2 = .ok (.iconst 0, 1) := dk_3 (dk_at dksX2_word_0 2 rfl rfl)
theorem dX2_word_3 : decode cX2_word 3 = .ok (.istore_n 3, 1) := dk_62 (dk_at dksX2_word_0 3 rfl rfl)
theorem dX2_word_4 : decode cX2_word 4 = .ok (.iload_n 3, 1) := dk_29 (dk_at dksX2_word_0 4 rfl rfl)
theorem dX2_word_5 : decode cX2_word 5 = .ok (.aload_n 0, 1) := dk_42 (dk_at dksX2_word_0 5 rfl rfl)
theorem dX2_word_6 : decode cX2_word 6 = .ok (.invokevirtual 103, 3) := dk_182 0 103 (dk_at dksX2_word_0 6 rfl rfl)
theorem dX2_word_9 : decode cX2_word 9 = .ok (.if_icmp .ge 26, 3) := dk_162 0 26 (dk_at dksX2_word_0 9 rfl rfl)
theorem dX2_word_12 : decode cX2_word 12 = .ok (.ldc2_w 107, 3) := dk_20 0 107 (dk_at dksX2_word_0 12 rfl rfl)
theorem dX2_word_15 : decode cX2_word 15 = .ok (.lload_n 1, 1) := dk_31 (dk_at dksX2_word_0 15 rfl rfl)
theorem dX2_word_16 : decode cX2_word 16 = .ok (.lmul, 1) := dk_105 (dk_at dksX2_word_0 16 rfl rfl)
theorem dX2_word_17 : decode cX2_word 17 = .ok (.aload_n 0, 1) := dk_42 (dk_at dksX2_word_0 17 rfl rfl)
theorem dX2_word_18 : decode cX2_word 18 = .ok (.iload_n 3, 1) := dk_29 (dk_at dksX2_word_0 18 rfl rfl)
theorem dX2_word_19 : decode cX2_word 19 = .ok (.invokevirtual 109, 3) := dk_182 0 109 (dk_at dksX2_word_0 19 rfl rfl)
theorem dX2_word_22 : decode cX2_word 22 = .ok (.i2l, 1) := dk_133 (dk_at dksX2_word_0 22 rfl rfl)
theorem dX2_word_23 : decode cX2_word 23 = .ok (.ladd, 1) := dk_97 (dk_at dksX2_word_0 23 rfl rfl)
theorem dX2_word_24 : decode cX2_word 24 = .ok (.ldc2_w 113, 3) := dk_20 0 113 (dk_at dksX2_word_1 0 rfl rfl)
theorem dX2_word_27 : decode cX2_word 27 = .ok (.lsub, 1) := dk_101 (dk_at dksX2_word_1 3 rfl rfl)
theorem dX2_word_28 : decode cX2_word 28 = .ok (.lstore_n 1, 1) := dk_64 (dk_at dksX2_word_1 4 rfl rfl)
theorem dX2_word_29 : decode cX2_word 29 = .ok (.iinc 3 1, 3) := dk_132 3 1 (dk_at dksX2_word_1 5 rfl rfl)
theorem dX2_word_32 : decode cX2_word 32 = .ok (.goto (-28), 3) := dk_167 255 228 (dk_at dksX2_word_1 8 rfl rfl)
theorem dX2_word_35 : decode cX2_word 35 = .ok (.lload_n 1, 1) := dk_31 (dk_at dksX2_word_1 11 rfl rfl)
theorem dX2_word_36 : decode cX2_word 36 = .ok (.lreturn, 1) := dk_173 (dk_at dksX2_word_1 12 rfl rfl)
abbrev cX2_person : ByteArray := prog_25_method_22_code
def yX2_person : MethodName := ⟨RX2, "person", "()V"⟩
def dkwX2_person_3 : List UInt8 := [180, 0, 232, 28, 29, 42, 18, 40, 3, 17, 3, 231, 182, 0, 242, 184, 0, 245, 182, 0, 211, 87, 177]
abbrev dktX2_person_3 : List UInt8 := dkwX2_person_3 ++ []
def dkwX2_person_2 : List UInt8 := [89, 180, 0, 132, 4, 96, 181, 0, 132, 42, 18, 38, 3, 16, 9, 182, 0, 242, 62, 42, 180, 0, 168]
abbrev dktX2_person_2 : List UInt8 := dkwX2_person_2 ++ dktX2_person_3
def dkwX2_person_1 : List UInt8 := [182, 0, 238, 42, 42, 180, 0, 33, 182, 0, 158, 61, 28, 2, 160, 0, 9, 42, 4, 182, 0, 154, 191, 42]
abbrev dktX2_person_1 : List UInt8 := dkwX2_person_1 ++ dktX2_person_2
def dkwX2_person_0 : List UInt8 := [42, 180, 0, 168, 180, 0, 232, 182, 0, 235, 60, 42, 27, 16, 6, 160, 0, 7, 4, 167, 0, 4, 3, 27]
abbrev dktX2_person_0 : List UInt8 := dkwX2_person_0 ++ dktX2_person_1
theorem dksX2_person_0 : cX2_person.data.toList.drop 0 = dktX2_person_0 := by decide +kernel
theorem dksX2_person_1 : cX2_person.data.toList.drop 24 = dktX2_person_1 := dk_seg dksX2_person_0 24 rfl rfl
theorem dksX2_person_2 : cX2_person.data.toList.drop 48 = dktX2_person_2 := dk_seg dksX2_person_1 24 rfl rfl
theorem dksX2_person_3 : cX2_person.data.toList.drop 71 = dktX2_person_3 := dk_seg dksX2_person_2 23 rfl rfl
theorem dX2_person_0 : decode cX2_person 0 = .ok (.aload_n 0, 1) := dk_42 (dk_at dksX2_person_0 0 rfl rfl)
theorem dX2_person_1 : decode cX2_person 1 = .ok (.getfield 168, 3) := dk_180 0 168 (dk_at dksX2_person_0 1 rfl rfl)
theorem dX2_person_4 : decode cX2_person 4 = .ok (.getfield 232, 3) := dk_180 0 232 (dk_at dksX2_person_0 4 rfl rfl)
theorem dX2_person_7 : decode cX2_person 7 = .ok (.invokevirtual 235, 3) := dk_182 0 235 (dk_at dksX2_person_0 7 rfl rfl)
theorem dX2_person_10 : decode cX2_person 10 = .ok (.istore_n 1, 1) := dk_60 (dk_at dksX2_person_0 10 rfl rfl)
theorem dX2_person_11 : decode cX2_person 11 = .ok (.aload_n 0, 1) := dk_42 (dk_at dksX2_person_0 11 rfl rfl)
theorem dX2_person_12 : decode cX2_person 12 = .ok (.iload_n 1, 1) := dk_27 (dk_at dksX2_person_0 12 rfl rfl)
theorem dX2_person_13 : decode cX2_person 13 = .ok (.bipush 6, 2) := dk_16 6 (dk_at dksX2_person_0 13 rfl rfl)
theorem dX2_person_15 : decode cX2_person 15 = .ok (.if_icmp .ne 7, 3) := dk_160 0 7 (dk_at dksX2_person_0 15 rfl rfl)
theorem dX2_person_18 : decode cX2_person 18 = .ok (.iconst 1, 1) := dk_4 (dk_at dksX2_person_0 18 rfl rfl)
theorem dX2_person_19 : decode cX2_person 19 = .ok (.goto 4, 3) := dk_167 0 4 (dk_at dksX2_person_0 19 rfl rfl)
theorem dX2_person_22 : decode cX2_person 22 = .ok (.iconst 0, 1) := dk_3 (dk_at dksX2_person_0 22 rfl rfl)
theorem dX2_person_23 : decode cX2_person 23 = .ok (.iload_n 1, 1) := dk_27 (dk_at dksX2_person_0 23 rfl rfl)
theorem dX2_person_24 : decode cX2_person 24 = .ok (.invokevirtual 238, 3) := dk_182 0 238 (dk_at dksX2_person_1 0 rfl rfl)
theorem dX2_person_27 : decode cX2_person 27 = .ok (.aload_n 0, 1) := dk_42 (dk_at dksX2_person_1 3 rfl rfl)
theorem dX2_person_28 : decode cX2_person 28 = .ok (.aload_n 0, 1) := dk_42 (dk_at dksX2_person_1 4 rfl rfl)
theorem dX2_person_29 : decode cX2_person 29 = .ok (.getfield 33, 3) := dk_180 0 33 (dk_at dksX2_person_1 5 rfl rfl)
theorem dX2_person_32 : decode cX2_person 32 = .ok (.invokevirtual 158, 3) := dk_182 0 158 (dk_at dksX2_person_1 8 rfl rfl)
theorem dX2_person_35 : decode cX2_person 35 = .ok (.istore_n 2, 1) := dk_61 (dk_at dksX2_person_1 11 rfl rfl)
theorem dX2_person_36 : decode cX2_person 36 = .ok (.iload_n 2, 1) := dk_28 (dk_at dksX2_person_1 12 rfl rfl)
theorem dX2_person_37 : decode cX2_person 37 = .ok (.iconst (-1), 1) := dk_2 (dk_at dksX2_person_1 13 rfl rfl)
theorem dX2_person_38 : decode cX2_person 38 = .ok (.if_icmp .ne 9, 3) := dk_160 0 9 (dk_at dksX2_person_1 14 rfl rfl)
theorem dX2_person_41 : decode cX2_person 41 = .ok (.aload_n 0, 1) := dk_42 (dk_at dksX2_person_1 17 rfl rfl)
theorem dX2_person_42 : decode cX2_person 42 = .ok (.iconst 1, 1) := dk_4 (dk_at dksX2_person_1 18 rfl rfl)
theorem dX2_person_43 : decode cX2_person 43 = .ok (.invokevirtual 154, 3) := dk_182 0 154 (dk_at dksX2_person_1 19 rfl rfl)
theorem dX2_person_46 : decode cX2_person 46 = .ok (.athrow, 1) := dk_191 (dk_at dksX2_person_1 22 rfl rfl)
theorem dX2_person_47 : decode cX2_person 47 = .ok (.aload_n 0, 1) := dk_42 (dk_at dksX2_person_1 23 rfl rfl)
theorem dX2_person_48 : decode cX2_person 48 = .ok (.dup, 1) := dk_89 (dk_at dksX2_person_2 0 rfl rfl)
theorem dX2_person_49 : decode cX2_person 49 = .ok (.getfield 132, 3) := dk_180 0 132 (dk_at dksX2_person_2 1 rfl rfl)
theorem dX2_person_52 : decode cX2_person 52 = .ok (.iconst 1, 1) := dk_4 (dk_at dksX2_person_2 4 rfl rfl)
theorem dX2_person_53 : decode cX2_person 53 = .ok (.iadd, 1) := dk_96 (dk_at dksX2_person_2 5 rfl rfl)
theorem dX2_person_54 : decode cX2_person 54 = .ok (.putfield 132, 3) := dk_181 0 132 (dk_at dksX2_person_2 6 rfl rfl)
theorem dX2_person_57 : decode cX2_person 57 = .ok (.aload_n 0, 1) := dk_42 (dk_at dksX2_person_2 9 rfl rfl)
theorem dX2_person_58 : decode cX2_person 58 = .ok (.ldc 38, 2) := dk_18 38 (dk_at dksX2_person_2 10 rfl rfl)
theorem dX2_person_60 : decode cX2_person 60 = .ok (.iconst 0, 1) := dk_3 (dk_at dksX2_person_2 12 rfl rfl)
theorem dX2_person_61 : decode cX2_person 61 = .ok (.bipush 9, 2) := dk_16 9 (dk_at dksX2_person_2 13 rfl rfl)
theorem dX2_person_63 : decode cX2_person 63 = .ok (.invokevirtual 242, 3) := dk_182 0 242 (dk_at dksX2_person_2 15 rfl rfl)
theorem dX2_person_66 : decode cX2_person 66 = .ok (.istore_n 3, 1) := dk_62 (dk_at dksX2_person_2 18 rfl rfl)
theorem dX2_person_67 : decode cX2_person 67 = .ok (.aload_n 0, 1) := dk_42 (dk_at dksX2_person_2 19 rfl rfl)
theorem dX2_person_68 : decode cX2_person 68 = .ok (.getfield 168, 3) := dk_180 0 168 (dk_at dksX2_person_2 20 rfl rfl)
theorem dX2_person_71 : decode cX2_person 71 = .ok (.getfield 232, 3) := dk_180 0 232 (dk_at dksX2_person_3 0 rfl rfl)
theorem dX2_person_74 : decode cX2_person 74 = .ok (.iload_n 2, 1) := dk_28 (dk_at dksX2_person_3 3 rfl rfl)
theorem dX2_person_75 : decode cX2_person 75 = .ok (.iload_n 3, 1) := dk_29 (dk_at dksX2_person_3 4 rfl rfl)
theorem dX2_person_76 : decode cX2_person 76 = .ok (.aload_n 0, 1) := dk_42 (dk_at dksX2_person_3 5 rfl rfl)
theorem dX2_person_77 : decode cX2_person 77 = .ok (.ldc 40, 2) := dk_18 40 (dk_at dksX2_person_3 6 rfl rfl)
theorem dX2_person_79 : decode cX2_person 79 = .ok (.iconst 0, 1) := dk_3 (dk_at dksX2_person_3 8 rfl rfl)
theorem dX2_person_80 : decode cX2_person 80 = .ok (.sipush 999, 3) := dk_17 3 231 (dk_at dksX2_person_3 9 rfl rfl)
theorem dX2_person_83 : decode cX2_person 83 = .ok (.invokevirtual 242, 3) := dk_182 0 242 (dk_at dksX2_person_3 12 rfl rfl)
theorem dX2_person_86 : decode cX2_person 86 = .ok (.invokestatic 245, 3) := dk_184 0 245 (dk_at dksX2_person_3 15 rfl rfl)
theorem dX2_person_89 : decode cX2_person 89 = .ok (.invokevirtual 211, 3) := dk_182 0 211 (dk_at dksX2_person_3 18 rfl rfl)
theorem dX2_person_92 : decode cX2_person 92 = .ok (.pop, 1) := dk_87 (dk_at dksX2_person_3 21 rfl rfl)
theorem dX2_person_93 : decode cX2_person 93 = .ok (.return_, 1) := dk_177 (dk_at dksX2_person_3 22 rfl rfl)
abbrev cX2_newName : ByteArray := prog_25_method_18_code
def yX2_newName : MethodName := ⟨RX2, "newName", "(ZI)V"⟩
def dkwX2_newName_4 : List UInt8 := [182, 0, 211, 87, 42, 89, 180, 0, 132, 4, 96, 181, 0, 132, 177]
abbrev dktX2_newName_4 : List UInt8 := dkwX2_newName_4 ++ []
def dkwX2_newName_3 : List UInt8 := [42, 180, 0, 132, 47, 184, 0, 205, 182, 0, 211, 87, 42, 180, 0, 168, 180, 0, 217, 28, 184, 0, 220]
abbrev dktX2_newName_3 : List UInt8 := dkwX2_newName_3 ++ dktX2_newName_4
def dkwX2_newName_2 : List UInt8 := [182, 0, 197, 2, 159, 0, 9, 42, 6, 182, 0, 154, 191, 42, 180, 0, 168, 180, 0, 201, 42, 180, 0, 86]
abbrev dktX2_newName_2 : List UInt8 := dkwX2_newName_2 ++ dktX2_newName_3
def dkwX2_newName_1 : List UInt8 := [154, 0, 9, 42, 4, 182, 0, 154, 191, 42, 180, 0, 168, 42, 180, 0, 86, 42, 180, 0, 132, 47]
abbrev dktX2_newName_1 : List UInt8 := dkwX2_newName_1 ++ dktX2_newName_2
def dkwX2_newName_0 : List UInt8 := [27, 153, 0, 9, 42, 8, 182, 0, 154, 191, 42, 89, 180, 0, 132, 4, 96, 181, 0, 132, 42, 182, 0, 193]
abbrev dktX2_newName_0 : List UInt8 := dkwX2_newName_0 ++ dktX2_newName_1
theorem dksX2_newName_0 : cX2_newName.data.toList.drop 0 = dktX2_newName_0 := by decide +kernel
theorem dksX2_newName_1 : cX2_newName.data.toList.drop 24 = dktX2_newName_1 := dk_seg dksX2_newName_0 24 rfl rfl
theorem dksX2_newName_2 : cX2_newName.data.toList.drop 46 = dktX2_newName_2 := dk_seg dksX2_newName_1 22 rfl rfl
theorem dksX2_newName_3 : cX2_newName.data.toList.drop 70 = dktX2_newName_3 := dk_seg dksX2_newName_2 24 rfl rfl
theorem dksX2_newName_4 : cX2_newName.data.toList.drop 93 = dktX2_newName_4 := dk_seg dksX2_newName_3 23 rfl rfl
theorem dX2_newName_0 : decode cX2_newName 0 = .ok (.iload_n 1, 1) := dk_27 (dk_at dksX2_newName_0 0 rfl rfl)
theorem dX2_newName_1 : decode cX2_newName 1 = .ok (.ifCond .eq 9, 3) := dk_153 0 9 (dk_at dksX2_newName_0 1 rfl rfl)
theorem dX2_newName_4 : decode cX2_newName 4 = .ok (.aload_n 0, 1) := dk_42 (dk_at dksX2_newName_0 4 rfl rfl)
theorem dX2_newName_5 : decode cX2_newName 5 = .ok (.iconst 5, 1) := dk_8 (dk_at dksX2_newName_0 5 rfl rfl)
theorem dX2_newName_6 : decode cX2_newName 6 = .ok (.invokevirtual 154, 3) := dk_182 0 154 (dk_at dksX2_newName_0 6 rfl rfl)
theorem dX2_newName_9 : decode cX2_newName 9 = .ok (.athrow, 1) := dk_191 (dk_at dksX2_newName_0 9 rfl rfl)
theorem dX2_newName_10 : decode cX2_newName 10 = .ok (.aload_n 0, 1) := dk_42 (dk_at dksX2_newName_0 10 rfl rfl)
theorem dX2_newName_11 : decode cX2_newName 11 = .ok (.dup, 1) := dk_89 (dk_at dksX2_newName_0 11 rfl rfl)
theorem dX2_newName_12 : decode cX2_newName 12 = .ok (.getfield 132, 3) := dk_180 0 132 (dk_at dksX2_newName_0 12 rfl rfl)
theorem dX2_newName_15 : decode cX2_newName 15 = .ok (.iconst 1, 1) := dk_4 (dk_at dksX2_newName_0 15 rfl rfl)
theorem dX2_newName_16 : decode cX2_newName 16 = .ok (.iadd, 1) := dk_96 (dk_at dksX2_newName_0 16 rfl rfl)
theorem dX2_newName_17 : decode cX2_newName 17 = .ok (.putfield 132, 3) := dk_181 0 132 (dk_at dksX2_newName_0 17 rfl rfl)
theorem dX2_newName_20 : decode cX2_newName 20 = .ok (.aload_n 0, 1) := dk_42 (dk_at dksX2_newName_0 20 rfl rfl)
theorem dX2_newName_21 : decode cX2_newName 21 = .ok (.invokevirtual 193, 3) := dk_182 0 193 (dk_at dksX2_newName_0 21 rfl rfl)
theorem dX2_newName_24 : decode cX2_newName 24 = .ok (.ifCond .ne 9, 3) := dk_154 0 9 (dk_at dksX2_newName_1 0 rfl rfl)
theorem dX2_newName_27 : decode cX2_newName 27 = .ok (.aload_n 0, 1) := dk_42 (dk_at dksX2_newName_1 3 rfl rfl)
theorem dX2_newName_28 : decode cX2_newName 28 = .ok (.iconst 1, 1) := dk_4 (dk_at dksX2_newName_1 4 rfl rfl)
theorem dX2_newName_29 : decode cX2_newName 29 = .ok (.invokevirtual 154, 3) := dk_182 0 154 (dk_at dksX2_newName_1 5 rfl rfl)
theorem dX2_newName_32 : decode cX2_newName 32 = .ok (.athrow, 1) := dk_191 (dk_at dksX2_newName_1 8 rfl rfl)
theorem dX2_newName_33 : decode cX2_newName 33 = .ok (.aload_n 0, 1) := dk_42 (dk_at dksX2_newName_1 9 rfl rfl)
theorem dX2_newName_34 : decode cX2_newName 34 = .ok (.getfield 168, 3) := dk_180 0 168 (dk_at dksX2_newName_1 10 rfl rfl)
theorem dX2_newName_37 : decode cX2_newName 37 = .ok (.aload_n 0, 1) := dk_42 (dk_at dksX2_newName_1 13 rfl rfl)
theorem dX2_newName_38 : decode cX2_newName 38 = .ok (.getfield 86, 3) := dk_180 0 86 (dk_at dksX2_newName_1 14 rfl rfl)
theorem dX2_newName_41 : decode cX2_newName 41 = .ok (.aload_n 0, 1) := dk_42 (dk_at dksX2_newName_1 17 rfl rfl)
theorem dX2_newName_42 : decode cX2_newName 42 = .ok (.getfield 132, 3) := dk_180 0 132 (dk_at dksX2_newName_1 18 rfl rfl)
theorem dX2_newName_45 : decode cX2_newName 45 = .ok (.laload, 1) := dk_47 (dk_at dksX2_newName_1 21 rfl rfl)
theorem dX2_newName_46 : decode cX2_newName 46 = .ok (.invokevirtual 197, 3) := dk_182 0 197 (dk_at dksX2_newName_2 0 rfl rfl)
theorem dX2_newName_49 : decode cX2_newName 49 = .ok (.iconst (-1), 1) := dk_2 (dk_at dksX2_newName_2 3 rfl rfl)
theorem dX2_newName_50 : decode cX2_newName 50 = .ok (.if_icmp .eq 9, 3) := dk_159 0 9 (dk_at dksX2_newName_2 4 rfl rfl)
theorem dX2_newName_53 : decode cX2_newName 53 = .ok (.aload_n 0, 1) := dk_42 (dk_at dksX2_newName_2 7 rfl rfl)
theorem dX2_newName_54 : decode cX2_newName 54 = .ok (.iconst 3, 1) := dk_6 (dk_at dksX2_newName_2 8 rfl rfl)
theorem dX2_newName_55 : decode cX2_newName 55 = .ok (.invokevirtual 154, 3) := dk_182 0 154 (dk_at dksX2_newName_2 9 rfl rfl)
theorem dX2_newName_58 : decode cX2_newName 58 = .ok (.athrow, 1) := dk_191 (dk_at dksX2_newName_2 12 rfl rfl)
theorem dX2_newName_59 : decode cX2_newName 59 = .ok (.aload_n 0, 1) := dk_42 (dk_at dksX2_newName_2 13 rfl rfl)
theorem dX2_newName_60 : decode cX2_newName 60 = .ok (.getfield 168, 3) := dk_180 0 168 (dk_at dksX2_newName_2 14 rfl rfl)
theorem dX2_newName_63 : decode cX2_newName 63 = .ok (.getfield 201, 3) := dk_180 0 201 (dk_at dksX2_newName_2 17 rfl rfl)
theorem dX2_newName_66 : decode cX2_newName 66 = .ok (.aload_n 0, 1) := dk_42 (dk_at dksX2_newName_2 20 rfl rfl)
theorem dX2_newName_67 : decode cX2_newName 67 = .ok (.getfield 86, 3) := dk_180 0 86 (dk_at dksX2_newName_2 21 rfl rfl)
theorem dX2_newName_70 : decode cX2_newName 70 = .ok (.aload_n 0, 1) := dk_42 (dk_at dksX2_newName_3 0 rfl rfl)
theorem dX2_newName_71 : decode cX2_newName 71 = .ok (.getfield 132, 3) := dk_180 0 132 (dk_at dksX2_newName_3 1 rfl rfl)
theorem dX2_newName_74 : decode cX2_newName 74 = .ok (.laload, 1) := dk_47 (dk_at dksX2_newName_3 4 rfl rfl)
theorem dX2_newName_75 : decode cX2_newName 75 = .ok (.invokestatic 205, 3) := dk_184 0 205 (dk_at dksX2_newName_3 5 rfl rfl)
theorem dX2_newName_78 : decode cX2_newName 78 = .ok (.invokevirtual 211, 3) := dk_182 0 211 (dk_at dksX2_newName_3 8 rfl rfl)
theorem dX2_newName_81 : decode cX2_newName 81 = .ok (.pop, 1) := dk_87 (dk_at dksX2_newName_3 11 rfl rfl)
theorem dX2_newName_82 : decode cX2_newName 82 = .ok (.aload_n 0, 1) := dk_42 (dk_at dksX2_newName_3 12 rfl rfl)
theorem dX2_newName_83 : decode cX2_newName 83 = .ok (.getfield 168, 3) := dk_180 0 168 (dk_at dksX2_newName_3 13 rfl rfl)
theorem dX2_newName_86 : decode cX2_newName 86 = .ok (.getfield 217, 3) := dk_180 0 217 (dk_at dksX2_newName_3 16 rfl rfl)
theorem dX2_newName_89 : decode cX2_newName 89 = .ok (.iload_n 2, 1) := dk_28 (dk_at dksX2_newName_3 19 rfl rfl)
theorem dX2_newName_90 : decode cX2_newName 90 = .ok (.invokestatic 220, 3) := dk_184 0 220 (dk_at dksX2_newName_3 20 rfl rfl)
theorem dX2_newName_93 : decode cX2_newName 93 = .ok (.invokevirtual 211, 3) := dk_182 0 211 (dk_at dksX2_newName_4 0 rfl rfl)
theorem dX2_newName_96 : decode cX2_newName 96 = .ok (.pop, 1) := dk_87 (dk_at dksX2_newName_4 3 rfl rfl)
theorem dX2_newName_97 : decode cX2_newName 97 = .ok (.aload_n 0, 1) := dk_42 (dk_at dksX2_newName_4 4 rfl rfl)
theorem dX2_newName_98 : decode cX2_newName 98 = .ok (.dup, 1) := dk_89 (dk_at dksX2_newName_4 5 rfl rfl)
theorem dX2_newName_99 : decode cX2_newName 99 = .ok (.getfield 132, 3) := dk_180 0 132 (dk_at dksX2_newName_4 6 rfl rfl)
theorem dX2_newName_102 : decode cX2_newName 102 = .ok (.iconst 1, 1) := dk_4 (dk_at dksX2_newName_4 9 rfl rfl)
theorem dX2_newName_103 : decode cX2_newName 103 = .ok (.iadd, 1) := dk_96 (dk_at dksX2_newName_4 10 rfl rfl)
theorem dX2_newName_104 : decode cX2_newName 104 = .ok (.putfield 132, 3) := dk_181 0 132 (dk_at dksX2_newName_4 11 rfl rfl)
theorem dX2_newName_107 : decode cX2_newName 107 = .ok (.return_, 1) := dk_177 (dk_at dksX2_newName_4 14 rfl rfl)
abbrev cX2_wrong : ByteArray := prog_25_method_7_code
def yX2_wrong : MethodName := ⟨RX2, "wrong", "(I)LPaidSecrets$Wrong;"⟩
def dkwX2_wrong_0 : List UInt8 := [187, 0, 135, 89, 27, 16, 16, 42, 180, 0, 90, 42, 180, 0, 132, 46, 104, 96, 183, 0, 137, 176]
abbrev dktX2_wrong_0 : List UInt8 := dkwX2_wrong_0 ++ []
theorem dksX2_wrong_0 : cX2_wrong.data.toList.drop 0 = dktX2_wrong_0 := by decide +kernel
theorem dX2_wrong_0 : decode cX2_wrong 0 = .ok (.new 135, 3) := dk_187 0 135 (dk_at dksX2_wrong_0 0 rfl rfl)
theorem dX2_wrong_3 : decode cX2_wrong 3 = .ok (.dup, 1) := dk_89 (dk_at dksX2_wrong_0 3 rfl rfl)
theorem dX2_wrong_4 : decode cX2_wrong 4 = .ok (.iload_n 1, 1) := dk_27 (dk_at dksX2_wrong_0 4 rfl rfl)
theorem dX2_wrong_5 : decode cX2_wrong 5 = .ok (.bipush 16, 2) := dk_16 16 (dk_at dksX2_wrong_0 5 rfl rfl)
theorem dX2_wrong_7 : decode cX2_wrong 7 = .ok (.aload_n 0, 1) := dk_42 (dk_at dksX2_wrong_0 7 rfl rfl)
theorem dX2_wrong_8 : decode cX2_wrong 8 = .ok (.getfield 90, 3) := dk_180 0 90 (dk_at dksX2_wrong_0 8 rfl rfl)
theorem dX2_wrong_11 : decode cX2_wrong 11 = .ok (.aload_n 0, 1) := dk_42 (dk_at dksX2_wrong_0 11 rfl rfl)
theorem dX2_wrong_12 : decode cX2_wrong 12 = .ok (.getfield 132, 3) := dk_180 0 132 (dk_at dksX2_wrong_0 12 rfl rfl)
theorem dX2_wrong_15 : decode cX2_wrong 15 = .ok (.iaload, 1) := dk_46 (dk_at dksX2_wrong_0 15 rfl rfl)
theorem dX2_wrong_16 : decode cX2_wrong 16 = .ok (.imul, 1) := dk_104 (dk_at dksX2_wrong_0 16 rfl rfl)
theorem dX2_wrong_17 : decode cX2_wrong 17 = .ok (.iadd, 1) := dk_96 (dk_at dksX2_wrong_0 17 rfl rfl)
theorem dX2_wrong_18 : decode cX2_wrong 18 = .ok (.invokespecial 137, 3) := dk_183 0 137 (dk_at dksX2_wrong_0 18 rfl rfl)
theorem dX2_wrong_21 : decode cX2_wrong 21 = .ok (.areturn, 1) := dk_176 (dk_at dksX2_wrong_0 21 rfl rfl)
abbrev cX2_isName : ByteArray := prog_25_method_15_code
def yX2_isName : MethodName := ⟨RX2, "isName", "()Z"⟩
def dkwX2_isName_1 : List UInt8 := [160, 0, 19, 42, 42, 180, 0, 33, 182, 0, 158, 2, 160, 0, 7, 4, 167, 0, 4, 3, 172]
abbrev dktX2_isName_1 : List UInt8 := dkwX2_isName_1 ++ []
def dkwX2_isName_0 : List UInt8 := [42, 180, 0, 83, 42, 180, 0, 132, 46, 4, 160, 0, 31, 42, 42, 180, 0, 76, 182, 0, 158, 2]
abbrev dktX2_isName_0 : List UInt8 := dkwX2_isName_0 ++ dktX2_isName_1
theorem dksX2_isName_0 : cX2_isName.data.toList.drop 0 = dktX2_isName_0 := by decide +kernel
theorem dksX2_isName_1 : cX2_isName.data.toList.drop 22 = dktX2_isName_1 := dk_seg dksX2_isName_0 22 rfl rfl
theorem dX2_isName_0 : decode cX2_isName 0 = .ok (.aload_n 0, 1) := dk_42 (dk_at dksX2_isName_0 0 rfl rfl)
theorem dX2_isName_1 : decode cX2_isName 1 = .ok (.getfield 83, 3) := dk_180 0 83 (dk_at dksX2_isName_0 1 rfl rfl)
theorem dX2_isName_4 : decode cX2_isName 4 = .ok (.aload_n 0, 1) := dk_42 (dk_at dksX2_isName_0 4 rfl rfl)
theorem dX2_isName_5 : decode cX2_isName 5 = .ok (.getfield 132, 3) := dk_180 0 132 (dk_at dksX2_isName_0 5 rfl rfl)
theorem dX2_isName_8 : decode cX2_isName 8 = .ok (.iaload, 1) := dk_46 (dk_at dksX2_isName_0 8 rfl rfl)
theorem dX2_isName_9 : decode cX2_isName 9 = .ok (.iconst 1, 1) := dk_4 (dk_at dksX2_isName_0 9 rfl rfl)
theorem dX2_isName_10 : decode cX2_isName 10 = .ok (.if_icmp .ne 31, 3) := dk_160 0 31 (dk_at dksX2_isName_0 10 rfl rfl)
theorem dX2_isName_13 : decode cX2_isName 13 = .ok (.aload_n 0, 1) := dk_42 (dk_at dksX2_isName_0 13 rfl rfl)
theorem dX2_isName_14 : decode cX2_isName 14 = .ok (.aload_n 0, 1) := dk_42 (dk_at dksX2_isName_0 14 rfl rfl)
theorem dX2_isName_15 : decode cX2_isName 15 = .ok (.getfield 76, 3) := dk_180 0 76 (dk_at dksX2_isName_0 15 rfl rfl)
theorem dX2_isName_18 : decode cX2_isName 18 = .ok (.invokevirtual 158, 3) := dk_182 0 158 (dk_at dksX2_isName_0 18 rfl rfl)
theorem dX2_isName_21 : decode cX2_isName 21 = .ok (.iconst (-1), 1) := dk_2 (dk_at dksX2_isName_0 21 rfl rfl)
theorem dX2_isName_22 : decode cX2_isName 22 = .ok (.if_icmp .ne 19, 3) := dk_160 0 19 (dk_at dksX2_isName_1 0 rfl rfl)
theorem dX2_isName_25 : decode cX2_isName 25 = .ok (.aload_n 0, 1) := dk_42 (dk_at dksX2_isName_1 3 rfl rfl)
theorem dX2_isName_26 : decode cX2_isName 26 = .ok (.aload_n 0, 1) := dk_42 (dk_at dksX2_isName_1 4 rfl rfl)
theorem dX2_isName_27 : decode cX2_isName 27 = .ok (.getfield 33, 3) := dk_180 0 33 (dk_at dksX2_isName_1 5 rfl rfl)
theorem dX2_isName_30 : decode cX2_isName 30 = .ok (.invokevirtual 158, 3) := dk_182 0 158 (dk_at dksX2_isName_1 8 rfl rfl)
theorem dX2_isName_33 : decode cX2_isName 33 = .ok (.iconst (-1), 1) := dk_2 (dk_at dksX2_isName_1 11 rfl rfl)
theorem dX2_isName_34 : decode cX2_isName 34 = .ok (.if_icmp .ne 7, 3) := dk_160 0 7 (dk_at dksX2_isName_1 12 rfl rfl)
theorem dX2_isName_37 : decode cX2_isName 37 = .ok (.iconst 1, 1) := dk_4 (dk_at dksX2_isName_1 15 rfl rfl)
theorem dX2_isName_38 : decode cX2_isName 38 = .ok (.goto 4, 3) := dk_167 0 4 (dk_at dksX2_isName_1 16 rfl rfl)
theorem dX2_isName_41 : decode cX2_isName 41 = .ok (.iconst 0, 1) := dk_3 (dk_at dksX2_isName_1 19 rfl rfl)
theorem dX2_isName_42 : decode cX2_isName 42 = .ok (.ireturn, 1) := dk_172 (dk_at dksX2_isName_1 20 rfl rfl)
abbrev cX2_which : ByteArray := prog_25_method_10_code
def yX2_which : MethodName := ⟨RX2, "which", "([Ljava/lang/String;)I"⟩
def dkwX2_which_1 : List UInt8 := [167, 255, 235, 2, 172]
abbrev dktX2_which_1 : List UInt8 := dkwX2_which_1 ++ []
def dkwX2_which_0 : List UInt8 := [3, 61, 28, 43, 190, 162, 0, 21, 42, 43, 28, 50, 182, 0, 144, 153, 0, 5, 28, 172, 132, 2, 1]
abbrev dktX2_which_0 : List UInt8 := dkwX2_which_0 ++ dktX2_which_1
theorem dksX2_which_0 : cX2_which.data.toList.drop 0 = dktX2_which_0 := by decide +kernel
theorem dksX2_which_1 : cX2_which.data.toList.drop 23 = dktX2_which_1 := dk_seg dksX2_which_0 23 rfl rfl
theorem dX2_which_0 : decode cX2_which 0 = .ok (.iconst 0, 1) := dk_3 (dk_at dksX2_which_0 0 rfl rfl)
theorem dX2_which_1 : decode cX2_which 1 = .ok (.istore_n 2, 1) := dk_61 (dk_at dksX2_which_0 1 rfl rfl)
theorem dX2_which_2 : decode cX2_which 2 = .ok (.iload_n 2, 1) := dk_28 (dk_at dksX2_which_0 2 rfl rfl)
theorem dX2_which_3 : decode cX2_which 3 = .ok (.aload_n 1, 1) := dk_43 (dk_at dksX2_which_0 3 rfl rfl)
theorem dX2_which_4 : decode cX2_which 4 = .ok (.arraylength, 1) := dk_190 (dk_at dksX2_which_0 4 rfl rfl)
theorem dX2_which_5 : decode cX2_which 5 = .ok (.if_icmp .ge 21, 3) := dk_162 0 21 (dk_at dksX2_which_0 5 rfl rfl)
theorem dX2_which_8 : decode cX2_which 8 = .ok (.aload_n 0, 1) := dk_42 (dk_at dksX2_which_0 8 rfl rfl)
theorem dX2_which_9 : decode cX2_which 9 = .ok (.aload_n 1, 1) := dk_43 (dk_at dksX2_which_0 9 rfl rfl)
theorem dX2_which_10 : decode cX2_which 10 = .ok (.iload_n 2, 1) := dk_28 (dk_at dksX2_which_0 10 rfl rfl)
theorem dX2_which_11 : decode cX2_which 11 = .ok (.aaload, 1) := dk_50 (dk_at dksX2_which_0 11 rfl rfl)
theorem dX2_which_12 : decode cX2_which 12 = .ok (.invokevirtual 144, 3) := dk_182 0 144 (dk_at dksX2_which_0 12 rfl rfl)
theorem dX2_which_15 : decode cX2_which 15 = .ok (.ifCond .eq 5, 3) := dk_153 0 5 (dk_at dksX2_which_0 15 rfl rfl)
theorem dX2_which_18 : decode cX2_which 18 = .ok (.iload_n 2, 1) := dk_28 (dk_at dksX2_which_0 18 rfl rfl)
theorem dX2_which_19 : decode cX2_which 19 = .ok (.ireturn, 1) := dk_172 (dk_at dksX2_which_0 19 rfl rfl)
theorem dX2_which_20 : decode cX2_which 20 = .ok (.iinc 2 1, 3) := dk_132 2 1 (dk_at dksX2_which_0 20 rfl rfl)
theorem dX2_which_23 : decode cX2_which 23 = .ok (.goto (-21), 3) := dk_167 255 235 (dk_at dksX2_which_1 0 rfl rfl)
theorem dX2_which_26 : decode cX2_which 26 = .ok (.iconst (-1), 1) := dk_2 (dk_at dksX2_which_1 3 rfl rfl)
theorem dX2_which_27 : decode cX2_which 27 = .ok (.ireturn, 1) := dk_172 (dk_at dksX2_which_1 4 rfl rfl)
abbrev cX2_number : ByteArray := prog_25_method_17_code
def yX2_number : MethodName := ⟨RX2, "number", "(Ljava/lang/String;II)I"⟩
def dkwX2_number_0 : List UInt8 := [42, 43, 182, 0, 185, 42, 28, 29, 182, 0, 189, 172]
abbrev dktX2_number_0 : List UInt8 := dkwX2_number_0 ++ []
theorem dksX2_number_0 : cX2_number.data.toList.drop 0 = dktX2_number_0 := by decide +kernel
theorem dX2_number_0 : decode cX2_number 0 = .ok (.aload_n 0, 1) := dk_42 (dk_at dksX2_number_0 0 rfl rfl)
theorem dX2_number_1 : decode cX2_number 1 = .ok (.aload_n 1, 1) := dk_43 (dk_at dksX2_number_0 1 rfl rfl)
theorem dX2_number_2 : decode cX2_number 2 = .ok (.invokevirtual 185, 3) := dk_182 0 185 (dk_at dksX2_number_0 2 rfl rfl)
theorem dX2_number_5 : decode cX2_number 5 = .ok (.aload_n 0, 1) := dk_42 (dk_at dksX2_number_0 5 rfl rfl)
theorem dX2_number_6 : decode cX2_number 6 = .ok (.iload_n 2, 1) := dk_28 (dk_at dksX2_number_0 6 rfl rfl)
theorem dX2_number_7 : decode cX2_number 7 = .ok (.iload_n 3, 1) := dk_29 (dk_at dksX2_number_0 7 rfl rfl)
theorem dX2_number_8 : decode cX2_number 8 = .ok (.invokevirtual 189, 3) := dk_182 0 189 (dk_at dksX2_number_0 8 rfl rfl)
theorem dX2_number_11 : decode cX2_number 11 = .ok (.ireturn, 1) := dk_172 (dk_at dksX2_number_0 11 rfl rfl)
abbrev cX2_takeWord : ByteArray := prog_25_method_30_code
def yX2_takeWord : MethodName := ⟨RX2, "takeWord", "(Ljava/lang/String;)V"⟩
def dkwX2_takeWord_0 : List UInt8 := [42, 43, 182, 0, 255, 154, 0, 9, 42, 4, 182, 0, 154, 191, 177]
abbrev dktX2_takeWord_0 : List UInt8 := dkwX2_takeWord_0 ++ []
theorem dksX2_takeWord_0 : cX2_takeWord.data.toList.drop 0 = dktX2_takeWord_0 := by decide +kernel
theorem dX2_takeWord_0 : decode cX2_takeWord 0 = .ok (.aload_n 0, 1) := dk_42 (dk_at dksX2_takeWord_0 0 rfl rfl)
theorem dX2_takeWord_1 : decode cX2_takeWord 1 = .ok (.aload_n 1, 1) := dk_43 (dk_at dksX2_takeWord_0 1 rfl rfl)
theorem dX2_takeWord_2 : decode cX2_takeWord 2 = .ok (.invokevirtual 255, 3) := dk_182 0 255 (dk_at dksX2_takeWord_0 2 rfl rfl)
theorem dX2_takeWord_5 : decode cX2_takeWord 5 = .ok (.ifCond .ne 9, 3) := dk_154 0 9 (dk_at dksX2_takeWord_0 5 rfl rfl)
theorem dX2_takeWord_8 : decode cX2_takeWord 8 = .ok (.aload_n 0, 1) := dk_42 (dk_at dksX2_takeWord_0 8 rfl rfl)
theorem dX2_takeWord_9 : decode cX2_takeWord 9 = .ok (.iconst 1, 1) := dk_4 (dk_at dksX2_takeWord_0 9 rfl rfl)
theorem dX2_takeWord_10 : decode cX2_takeWord 10 = .ok (.invokevirtual 154, 3) := dk_182 0 154 (dk_at dksX2_takeWord_0 10 rfl rfl)
theorem dX2_takeWord_13 : decode cX2_takeWord 13 = .ok (.athrow, 1) := dk_191 (dk_at dksX2_takeWord_0 13 rfl rfl)
theorem dX2_takeWord_14 : decode cX2_takeWord 14 = .ok (.return_, 1) := dk_177 (dk_at dksX2_takeWord_0 14 rfl rfl)
abbrev cX2_hasWord : ByteArray := prog_25_method_9_code
def yX2_hasWord : MethodName := ⟨RX2, "hasWord", "(Ljava/lang/String;)Z"⟩
def dkwX2_hasWord_0 : List UInt8 := [42, 43, 182, 0, 144, 61, 28, 153, 0, 13, 42, 89, 180, 0, 132, 4, 96, 181, 0, 132, 28, 172]
abbrev dktX2_hasWord_0 : List UInt8 := dkwX2_hasWord_0 ++ []
theorem dksX2_hasWord_0 : cX2_hasWord.data.toList.drop 0 = dktX2_hasWord_0 := by decide +kernel
theorem dX2_hasWord_0 : decode cX2_hasWord 0 = .ok (.aload_n 0, 1) := dk_42 (dk_at dksX2_hasWord_0 0 rfl rfl)
theorem dX2_hasWord_1 : decode cX2_hasWord 1 = .ok (.aload_n 1, 1) := dk_43 (dk_at dksX2_hasWord_0 1 rfl rfl)
theorem dX2_hasWord_2 : decode cX2_hasWord 2 = .ok (.invokevirtual 144, 3) := dk_182 0 144 (dk_at dksX2_hasWord_0 2 rfl rfl)
theorem dX2_hasWord_5 : decode cX2_hasWord 5 = .ok (.istore_n 2, 1) := dk_61 (dk_at dksX2_hasWord_0 5 rfl rfl)
theorem dX2_hasWord_6 : decode cX2_hasWord 6 = .ok (.iload_n 2, 1) := dk_28 (dk_at dksX2_hasWord_0 6 rfl rfl)
theorem dX2_hasWord_7 : decode cX2_hasWord 7 = .ok (.ifCond .eq 13, 3) := dk_153 0 13 (dk_at dksX2_hasWord_0 7 rfl rfl)
theorem dX2_hasWord_10 : decode cX2_hasWord 10 = .ok (.aload_n 0, 1) := dk_42 (dk_at dksX2_hasWord_0 10 rfl rfl)
theorem dX2_hasWord_11 : decode cX2_hasWord 11 = .ok (.dup, 1) := dk_89 (dk_at dksX2_hasWord_0 11 rfl rfl)
theorem dX2_hasWord_12 : decode cX2_hasWord 12 = .ok (.getfield 132, 3) := dk_180 0 132 (dk_at dksX2_hasWord_0 12 rfl rfl)
theorem dX2_hasWord_15 : decode cX2_hasWord 15 = .ok (.iconst 1, 1) := dk_4 (dk_at dksX2_hasWord_0 15 rfl rfl)
theorem dX2_hasWord_16 : decode cX2_hasWord 16 = .ok (.iadd, 1) := dk_96 (dk_at dksX2_hasWord_0 16 rfl rfl)
theorem dX2_hasWord_17 : decode cX2_hasWord 17 = .ok (.putfield 132, 3) := dk_181 0 132 (dk_at dksX2_hasWord_0 17 rfl rfl)
theorem dX2_hasWord_20 : decode cX2_hasWord 20 = .ok (.iload_n 2, 1) := dk_28 (dk_at dksX2_hasWord_0 20 rfl rfl)
theorem dX2_hasWord_21 : decode cX2_hasWord 21 = .ok (.ireturn, 1) := dk_172 (dk_at dksX2_hasWord_0 21 rfl rfl)
abbrev cX2_number_2 : ByteArray := prog_25_method_14_code
def yX2_number_2 : MethodName := ⟨RX2, "number", "(II)I"⟩
def dkwX2_number_2_3 : List UInt8 := [180, 0, 132, 4, 100, 47, 136, 172]
abbrev dktX2_number_2_3 : List UInt8 := dkwX2_number_2_3 ++ []
def dkwX2_number_2_2 : List UInt8 := [158, 0, 9, 42, 7, 182, 0, 154, 191, 42, 89, 180, 0, 132, 4, 96, 181, 0, 132, 42, 180, 0, 86, 42]
abbrev dktX2_number_2_2 : List UInt8 := dkwX2_number_2_2 ++ dktX2_number_2_3
def dkwX2_number_2_1 : List UInt8 := [180, 0, 132, 47, 27, 133, 148, 155, 0, 18, 42, 180, 0, 86, 42, 180, 0, 132, 47, 28, 133, 148]
abbrev dktX2_number_2_1 : List UInt8 := dkwX2_number_2_1 ++ dktX2_number_2_2
def dkwX2_number_2_0 : List UInt8 := [42, 180, 0, 83, 42, 180, 0, 132, 46, 5, 159, 0, 9, 42, 4, 182, 0, 154, 191, 42, 180, 0, 86, 42]
abbrev dktX2_number_2_0 : List UInt8 := dkwX2_number_2_0 ++ dktX2_number_2_1
theorem dksX2_number_2_0 : cX2_number_2.data.toList.drop 0 = dktX2_number_2_0 := by decide +kernel
theorem dksX2_number_2_1 : cX2_number_2.data.toList.drop 24 = dktX2_number_2_1 := dk_seg dksX2_number_2_0 24 rfl rfl
theorem dksX2_number_2_2 : cX2_number_2.data.toList.drop 46 = dktX2_number_2_2 := dk_seg dksX2_number_2_1 22 rfl rfl
theorem dksX2_number_2_3 : cX2_number_2.data.toList.drop 70 = dktX2_number_2_3 := dk_seg dksX2_number_2_2 24 rfl rfl
theorem dX2_number_2_0 : decode cX2_number_2 0 = .ok (.aload_n 0, 1) := dk_42 (dk_at dksX2_number_2_0 0 rfl rfl)
theorem dX2_number_2_1 : decode cX2_number_2 1 = .ok (.getfield 83, 3) := dk_180 0 83 (dk_at dksX2_number_2_0 1 rfl rfl)
theorem dX2_number_2_4 : decode cX2_number_2 4 = .ok (.aload_n 0, 1) := dk_42 (dk_at dksX2_number_2_0 4 rfl rfl)
theorem dX2_number_2_5 : decode cX2_number_2 5 = .ok (.getfield 132, 3) := dk_180 0 132 (dk_at dksX2_number_2_0 5 rfl rfl)
theorem dX2_number_2_8 : decode cX2_number_2 8 = .ok (.iaload, 1) := dk_46 (dk_at dksX2_number_2_0 8 rfl rfl)
theorem dX2_number_2_9 : decode cX2_number_2 9 = .ok (.iconst 2, 1) := dk_5 (dk_at dksX2_number_2_0 9 rfl rfl)
theorem dX2_number_2_10 : decode cX2_number_2 10 = .ok (.if_icmp .eq 9, 3) := dk_159 0 9 (dk_at dksX2_number_2_0 10 rfl rfl)
theorem dX2_number_2_13 : decode cX2_number_2 13 = .ok (.aload_n 0, 1) := dk_42 (dk_at dksX2_number_2_0 13 rfl rfl)
theorem dX2_number_2_14 : decode cX2_number_2 14 = .ok (.iconst 1, 1) := dk_4 (dk_at dksX2_number_2_0 14 rfl rfl)
theorem dX2_number_2_15 : decode cX2_number_2 15 = .ok (.invokevirtual 154, 3) := dk_182 0 154 (dk_at dksX2_number_2_0 15 rfl rfl)
theorem dX2_number_2_18 : decode cX2_number_2 18 = .ok (.athrow, 1) := dk_191 (dk_at dksX2_number_2_0 18 rfl rfl)
theorem dX2_number_2_19 : decode cX2_number_2 19 = .ok (.aload_n 0, 1) := dk_42 (dk_at dksX2_number_2_0 19 rfl rfl)
theorem dX2_number_2_20 : decode cX2_number_2 20 = .ok (.getfield 86, 3) := dk_180 0 86 (dk_at dksX2_number_2_0 20 rfl rfl)
theorem dX2_number_2_23 : decode cX2_number_2 23 = .ok (.aload_n 0, 1) := dk_42 (dk_at dksX2_number_2_0 23 rfl rfl)
theorem dX2_number_2_24 : decode cX2_number_2 24 = .ok (.getfield 132, 3) := dk_180 0 132 (dk_at dksX2_number_2_1 0 rfl rfl)
theorem dX2_number_2_27 : decode cX2_number_2 27 = .ok (.laload, 1) := dk_47 (dk_at dksX2_number_2_1 3 rfl rfl)
theorem dX2_number_2_28 : decode cX2_number_2 28 = .ok (.iload_n 1, 1) := dk_27 (dk_at dksX2_number_2_1 4 rfl rfl)
theorem dX2_number_2_29 : decode cX2_number_2 29 = .ok (.i2l, 1) := dk_133 (dk_at dksX2_number_2_1 5 rfl rfl)
theorem dX2_number_2_30 : decode cX2_number_2 30 = .ok (.lcmp, 1) := dk_148 (dk_at dksX2_number_2_1 6 rfl rfl)
theorem dX2_number_2_31 : decode cX2_number_2 31 = .ok (.ifCond .lt 18, 3) := dk_155 0 18 (dk_at dksX2_number_2_1 7 rfl rfl)
theorem dX2_number_2_34 : decode cX2_number_2 34 = .ok (.aload_n 0, 1) := dk_42 (dk_at dksX2_number_2_1 10 rfl rfl)
theorem dX2_number_2_35 : decode cX2_number_2 35 = .ok (.getfield 86, 3) := dk_180 0 86 (dk_at dksX2_number_2_1 11 rfl rfl)
theorem dX2_number_2_38 : decode cX2_number_2 38 = .ok (.aload_n 0, 1) := dk_42 (dk_at dksX2_number_2_1 14 rfl rfl)
theorem dX2_number_2_39 : decode cX2_number_2 39 = .ok (.getfield 132, 3) := dk_180 0 132 (dk_at dksX2_number_2_1 15 rfl rfl)
theorem dX2_number_2_42 : decode cX2_number_2 42 = .ok (.laload, 1) := dk_47 (dk_at dksX2_number_2_1 18 rfl rfl)
theorem dX2_number_2_43 : decode cX2_number_2 43 = .ok (.iload_n 2, 1) := dk_28 (dk_at dksX2_number_2_1 19 rfl rfl)
theorem dX2_number_2_44 : decode cX2_number_2 44 = .ok (.i2l, 1) := dk_133 (dk_at dksX2_number_2_1 20 rfl rfl)
theorem dX2_number_2_45 : decode cX2_number_2 45 = .ok (.lcmp, 1) := dk_148 (dk_at dksX2_number_2_1 21 rfl rfl)
theorem dX2_number_2_46 : decode cX2_number_2 46 = .ok (.ifCond .le 9, 3) := dk_158 0 9 (dk_at dksX2_number_2_2 0 rfl rfl)
theorem dX2_number_2_49 : decode cX2_number_2 49 = .ok (.aload_n 0, 1) := dk_42 (dk_at dksX2_number_2_2 3 rfl rfl)
theorem dX2_number_2_50 : decode cX2_number_2 50 = .ok (.iconst 4, 1) := dk_7 (dk_at dksX2_number_2_2 4 rfl rfl)
theorem dX2_number_2_51 : decode cX2_number_2 51 = .ok (.invokevirtual 154, 3) := dk_182 0 154 (dk_at dksX2_number_2_2 5 rfl rfl)
theorem dX2_number_2_54 : decode cX2_number_2 54 = .ok (.athrow, 1) := dk_191 (dk_at dksX2_number_2_2 8 rfl rfl)
theorem dX2_number_2_55 : decode cX2_number_2 55 = .ok (.aload_n 0, 1) := dk_42 (dk_at dksX2_number_2_2 9 rfl rfl)
theorem dX2_number_2_56 : decode cX2_number_2 56 = .ok (.dup, 1) := dk_89 (dk_at dksX2_number_2_2 10 rfl rfl)
theorem dX2_number_2_57 : decode cX2_number_2 57 = .ok (.getfield 132, 3) := dk_180 0 132 (dk_at dksX2_number_2_2 11 rfl rfl)
theorem dX2_number_2_60 : decode cX2_number_2 60 = .ok (.iconst 1, 1) := dk_4 (dk_at dksX2_number_2_2 14 rfl rfl)
theorem dX2_number_2_61 : decode cX2_number_2 61 = .ok (.iadd, 1) := dk_96 (dk_at dksX2_number_2_2 15 rfl rfl)
theorem dX2_number_2_62 : decode cX2_number_2 62 = .ok (.putfield 132, 3) := dk_181 0 132 (dk_at dksX2_number_2_2 16 rfl rfl)
theorem dX2_number_2_65 : decode cX2_number_2 65 = .ok (.aload_n 0, 1) := dk_42 (dk_at dksX2_number_2_2 19 rfl rfl)
theorem dX2_number_2_66 : decode cX2_number_2 66 = .ok (.getfield 86, 3) := dk_180 0 86 (dk_at dksX2_number_2_2 20 rfl rfl)
theorem dX2_number_2_69 : decode cX2_number_2 69 = .ok (.aload_n 0, 1) := dk_42 (dk_at dksX2_number_2_2 23 rfl rfl)
theorem dX2_number_2_70 : decode cX2_number_2 70 = .ok (.getfield 132, 3) := dk_180 0 132 (dk_at dksX2_number_2_3 0 rfl rfl)
theorem dX2_number_2_73 : decode cX2_number_2 73 = .ok (.iconst 1, 1) := dk_4 (dk_at dksX2_number_2_3 3 rfl rfl)
theorem dX2_number_2_74 : decode cX2_number_2 74 = .ok (.isub, 1) := dk_100 (dk_at dksX2_number_2_3 4 rfl rfl)
theorem dX2_number_2_75 : decode cX2_number_2 75 = .ok (.laload, 1) := dk_47 (dk_at dksX2_number_2_3 5 rfl rfl)
theorem dX2_number_2_76 : decode cX2_number_2 76 = .ok (.l2i, 1) := dk_136 (dk_at dksX2_number_2_3 6 rfl rfl)
theorem dX2_number_2_77 : decode cX2_number_2 77 = .ok (.ireturn, 1) := dk_172 (dk_at dksX2_number_2_3 7 rfl rfl)
abbrev cX2_secret : ByteArray := prog_25_method_23_code
def yX2_secret : MethodName := ⟨RX2, "secret", "()V"⟩
def dkwX2_secret_7 : List UInt8 := [182, 1, 4, 183, 1, 7, 182, 0, 211, 87, 177]
abbrev dktX2_secret_7 : List UInt8 := dkwX2_secret_7 ++ []
def dkwX2_secret_6 : List UInt8 := [182, 0, 185, 42, 180, 0, 168, 180, 0, 249, 187, 1, 2, 89, 28, 29, 21, 4, 21, 5, 42, 3, 16, 6]
abbrev dktX2_secret_6 : List UInt8 := dkwX2_secret_6 ++ dktX2_secret_7
def dkwX2_secret_5 : List UInt8 := [160, 0, 9, 42, 5, 182, 0, 154, 191, 42, 89, 180, 0, 132, 4, 96, 181, 0, 132, 42, 18, 50]
abbrev dktX2_secret_5 : List UInt8 := dkwX2_secret_5 ++ dktX2_secret_6
def dkwX2_secret_4 : List UInt8 := [54, 5, 42, 18, 48, 182, 0, 255, 153, 0, 35, 42, 16, 20, 16, 10, 182, 0, 225, 54, 5, 21, 5, 27]
abbrev dktX2_secret_4 : List UInt8 := dkwX2_secret_4 ++ dktX2_secret_5
def dkwX2_secret_3 : List UInt8 := [182, 0, 185, 42, 3, 16, 6, 182, 0, 252, 62, 42, 18, 46, 4, 16, 99, 182, 0, 242, 54, 4, 2]
abbrev dktX2_secret_3 : List UInt8 := dkwX2_secret_3 ++ dktX2_secret_4
def dkwX2_secret_2 : List UInt8 := [154, 0, 9, 42, 4, 182, 0, 154, 191, 42, 89, 180, 0, 132, 4, 96, 181, 0, 132, 42, 18, 44]
abbrev dktX2_secret_2 : List UInt8 := dkwX2_secret_2 ++ dktX2_secret_3
def dkwX2_secret_1 : List UInt8 := [16, 20, 27, 96, 182, 0, 238, 42, 18, 68, 182, 0, 144, 61, 28, 154, 0, 18, 42, 18, 66, 182, 0, 144]
abbrev dktX2_secret_1 : List UInt8 := dkwX2_secret_1 ++ dktX2_secret_2
def dkwX2_secret_0 : List UInt8 := [42, 180, 0, 168, 180, 0, 249, 182, 0, 235, 60, 42, 27, 16, 10, 160, 0, 7, 4, 167, 0, 4, 3]
abbrev dktX2_secret_0 : List UInt8 := dkwX2_secret_0 ++ dktX2_secret_1
theorem dksX2_secret_0 : cX2_secret.data.toList.drop 0 = dktX2_secret_0 := by decide +kernel
theorem dksX2_secret_1 : cX2_secret.data.toList.drop 23 = dktX2_secret_1 := dk_seg dksX2_secret_0 23 rfl rfl
theorem dksX2_secret_2 : cX2_secret.data.toList.drop 47 = dktX2_secret_2 := dk_seg dksX2_secret_1 24 rfl rfl
theorem dksX2_secret_3 : cX2_secret.data.toList.drop 69 = dktX2_secret_3 := dk_seg dksX2_secret_2 22 rfl rfl
theorem dksX2_secret_4 : cX2_secret.data.toList.drop 92 = dktX2_secret_4 := dk_seg dksX2_secret_3 23 rfl rfl
theorem dksX2_secret_5 : cX2_secret.data.toList.drop 116 = dktX2_secret_5 := dk_seg dksX2_secret_4 24 rfl rfl
theorem dksX2_secret_6 : cX2_secret.data.toList.drop 138 = dktX2_secret_6 := dk_seg dksX2_secret_5 22 rfl rfl
theorem dksX2_secret_7 : cX2_secret.data.toList.drop 162 = dktX2_secret_7 := dk_seg dksX2_secret_6 24 rfl rfl
theorem dX2_secret_0 : decode cX2_secret 0 = .ok (.aload_n 0, 1) := dk_42 (dk_at dksX2_secret_0 0 rfl rfl)
theorem dX2_secret_1 : decode cX2_secret 1 = .ok (.getfield 168, 3) := dk_180 0 168 (dk_at dksX2_secret_0 1 rfl rfl)
theorem dX2_secret_4 : decode cX2_secret 4 = .ok (.getfield 249, 3) := dk_180 0 249 (dk_at dksX2_secret_0 4 rfl rfl)
theorem dX2_secret_7 : decode cX2_secret 7 = .ok (.invokevirtual 235, 3) := dk_182 0 235 (dk_at dksX2_secret_0 7 rfl rfl)
theorem dX2_secret_10 : decode cX2_secret 10 = .ok (.istore_n 1, 1) := dk_60 (dk_at dksX2_secret_0 10 rfl rfl)
theorem dX2_secret_11 : decode cX2_secret 11 = .ok (.aload_n 0, 1) := dk_42 (dk_at dksX2_secret_0 11 rfl rfl)
theorem dX2_secret_12 : decode cX2_secret 12 = .ok (.iload_n 1, 1) := dk_27 (dk_at dksX2_secret_0 12 rfl rfl)
theorem dX2_secret_13 : decode cX2_secret 13 = .ok (.bipush 10, 2) := dk_16 10 (dk_at dksX2_secret_0 13 rfl rfl)
theorem dX2_secret_15 : decode cX2_secret 15 = .ok (.if_icmp .ne 7, 3) := dk_160 0 7 (dk_at dksX2_secret_0 15 rfl rfl)
theorem dX2_secret_18 : decode cX2_secret 18 = .ok (.iconst 1, 1) := dk_4 (dk_at dksX2_secret_0 18 rfl rfl)
theorem dX2_secret_19 : decode cX2_secret 19 = .ok (.goto 4, 3) := dk_167 0 4 (dk_at dksX2_secret_0 19 rfl rfl)
theorem dX2_secret_22 : decode cX2_secret 22 = .ok (.iconst 0, 1) := dk_3 (dk_at dksX2_secret_0 22 rfl rfl)
theorem dX2_secret_23 : decode cX2_secret 23 = .ok (.bipush 20, 2) := dk_16 20 (dk_at dksX2_secret_1 0 rfl rfl)
theorem dX2_secret_25 : decode cX2_secret 25 = .ok (.iload_n 1, 1) := dk_27 (dk_at dksX2_secret_1 2 rfl rfl)
theorem dX2_secret_26 : decode cX2_secret 26 = .ok (.iadd, 1) := dk_96 (dk_at dksX2_secret_1 3 rfl rfl)
theorem dX2_secret_27 : decode cX2_secret 27 = .ok (.invokevirtual 238, 3) := dk_182 0 238 (dk_at dksX2_secret_1 4 rfl rfl)
theorem dX2_secret_30 : decode cX2_secret 30 = .ok (.aload_n 0, 1) := dk_42 (dk_at dksX2_secret_1 7 rfl rfl)
theorem dX2_secret_31 : decode cX2_secret 31 = .ok (.ldc 68, 2) := dk_18 68 (dk_at dksX2_secret_1 8 rfl rfl)
theorem dX2_secret_33 : decode cX2_secret 33 = .ok (.invokevirtual 144, 3) := dk_182 0 144 (dk_at dksX2_secret_1 10 rfl rfl)
theorem dX2_secret_36 : decode cX2_secret 36 = .ok (.istore_n 2, 1) := dk_61 (dk_at dksX2_secret_1 13 rfl rfl)
theorem dX2_secret_37 : decode cX2_secret 37 = .ok (.iload_n 2, 1) := dk_28 (dk_at dksX2_secret_1 14 rfl rfl)
theorem dX2_secret_38 : decode cX2_secret 38 = .ok (.ifCond .ne 18, 3) := dk_154 0 18 (dk_at dksX2_secret_1 15 rfl rfl)
theorem dX2_secret_41 : decode cX2_secret 41 = .ok (.aload_n 0, 1) := dk_42 (dk_at dksX2_secret_1 18 rfl rfl)
theorem dX2_secret_42 : decode cX2_secret 42 = .ok (.ldc 66, 2) := dk_18 66 (dk_at dksX2_secret_1 19 rfl rfl)
theorem dX2_secret_44 : decode cX2_secret 44 = .ok (.invokevirtual 144, 3) := dk_182 0 144 (dk_at dksX2_secret_1 21 rfl rfl)
theorem dX2_secret_47 : decode cX2_secret 47 = .ok (.ifCond .ne 9, 3) := dk_154 0 9 (dk_at dksX2_secret_2 0 rfl rfl)
theorem dX2_secret_50 : decode cX2_secret 50 = .ok (.aload_n 0, 1) := dk_42 (dk_at dksX2_secret_2 3 rfl rfl)
theorem dX2_secret_51 : decode cX2_secret 51 = .ok (.iconst 1, 1) := dk_4 (dk_at dksX2_secret_2 4 rfl rfl)
theorem dX2_secret_52 : decode cX2_secret 52 = .ok (.invokevirtual 154, 3) := dk_182 0 154 (dk_at dksX2_secret_2 5 rfl rfl)
theorem dX2_secret_55 : decode cX2_secret 55 = .ok (.athrow, 1) := dk_191 (dk_at dksX2_secret_2 8 rfl rfl)
theorem dX2_secret_56 : decode cX2_secret 56 = .ok (.aload_n 0, 1) := dk_42 (dk_at dksX2_secret_2 9 rfl rfl)
theorem dX2_secret_57 : decode cX2_secret 57 = .ok (.dup, 1) := dk_89 (dk_at dksX2_secret_2 10 rfl rfl)
theorem dX2_secret_58 : decode cX2_secret 58 = .ok (.getfield 132, 3) := dk_180 0 132 (dk_at dksX2_secret_2 11 rfl rfl)
theorem dX2_secret_61 : decode cX2_secret 61 = .ok (.iconst 1, 1) := dk_4 (dk_at dksX2_secret_2 14 rfl rfl)
theorem dX2_secret_62 : decode cX2_secret 62 = .ok (.iadd, 1) := dk_96 (dk_at dksX2_secret_2 15 rfl rfl)
theorem dX2_secret_63 : decode cX2_secret 63 = .ok (.putfield 132, 3) := dk_181 0 132 (dk_at dksX2_secret_2 16 rfl rfl)
theorem dX2_secret_66 : decode cX2_secret 66 = .ok (.aload_n 0, 1) := dk_42 (dk_at dksX2_secret_2 19 rfl rfl)
theorem dX2_secret_67 : decode cX2_secret 67 = .ok (.ldc 44, 2) := dk_18 44 (dk_at dksX2_secret_2 20 rfl rfl)
theorem dX2_secret_69 : decode cX2_secret 69 = .ok (.invokevirtual 185, 3) := dk_182 0 185 (dk_at dksX2_secret_3 0 rfl rfl)
theorem dX2_secret_72 : decode cX2_secret 72 = .ok (.aload_n 0, 1) := dk_42 (dk_at dksX2_secret_3 3 rfl rfl)
theorem dX2_secret_73 : decode cX2_secret 73 = .ok (.iconst 0, 1) := dk_3 (dk_at dksX2_secret_3 4 rfl rfl)
theorem dX2_secret_74 : decode cX2_secret 74 = .ok (.bipush 6, 2) := dk_16 6 (dk_at dksX2_secret_3 5 rfl rfl)
theorem dX2_secret_76 : decode cX2_secret 76 = .ok (.invokevirtual 252, 3) := dk_182 0 252 (dk_at dksX2_secret_3 7 rfl rfl)
theorem dX2_secret_79 : decode cX2_secret 79 = .ok (.istore_n 3, 1) := dk_62 (dk_at dksX2_secret_3 10 rfl rfl)
theorem dX2_secret_80 : decode cX2_secret 80 = .ok (.aload_n 0, 1) := dk_42 (dk_at dksX2_secret_3 11 rfl rfl)
theorem dX2_secret_81 : decode cX2_secret 81 = .ok (.ldc 46, 2) := dk_18 46 (dk_at dksX2_secret_3 12 rfl rfl)
theorem dX2_secret_83 : decode cX2_secret 83 = .ok (.iconst 1, 1) := dk_4 (dk_at dksX2_secret_3 14 rfl rfl)
theorem dX2_secret_84 : decode cX2_secret 84 = .ok (.bipush 99, 2) := dk_16 99 (dk_at dksX2_secret_3 15 rfl rfl)
theorem dX2_secret_86 : decode cX2_secret 86 = .ok (.invokevirtual 242, 3) := dk_182 0 242 (dk_at dksX2_secret_3 17 rfl rfl)
theorem dX2_secret_89 : decode cX2_secret 89 = .ok (.istore 4, 2) := dk_54 4 (dk_at dksX2_secret_3 20 rfl rfl)
theorem dX2_secret_91 : decode cX2_secret 91 = .ok (.iconst (-1), 1) := dk_2 (dk_at dksX2_secret_3 22 rfl rfl)
theorem dX2_secret_92 : decode cX2_secret 92 = .ok (.istore 5, 2) := dk_54 5 (dk_at dksX2_secret_4 0 rfl rfl)
theorem dX2_secret_94 : decode cX2_secret 94 = .ok (.aload_n 0, 1) := dk_42 (dk_at dksX2_secret_4 2 rfl rfl)
theorem dX2_secret_95 : decode cX2_secret 95 = .ok (.ldc 48, 2) := dk_18 48 (dk_at dksX2_secret_4 3 rfl rfl)
theorem dX2_secret_97 : decode cX2_secret 97 = .ok (.invokevirtual 255, 3) := dk_182 0 255 (dk_at dksX2_secret_4 5 rfl rfl)
theorem dX2_secret_100 : decode cX2_secret 100 = .ok (.ifCond .eq 35, 3) := dk_153 0 35 (dk_at dksX2_secret_4 8 rfl rfl)
theorem dX2_secret_103 : decode cX2_secret 103 = .ok (.aload_n 0, 1) := dk_42 (dk_at dksX2_secret_4 11 rfl rfl)
theorem dX2_secret_104 : decode cX2_secret 104 = .ok (.bipush 20, 2) := dk_16 20 (dk_at dksX2_secret_4 12 rfl rfl)
theorem dX2_secret_106 : decode cX2_secret 106 = .ok (.bipush 10, 2) := dk_16 10 (dk_at dksX2_secret_4 14 rfl rfl)
theorem dX2_secret_108 : decode cX2_secret 108 = .ok (.invokevirtual 225, 3) := dk_182 0 225 (dk_at dksX2_secret_4 16 rfl rfl)
theorem dX2_secret_111 : decode cX2_secret 111 = .ok (.istore 5, 2) := dk_54 5 (dk_at dksX2_secret_4 19 rfl rfl)
theorem dX2_secret_113 : decode cX2_secret 113 = .ok (.iload 5, 2) := dk_21 5 (dk_at dksX2_secret_4 21 rfl rfl)
theorem dX2_secret_115 : decode cX2_secret 115 = .ok (.iload_n 1, 1) := dk_27 (dk_at dksX2_secret_4 23 rfl rfl)
theorem dX2_secret_116 : decode cX2_secret 116 = .ok (.if_icmp .ne 9, 3) := dk_160 0 9 (dk_at dksX2_secret_5 0 rfl rfl)
theorem dX2_secret_119 : decode cX2_secret 119 = .ok (.aload_n 0, 1) := dk_42 (dk_at dksX2_secret_5 3 rfl rfl)
theorem dX2_secret_120 : decode cX2_secret 120 = .ok (.iconst 2, 1) := dk_5 (dk_at dksX2_secret_5 4 rfl rfl)
theorem dX2_secret_121 : decode cX2_secret 121 = .ok (.invokevirtual 154, 3) := dk_182 0 154 (dk_at dksX2_secret_5 5 rfl rfl)
theorem dX2_secret_124 : decode cX2_secret 124 = .ok (.athrow, 1) := dk_191 (dk_at dksX2_secret_5 8 rfl rfl)
theorem dX2_secret_125 : decode cX2_secret 125 = .ok (.aload_n 0, 1) := dk_42 (dk_at dksX2_secret_5 9 rfl rfl)
theorem dX2_secret_126 : decode cX2_secret 126 = .ok (.dup, 1) := dk_89 (dk_at dksX2_secret_5 10 rfl rfl)
theorem dX2_secret_127 : decode cX2_secret 127 = .ok (.getfield 132, 3) := dk_180 0 132 (dk_at dksX2_secret_5 11 rfl rfl)
theorem dX2_secret_130 : decode cX2_secret 130 = .ok (.iconst 1, 1) := dk_4 (dk_at dksX2_secret_5 14 rfl rfl)
theorem dX2_secret_131 : decode cX2_secret 131 = .ok (.iadd, 1) := dk_96 (dk_at dksX2_secret_5 15 rfl rfl)
theorem dX2_secret_132 : decode cX2_secret 132 = .ok (.putfield 132, 3) := dk_181 0 132 (dk_at dksX2_secret_5 16 rfl rfl)
theorem dX2_secret_135 : decode cX2_secret 135 = .ok (.aload_n 0, 1) := dk_42 (dk_at dksX2_secret_5 19 rfl rfl)
theorem dX2_secret_136 : decode cX2_secret 136 = .ok (.ldc 50, 2) := dk_18 50 (dk_at dksX2_secret_5 20 rfl rfl)
theorem dX2_secret_138 : decode cX2_secret 138 = .ok (.invokevirtual 185, 3) := dk_182 0 185 (dk_at dksX2_secret_6 0 rfl rfl)
theorem dX2_secret_141 : decode cX2_secret 141 = .ok (.aload_n 0, 1) := dk_42 (dk_at dksX2_secret_6 3 rfl rfl)
theorem dX2_secret_142 : decode cX2_secret 142 = .ok (.getfield 168, 3) := dk_180 0 168 (dk_at dksX2_secret_6 4 rfl rfl)
theorem dX2_secret_145 : decode cX2_secret 145 = .ok (.getfield 249, 3) := dk_180 0 249 (dk_at dksX2_secret_6 7 rfl rfl)
theorem dX2_secret_148 : decode cX2_secret 148 = .ok (.new 258, 3) := dk_187 1 2 (dk_at dksX2_secret_6 10 rfl rfl)
theorem dX2_secret_151 : decode cX2_secret 151 = .ok (.dup, 1) := dk_89 (dk_at dksX2_secret_6 13 rfl rfl)
theorem dX2_secret_152 : decode cX2_secret 152 = .ok (.iload_n 2, 1) := dk_28 (dk_at dksX2_secret_6 14 rfl rfl)
theorem dX2_secret_153 : decode cX2_secret 153 = .ok (.iload_n 3, 1) := dk_29 (dk_at dksX2_secret_6 15 rfl rfl)
theorem dX2_secret_154 : decode cX2_secret 154 = .ok (.iload 4, 2) := dk_21 4 (dk_at dksX2_secret_6 16 rfl rfl)
theorem dX2_secret_156 : decode cX2_secret 156 = .ok (.iload 5, 2) := dk_21 5 (dk_at dksX2_secret_6 18 rfl rfl)
theorem dX2_secret_158 : decode cX2_secret 158 = .ok (.aload_n 0, 1) := dk_42 (dk_at dksX2_secret_6 20 rfl rfl)
theorem dX2_secret_159 : decode cX2_secret 159 = .ok (.iconst 0, 1) := dk_3 (dk_at dksX2_secret_6 21 rfl rfl)
theorem dX2_secret_160 : decode cX2_secret 160 = .ok (.bipush 6, 2) := dk_16 6 (dk_at dksX2_secret_6 22 rfl rfl)
theorem dX2_secret_162 : decode cX2_secret 162 = .ok (.invokevirtual 260, 3) := dk_182 1 4 (dk_at dksX2_secret_7 0 rfl rfl)
theorem dX2_secret_165 : decode cX2_secret 165 = .ok (.invokespecial 263, 3) := dk_183 1 7 (dk_at dksX2_secret_7 3 rfl rfl)
theorem dX2_secret_168 : decode cX2_secret 168 = .ok (.invokevirtual 211, 3) := dk_182 0 211 (dk_at dksX2_secret_7 6 rfl rfl)
theorem dX2_secret_171 : decode cX2_secret 171 = .ok (.pop, 1) := dk_87 (dk_at dksX2_secret_7 9 rfl rfl)
theorem dX2_secret_172 : decode cX2_secret 172 = .ok (.return_, 1) := dk_177 (dk_at dksX2_secret_7 10 rfl rfl)
abbrev cX2_takeTold : ByteArray := prog_25_method_20_code
def yX2_takeTold : MethodName := ⟨RX2, "takeTold", "(II)I"⟩
def dkwX2_takeTold_0 : List UInt8 := [42, 27, 28, 182, 0, 225, 62, 42, 89, 180, 0, 132, 4, 96, 181, 0, 132, 29, 172]
abbrev dktX2_takeTold_0 : List UInt8 := dkwX2_takeTold_0 ++ []
theorem dksX2_takeTold_0 : cX2_takeTold.data.toList.drop 0 = dktX2_takeTold_0 := by decide +kernel
theorem dX2_takeTold_0 : decode cX2_takeTold 0 = .ok (.aload_n 0, 1) := dk_42 (dk_at dksX2_takeTold_0 0 rfl rfl)
theorem dX2_takeTold_1 : decode cX2_takeTold 1 = .ok (.iload_n 1, 1) := dk_27 (dk_at dksX2_takeTold_0 1 rfl rfl)
theorem dX2_takeTold_2 : decode cX2_takeTold 2 = .ok (.iload_n 2, 1) := dk_28 (dk_at dksX2_takeTold_0 2 rfl rfl)
theorem dX2_takeTold_3 : decode cX2_takeTold 3 = .ok (.invokevirtual 225, 3) := dk_182 0 225 (dk_at dksX2_takeTold_0 3 rfl rfl)
theorem dX2_takeTold_6 : decode cX2_takeTold 6 = .ok (.istore_n 3, 1) := dk_62 (dk_at dksX2_takeTold_0 6 rfl rfl)
theorem dX2_takeTold_7 : decode cX2_takeTold 7 = .ok (.aload_n 0, 1) := dk_42 (dk_at dksX2_takeTold_0 7 rfl rfl)
theorem dX2_takeTold_8 : decode cX2_takeTold 8 = .ok (.dup, 1) := dk_89 (dk_at dksX2_takeTold_0 8 rfl rfl)
theorem dX2_takeTold_9 : decode cX2_takeTold 9 = .ok (.getfield 132, 3) := dk_180 0 132 (dk_at dksX2_takeTold_0 9 rfl rfl)
theorem dX2_takeTold_12 : decode cX2_takeTold 12 = .ok (.iconst 1, 1) := dk_4 (dk_at dksX2_takeTold_0 12 rfl rfl)
theorem dX2_takeTold_13 : decode cX2_takeTold 13 = .ok (.iadd, 1) := dk_96 (dk_at dksX2_takeTold_0 13 rfl rfl)
theorem dX2_takeTold_14 : decode cX2_takeTold 14 = .ok (.putfield 132, 3) := dk_181 0 132 (dk_at dksX2_takeTold_0 14 rfl rfl)
theorem dX2_takeTold_17 : decode cX2_takeTold 17 = .ok (.iload_n 3, 1) := dk_29 (dk_at dksX2_takeTold_0 17 rfl rfl)
theorem dX2_takeTold_18 : decode cX2_takeTold 18 = .ok (.ireturn, 1) := dk_172 (dk_at dksX2_takeTold_0 18 rfl rfl)
abbrev cX2_told : ByteArray := prog_25_method_19_code
def yX2_told : MethodName := ⟨RX2, "told", "(II)I"⟩
def dkwX2_told_2 : List UInt8 := [182, 0, 154, 191, 29, 172]
abbrev dktX2_told_2 : List UInt8 := dkwX2_told_2 ++ []
def dkwX2_told_1 : List UInt8 := [180, 0, 132, 47, 182, 0, 197, 27, 100, 62, 29, 3, 28, 4, 100, 184, 0, 95, 154, 0, 9, 42, 5]
abbrev dktX2_told_1 : List UInt8 := dkwX2_told_1 ++ dktX2_told_2
def dkwX2_told_0 : List UInt8 := [42, 182, 0, 193, 154, 0, 9, 42, 4, 182, 0, 154, 191, 42, 180, 0, 168, 42, 180, 0, 86, 42]
abbrev dktX2_told_0 : List UInt8 := dkwX2_told_0 ++ dktX2_told_1
theorem dksX2_told_0 : cX2_told.data.toList.drop 0 = dktX2_told_0 := by decide +kernel
theorem dksX2_told_1 : cX2_told.data.toList.drop 22 = dktX2_told_1 := dk_seg dksX2_told_0 22 rfl rfl
theorem dksX2_told_2 : cX2_told.data.toList.drop 45 = dktX2_told_2 := dk_seg dksX2_told_1 23 rfl rfl
theorem dX2_told_0 : decode cX2_told 0 = .ok (.aload_n 0, 1) := dk_42 (dk_at dksX2_told_0 0 rfl rfl)
theorem dX2_told_1 : decode cX2_told 1 = .ok (.invokevirtual 193, 3) := dk_182 0 193 (dk_at dksX2_told_0 1 rfl rfl)
theorem dX2_told_4 : decode cX2_told 4 = .ok (.ifCond .ne 9, 3) := dk_154 0 9 (dk_at dksX2_told_0 4 rfl rfl)
theorem dX2_told_7 : decode cX2_told 7 = .ok (.aload_n 0, 1) := dk_42 (dk_at dksX2_told_0 7 rfl rfl)
theorem dX2_told_8 : decode cX2_told 8 = .ok (.iconst 1, 1) := dk_4 (dk_at dksX2_told_0 8 rfl rfl)
theorem dX2_told_9 : decode cX2_told 9 = .ok (.invokevirtual 154, 3) := dk_182 0 154 (dk_at dksX2_told_0 9 rfl rfl)
theorem dX2_told_12 : decode cX2_told 12 = .ok (.athrow, 1) := dk_191 (dk_at dksX2_told_0 12 rfl rfl)
theorem dX2_told_13 : decode cX2_told 13 = .ok (.aload_n 0, 1) := dk_42 (dk_at dksX2_told_0 13 rfl rfl)
theorem dX2_told_14 : decode cX2_told 14 = .ok (.getfield 168, 3) := dk_180 0 168 (dk_at dksX2_told_0 14 rfl rfl)
theorem dX2_told_17 : decode cX2_told 17 = .ok (.aload_n 0, 1) := dk_42 (dk_at dksX2_told_0 17 rfl rfl)
theorem dX2_told_18 : decode cX2_told 18 = .ok (.getfield 86, 3) := dk_180 0 86 (dk_at dksX2_told_0 18 rfl rfl)
theorem dX2_told_21 : decode cX2_told 21 = .ok (.aload_n 0, 1) := dk_42 (dk_at dksX2_told_0 21 rfl rfl)
theorem dX2_told_22 : decode cX2_told 22 = .ok (.getfield 132, 3) := dk_180 0 132 (dk_at dksX2_told_1 0 rfl rfl)
theorem dX2_told_25 : decode cX2_told 25 = .ok (.laload, 1) := dk_47 (dk_at dksX2_told_1 3 rfl rfl)
theorem dX2_told_26 : decode cX2_told 26 = .ok (.invokevirtual 197, 3) := dk_182 0 197 (dk_at dksX2_told_1 4 rfl rfl)
theorem dX2_told_29 : decode cX2_told 29 = .ok (.iload_n 1, 1) := dk_27 (dk_at dksX2_told_1 7 rfl rfl)
theorem dX2_told_30 : decode cX2_told 30 = .ok (.isub, 1) := dk_100 (dk_at dksX2_told_1 8 rfl rfl)
theorem dX2_told_31 : decode cX2_told 31 = .ok (.istore_n 3, 1) := dk_62 (dk_at dksX2_told_1 9 rfl rfl)
theorem dX2_told_32 : decode cX2_told 32 = .ok (.iload_n 3, 1) := dk_29 (dk_at dksX2_told_1 10 rfl rfl)
theorem dX2_told_33 : decode cX2_told 33 = .ok (.iconst 0, 1) := dk_3 (dk_at dksX2_told_1 11 rfl rfl)
theorem dX2_told_34 : decode cX2_told 34 = .ok (.iload_n 2, 1) := dk_28 (dk_at dksX2_told_1 12 rfl rfl)
theorem dX2_told_35 : decode cX2_told 35 = .ok (.iconst 1, 1) := dk_4 (dk_at dksX2_told_1 13 rfl rfl)
theorem dX2_told_36 : decode cX2_told 36 = .ok (.isub, 1) := dk_100 (dk_at dksX2_told_1 14 rfl rfl)
theorem dX2_told_37 : decode cX2_told 37 = .ok (.invokestatic 95, 3) := dk_184 0 95 (dk_at dksX2_told_1 15 rfl rfl)
theorem dX2_told_40 : decode cX2_told 40 = .ok (.ifCond .ne 9, 3) := dk_154 0 9 (dk_at dksX2_told_1 18 rfl rfl)
theorem dX2_told_43 : decode cX2_told 43 = .ok (.aload_n 0, 1) := dk_42 (dk_at dksX2_told_1 21 rfl rfl)
theorem dX2_told_44 : decode cX2_told 44 = .ok (.iconst 2, 1) := dk_5 (dk_at dksX2_told_1 22 rfl rfl)
theorem dX2_told_45 : decode cX2_told 45 = .ok (.invokevirtual 154, 3) := dk_182 0 154 (dk_at dksX2_told_2 0 rfl rfl)
theorem dX2_told_48 : decode cX2_told 48 = .ok (.athrow, 1) := dk_191 (dk_at dksX2_told_2 3 rfl rfl)
theorem dX2_told_49 : decode cX2_told 49 = .ok (.iload_n 3, 1) := dk_29 (dk_at dksX2_told_2 4 rfl rfl)
theorem dX2_told_50 : decode cX2_told 50 = .ok (.ireturn, 1) := dk_172 (dk_at dksX2_told_2 5 rfl rfl)
abbrev cX2_some : ByteArray := prog_25_method_21_code
def yX2_some : MethodName := ⟨RX2, "some", "(II)I"⟩
def dkwX2_some_2 : List UInt8 := [154, 255, 212, 29, 172]
abbrev dktX2_some_2 : List UInt8 := dkwX2_some_2 ++ []
def dkwX2_some_1 : List UInt8 := [191, 29, 4, 21, 4, 120, 128, 62, 42, 89, 180, 0, 132, 4, 96, 181, 0, 132, 42, 182, 0, 193]
abbrev dktX2_some_1 : List UInt8 := dkwX2_some_1 ++ dktX2_some_2
def dkwX2_some_0 : List UInt8 := [3, 62, 42, 27, 28, 182, 0, 225, 54, 4, 29, 21, 4, 184, 0, 228, 153, 0, 9, 42, 6, 182, 0, 154]
abbrev dktX2_some_0 : List UInt8 := dkwX2_some_0 ++ dktX2_some_1
theorem dksX2_some_0 : cX2_some.data.toList.drop 0 = dktX2_some_0 := by decide +kernel
theorem dksX2_some_1 : cX2_some.data.toList.drop 24 = dktX2_some_1 := dk_seg dksX2_some_0 24 rfl rfl
theorem dksX2_some_2 : cX2_some.data.toList.drop 46 = dktX2_some_2 := dk_seg dksX2_some_1 22 rfl rfl
theorem dX2_some_0 : decode cX2_some 0 = .ok (.iconst 0, 1) := dk_3 (dk_at dksX2_some_0 0 rfl rfl)
theorem dX2_some_1 : decode cX2_some 1 = .ok (.istore_n 3, 1) := dk_62 (dk_at dksX2_some_0 1 rfl rfl)
theorem dX2_some_2 : decode cX2_some 2 = .ok (.aload_n 0, 1) := dk_42 (dk_at dksX2_some_0 2 rfl rfl)
theorem dX2_some_3 : decode cX2_some 3 = .ok (.iload_n 1, 1) := dk_27 (dk_at dksX2_some_0 3 rfl rfl)
theorem dX2_some_4 : decode cX2_some 4 = .ok (.iload_n 2, 1) := dk_28 (dk_at dksX2_some_0 4 rfl rfl)
theorem dX2_some_5 : decode cX2_some 5 = .ok (.invokevirtual 225, 3) := dk_182 0 225 (dk_at dksX2_some_0 5 rfl rfl)
theorem dX2_some_8 : decode cX2_some 8 = .ok (.istore 4, 2) := dk_54 4 (dk_at dksX2_some_0 8 rfl rfl)
theorem dX2_some_10 : decode cX2_some 10 = .ok (.iload_n 3, 1) := dk_29 (dk_at dksX2_some_0 10 rfl rfl)
theorem dX2_some_11 : decode cX2_some 11 = .ok (.iload 4, 2) := dk_21 4 (dk_at dksX2_some_0 11 rfl rfl)
theorem dX2_some_13 : decode cX2_some 13 = .ok (.invokestatic 228, 3) := dk_184 0 228 (dk_at dksX2_some_0 13 rfl rfl)
theorem dX2_some_16 : decode cX2_some 16 = .ok (.ifCond .eq 9, 3) := dk_153 0 9 (dk_at dksX2_some_0 16 rfl rfl)
theorem dX2_some_19 : decode cX2_some 19 = .ok (.aload_n 0, 1) := dk_42 (dk_at dksX2_some_0 19 rfl rfl)
theorem dX2_some_20 : decode cX2_some 20 = .ok (.iconst 3, 1) := dk_6 (dk_at dksX2_some_0 20 rfl rfl)
theorem dX2_some_21 : decode cX2_some 21 = .ok (.invokevirtual 154, 3) := dk_182 0 154 (dk_at dksX2_some_0 21 rfl rfl)
theorem dX2_some_24 : decode cX2_some 24 = .ok (.athrow, 1) := dk_191 (dk_at dksX2_some_1 0 rfl rfl)
theorem dX2_some_25 : decode cX2_some 25 = .ok (.iload_n 3, 1) := dk_29 (dk_at dksX2_some_1 1 rfl rfl)
theorem dX2_some_26 : decode cX2_some 26 = .ok (.iconst 1, 1) := dk_4 (dk_at dksX2_some_1 2 rfl rfl)
theorem dX2_some_27 : decode cX2_some 27 = .ok (.iload 4, 2) := dk_21 4 (dk_at dksX2_some_1 3 rfl rfl)
theorem dX2_some_29 : decode cX2_some 29 = .ok (.ishl, 1) := dk_120 (dk_at dksX2_some_1 5 rfl rfl)
theorem dX2_some_30 : decode cX2_some 30 = .ok (.ior, 1) := dk_128 (dk_at dksX2_some_1 6 rfl rfl)
theorem dX2_some_31 : decode cX2_some 31 = .ok (.istore_n 3, 1) := dk_62 (dk_at dksX2_some_1 7 rfl rfl)
theorem dX2_some_32 : decode cX2_some 32 = .ok (.aload_n 0, 1) := dk_42 (dk_at dksX2_some_1 8 rfl rfl)
theorem dX2_some_33 : decode cX2_some 33 = .ok (.dup, 1) := dk_89 (dk_at dksX2_some_1 9 rfl rfl)
theorem dX2_some_34 : decode cX2_some 34 = .ok (.getfield 132, 3) := dk_180 0 132 (dk_at dksX2_some_1 10 rfl rfl)
theorem dX2_some_37 : decode cX2_some 37 = .ok (.iconst 1, 1) := dk_4 (dk_at dksX2_some_1 13 rfl rfl)
theorem dX2_some_38 : decode cX2_some 38 = .ok (.iadd, 1) := dk_96 (dk_at dksX2_some_1 14 rfl rfl)
theorem dX2_some_39 : decode cX2_some 39 = .ok (.putfield 132, 3) := dk_181 0 132 (dk_at dksX2_some_1 15 rfl rfl)
theorem dX2_some_42 : decode cX2_some 42 = .ok (.aload_n 0, 1) := dk_42 (dk_at dksX2_some_1 18 rfl rfl)
theorem dX2_some_43 : decode cX2_some 43 = .ok (.invokevirtual 193, 3) := dk_182 0 193 (dk_at dksX2_some_1 19 rfl rfl)
theorem dX2_some_46 : decode cX2_some 46 = .ok (.ifCond .ne (-44), 3) := dk_154 255 212 (dk_at dksX2_some_2 0 rfl rfl)
theorem dX2_some_49 : decode cX2_some 49 = .ok (.iload_n 3, 1) := dk_29 (dk_at dksX2_some_2 3 rfl rfl)
theorem dX2_some_50 : decode cX2_some 50 = .ok (.ireturn, 1) := dk_172 (dk_at dksX2_some_2 4 rfl rfl)
abbrev cX2_ear : ByteArray := prog_25_method_24_code
def yX2_ear : MethodName := ⟨RX2, "ear", "()V"⟩
def dkwX2_ear_3 : List UInt8 := [89, 3, 27, 79, 89, 4, 28, 79, 89, 5, 42, 3, 16, 10, 182, 0, 189, 79, 182, 0, 211, 87, 177]
abbrev dktX2_ear_3 : List UInt8 := dkwX2_ear_3 ++ []
def dkwX2_ear_2 : List UInt8 := [182, 0, 154, 191, 42, 89, 180, 0, 132, 4, 96, 181, 0, 132, 42, 180, 0, 168, 180, 1, 12, 6, 188, 10]
abbrev dktX2_ear_2 : List UInt8 := dkwX2_ear_2 ++ dktX2_ear_3
def dkwX2_ear_1 : List UInt8 := [182, 0, 225, 61, 27, 28, 159, 0, 16, 42, 180, 0, 168, 27, 28, 182, 1, 10, 2, 159, 0, 9, 42, 6]
abbrev dktX2_ear_1 : List UInt8 := dkwX2_ear_1 ++ dktX2_ear_2
def dkwX2_ear_0 : List UInt8 := [42, 89, 180, 0, 132, 4, 96, 181, 0, 132, 42, 3, 16, 6, 182, 0, 252, 60, 42, 3, 16, 6]
abbrev dktX2_ear_0 : List UInt8 := dkwX2_ear_0 ++ dktX2_ear_1
theorem dksX2_ear_0 : cX2_ear.data.toList.drop 0 = dktX2_ear_0 := by decide +kernel
theorem dksX2_ear_1 : cX2_ear.data.toList.drop 22 = dktX2_ear_1 := dk_seg dksX2_ear_0 22 rfl rfl
theorem dksX2_ear_2 : cX2_ear.data.toList.drop 46 = dktX2_ear_2 := dk_seg dksX2_ear_1 24 rfl rfl
theorem dksX2_ear_3 : cX2_ear.data.toList.drop 70 = dktX2_ear_3 := dk_seg dksX2_ear_2 24 rfl rfl
theorem dX2_ear_0 : decode cX2_ear 0 = .ok (.aload_n 0, 1) := dk_42 (dk_at dksX2_ear_0 0 rfl rfl)
theorem dX2_ear_1 : decode cX2_ear 1 = .ok (.dup, 1) := dk_89 (dk_at dksX2_ear_0 1 rfl rfl)
theorem dX2_ear_2 : decode cX2_ear 2 = .ok (.getfield 132, 3) := dk_180 0 132 (dk_at dksX2_ear_0 2 rfl rfl)
theorem dX2_ear_5 : decode cX2_ear 5 = .ok (.iconst 1, 1) := dk_4 (dk_at dksX2_ear_0 5 rfl rfl)
theorem dX2_ear_6 : decode cX2_ear 6 = .ok (.iadd, 1) := dk_96 (dk_at dksX2_ear_0 6 rfl rfl)
theorem dX2_ear_7 : decode cX2_ear 7 = .ok (.putfield 132, 3) := dk_181 0 132 (dk_at dksX2_ear_0 7 rfl rfl)
theorem dX2_ear_10 : decode cX2_ear 10 = .ok (.aload_n 0, 1) := dk_42 (dk_at dksX2_ear_0 10 rfl rfl)
theorem dX2_ear_11 : decode cX2_ear 11 = .ok (.iconst 0, 1) := dk_3 (dk_at dksX2_ear_0 11 rfl rfl)
theorem dX2_ear_12 : decode cX2_ear 12 = .ok (.bipush 6, 2) := dk_16 6 (dk_at dksX2_ear_0 12 rfl rfl)
theorem dX2_ear_14 : decode cX2_ear 14 = .ok (.invokevirtual 252, 3) := dk_182 0 252 (dk_at dksX2_ear_0 14 rfl rfl)
theorem dX2_ear_17 : decode cX2_ear 17 = .ok (.istore_n 1, 1) := dk_60 (dk_at dksX2_ear_0 17 rfl rfl)
theorem dX2_ear_18 : decode cX2_ear 18 = .ok (.aload_n 0, 1) := dk_42 (dk_at dksX2_ear_0 18 rfl rfl)
theorem dX2_ear_19 : decode cX2_ear 19 = .ok (.iconst 0, 1) := dk_3 (dk_at dksX2_ear_0 19 rfl rfl)
theorem dX2_ear_20 : decode cX2_ear 20 = .ok (.bipush 6, 2) := dk_16 6 (dk_at dksX2_ear_0 20 rfl rfl)
theorem dX2_ear_22 : decode cX2_ear 22 = .ok (.invokevirtual 225, 3) := dk_182 0 225 (dk_at dksX2_ear_1 0 rfl rfl)
theorem dX2_ear_25 : decode cX2_ear 25 = .ok (.istore_n 2, 1) := dk_61 (dk_at dksX2_ear_1 3 rfl rfl)
theorem dX2_ear_26 : decode cX2_ear 26 = .ok (.iload_n 1, 1) := dk_27 (dk_at dksX2_ear_1 4 rfl rfl)
theorem dX2_ear_27 : decode cX2_ear 27 = .ok (.iload_n 2, 1) := dk_28 (dk_at dksX2_ear_1 5 rfl rfl)
theorem dX2_ear_28 : decode cX2_ear 28 = .ok (.if_icmp .eq 16, 3) := dk_159 0 16 (dk_at dksX2_ear_1 6 rfl rfl)
theorem dX2_ear_31 : decode cX2_ear 31 = .ok (.aload_n 0, 1) := dk_42 (dk_at dksX2_ear_1 9 rfl rfl)
theorem dX2_ear_32 : decode cX2_ear 32 = .ok (.getfield 168, 3) := dk_180 0 168 (dk_at dksX2_ear_1 10 rfl rfl)
theorem dX2_ear_35 : decode cX2_ear 35 = .ok (.iload_n 1, 1) := dk_27 (dk_at dksX2_ear_1 13 rfl rfl)
theorem dX2_ear_36 : decode cX2_ear 36 = .ok (.iload_n 2, 1) := dk_28 (dk_at dksX2_ear_1 14 rfl rfl)
theorem dX2_ear_37 : decode cX2_ear 37 = .ok (.invokevirtual 266, 3) := dk_182 1 10 (dk_at dksX2_ear_1 15 rfl rfl)
theorem dX2_ear_40 : decode cX2_ear 40 = .ok (.iconst (-1), 1) := dk_2 (dk_at dksX2_ear_1 18 rfl rfl)
theorem dX2_ear_41 : decode cX2_ear 41 = .ok (.if_icmp .eq 9, 3) := dk_159 0 9 (dk_at dksX2_ear_1 19 rfl rfl)
theorem dX2_ear_44 : decode cX2_ear 44 = .ok (.aload_n 0, 1) := dk_42 (dk_at dksX2_ear_1 22 rfl rfl)
theorem dX2_ear_45 : decode cX2_ear 45 = .ok (.iconst 3, 1) := dk_6 (dk_at dksX2_ear_1 23 rfl rfl)
theorem dX2_ear_46 : decode cX2_ear 46 = .ok (.invokevirtual 154, 3) := dk_182 0 154 (dk_at dksX2_ear_2 0 rfl rfl)
theorem dX2_ear_49 : decode cX2_ear 49 = .ok (.athrow, 1) := dk_191 (dk_at dksX2_ear_2 3 rfl rfl)
theorem dX2_ear_50 : decode cX2_ear 50 = .ok (.aload_n 0, 1) := dk_42 (dk_at dksX2_ear_2 4 rfl rfl)
theorem dX2_ear_51 : decode cX2_ear 51 = .ok (.dup, 1) := dk_89 (dk_at dksX2_ear_2 5 rfl rfl)
theorem dX2_ear_52 : decode cX2_ear 52 = .ok (.getfield 132, 3) := dk_180 0 132 (dk_at dksX2_ear_2 6 rfl rfl)
theorem dX2_ear_55 : decode cX2_ear 55 = .ok (.iconst 1, 1) := dk_4 (dk_at dksX2_ear_2 9 rfl rfl)
theorem dX2_ear_56 : decode cX2_ear 56 = .ok (.iadd, 1) := dk_96 (dk_at dksX2_ear_2 10 rfl rfl)
theorem dX2_ear_57 : decode cX2_ear 57 = .ok (.putfield 132, 3) := dk_181 0 132 (dk_at dksX2_ear_2 11 rfl rfl)
theorem dX2_ear_60 : decode cX2_ear 60 = .ok (.aload_n 0, 1) := dk_42 (dk_at dksX2_ear_2 14 rfl rfl)
theorem dX2_ear_61 : decode cX2_ear 61 = .ok (.getfield 168, 3) := dk_180 0 168 (dk_at dksX2_ear_2 15 rfl rfl)
theorem dX2_ear_64 : decode cX2_ear 64 = .ok (.getfield 268, 3) := dk_180 1 12 (dk_at dksX2_ear_2 18 rfl rfl)
theorem dX2_ear_67 : decode cX2_ear 67 = .ok (.iconst 3, 1) := dk_6 (dk_at dksX2_ear_2 21 rfl rfl)
theorem dX2_ear_68 : decode cX2_ear 68 = .ok (.newarray .int, 2) := dk_188_10 (dk_at dksX2_ear_2 22 rfl rfl)
theorem dX2_ear_70 : decode cX2_ear 70 = .ok (.dup, 1) := dk_89 (dk_at dksX2_ear_3 0 rfl rfl)
theorem dX2_ear_71 : decode cX2_ear 71 = .ok (.iconst 0, 1) := dk_3 (dk_at dksX2_ear_3 1 rfl rfl)
theorem dX2_ear_72 : decode cX2_ear 72 = .ok (.iload_n 1, 1) := dk_27 (dk_at dksX2_ear_3 2 rfl rfl)
theorem dX2_ear_73 : decode cX2_ear 73 = .ok (.iastore, 1) := dk_79 (dk_at dksX2_ear_3 3 rfl rfl)
theorem dX2_ear_74 : decode cX2_ear 74 = .ok (.dup, 1) := dk_89 (dk_at dksX2_ear_3 4 rfl rfl)
theorem dX2_ear_75 : decode cX2_ear 75 = .ok (.iconst 1, 1) := dk_4 (dk_at dksX2_ear_3 5 rfl rfl)
theorem dX2_ear_76 : decode cX2_ear 76 = .ok (.iload_n 2, 1) := dk_28 (dk_at dksX2_ear_3 6 rfl rfl)
theorem dX2_ear_77 : decode cX2_ear 77 = .ok (.iastore, 1) := dk_79 (dk_at dksX2_ear_3 7 rfl rfl)
theorem dX2_ear_78 : decode cX2_ear 78 = .ok (.dup, 1) := dk_89 (dk_at dksX2_ear_3 8 rfl rfl)
theorem dX2_ear_79 : decode cX2_ear 79 = .ok (.iconst 2, 1) := dk_5 (dk_at dksX2_ear_3 9 rfl rfl)
theorem dX2_ear_80 : decode cX2_ear 80 = .ok (.aload_n 0, 1) := dk_42 (dk_at dksX2_ear_3 10 rfl rfl)
theorem dX2_ear_81 : decode cX2_ear 81 = .ok (.iconst 0, 1) := dk_3 (dk_at dksX2_ear_3 11 rfl rfl)
theorem dX2_ear_82 : decode cX2_ear 82 = .ok (.bipush 10, 2) := dk_16 10 (dk_at dksX2_ear_3 12 rfl rfl)
theorem dX2_ear_84 : decode cX2_ear 84 = .ok (.invokevirtual 189, 3) := dk_182 0 189 (dk_at dksX2_ear_3 14 rfl rfl)
theorem dX2_ear_87 : decode cX2_ear 87 = .ok (.iastore, 1) := dk_79 (dk_at dksX2_ear_3 17 rfl rfl)
theorem dX2_ear_88 : decode cX2_ear 88 = .ok (.invokevirtual 211, 3) := dk_182 0 211 (dk_at dksX2_ear_3 18 rfl rfl)
theorem dX2_ear_91 : decode cX2_ear 91 = .ok (.pop, 1) := dk_87 (dk_at dksX2_ear_3 21 rfl rfl)
theorem dX2_ear_92 : decode cX2_ear 92 = .ok (.return_, 1) := dk_177 (dk_at dksX2_ear_3 22 rfl rfl)
abbrev cX2_clash : ByteArray := prog_25_method_25_code
def yX2_clash : MethodName := ⟨RX2, "clash", "()V"⟩
def dkwX2_clash_5 : List UInt8 := [120, 128, 181, 1, 19, 42, 180, 0, 168, 89, 180, 1, 22, 4, 96, 181, 1, 22, 177]
abbrev dktX2_clash_5 : List UInt8 := dkwX2_clash_5 ++ []
def dkwX2_clash_4 : List UInt8 := [128, 181, 1, 19, 42, 180, 0, 168, 180, 0, 249, 28, 182, 1, 15, 192, 1, 2, 89, 180, 1, 19, 4, 27]
abbrev dktX2_clash_4 : List UInt8 := dkwX2_clash_4 ++ dktX2_clash_5
def dkwX2_clash_3 : List UInt8 := [181, 0, 132, 42, 180, 0, 168, 180, 0, 249, 27, 182, 1, 15, 192, 1, 2, 89, 180, 1, 19, 4, 28, 120]
abbrev dktX2_clash_3 : List UInt8 := dkwX2_clash_3 ++ dktX2_clash_4
def dkwX2_clash_2 : List UInt8 := [180, 1, 19, 28, 184, 0, 228, 153, 0, 9, 42, 6, 182, 0, 154, 191, 42, 89, 180, 0, 132, 4, 96]
abbrev dktX2_clash_2 : List UInt8 := dkwX2_clash_2 ++ dktX2_clash_3
def dkwX2_clash_1 : List UInt8 := [182, 0, 225, 61, 27, 28, 159, 0, 27, 42, 180, 0, 168, 180, 0, 249, 27, 182, 1, 15, 192, 1, 2]
abbrev dktX2_clash_1 : List UInt8 := dkwX2_clash_1 ++ dktX2_clash_2
def dkwX2_clash_0 : List UInt8 := [42, 89, 180, 0, 132, 4, 96, 181, 0, 132, 42, 16, 20, 16, 10, 182, 0, 252, 60, 42, 16, 20, 16, 10]
abbrev dktX2_clash_0 : List UInt8 := dkwX2_clash_0 ++ dktX2_clash_1
theorem dksX2_clash_0 : cX2_clash.data.toList.drop 0 = dktX2_clash_0 := by decide +kernel
theorem dksX2_clash_1 : cX2_clash.data.toList.drop 24 = dktX2_clash_1 := dk_seg dksX2_clash_0 24 rfl rfl
theorem dksX2_clash_2 : cX2_clash.data.toList.drop 47 = dktX2_clash_2 := dk_seg dksX2_clash_1 23 rfl rfl
theorem dksX2_clash_3 : cX2_clash.data.toList.drop 70 = dktX2_clash_3 := dk_seg dksX2_clash_2 23 rfl rfl
theorem dksX2_clash_4 : cX2_clash.data.toList.drop 94 = dktX2_clash_4 := dk_seg dksX2_clash_3 24 rfl rfl
theorem dksX2_clash_5 : cX2_clash.data.toList.drop 118 = dktX2_clash_5 := dk_seg dksX2_clash_4 24 rfl rfl
theorem dX2_clash_0 : decode cX2_clash 0 = .ok (.aload_n 0, 1) := dk_42 (dk_at dksX2_clash_0 0 rfl rfl)
theorem dX2_clash_1 : decode cX2_clash 1 = .ok (.dup, 1) := dk_89 (dk_at dksX2_clash_0 1 rfl rfl)
theorem dX2_clash_2 : decode cX2_clash 2 = .ok (.getfield 132, 3) := dk_180 0 132 (dk_at dksX2_clash_0 2 rfl rfl)
theorem dX2_clash_5 : decode cX2_clash 5 = .ok (.iconst 1, 1) := dk_4 (dk_at dksX2_clash_0 5 rfl rfl)
theorem dX2_clash_6 : decode cX2_clash 6 = .ok (.iadd, 1) := dk_96 (dk_at dksX2_clash_0 6 rfl rfl)
theorem dX2_clash_7 : decode cX2_clash 7 = .ok (.putfield 132, 3) := dk_181 0 132 (dk_at dksX2_clash_0 7 rfl rfl)
theorem dX2_clash_10 : decode cX2_clash 10 = .ok (.aload_n 0, 1) := dk_42 (dk_at dksX2_clash_0 10 rfl rfl)
theorem dX2_clash_11 : decode cX2_clash 11 = .ok (.bipush 20, 2) := dk_16 20 (dk_at dksX2_clash_0 11 rfl rfl)
theorem dX2_clash_13 : decode cX2_clash 13 = .ok (.bipush 10, 2) := dk_16 10 (dk_at dksX2_clash_0 13 rfl rfl)
theorem dX2_clash_15 : decode cX2_clash 15 = .ok (.invokevirtual 252, 3) := dk_182 0 252 (dk_at dksX2_clash_0 15 rfl rfl)
theorem dX2_clash_18 : decode cX2_clash 18 = .ok (.istore_n 1, 1) := dk_60 (dk_at dksX2_clash_0 18 rfl rfl)
theorem dX2_clash_19 : decode cX2_clash 19 = .ok (.aload_n 0, 1) := dk_42 (dk_at dksX2_clash_0 19 rfl rfl)
theorem dX2_clash_20 : decode cX2_clash 20 = .ok (.bipush 20, 2) := dk_16 20 (dk_at dksX2_clash_0 20 rfl rfl)
theorem dX2_clash_22 : decode cX2_clash 22 = .ok (.bipush 10, 2) := dk_16 10 (dk_at dksX2_clash_0 22 rfl rfl)
theorem dX2_clash_24 : decode cX2_clash 24 = .ok (.invokevirtual 225, 3) := dk_182 0 225 (dk_at dksX2_clash_1 0 rfl rfl)
theorem dX2_clash_27 : decode cX2_clash 27 = .ok (.istore_n 2, 1) := dk_61 (dk_at dksX2_clash_1 3 rfl rfl)
theorem dX2_clash_28 : decode cX2_clash 28 = .ok (.iload_n 1, 1) := dk_27 (dk_at dksX2_clash_1 4 rfl rfl)
theorem dX2_clash_29 : decode cX2_clash 29 = .ok (.iload_n 2, 1) := dk_28 (dk_at dksX2_clash_1 5 rfl rfl)
theorem dX2_clash_30 : decode cX2_clash 30 = .ok (.if_icmp .eq 27, 3) := dk_159 0 27 (dk_at dksX2_clash_1 6 rfl rfl)
theorem dX2_clash_33 : decode cX2_clash 33 = .ok (.aload_n 0, 1) := dk_42 (dk_at dksX2_clash_1 9 rfl rfl)
theorem dX2_clash_34 : decode cX2_clash 34 = .ok (.getfield 168, 3) := dk_180 0 168 (dk_at dksX2_clash_1 10 rfl rfl)
theorem dX2_clash_37 : decode cX2_clash 37 = .ok (.getfield 249, 3) := dk_180 0 249 (dk_at dksX2_clash_1 13 rfl rfl)
theorem dX2_clash_40 : decode cX2_clash 40 = .ok (.iload_n 1, 1) := dk_27 (dk_at dksX2_clash_1 16 rfl rfl)
theorem dX2_clash_41 : decode cX2_clash 41 = .ok (.invokevirtual 271, 3) := dk_182 1 15 (dk_at dksX2_clash_1 17 rfl rfl)
theorem dX2_clash_44 : decode cX2_clash 44 = .ok (.checkcast 258, 3) := dk_192 1 2 (dk_at dksX2_clash_1 20 rfl rfl)
theorem dX2_clash_47 : decode cX2_clash 47 = .ok (.getfield 275, 3) := dk_180 1 19 (dk_at dksX2_clash_2 0 rfl rfl)
theorem dX2_clash_50 : decode cX2_clash 50 = .ok (.iload_n 2, 1) := dk_28 (dk_at dksX2_clash_2 3 rfl rfl)
theorem dX2_clash_51 : decode cX2_clash 51 = .ok (.invokestatic 228, 3) := dk_184 0 228 (dk_at dksX2_clash_2 4 rfl rfl)
theorem dX2_clash_54 : decode cX2_clash 54 = .ok (.ifCond .eq 9, 3) := dk_153 0 9 (dk_at dksX2_clash_2 7 rfl rfl)
theorem dX2_clash_57 : decode cX2_clash 57 = .ok (.aload_n 0, 1) := dk_42 (dk_at dksX2_clash_2 10 rfl rfl)
theorem dX2_clash_58 : decode cX2_clash 58 = .ok (.iconst 3, 1) := dk_6 (dk_at dksX2_clash_2 11 rfl rfl)
theorem dX2_clash_59 : decode cX2_clash 59 = .ok (.invokevirtual 154, 3) := dk_182 0 154 (dk_at dksX2_clash_2 12 rfl rfl)
theorem dX2_clash_62 : decode cX2_clash 62 = .ok (.athrow, 1) := dk_191 (dk_at dksX2_clash_2 15 rfl rfl)
theorem dX2_clash_63 : decode cX2_clash 63 = .ok (.aload_n 0, 1) := dk_42 (dk_at dksX2_clash_2 16 rfl rfl)
theorem dX2_clash_64 : decode cX2_clash 64 = .ok (.dup, 1) := dk_89 (dk_at dksX2_clash_2 17 rfl rfl)
theorem dX2_clash_65 : decode cX2_clash 65 = .ok (.getfield 132, 3) := dk_180 0 132 (dk_at dksX2_clash_2 18 rfl rfl)
theorem dX2_clash_68 : decode cX2_clash 68 = .ok (.iconst 1, 1) := dk_4 (dk_at dksX2_clash_2 21 rfl rfl)
theorem dX2_clash_69 : decode cX2_clash 69 = .ok (.iadd, 1) := dk_96 (dk_at dksX2_clash_2 22 rfl rfl)
theorem dX2_clash_70 : decode cX2_clash 70 = .ok (.putfield 132, 3) := dk_181 0 132 (dk_at dksX2_clash_3 0 rfl rfl)
theorem dX2_clash_73 : decode cX2_clash 73 = .ok (.aload_n 0, 1) := dk_42 (dk_at dksX2_clash_3 3 rfl rfl)
theorem dX2_clash_74 : decode cX2_clash 74 = .ok (.getfield 168, 3) := dk_180 0 168 (dk_at dksX2_clash_3 4 rfl rfl)
theorem dX2_clash_77 : decode cX2_clash 77 = .ok (.getfield 249, 3) := dk_180 0 249 (dk_at dksX2_clash_3 7 rfl rfl)
theorem dX2_clash_80 : decode cX2_clash 80 = .ok (.iload_n 1, 1) := dk_27 (dk_at dksX2_clash_3 10 rfl rfl)
theorem dX2_clash_81 : decode cX2_clash 81 = .ok (.invokevirtual 271, 3) := dk_182 1 15 (dk_at dksX2_clash_3 11 rfl rfl)
theorem dX2_clash_84 : decode cX2_clash 84 = .ok (.checkcast 258, 3) := dk_192 1 2 (dk_at dksX2_clash_3 14 rfl rfl)
theorem dX2_clash_87 : decode cX2_clash 87 = .ok (.dup, 1) := dk_89 (dk_at dksX2_clash_3 17 rfl rfl)
theorem dX2_clash_88 : decode cX2_clash 88 = .ok (.getfield 275, 3) := dk_180 1 19 (dk_at dksX2_clash_3 18 rfl rfl)
theorem dX2_clash_91 : decode cX2_clash 91 = .ok (.iconst 1, 1) := dk_4 (dk_at dksX2_clash_3 21 rfl rfl)
theorem dX2_clash_92 : decode cX2_clash 92 = .ok (.iload_n 2, 1) := dk_28 (dk_at dksX2_clash_3 22 rfl rfl)
theorem dX2_clash_93 : decode cX2_clash 93 = .ok (.ishl, 1) := dk_120 (dk_at dksX2_clash_3 23 rfl rfl)
theorem dX2_clash_94 : decode cX2_clash 94 = .ok (.ior, 1) := dk_128 (dk_at dksX2_clash_4 0 rfl rfl)
theorem dX2_clash_95 : decode cX2_clash 95 = .ok (.putfield 275, 3) := dk_181 1 19 (dk_at dksX2_clash_4 1 rfl rfl)
theorem dX2_clash_98 : decode cX2_clash 98 = .ok (.aload_n 0, 1) := dk_42 (dk_at dksX2_clash_4 4 rfl rfl)
theorem dX2_clash_99 : decode cX2_clash 99 = .ok (.getfield 168, 3) := dk_180 0 168 (dk_at dksX2_clash_4 5 rfl rfl)
theorem dX2_clash_102 : decode cX2_clash 102 = .ok (.getfield 249, 3) := dk_180 0 249 (dk_at dksX2_clash_4 8 rfl rfl)
theorem dX2_clash_105 : decode cX2_clash 105 = .ok (.iload_n 2, 1) := dk_28 (dk_at dksX2_clash_4 11 rfl rfl)
theorem dX2_clash_106 : decode cX2_clash 106 = .ok (.invokevirtual 271, 3) := dk_182 1 15 (dk_at dksX2_clash_4 12 rfl rfl)
theorem dX2_clash_109 : decode cX2_clash 109 = .ok (.checkcast 258, 3) := dk_192 1 2 (dk_at dksX2_clash_4 15 rfl rfl)
theorem dX2_clash_112 : decode cX2_clash 112 = .ok (.dup, 1) := dk_89 (dk_at dksX2_clash_4 18 rfl rfl)
theorem dX2_clash_113 : decode cX2_clash 113 = .ok (.getfield 275, 3) := dk_180 1 19 (dk_at dksX2_clash_4 19 rfl rfl)
theorem dX2_clash_116 : decode cX2_clash 116 = .ok (.iconst 1, 1) := dk_4 (dk_at dksX2_clash_4 22 rfl rfl)
theorem dX2_clash_117 : decode cX2_clash 117 = .ok (.iload_n 1, 1) := dk_27 (dk_at dksX2_clash_4 23 rfl rfl)
theorem dX2_clash_118 : decode cX2_clash 118 = .ok (.ishl, 1) := dk_120 (dk_at dksX2_clash_5 0 rfl rfl)
theorem dX2_clash_119 : decode cX2_clash 119 = .ok (.ior, 1) := dk_128 (dk_at dksX2_clash_5 1 rfl rfl)
theorem dX2_clash_120 : decode cX2_clash 120 = .ok (.putfield 275, 3) := dk_181 1 19 (dk_at dksX2_clash_5 2 rfl rfl)
theorem dX2_clash_123 : decode cX2_clash 123 = .ok (.aload_n 0, 1) := dk_42 (dk_at dksX2_clash_5 5 rfl rfl)
theorem dX2_clash_124 : decode cX2_clash 124 = .ok (.getfield 168, 3) := dk_180 0 168 (dk_at dksX2_clash_5 6 rfl rfl)
theorem dX2_clash_127 : decode cX2_clash 127 = .ok (.dup, 1) := dk_89 (dk_at dksX2_clash_5 9 rfl rfl)
theorem dX2_clash_128 : decode cX2_clash 128 = .ok (.getfield 278, 3) := dk_180 1 22 (dk_at dksX2_clash_5 10 rfl rfl)
theorem dX2_clash_131 : decode cX2_clash 131 = .ok (.iconst 1, 1) := dk_4 (dk_at dksX2_clash_5 13 rfl rfl)
theorem dX2_clash_132 : decode cX2_clash 132 = .ok (.iadd, 1) := dk_96 (dk_at dksX2_clash_5 14 rfl rfl)
theorem dX2_clash_133 : decode cX2_clash 133 = .ok (.putfield 278, 3) := dk_181 1 22 (dk_at dksX2_clash_5 15 rfl rfl)
theorem dX2_clash_136 : decode cX2_clash 136 = .ok (.return_, 1) := dk_177 (dk_at dksX2_clash_5 18 rfl rfl)
abbrev cX2_worth : ByteArray := prog_25_method_26_code
def yX2_worth : MethodName := ⟨RX2, "worth", "()V"⟩
def dkwX2_worth_1 : List UInt8 := [181, 0, 132, 42, 180, 0, 168, 42, 182, 1, 28, 181, 1, 25, 177]
abbrev dktX2_worth_1 : List UInt8 := dkwX2_worth_1 ++ []
def dkwX2_worth_0 : List UInt8 := [42, 180, 0, 168, 180, 1, 25, 198, 0, 9, 42, 6, 182, 0, 154, 191, 42, 89, 180, 0, 132, 4, 96]
abbrev dktX2_worth_0 : List UInt8 := dkwX2_worth_0 ++ dktX2_worth_1
theorem dksX2_worth_0 : cX2_worth.data.toList.drop 0 = dktX2_worth_0 := by decide +kernel
theorem dksX2_worth_1 : cX2_worth.data.toList.drop 23 = dktX2_worth_1 := dk_seg dksX2_worth_0 23 rfl rfl
theorem dX2_worth_0 : decode cX2_worth 0 = .ok (.aload_n 0, 1) := dk_42 (dk_at dksX2_worth_0 0 rfl rfl)
theorem dX2_worth_1 : decode cX2_worth 1 = .ok (.getfield 168, 3) := dk_180 0 168 (dk_at dksX2_worth_0 1 rfl rfl)
theorem dX2_worth_4 : decode cX2_worth 4 = .ok (.getfield 281, 3) := dk_180 1 25 (dk_at dksX2_worth_0 4 rfl rfl)
theorem dX2_worth_7 : decode cX2_worth 7 = .ok (.ifnull 9, 3) := dk_198 0 9 (dk_at dksX2_worth_0 7 rfl rfl)
theorem dX2_worth_10 : decode cX2_worth 10 = .ok (.aload_n 0, 1) := dk_42 (dk_at dksX2_worth_0 10 rfl rfl)
theorem dX2_worth_11 : decode cX2_worth 11 = .ok (.iconst 3, 1) := dk_6 (dk_at dksX2_worth_0 11 rfl rfl)
theorem dX2_worth_12 : decode cX2_worth 12 = .ok (.invokevirtual 154, 3) := dk_182 0 154 (dk_at dksX2_worth_0 12 rfl rfl)
theorem dX2_worth_15 : decode cX2_worth 15 = .ok (.athrow, 1) := dk_191 (dk_at dksX2_worth_0 15 rfl rfl)
theorem dX2_worth_16 : decode cX2_worth 16 = .ok (.aload_n 0, 1) := dk_42 (dk_at dksX2_worth_0 16 rfl rfl)
theorem dX2_worth_17 : decode cX2_worth 17 = .ok (.dup, 1) := dk_89 (dk_at dksX2_worth_0 17 rfl rfl)
theorem dX2_worth_18 : decode cX2_worth 18 = .ok (.getfield 132, 3) := dk_180 0 132 (dk_at dksX2_worth_0 18 rfl rfl)
theorem dX2_worth_21 : decode cX2_worth 21 = .ok (.iconst 1, 1) := dk_4 (dk_at dksX2_worth_0 21 rfl rfl)
theorem dX2_worth_22 : decode cX2_worth 22 = .ok (.iadd, 1) := dk_96 (dk_at dksX2_worth_0 22 rfl rfl)
theorem dX2_worth_23 : decode cX2_worth 23 = .ok (.putfield 132, 3) := dk_181 0 132 (dk_at dksX2_worth_1 0 rfl rfl)
theorem dX2_worth_26 : decode cX2_worth 26 = .ok (.aload_n 0, 1) := dk_42 (dk_at dksX2_worth_1 3 rfl rfl)
theorem dX2_worth_27 : decode cX2_worth 27 = .ok (.getfield 168, 3) := dk_180 0 168 (dk_at dksX2_worth_1 4 rfl rfl)
theorem dX2_worth_30 : decode cX2_worth 30 = .ok (.aload_n 0, 1) := dk_42 (dk_at dksX2_worth_1 7 rfl rfl)
theorem dX2_worth_31 : decode cX2_worth 31 = .ok (.invokevirtual 284, 3) := dk_182 1 28 (dk_at dksX2_worth_1 8 rfl rfl)
theorem dX2_worth_34 : decode cX2_worth 34 = .ok (.putfield 281, 3) := dk_181 1 25 (dk_at dksX2_worth_1 11 rfl rfl)
theorem dX2_worth_37 : decode cX2_worth 37 = .ok (.return_, 1) := dk_177 (dk_at dksX2_worth_1 14 rfl rfl)
abbrev cX2_whole : ByteArray := prog_25_method_31_code
def yX2_whole : MethodName := ⟨RX2, "whole", "()LPaidSecrets$Expression;"⟩
def dkwX2_whole_0 : List UInt8 := [42, 3, 181, 1, 56, 42, 182, 1, 59, 176]
abbrev dktX2_whole_0 : List UInt8 := dkwX2_whole_0 ++ []
theorem dksX2_whole_0 : cX2_whole.data.toList.drop 0 = dktX2_whole_0 := by decide +kernel
theorem dX2_whole_0 : decode cX2_whole 0 = .ok (.aload_n 0, 1) := dk_42 (dk_at dksX2_whole_0 0 rfl rfl)
theorem dX2_whole_1 : decode cX2_whole 1 = .ok (.iconst 0, 1) := dk_3 (dk_at dksX2_whole_0 1 rfl rfl)
theorem dX2_whole_2 : decode cX2_whole 2 = .ok (.putfield 312, 3) := dk_181 1 56 (dk_at dksX2_whole_0 2 rfl rfl)
theorem dX2_whole_5 : decode cX2_whole 5 = .ok (.aload_n 0, 1) := dk_42 (dk_at dksX2_whole_0 5 rfl rfl)
theorem dX2_whole_6 : decode cX2_whole 6 = .ok (.invokevirtual 315, 3) := dk_182 1 59 (dk_at dksX2_whole_0 6 rfl rfl)
theorem dX2_whole_9 : decode cX2_whole 9 = .ok (.areturn, 1) := dk_176 (dk_at dksX2_whole_0 9 rfl rfl)
abbrev cX2_all : ByteArray := prog_25_method_33_code
def yX2_all : MethodName := ⟨RX2, "all", "()LPaidSecrets$Expression;"⟩
def dkwX2_all_4 : List UInt8 := [199, 0, 7, 43, 167, 0, 4, 44, 176]
abbrev dktX2_all_4 : List UInt8 := dkwX2_all_4 ++ []
def dkwX2_all_3 : List UInt8 := [183, 1, 79, 167, 0, 12, 187, 1, 80, 89, 25, 4, 183, 1, 82, 182, 0, 211, 87, 167, 255, 176, 44]
abbrev dktX2_all_3 : List UInt8 := dkwX2_all_3 ++ dktX2_all_4
def dkwX2_all_2 : List UInt8 := [58, 4, 43, 44, 184, 1, 70, 77, 44, 180, 1, 74, 29, 153, 0, 15, 187, 1, 77, 89, 25, 4]
abbrev dktX2_all_2 : List UInt8 := dkwX2_all_2 ++ dktX2_all_3
def dkwX2_all_1 : List UInt8 := [153, 0, 68, 42, 18, 72, 182, 0, 144, 62, 42, 89, 180, 0, 132, 4, 96, 181, 0, 132, 42, 182, 1, 67]
abbrev dktX2_all_1 : List UInt8 := dkwX2_all_1 ++ dktX2_all_2
def dkwX2_all_0 : List UInt8 := [42, 182, 1, 67, 76, 1, 77, 42, 18, 72, 182, 0, 144, 154, 0, 12, 42, 18, 74, 182, 0, 144]
abbrev dktX2_all_0 : List UInt8 := dkwX2_all_0 ++ dktX2_all_1
theorem dksX2_all_0 : cX2_all.data.toList.drop 0 = dktX2_all_0 := by decide +kernel
theorem dksX2_all_1 : cX2_all.data.toList.drop 22 = dktX2_all_1 := dk_seg dksX2_all_0 22 rfl rfl
theorem dksX2_all_2 : cX2_all.data.toList.drop 46 = dktX2_all_2 := dk_seg dksX2_all_1 24 rfl rfl
theorem dksX2_all_3 : cX2_all.data.toList.drop 68 = dktX2_all_3 := dk_seg dksX2_all_2 22 rfl rfl
theorem dksX2_all_4 : cX2_all.data.toList.drop 91 = dktX2_all_4 := dk_seg dksX2_all_3 23 rfl rfl
theorem dX2_all_0 : decode cX2_all 0 = .ok (.aload_n 0, 1) := dk_42 (dk_at dksX2_all_0 0 rfl rfl)
theorem dX2_all_1 : decode cX2_all 1 = .ok (.invokevirtual 323, 3) := dk_182 1 67 (dk_at dksX2_all_0 1 rfl rfl)
theorem dX2_all_4 : decode cX2_all 4 = .ok (.astore_n 1, 1) := dk_76 (dk_at dksX2_all_0 4 rfl rfl)
theorem dX2_all_5 : decode cX2_all 5 = .ok (.aconst_null, 1) := dk_1 (dk_at dksX2_all_0 5 rfl rfl)
theorem dX2_all_6 : decode cX2_all 6 = .ok (.astore_n 2, 1) := dk_77 (dk_at dksX2_all_0 6 rfl rfl)
theorem dX2_all_7 : decode cX2_all 7 = .ok (.aload_n 0, 1) := dk_42 (dk_at dksX2_all_0 7 rfl rfl)
theorem dX2_all_8 : decode cX2_all 8 = .ok (.ldc 72, 2) := dk_18 72 (dk_at dksX2_all_0 8 rfl rfl)
theorem dX2_all_10 : decode cX2_all 10 = .ok (.invokevirtual 144, 3) := dk_182 0 144 (dk_at dksX2_all_0 10 rfl rfl)
theorem dX2_all_13 : decode cX2_all 13 = .ok (.ifCond .ne 12, 3) := dk_154 0 12 (dk_at dksX2_all_0 13 rfl rfl)
theorem dX2_all_16 : decode cX2_all 16 = .ok (.aload_n 0, 1) := dk_42 (dk_at dksX2_all_0 16 rfl rfl)
theorem dX2_all_17 : decode cX2_all 17 = .ok (.ldc 74, 2) := dk_18 74 (dk_at dksX2_all_0 17 rfl rfl)
theorem dX2_all_19 : decode cX2_all 19 = .ok (.invokevirtual 144, 3) := dk_182 0 144 (dk_at dksX2_all_0 19 rfl rfl)
theorem dX2_all_22 : decode cX2_all 22 = .ok (.ifCond .eq 68, 3) := dk_153 0 68 (dk_at dksX2_all_1 0 rfl rfl)
theorem dX2_all_25 : decode cX2_all 25 = .ok (.aload_n 0, 1) := dk_42 (dk_at dksX2_all_1 3 rfl rfl)
theorem dX2_all_26 : decode cX2_all 26 = .ok (.ldc 72, 2) := dk_18 72 (dk_at dksX2_all_1 4 rfl rfl)
theorem dX2_all_28 : decode cX2_all 28 = .ok (.invokevirtual 144, 3) := dk_182 0 144 (dk_at dksX2_all_1 6 rfl rfl)
theorem dX2_all_31 : decode cX2_all 31 = .ok (.istore_n 3, 1) := dk_62 (dk_at dksX2_all_1 9 rfl rfl)
theorem dX2_all_32 : decode cX2_all 32 = .ok (.aload_n 0, 1) := dk_42 (dk_at dksX2_all_1 10 rfl rfl)
theorem dX2_all_33 : decode cX2_all 33 = .ok (.dup, 1) := dk_89 (dk_at dksX2_all_1 11 rfl rfl)
theorem dX2_all_34 : decode cX2_all 34 = .ok (.getfield 132, 3) := dk_180 0 132 (dk_at dksX2_all_1 12 rfl rfl)
theorem dX2_all_37 : decode cX2_all 37 = .ok (.iconst 1, 1) := dk_4 (dk_at dksX2_all_1 15 rfl rfl)
theorem dX2_all_38 : decode cX2_all 38 = .ok (.iadd, 1) := dk_96 (dk_at dksX2_all_1 16 rfl rfl)
theorem dX2_all_39 : decode cX2_all 39 = .ok (.putfield 132, 3) := dk_181 0 132 (dk_at dksX2_all_1 17 rfl rfl)
theorem dX2_all_42 : decode cX2_all 42 = .ok (.aload_n 0, 1) := dk_42 (dk_at dksX2_all_1 20 rfl rfl)
theorem dX2_all_43 : decode cX2_all 43 = .ok (.invokevirtual 323, 3) := dk_182 1 67 (dk_at dksX2_all_1 21 rfl rfl)
theorem dX2_all_46 : decode cX2_all 46 = .ok (.astore 4, 2) := dk_58 4 (dk_at dksX2_all_2 0 rfl rfl)
theorem dX2_all_48 : decode cX2_all 48 = .ok (.aload_n 1, 1) := dk_43 (dk_at dksX2_all_2 2 rfl rfl)
theorem dX2_all_49 : decode cX2_all 49 = .ok (.aload_n 2, 1) := dk_44 (dk_at dksX2_all_2 3 rfl rfl)
theorem dX2_all_50 : decode cX2_all 50 = .ok (.invokestatic 326, 3) := dk_184 1 70 (dk_at dksX2_all_2 4 rfl rfl)
theorem dX2_all_53 : decode cX2_all 53 = .ok (.astore_n 2, 1) := dk_77 (dk_at dksX2_all_2 7 rfl rfl)
theorem dX2_all_54 : decode cX2_all 54 = .ok (.aload_n 2, 1) := dk_44 (dk_at dksX2_all_2 8 rfl rfl)
theorem dX2_all_55 : decode cX2_all 55 = .ok (.getfield 330, 3) := dk_180 1 74 (dk_at dksX2_all_2 9 rfl rfl)
theorem dX2_all_58 : decode cX2_all 58 = .ok (.iload_n 3, 1) := dk_29 (dk_at dksX2_all_2 12 rfl rfl)
theorem dX2_all_59 : decode cX2_all 59 = .ok (.ifCond .eq 15, 3) := dk_153 0 15 (dk_at dksX2_all_2 13 rfl rfl)
theorem dX2_all_62 : decode cX2_all 62 = .ok (.new 333, 3) := dk_187 1 77 (dk_at dksX2_all_2 16 rfl rfl)
theorem dX2_all_65 : decode cX2_all 65 = .ok (.dup, 1) := dk_89 (dk_at dksX2_all_2 19 rfl rfl)
theorem dX2_all_66 : decode cX2_all 66 = .ok (.aload 4, 2) := dk_25 4 (dk_at dksX2_all_2 20 rfl rfl)
theorem dX2_all_68 : decode cX2_all 68 = .ok (.invokespecial 335, 3) := dk_183 1 79 (dk_at dksX2_all_3 0 rfl rfl)
theorem dX2_all_71 : decode cX2_all 71 = .ok (.goto 12, 3) := dk_167 0 12 (dk_at dksX2_all_3 3 rfl rfl)
theorem dX2_all_74 : decode cX2_all 74 = .ok (.new 336, 3) := dk_187 1 80 (dk_at dksX2_all_3 6 rfl rfl)
theorem dX2_all_77 : decode cX2_all 77 = .ok (.dup, 1) := dk_89 (dk_at dksX2_all_3 9 rfl rfl)
theorem dX2_all_78 : decode cX2_all 78 = .ok (.aload 4, 2) := dk_25 4 (dk_at dksX2_all_3 10 rfl rfl)
theorem dX2_all_80 : decode cX2_all 80 = .ok (.invokespecial 338, 3) := dk_183 1 82 (dk_at dksX2_all_3 12 rfl rfl)
theorem dX2_all_83 : decode cX2_all 83 = .ok (.invokevirtual 211, 3) := dk_182 0 211 (dk_at dksX2_all_3 15 rfl rfl)
theorem dX2_all_86 : decode cX2_all 86 = .ok (.pop, 1) := dk_87 (dk_at dksX2_all_3 18 rfl rfl)
theorem dX2_all_87 : decode cX2_all 87 = .ok (.goto (-80), 3) := dk_167 255 176 (dk_at dksX2_all_3 19 rfl rfl)
theorem dX2_all_90 : decode cX2_all 90 = .ok (.aload_n 2, 1) := dk_44 (dk_at dksX2_all_3 22 rfl rfl)
theorem dX2_all_91 : decode cX2_all 91 = .ok (.ifnonnull 7, 3) := dk_199 0 7 (dk_at dksX2_all_4 0 rfl rfl)
theorem dX2_all_94 : decode cX2_all 94 = .ok (.aload_n 1, 1) := dk_43 (dk_at dksX2_all_4 3 rfl rfl)
theorem dX2_all_95 : decode cX2_all 95 = .ok (.goto 4, 3) := dk_167 0 4 (dk_at dksX2_all_4 4 rfl rfl)
theorem dX2_all_98 : decode cX2_all 98 = .ok (.aload_n 2, 1) := dk_44 (dk_at dksX2_all_4 7 rfl rfl)
theorem dX2_all_99 : decode cX2_all 99 = .ok (.areturn, 1) := dk_176 (dk_at dksX2_all_4 8 rfl rfl)
abbrev cX2_test : ByteArray := prog_25_method_34_code
def yX2_test : MethodName := ⟨RX2, "test", "()LPaidSecrets$Expression;"⟩
def dkwX2_test_3 : List UInt8 := [183, 1, 88, 167, 0, 11, 187, 1, 89, 89, 45, 183, 1, 91, 182, 0, 211, 87, 25, 4, 176]
abbrev dktX2_test_3 : List UInt8 := dkwX2_test_3 ++ []
def dkwX2_test_2 : List UInt8 := [187, 1, 62, 89, 43, 183, 1, 64, 58, 4, 25, 4, 180, 1, 74, 28, 153, 0, 14, 187, 1, 86, 89, 45]
abbrev dktX2_test_2 : List UInt8 := dkwX2_test_2 ++ dktX2_test_3
def dkwX2_test_1 : List UInt8 := [176, 42, 16, 60, 182, 0, 148, 61, 42, 89, 180, 0, 132, 4, 96, 181, 0, 132, 42, 182, 1, 83, 78]
abbrev dktX2_test_1 : List UInt8 := dkwX2_test_1 ++ dktX2_test_2
def dkwX2_test_0 : List UInt8 := [42, 182, 1, 83, 76, 42, 16, 60, 182, 0, 148, 154, 0, 14, 42, 16, 61, 182, 0, 148, 154, 0, 5, 43]
abbrev dktX2_test_0 : List UInt8 := dkwX2_test_0 ++ dktX2_test_1
theorem dksX2_test_0 : cX2_test.data.toList.drop 0 = dktX2_test_0 := by decide +kernel
theorem dksX2_test_1 : cX2_test.data.toList.drop 24 = dktX2_test_1 := dk_seg dksX2_test_0 24 rfl rfl
theorem dksX2_test_2 : cX2_test.data.toList.drop 47 = dktX2_test_2 := dk_seg dksX2_test_1 23 rfl rfl
theorem dksX2_test_3 : cX2_test.data.toList.drop 71 = dktX2_test_3 := dk_seg dksX2_test_2 24 rfl rfl
theorem dX2_test_0 : decode cX2_test 0 = .ok (.aload_n 0, 1) := dk_42 (dk_at dksX2_test_0 0 rfl rfl)
theorem dX2_test_1 : decode cX2_test 1 = .ok (.invokevirtual 339, 3) := dk_182 1 83 (dk_at dksX2_test_0 1 rfl rfl)
theorem dX2_test_4 : decode cX2_test 4 = .ok (.astore_n 1, 1) := dk_76 (dk_at dksX2_test_0 4 rfl rfl)
theorem dX2_test_5 : decode cX2_test 5 = .ok (.aload_n 0, 1) := dk_42 (dk_at dksX2_test_0 5 rfl rfl)
theorem dX2_test_6 : decode cX2_test 6 = .ok (.bipush 60, 2) := dk_16 60 (dk_at dksX2_test_0 6 rfl rfl)
theorem dX2_test_8 : decode cX2_test 8 = .ok (.invokevirtual 148, 3) := dk_182 0 148 (dk_at dksX2_test_0 8 rfl rfl)
theorem dX2_test_11 : decode cX2_test 11 = .ok (.ifCond .ne 14, 3) := dk_154 0 14 (dk_at dksX2_test_0 11 rfl rfl)
theorem dX2_test_14 : decode cX2_test 14 = .ok (.aload_n 0, 1) := dk_42 (dk_at dksX2_test_0 14 rfl rfl)
theorem dX2_test_15 : decode cX2_test 15 = .ok (.bipush 61, 2) := dk_16 61 (dk_at dksX2_test_0 15 rfl rfl)
theorem dX2_test_17 : decode cX2_test 17 = .ok (.invokevirtual 148, 3) := dk_182 0 148 (dk_at dksX2_test_0 17 rfl rfl)
theorem dX2_test_20 : decode cX2_test 20 = .ok (.ifCond .ne 5, 3) := dk_154 0 5 (dk_at dksX2_test_0 20 rfl rfl)
theorem dX2_test_23 : decode cX2_test 23 = .ok (.aload_n 1, 1) := dk_43 (dk_at dksX2_test_0 23 rfl rfl)
theorem dX2_test_24 : decode cX2_test 24 = .ok (.areturn, 1) := dk_176 (dk_at dksX2_test_1 0 rfl rfl)
theorem dX2_test_25 : decode cX2_test 25 = .ok (.aload_n 0, 1) := dk_42 (dk_at dksX2_test_1 1 rfl rfl)
theorem dX2_test_26 : decode cX2_test 26 = .ok (.bipush 60, 2) := dk_16 60 (dk_at dksX2_test_1 2 rfl rfl)
theorem dX2_test_28 : decode cX2_test 28 = .ok (.invokevirtual 148, 3) := dk_182 0 148 (dk_at dksX2_test_1 4 rfl rfl)
theorem dX2_test_31 : decode cX2_test 31 = .ok (.istore_n 2, 1) := dk_61 (dk_at dksX2_test_1 7 rfl rfl)
theorem dX2_test_32 : decode cX2_test 32 = .ok (.aload_n 0, 1) := dk_42 (dk_at dksX2_test_1 8 rfl rfl)
theorem dX2_test_33 : decode cX2_test 33 = .ok (.dup, 1) := dk_89 (dk_at dksX2_test_1 9 rfl rfl)
theorem dX2_test_34 : decode cX2_test 34 = .ok (.getfield 132, 3) := dk_180 0 132 (dk_at dksX2_test_1 10 rfl rfl)
theorem dX2_test_37 : decode cX2_test 37 = .ok (.iconst 1, 1) := dk_4 (dk_at dksX2_test_1 13 rfl rfl)
theorem dX2_test_38 : decode cX2_test 38 = .ok (.iadd, 1) := dk_96 (dk_at dksX2_test_1 14 rfl rfl)
theorem dX2_test_39 : decode cX2_test 39 = .ok (.putfield 132, 3) := dk_181 0 132 (dk_at dksX2_test_1 15 rfl rfl)
theorem dX2_test_42 : decode cX2_test 42 = .ok (.aload_n 0, 1) := dk_42 (dk_at dksX2_test_1 18 rfl rfl)
theorem dX2_test_43 : decode cX2_test 43 = .ok (.invokevirtual 339, 3) := dk_182 1 83 (dk_at dksX2_test_1 19 rfl rfl)
theorem dX2_test_46 : decode cX2_test 46 = .ok (.astore_n 3, 1) := dk_78 (dk_at dksX2_test_1 22 rfl rfl)
theorem dX2_test_47 : decode cX2_test 47 = .ok (.new 318, 3) := dk_187 1 62 (dk_at dksX2_test_2 0 rfl rfl)
theorem dX2_test_50 : decode cX2_test 50 = .ok (.dup, 1) := dk_89 (dk_at dksX2_test_2 3 rfl rfl)
theorem dX2_test_51 : decode cX2_test 51 = .ok (.aload_n 1, 1) := dk_43 (dk_at dksX2_test_2 4 rfl rfl)
theorem dX2_test_52 : decode cX2_test 52 = .ok (.invokespecial 320, 3) := dk_183 1 64 (dk_at dksX2_test_2 5 rfl rfl)
theorem dX2_test_55 : decode cX2_test 55 = .ok (.astore 4, 2) := dk_58 4 (dk_at dksX2_test_2 8 rfl rfl)
theorem dX2_test_57 : decode cX2_test 57 = .ok (.aload 4, 2) := dk_25 4 (dk_at dksX2_test_2 10 rfl rfl)
theorem dX2_test_59 : decode cX2_test 59 = .ok (.getfield 330, 3) := dk_180 1 74 (dk_at dksX2_test_2 12 rfl rfl)
theorem dX2_test_62 : decode cX2_test 62 = .ok (.iload_n 2, 1) := dk_28 (dk_at dksX2_test_2 15 rfl rfl)
theorem dX2_test_63 : decode cX2_test 63 = .ok (.ifCond .eq 14, 3) := dk_153 0 14 (dk_at dksX2_test_2 16 rfl rfl)
theorem dX2_test_66 : decode cX2_test 66 = .ok (.new 342, 3) := dk_187 1 86 (dk_at dksX2_test_2 19 rfl rfl)
theorem dX2_test_69 : decode cX2_test 69 = .ok (.dup, 1) := dk_89 (dk_at dksX2_test_2 22 rfl rfl)
theorem dX2_test_70 : decode cX2_test 70 = .ok (.aload_n 3, 1) := dk_45 (dk_at dksX2_test_2 23 rfl rfl)
theorem dX2_test_71 : decode cX2_test 71 = .ok (.invokespecial 344, 3) := dk_183 1 88 (dk_at dksX2_test_3 0 rfl rfl)
theorem dX2_test_74 : decode cX2_test 74 = .ok (.goto 11, 3) := dk_167 0 11 (dk_at dksX2_test_3 3 rfl rfl)
theorem dX2_test_77 : decode cX2_test 77 = .ok (.new 345, 3) := dk_187 1 89 (dk_at dksX2_test_3 6 rfl rfl)
theorem dX2_test_80 : decode cX2_test 80 = .ok (.dup, 1) := dk_89 (dk_at dksX2_test_3 9 rfl rfl)
theorem dX2_test_81 : decode cX2_test 81 = .ok (.aload_n 3, 1) := dk_45 (dk_at dksX2_test_3 10 rfl rfl)
theorem dX2_test_82 : decode cX2_test 82 = .ok (.invokespecial 347, 3) := dk_183 1 91 (dk_at dksX2_test_3 11 rfl rfl)
theorem dX2_test_85 : decode cX2_test 85 = .ok (.invokevirtual 211, 3) := dk_182 0 211 (dk_at dksX2_test_3 14 rfl rfl)
theorem dX2_test_88 : decode cX2_test 88 = .ok (.pop, 1) := dk_87 (dk_at dksX2_test_3 17 rfl rfl)
theorem dX2_test_89 : decode cX2_test 89 = .ok (.aload 4, 2) := dk_25 4 (dk_at dksX2_test_3 18 rfl rfl)
theorem dX2_test_91 : decode cX2_test 91 = .ok (.areturn, 1) := dk_176 (dk_at dksX2_test_3 20 rfl rfl)
abbrev cX2_sum : ByteArray := prog_25_method_35_code
def yX2_sum : MethodName := ⟨RX2, "sum", "()LPaidSecrets$Expression;"⟩
def dkwX2_sum_4 : List UInt8 := [199, 0, 7, 43, 167, 0, 4, 44, 176]
abbrev dktX2_sum_4 : List UInt8 := dkwX2_sum_4 ++ []
def dkwX2_sum_3 : List UInt8 := [183, 1, 97, 167, 0, 12, 187, 1, 98, 89, 25, 4, 183, 1, 100, 182, 0, 211, 87, 167, 255, 176, 44]
abbrev dktX2_sum_3 : List UInt8 := dkwX2_sum_3 ++ dktX2_sum_4
def dkwX2_sum_2 : List UInt8 := [58, 4, 43, 44, 184, 1, 70, 77, 44, 180, 1, 74, 29, 153, 0, 15, 187, 1, 95, 89, 25, 4]
abbrev dktX2_sum_2 : List UInt8 := dkwX2_sum_2 ++ dktX2_sum_3
def dkwX2_sum_1 : List UInt8 := [153, 0, 68, 42, 16, 43, 182, 0, 148, 62, 42, 89, 180, 0, 132, 4, 96, 181, 0, 132, 42, 182, 1, 92]
abbrev dktX2_sum_1 : List UInt8 := dkwX2_sum_1 ++ dktX2_sum_2
def dkwX2_sum_0 : List UInt8 := [42, 182, 1, 92, 76, 1, 77, 42, 16, 43, 182, 0, 148, 154, 0, 12, 42, 16, 45, 182, 0, 148]
abbrev dktX2_sum_0 : List UInt8 := dkwX2_sum_0 ++ dktX2_sum_1
theorem dksX2_sum_0 : cX2_sum.data.toList.drop 0 = dktX2_sum_0 := by decide +kernel
theorem dksX2_sum_1 : cX2_sum.data.toList.drop 22 = dktX2_sum_1 := dk_seg dksX2_sum_0 22 rfl rfl
theorem dksX2_sum_2 : cX2_sum.data.toList.drop 46 = dktX2_sum_2 := dk_seg dksX2_sum_1 24 rfl rfl
theorem dksX2_sum_3 : cX2_sum.data.toList.drop 68 = dktX2_sum_3 := dk_seg dksX2_sum_2 22 rfl rfl
theorem dksX2_sum_4 : cX2_sum.data.toList.drop 91 = dktX2_sum_4 := dk_seg dksX2_sum_3 23 rfl rfl
theorem dX2_sum_0 : decode cX2_sum 0 = .ok (.aload_n 0, 1) := dk_42 (dk_at dksX2_sum_0 0 rfl rfl)
theorem dX2_sum_1 : decode cX2_sum 1 = .ok (.invokevirtual 348, 3) := dk_182 1 92 (dk_at dksX2_sum_0 1 rfl rfl)
theorem dX2_sum_4 : decode cX2_sum 4 = .ok (.astore_n 1, 1) := dk_76 (dk_at dksX2_sum_0 4 rfl rfl)
theorem dX2_sum_5 : decode cX2_sum 5 = .ok (.aconst_null, 1) := dk_1 (dk_at dksX2_sum_0 5 rfl rfl)
theorem dX2_sum_6 : decode cX2_sum 6 = .ok (.astore_n 2, 1) := dk_77 (dk_at dksX2_sum_0 6 rfl rfl)
theorem dX2_sum_7 : decode cX2_sum 7 = .ok (.aload_n 0, 1) := dk_42 (dk_at dksX2_sum_0 7 rfl rfl)
theorem dX2_sum_8 : decode cX2_sum 8 = .ok (.bipush 43, 2) := dk_16 43 (dk_at dksX2_sum_0 8 rfl rfl)
theorem dX2_sum_10 : decode cX2_sum 10 = .ok (.invokevirtual 148, 3) := dk_182 0 148 (dk_at dksX2_sum_0 10 rfl rfl)
theorem dX2_sum_13 : decode cX2_sum 13 = .ok (.ifCond .ne 12, 3) := dk_154 0 12 (dk_at dksX2_sum_0 13 rfl rfl)
theorem dX2_sum_16 : decode cX2_sum 16 = .ok (.aload_n 0, 1) := dk_42 (dk_at dksX2_sum_0 16 rfl rfl)
theorem dX2_sum_17 : decode cX2_sum 17 = .ok (.bipush 45, 2) := dk_16 45 (dk_at dksX2_sum_0 17 rfl rfl)
theorem dX2_sum_19 : decode cX2_sum 19 = .ok (.invokevirtual 148, 3) := dk_182 0 148 (dk_at dksX2_sum_0 19 rfl rfl)
theorem dX2_sum_22 : decode cX2_sum 22 = .ok (.ifCond .eq 68, 3) := dk_153 0 68 (dk_at dksX2_sum_1 0 rfl rfl)
theorem dX2_sum_25 : decode cX2_sum 25 = .ok (.aload_n 0, 1) := dk_42 (dk_at dksX2_sum_1 3 rfl rfl)
theorem dX2_sum_26 : decode cX2_sum 26 = .ok (.bipush 43, 2) := dk_16 43 (dk_at dksX2_sum_1 4 rfl rfl)
theorem dX2_sum_28 : decode cX2_sum 28 = .ok (.invokevirtual 148, 3) := dk_182 0 148 (dk_at dksX2_sum_1 6 rfl rfl)
theorem dX2_sum_31 : decode cX2_sum 31 = .ok (.istore_n 3, 1) := dk_62 (dk_at dksX2_sum_1 9 rfl rfl)
theorem dX2_sum_32 : decode cX2_sum 32 = .ok (.aload_n 0, 1) := dk_42 (dk_at dksX2_sum_1 10 rfl rfl)
theorem dX2_sum_33 : decode cX2_sum 33 = .ok (.dup, 1) := dk_89 (dk_at dksX2_sum_1 11 rfl rfl)
theorem dX2_sum_34 : decode cX2_sum 34 = .ok (.getfield 132, 3) := dk_180 0 132 (dk_at dksX2_sum_1 12 rfl rfl)
theorem dX2_sum_37 : decode cX2_sum 37 = .ok (.iconst 1, 1) := dk_4 (dk_at dksX2_sum_1 15 rfl rfl)
theorem dX2_sum_38 : decode cX2_sum 38 = .ok (.iadd, 1) := dk_96 (dk_at dksX2_sum_1 16 rfl rfl)
theorem dX2_sum_39 : decode cX2_sum 39 = .ok (.putfield 132, 3) := dk_181 0 132 (dk_at dksX2_sum_1 17 rfl rfl)
theorem dX2_sum_42 : decode cX2_sum 42 = .ok (.aload_n 0, 1) := dk_42 (dk_at dksX2_sum_1 20 rfl rfl)
theorem dX2_sum_43 : decode cX2_sum 43 = .ok (.invokevirtual 348, 3) := dk_182 1 92 (dk_at dksX2_sum_1 21 rfl rfl)
theorem dX2_sum_46 : decode cX2_sum 46 = .ok (.astore 4, 2) := dk_58 4 (dk_at dksX2_sum_2 0 rfl rfl)
theorem dX2_sum_48 : decode cX2_sum 48 = .ok (.aload_n 1, 1) := dk_43 (dk_at dksX2_sum_2 2 rfl rfl)
theorem dX2_sum_49 : decode cX2_sum 49 = .ok (.aload_n 2, 1) := dk_44 (dk_at dksX2_sum_2 3 rfl rfl)
theorem dX2_sum_50 : decode cX2_sum 50 = .ok (.invokestatic 326, 3) := dk_184 1 70 (dk_at dksX2_sum_2 4 rfl rfl)
theorem dX2_sum_53 : decode cX2_sum 53 = .ok (.astore_n 2, 1) := dk_77 (dk_at dksX2_sum_2 7 rfl rfl)
theorem dX2_sum_54 : decode cX2_sum 54 = .ok (.aload_n 2, 1) := dk_44 (dk_at dksX2_sum_2 8 rfl rfl)
theorem dX2_sum_55 : decode cX2_sum 55 = .ok (.getfield 330, 3) := dk_180 1 74 (dk_at dksX2_sum_2 9 rfl rfl)
theorem dX2_sum_58 : decode cX2_sum 58 = .ok (.iload_n 3, 1) := dk_29 (dk_at dksX2_sum_2 12 rfl rfl)
theorem dX2_sum_59 : decode cX2_sum 59 = .ok (.ifCond .eq 15, 3) := dk_153 0 15 (dk_at dksX2_sum_2 13 rfl rfl)
theorem dX2_sum_62 : decode cX2_sum 62 = .ok (.new 351, 3) := dk_187 1 95 (dk_at dksX2_sum_2 16 rfl rfl)
theorem dX2_sum_65 : decode cX2_sum 65 = .ok (.dup, 1) := dk_89 (dk_at dksX2_sum_2 19 rfl rfl)
theorem dX2_sum_66 : decode cX2_sum 66 = .ok (.aload 4, 2) := dk_25 4 (dk_at dksX2_sum_2 20 rfl rfl)
theorem dX2_sum_68 : decode cX2_sum 68 = .ok (.invokespecial 353, 3) := dk_183 1 97 (dk_at dksX2_sum_3 0 rfl rfl)
theorem dX2_sum_71 : decode cX2_sum 71 = .ok (.goto 12, 3) := dk_167 0 12 (dk_at dksX2_sum_3 3 rfl rfl)
theorem dX2_sum_74 : decode cX2_sum 74 = .ok (.new 354, 3) := dk_187 1 98 (dk_at dksX2_sum_3 6 rfl rfl)
theorem dX2_sum_77 : decode cX2_sum 77 = .ok (.dup, 1) := dk_89 (dk_at dksX2_sum_3 9 rfl rfl)
theorem dX2_sum_78 : decode cX2_sum 78 = .ok (.aload 4, 2) := dk_25 4 (dk_at dksX2_sum_3 10 rfl rfl)
theorem dX2_sum_80 : decode cX2_sum 80 = .ok (.invokespecial 356, 3) := dk_183 1 100 (dk_at dksX2_sum_3 12 rfl rfl)
theorem dX2_sum_83 : decode cX2_sum 83 = .ok (.invokevirtual 211, 3) := dk_182 0 211 (dk_at dksX2_sum_3 15 rfl rfl)
theorem dX2_sum_86 : decode cX2_sum 86 = .ok (.pop, 1) := dk_87 (dk_at dksX2_sum_3 18 rfl rfl)
theorem dX2_sum_87 : decode cX2_sum 87 = .ok (.goto (-80), 3) := dk_167 255 176 (dk_at dksX2_sum_3 19 rfl rfl)
theorem dX2_sum_90 : decode cX2_sum 90 = .ok (.aload_n 2, 1) := dk_44 (dk_at dksX2_sum_3 22 rfl rfl)
theorem dX2_sum_91 : decode cX2_sum 91 = .ok (.ifnonnull 7, 3) := dk_199 0 7 (dk_at dksX2_sum_4 0 rfl rfl)
theorem dX2_sum_94 : decode cX2_sum 94 = .ok (.aload_n 1, 1) := dk_43 (dk_at dksX2_sum_4 3 rfl rfl)
theorem dX2_sum_95 : decode cX2_sum 95 = .ok (.goto 4, 3) := dk_167 0 4 (dk_at dksX2_sum_4 4 rfl rfl)
theorem dX2_sum_98 : decode cX2_sum 98 = .ok (.aload_n 2, 1) := dk_44 (dk_at dksX2_sum_4 7 rfl rfl)
theorem dX2_sum_99 : decode cX2_sum 99 = .ok (.areturn, 1) := dk_176 (dk_at dksX2_sum_4 8 rfl rfl)
abbrev cX2_term : ByteArray := prog_25_method_36_code
def yX2_term : MethodName := ⟨RX2, "term", "()LPaidSecrets$Expression;"⟩
def dkwX2_term_2 : List UInt8 := [199, 0, 7, 43, 167, 0, 4, 44, 176]
abbrev dktX2_term_2 : List UInt8 := dkwX2_term_2 ++ []
def dkwX2_term_1 : List UInt8 := [184, 1, 70, 77, 44, 180, 1, 74, 187, 1, 104, 89, 45, 183, 1, 106, 182, 0, 211, 87, 167, 255, 220, 44]
abbrev dktX2_term_1 : List UInt8 := dkwX2_term_1 ++ dktX2_term_2
def dkwX2_term_0 : List UInt8 := [42, 182, 1, 101, 76, 1, 77, 42, 16, 42, 182, 0, 151, 153, 0, 33, 42, 182, 1, 101, 78, 43, 44]
abbrev dktX2_term_0 : List UInt8 := dkwX2_term_0 ++ dktX2_term_1
theorem dksX2_term_0 : cX2_term.data.toList.drop 0 = dktX2_term_0 := by decide +kernel
theorem dksX2_term_1 : cX2_term.data.toList.drop 23 = dktX2_term_1 := dk_seg dksX2_term_0 23 rfl rfl
theorem dksX2_term_2 : cX2_term.data.toList.drop 47 = dktX2_term_2 := dk_seg dksX2_term_1 24 rfl rfl
theorem dX2_term_0 : decode cX2_term 0 = .ok (.aload_n 0, 1) := dk_42 (dk_at dksX2_term_0 0 rfl rfl)
theorem dX2_term_1 : decode cX2_term 1 = .ok (.invokevirtual 357, 3) := dk_182 1 101 (dk_at dksX2_term_0 1 rfl rfl)
theorem dX2_term_4 : decode cX2_term 4 = .ok (.astore_n 1, 1) := dk_76 (dk_at dksX2_term_0 4 rfl rfl)
theorem dX2_term_5 : decode cX2_term 5 = .ok (.aconst_null, 1) := dk_1 (dk_at dksX2_term_0 5 rfl rfl)
theorem dX2_term_6 : decode cX2_term 6 = .ok (.astore_n 2, 1) := dk_77 (dk_at dksX2_term_0 6 rfl rfl)
theorem dX2_term_7 : decode cX2_term 7 = .ok (.aload_n 0, 1) := dk_42 (dk_at dksX2_term_0 7 rfl rfl)
theorem dX2_term_8 : decode cX2_term 8 = .ok (.bipush 42, 2) := dk_16 42 (dk_at dksX2_term_0 8 rfl rfl)
theorem dX2_term_10 : decode cX2_term 10 = .ok (.invokevirtual 151, 3) := dk_182 0 151 (dk_at dksX2_term_0 10 rfl rfl)
theorem dX2_term_13 : decode cX2_term 13 = .ok (.ifCond .eq 33, 3) := dk_153 0 33 (dk_at dksX2_term_0 13 rfl rfl)
theorem dX2_term_16 : decode cX2_term 16 = .ok (.aload_n 0, 1) := dk_42 (dk_at dksX2_term_0 16 rfl rfl)
theorem dX2_term_17 : decode cX2_term 17 = .ok (.invokevirtual 357, 3) := dk_182 1 101 (dk_at dksX2_term_0 17 rfl rfl)
theorem dX2_term_20 : decode cX2_term 20 = .ok (.astore_n 3, 1) := dk_78 (dk_at dksX2_term_0 20 rfl rfl)
theorem dX2_term_21 : decode cX2_term 21 = .ok (.aload_n 1, 1) := dk_43 (dk_at dksX2_term_0 21 rfl rfl)
theorem dX2_term_22 : decode cX2_term 22 = .ok (.aload_n 2, 1) := dk_44 (dk_at dksX2_term_0 22 rfl rfl)
theorem dX2_term_23 : decode cX2_term 23 = .ok (.invokestatic 326, 3) := dk_184 1 70 (dk_at dksX2_term_1 0 rfl rfl)
theorem dX2_term_26 : decode cX2_term 26 = .ok (.astore_n 2, 1) := dk_77 (dk_at dksX2_term_1 3 rfl rfl)
theorem dX2_term_27 : decode cX2_term 27 = .ok (.aload_n 2, 1) := dk_44 (dk_at dksX2_term_1 4 rfl rfl)
theorem dX2_term_28 : decode cX2_term 28 = .ok (.getfield 330, 3) := dk_180 1 74 (dk_at dksX2_term_1 5 rfl rfl)
theorem dX2_term_31 : decode cX2_term 31 = .ok (.new 360, 3) := dk_187 1 104 (dk_at dksX2_term_1 8 rfl rfl)
theorem dX2_term_34 : decode cX2_term 34 = .ok (.dup, 1) := dk_89 (dk_at dksX2_term_1 11 rfl rfl)
theorem dX2_term_35 : decode cX2_term 35 = .ok (.aload_n 3, 1) := dk_45 (dk_at dksX2_term_1 12 rfl rfl)
theorem dX2_term_36 : decode cX2_term 36 = .ok (.invokespecial 362, 3) := dk_183 1 106 (dk_at dksX2_term_1 13 rfl rfl)
theorem dX2_term_39 : decode cX2_term 39 = .ok (.invokevirtual 211, 3) := dk_182 0 211 (dk_at dksX2_term_1 16 rfl rfl)
theorem dX2_term_42 : decode cX2_term 42 = .ok (.pop, 1) := dk_87 (dk_at dksX2_term_1 19 rfl rfl)
theorem dX2_term_43 : decode cX2_term 43 = .ok (.goto (-36), 3) := dk_167 255 220 (dk_at dksX2_term_1 20 rfl rfl)
theorem dX2_term_46 : decode cX2_term 46 = .ok (.aload_n 2, 1) := dk_44 (dk_at dksX2_term_1 23 rfl rfl)
theorem dX2_term_47 : decode cX2_term 47 = .ok (.ifnonnull 7, 3) := dk_199 0 7 (dk_at dksX2_term_2 0 rfl rfl)
theorem dX2_term_50 : decode cX2_term 50 = .ok (.aload_n 1, 1) := dk_43 (dk_at dksX2_term_2 3 rfl rfl)
theorem dX2_term_51 : decode cX2_term 51 = .ok (.goto 4, 3) := dk_167 0 4 (dk_at dksX2_term_2 4 rfl rfl)
theorem dX2_term_54 : decode cX2_term 54 = .ok (.aload_n 2, 1) := dk_44 (dk_at dksX2_term_2 7 rfl rfl)
theorem dX2_term_55 : decode cX2_term 55 = .ok (.areturn, 1) := dk_176 (dk_at dksX2_term_2 8 rfl rfl)
abbrev cX2_part : ByteArray := prog_25_method_37_code
def yX2_part : MethodName := ⟨RX2, "part", "()LPaidSecrets$Expression;"⟩
def dkwX2_part_8 : List UInt8 := [45, 176]
abbrev dktX2_part_8 : List UInt8 := dkwX2_part_8 ++ []
def dkwX2_part_7 : List UInt8 := [182, 1, 59, 78, 28, 154, 0, 9, 42, 16, 41, 182, 0, 182, 42, 89, 180, 1, 56, 4, 100, 181, 1, 56]
abbrev dktX2_part_7 : List UInt8 := dkwX2_part_7 ++ dktX2_part_8
def dkwX2_part_6 : List UInt8 := [181, 1, 56, 28, 153, 0, 17, 187, 1, 113, 89, 42, 182, 1, 101, 183, 1, 115, 167, 0, 7, 42]
abbrev dktX2_part_6 : List UInt8 := dkwX2_part_6 ++ dktX2_part_7
def dkwX2_part_5 : List UInt8 := [180, 0, 86, 42, 180, 0, 132, 4, 100, 47, 136, 183, 1, 112, 176, 42, 89, 180, 1, 56, 4, 96]
abbrev dktX2_part_5 : List UInt8 := dkwX2_part_5 ++ dktX2_part_6
def dkwX2_part_4 : List UInt8 := [154, 0, 38, 42, 180, 0, 83, 42, 180, 0, 132, 4, 100, 46, 5, 160, 0, 23, 187, 1, 110, 89, 42]
abbrev dktX2_part_4 : List UInt8 := dkwX2_part_4 ++ dktX2_part_5
def dkwX2_part_3 : List UInt8 := [89, 180, 0, 132, 4, 96, 181, 0, 132, 27, 2, 159, 0, 12, 187, 1, 107, 89, 27, 183, 1, 109, 176, 28]
abbrev dktX2_part_3 : List UInt8 := dkwX2_part_3 ++ dktX2_part_4
def dkwX2_part_2 : List UInt8 := [154, 0, 9, 42, 4, 182, 0, 154, 191, 42, 180, 1, 56, 8, 160, 0, 9, 42, 8, 182, 0, 154, 191, 42]
abbrev dktX2_part_2 : List UInt8 := dkwX2_part_2 ++ dktX2_part_3
def dkwX2_part_1 : List UInt8 := [154, 0, 31, 42, 180, 0, 83, 42, 180, 0, 132, 46, 5, 159, 0, 18, 42, 16, 40, 182, 0, 148]
abbrev dktX2_part_1 : List UInt8 := dkwX2_part_1 ++ dktX2_part_2
def dkwX2_part_0 : List UInt8 := [42, 42, 180, 0, 19, 182, 0, 158, 60, 42, 18, 70, 182, 0, 144, 61, 27, 2, 160, 0, 35, 28]
abbrev dktX2_part_0 : List UInt8 := dkwX2_part_0 ++ dktX2_part_1
theorem dksX2_part_0 : cX2_part.data.toList.drop 0 = dktX2_part_0 := by decide +kernel
theorem dksX2_part_1 : cX2_part.data.toList.drop 22 = dktX2_part_1 := dk_seg dksX2_part_0 22 rfl rfl
theorem dksX2_part_2 : cX2_part.data.toList.drop 44 = dktX2_part_2 := dk_seg dksX2_part_1 22 rfl rfl
theorem dksX2_part_3 : cX2_part.data.toList.drop 68 = dktX2_part_3 := dk_seg dksX2_part_2 24 rfl rfl
theorem dksX2_part_4 : cX2_part.data.toList.drop 92 = dktX2_part_4 := dk_seg dksX2_part_3 24 rfl rfl
theorem dksX2_part_5 : cX2_part.data.toList.drop 115 = dktX2_part_5 := dk_seg dksX2_part_4 23 rfl rfl
theorem dksX2_part_6 : cX2_part.data.toList.drop 137 = dktX2_part_6 := dk_seg dksX2_part_5 22 rfl rfl
theorem dksX2_part_7 : cX2_part.data.toList.drop 159 = dktX2_part_7 := dk_seg dksX2_part_6 22 rfl rfl
theorem dksX2_part_8 : cX2_part.data.toList.drop 183 = dktX2_part_8 := dk_seg dksX2_part_7 24 rfl rfl
theorem dX2_part_0 : decode cX2_part 0 = .ok (.aload_n 0, 1) := dk_42 (dk_at dksX2_part_0 0 rfl rfl)
theorem dX2_part_1 : decode cX2_part 1 = .ok (.aload_n 0, 1) := dk_42 (dk_at dksX2_part_0 1 rfl rfl)
theorem dX2_part_2 : decode cX2_part 2 = .ok (.getfield 19, 3) := dk_180 0 19 (dk_at dksX2_part_0 2 rfl rfl)
theorem dX2_part_5 : decode cX2_part 5 = .ok (.invokevirtual 158, 3) := dk_182 0 158 (dk_at dksX2_part_0 5 rfl rfl)
theorem dX2_part_8 : decode cX2_part 8 = .ok (.istore_n 1, 1) := dk_60 (dk_at dksX2_part_0 8 rfl rfl)
theorem dX2_part_9 : decode cX2_part 9 = .ok (.aload_n 0, 1) := dk_42 (dk_at dksX2_part_0 9 rfl rfl)
theorem dX2_part_10 : decode cX2_part 10 = .ok (.ldc 70, 2) := dk_18 70 (dk_at dksX2_part_0 10 rfl rfl)
theorem dX2_part_12 : decode cX2_part 12 = .ok (.invokevirtual 144, 3) := dk_182 0 144 (dk_at dksX2_part_0 12 rfl rfl)
theorem dX2_part_15 : decode cX2_part 15 = .ok (.istore_n 2, 1) := dk_61 (dk_at dksX2_part_0 15 rfl rfl)
theorem dX2_part_16 : decode cX2_part 16 = .ok (.iload_n 1, 1) := dk_27 (dk_at dksX2_part_0 16 rfl rfl)
theorem dX2_part_17 : decode cX2_part 17 = .ok (.iconst (-1), 1) := dk_2 (dk_at dksX2_part_0 17 rfl rfl)
theorem dX2_part_18 : decode cX2_part 18 = .ok (.if_icmp .ne 35, 3) := dk_160 0 35 (dk_at dksX2_part_0 18 rfl rfl)
theorem dX2_part_21 : decode cX2_part 21 = .ok (.iload_n 2, 1) := dk_28 (dk_at dksX2_part_0 21 rfl rfl)
theorem dX2_part_22 : decode cX2_part 22 = .ok (.ifCond .ne 31, 3) := dk_154 0 31 (dk_at dksX2_part_1 0 rfl rfl)
theorem dX2_part_25 : decode cX2_part 25 = .ok (.aload_n 0, 1) := dk_42 (dk_at dksX2_part_1 3 rfl rfl)
theorem dX2_part_26 : decode cX2_part 26 = .ok (.getfield 83, 3) := dk_180 0 83 (dk_at dksX2_part_1 4 rfl rfl)
theorem dX2_part_29 : decode cX2_part 29 = .ok (.aload_n 0, 1) := dk_42 (dk_at dksX2_part_1 7 rfl rfl)
theorem dX2_part_30 : decode cX2_part 30 = .ok (.getfield 132, 3) := dk_180 0 132 (dk_at dksX2_part_1 8 rfl rfl)
theorem dX2_part_33 : decode cX2_part 33 = .ok (.iaload, 1) := dk_46 (dk_at dksX2_part_1 11 rfl rfl)
theorem dX2_part_34 : decode cX2_part 34 = .ok (.iconst 2, 1) := dk_5 (dk_at dksX2_part_1 12 rfl rfl)
theorem dX2_part_35 : decode cX2_part 35 = .ok (.if_icmp .eq 18, 3) := dk_159 0 18 (dk_at dksX2_part_1 13 rfl rfl)
theorem dX2_part_38 : decode cX2_part 38 = .ok (.aload_n 0, 1) := dk_42 (dk_at dksX2_part_1 16 rfl rfl)
theorem dX2_part_39 : decode cX2_part 39 = .ok (.bipush 40, 2) := dk_16 40 (dk_at dksX2_part_1 17 rfl rfl)
theorem dX2_part_41 : decode cX2_part 41 = .ok (.invokevirtual 148, 3) := dk_182 0 148 (dk_at dksX2_part_1 19 rfl rfl)
theorem dX2_part_44 : decode cX2_part 44 = .ok (.ifCond .ne 9, 3) := dk_154 0 9 (dk_at dksX2_part_2 0 rfl rfl)
theorem dX2_part_47 : decode cX2_part 47 = .ok (.aload_n 0, 1) := dk_42 (dk_at dksX2_part_2 3 rfl rfl)
theorem dX2_part_48 : decode cX2_part 48 = .ok (.iconst 1, 1) := dk_4 (dk_at dksX2_part_2 4 rfl rfl)
theorem dX2_part_49 : decode cX2_part 49 = .ok (.invokevirtual 154, 3) := dk_182 0 154 (dk_at dksX2_part_2 5 rfl rfl)
theorem dX2_part_52 : decode cX2_part 52 = .ok (.athrow, 1) := dk_191 (dk_at dksX2_part_2 8 rfl rfl)
theorem dX2_part_53 : decode cX2_part 53 = .ok (.aload_n 0, 1) := dk_42 (dk_at dksX2_part_2 9 rfl rfl)
theorem dX2_part_54 : decode cX2_part 54 = .ok (.getfield 312, 3) := dk_180 1 56 (dk_at dksX2_part_2 10 rfl rfl)
theorem dX2_part_57 : decode cX2_part 57 = .ok (.iconst 5, 1) := dk_8 (dk_at dksX2_part_2 13 rfl rfl)
theorem dX2_part_58 : decode cX2_part 58 = .ok (.if_icmp .ne 9, 3) := dk_160 0 9 (dk_at dksX2_part_2 14 rfl rfl)
theorem dX2_part_61 : decode cX2_part 61 = .ok (.aload_n 0, 1) := dk_42 (dk_at dksX2_part_2 17 rfl rfl)
theorem dX2_part_62 : decode cX2_part 62 = .ok (.iconst 5, 1) := dk_8 (dk_at dksX2_part_2 18 rfl rfl)
theorem dX2_part_63 : decode cX2_part 63 = .ok (.invokevirtual 154, 3) := dk_182 0 154 (dk_at dksX2_part_2 19 rfl rfl)
theorem dX2_part_66 : decode cX2_part 66 = .ok (.athrow, 1) := dk_191 (dk_at dksX2_part_2 22 rfl rfl)
theorem dX2_part_67 : decode cX2_part 67 = .ok (.aload_n 0, 1) := dk_42 (dk_at dksX2_part_2 23 rfl rfl)
theorem dX2_part_68 : decode cX2_part 68 = .ok (.dup, 1) := dk_89 (dk_at dksX2_part_3 0 rfl rfl)
theorem dX2_part_69 : decode cX2_part 69 = .ok (.getfield 132, 3) := dk_180 0 132 (dk_at dksX2_part_3 1 rfl rfl)
theorem dX2_part_72 : decode cX2_part 72 = .ok (.iconst 1, 1) := dk_4 (dk_at dksX2_part_3 4 rfl rfl)
theorem dX2_part_73 : decode cX2_part 73 = .ok (.iadd, 1) := dk_96 (dk_at dksX2_part_3 5 rfl rfl)
theorem dX2_part_74 : decode cX2_part 74 = .ok (.putfield 132, 3) := dk_181 0 132 (dk_at dksX2_part_3 6 rfl rfl)
theorem dX2_part_77 : decode cX2_part 77 = .ok (.iload_n 1, 1) := dk_27 (dk_at dksX2_part_3 9 rfl rfl)
theorem dX2_part_78 : decode cX2_part 78 = .ok (.iconst (-1), 1) := dk_2 (dk_at dksX2_part_3 10 rfl rfl)
theorem dX2_part_79 : decode cX2_part 79 = .ok (.if_icmp .eq 12, 3) := dk_159 0 12 (dk_at dksX2_part_3 11 rfl rfl)
theorem dX2_part_82 : decode cX2_part 82 = .ok (.new 363, 3) := dk_187 1 107 (dk_at dksX2_part_3 14 rfl rfl)
theorem dX2_part_85 : decode cX2_part 85 = .ok (.dup, 1) := dk_89 (dk_at dksX2_part_3 17 rfl rfl)
theorem dX2_part_86 : decode cX2_part 86 = .ok (.iload_n 1, 1) := dk_27 (dk_at dksX2_part_3 18 rfl rfl)
theorem dX2_part_87 : decode cX2_part 87 = .ok (.invokespecial 365, 3) := dk_183 1 109 (dk_at dksX2_part_3 19 rfl rfl)
theorem dX2_part_90 : decode cX2_part 90 = .ok (.areturn, 1) := dk_176 (dk_at dksX2_part_3 22 rfl rfl)
theorem dX2_part_91 : decode cX2_part 91 = .ok (.iload_n 2, 1) := dk_28 (dk_at dksX2_part_3 23 rfl rfl)
theorem dX2_part_92 : decode cX2_part 92 = .ok (.ifCond .ne 38, 3) := dk_154 0 38 (dk_at dksX2_part_4 0 rfl rfl)
theorem dX2_part_95 : decode cX2_part 95 = .ok (.aload_n 0, 1) := dk_42 (dk_at dksX2_part_4 3 rfl rfl)
theorem dX2_part_96 : decode cX2_part 96 = .ok (.getfield 83, 3) := dk_180 0 83 (dk_at dksX2_part_4 4 rfl rfl)
theorem dX2_part_99 : decode cX2_part 99 = .ok (.aload_n 0, 1) := dk_42 (dk_at dksX2_part_4 7 rfl rfl)
theorem dX2_part_100 : decode cX2_part 100 = .ok (.getfield 132, 3) := dk_180 0 132 (dk_at dksX2_part_4 8 rfl rfl)
theorem dX2_part_103 : decode cX2_part 103 = .ok (.iconst 1, 1) := dk_4 (dk_at dksX2_part_4 11 rfl rfl)
theorem dX2_part_104 : decode cX2_part 104 = .ok (.isub, 1) := dk_100 (dk_at dksX2_part_4 12 rfl rfl)
theorem dX2_part_105 : decode cX2_part 105 = .ok (.iaload, 1) := dk_46 (dk_at dksX2_part_4 13 rfl rfl)
theorem dX2_part_106 : decode cX2_part 106 = .ok (.iconst 2, 1) := dk_5 (dk_at dksX2_part_4 14 rfl rfl)
theorem dX2_part_107 : decode cX2_part 107 = .ok (.if_icmp .ne 23, 3) := dk_160 0 23 (dk_at dksX2_part_4 15 rfl rfl)
theorem dX2_part_110 : decode cX2_part 110 = .ok (.new 366, 3) := dk_187 1 110 (dk_at dksX2_part_4 18 rfl rfl)
theorem dX2_part_113 : decode cX2_part 113 = .ok (.dup, 1) := dk_89 (dk_at dksX2_part_4 21 rfl rfl)
theorem dX2_part_114 : decode cX2_part 114 = .ok (.aload_n 0, 1) := dk_42 (dk_at dksX2_part_4 22 rfl rfl)
theorem dX2_part_115 : decode cX2_part 115 = .ok (.getfield 86, 3) := dk_180 0 86 (dk_at dksX2_part_5 0 rfl rfl)
theorem dX2_part_118 : decode cX2_part 118 = .ok (.aload_n 0, 1) := dk_42 (dk_at dksX2_part_5 3 rfl rfl)
theorem dX2_part_119 : decode cX2_part 119 = .ok (.getfield 132, 3) := dk_180 0 132 (dk_at dksX2_part_5 4 rfl rfl)
theorem dX2_part_122 : decode cX2_part 122 = .ok (.iconst 1, 1) := dk_4 (dk_at dksX2_part_5 7 rfl rfl)
theorem dX2_part_123 : decode cX2_part 123 = .ok (.isub, 1) := dk_100 (dk_at dksX2_part_5 8 rfl rfl)
theorem dX2_part_124 : decode cX2_part 124 = .ok (.laload, 1) := dk_47 (dk_at dksX2_part_5 9 rfl rfl)
theorem dX2_part_125 : decode cX2_part 125 = .ok (.l2i, 1) := dk_136 (dk_at dksX2_part_5 10 rfl rfl)
theorem dX2_part_126 : decode cX2_part 126 = .ok (.invokespecial 368, 3) := dk_183 1 112 (dk_at dksX2_part_5 11 rfl rfl)
theorem dX2_part_129 : decode cX2_part 129 = .ok (.areturn, 1) := dk_176 (dk_at dksX2_part_5 14 rfl rfl)
theorem dX2_part_130 : decode cX2_part 130 = .ok (.aload_n 0, 1) := dk_42 (dk_at dksX2_part_5 15 rfl rfl)
theorem dX2_part_131 : decode cX2_part 131 = .ok (.dup, 1) := dk_89 (dk_at dksX2_part_5 16 rfl rfl)
theorem dX2_part_132 : decode cX2_part 132 = .ok (.getfield 312, 3) := dk_180 1 56 (dk_at dksX2_part_5 17 rfl rfl)
theorem dX2_part_135 : decode cX2_part 135 = .ok (.iconst 1, 1) := dk_4 (dk_at dksX2_part_5 20 rfl rfl)
theorem dX2_part_136 : decode cX2_part 136 = .ok (.iadd, 1) := dk_96 (dk_at dksX2_part_5 21 rfl rfl)
theorem dX2_part_137 : decode cX2_part 137 = .ok (.putfield 312, 3) := dk_181 1 56 (dk_at dksX2_part_6 0 rfl rfl)
theorem dX2_part_140 : decode cX2_part 140 = .ok (.iload_n 2, 1) := dk_28 (dk_at dksX2_part_6 3 rfl rfl)
theorem dX2_part_141 : decode cX2_part 141 = .ok (.ifCond .eq 17, 3) := dk_153 0 17 (dk_at dksX2_part_6 4 rfl rfl)
theorem dX2_part_144 : decode cX2_part 144 = .ok (.new 369, 3) := dk_187 1 113 (dk_at dksX2_part_6 7 rfl rfl)
theorem dX2_part_147 : decode cX2_part 147 = .ok (.dup, 1) := dk_89 (dk_at dksX2_part_6 10 rfl rfl)
theorem dX2_part_148 : decode cX2_part 148 = .ok (.aload_n 0, 1) := dk_42 (dk_at dksX2_part_6 11 rfl rfl)
theorem dX2_part_149 : decode cX2_part 149 = .ok (.invokevirtual 357, 3) := dk_182 1 101 (dk_at dksX2_part_6 12 rfl rfl)
theorem dX2_part_152 : decode cX2_part 152 = .ok (.invokespecial 371, 3) := dk_183 1 115 (dk_at dksX2_part_6 15 rfl rfl)
theorem dX2_part_155 : decode cX2_part 155 = .ok (.goto 7, 3) := dk_167 0 7 (dk_at dksX2_part_6 18 rfl rfl)
theorem dX2_part_158 : decode cX2_part 158 = .ok (.aload_n 0, 1) := dk_42 (dk_at dksX2_part_6 21 rfl rfl)
theorem dX2_part_159 : decode cX2_part 159 = .ok (.invokevirtual 315, 3) := dk_182 1 59 (dk_at dksX2_part_7 0 rfl rfl)
theorem dX2_part_162 : decode cX2_part 162 = .ok (.astore_n 3, 1) := dk_78 (dk_at dksX2_part_7 3 rfl rfl)
theorem dX2_part_163 : decode cX2_part 163 = .ok (.iload_n 2, 1) := dk_28 (dk_at dksX2_part_7 4 rfl rfl)
theorem dX2_part_164 : decode cX2_part 164 = .ok (.ifCond .ne 9, 3) := dk_154 0 9 (dk_at dksX2_part_7 5 rfl rfl)
theorem dX2_part_167 : decode cX2_part 167 = .ok (.aload_n 0, 1) := dk_42 (dk_at dksX2_part_7 8 rfl rfl)
theorem dX2_part_168 : decode cX2_part 168 = .ok (.bipush 41, 2) := dk_16 41 (dk_at dksX2_part_7 9 rfl rfl)
theorem dX2_part_170 : decode cX2_part 170 = .ok (.invokevirtual 182, 3) := dk_182 0 182 (dk_at dksX2_part_7 11 rfl rfl)
theorem dX2_part_173 : decode cX2_part 173 = .ok (.aload_n 0, 1) := dk_42 (dk_at dksX2_part_7 14 rfl rfl)
theorem dX2_part_174 : decode cX2_part 174 = .ok (.dup, 1) := dk_89 (dk_at dksX2_part_7 15 rfl rfl)
theorem dX2_part_175 : decode cX2_part 175 = .ok (.getfield 312, 3) := dk_180 1 56 (dk_at dksX2_part_7 16 rfl rfl)
theorem dX2_part_178 : decode cX2_part 178 = .ok (.iconst 1, 1) := dk_4 (dk_at dksX2_part_7 19 rfl rfl)
theorem dX2_part_179 : decode cX2_part 179 = .ok (.isub, 1) := dk_100 (dk_at dksX2_part_7 20 rfl rfl)
theorem dX2_part_180 : decode cX2_part 180 = .ok (.putfield 312, 3) := dk_181 1 56 (dk_at dksX2_part_7 21 rfl rfl)
theorem dX2_part_183 : decode cX2_part 183 = .ok (.aload_n 3, 1) := dk_45 (dk_at dksX2_part_8 0 rfl rfl)
theorem dX2_part_184 : decode cX2_part 184 = .ok (.areturn, 1) := dk_176 (dk_at dksX2_part_8 1 rfl rfl)
abbrev cX2_isSign : ByteArray := prog_25_method_11_code
def yX2_isSign : MethodName := ⟨RX2, "isSign", "(I)Z"⟩
def dkwX2_isSign_1 : List UInt8 := [148, 154, 0, 7, 4, 167, 0, 4, 3, 172]
abbrev dktX2_isSign_1 : List UInt8 := dkwX2_isSign_1 ++ []
def dkwX2_isSign_0 : List UInt8 := [42, 180, 0, 83, 42, 180, 0, 132, 46, 6, 160, 0, 22, 42, 180, 0, 86, 42, 180, 0, 132, 47, 27, 133]
abbrev dktX2_isSign_0 : List UInt8 := dkwX2_isSign_0 ++ dktX2_isSign_1
theorem dksX2_isSign_0 : cX2_isSign.data.toList.drop 0 = dktX2_isSign_0 := by decide +kernel
theorem dksX2_isSign_1 : cX2_isSign.data.toList.drop 24 = dktX2_isSign_1 := dk_seg dksX2_isSign_0 24 rfl rfl
theorem dX2_isSign_0 : decode cX2_isSign 0 = .ok (.aload_n 0, 1) := dk_42 (dk_at dksX2_isSign_0 0 rfl rfl)
theorem dX2_isSign_1 : decode cX2_isSign 1 = .ok (.getfield 83, 3) := dk_180 0 83 (dk_at dksX2_isSign_0 1 rfl rfl)
theorem dX2_isSign_4 : decode cX2_isSign 4 = .ok (.aload_n 0, 1) := dk_42 (dk_at dksX2_isSign_0 4 rfl rfl)
theorem dX2_isSign_5 : decode cX2_isSign 5 = .ok (.getfield 132, 3) := dk_180 0 132 (dk_at dksX2_isSign_0 5 rfl rfl)
theorem dX2_isSign_8 : decode cX2_isSign 8 = .ok (.iaload, 1) := dk_46 (dk_at dksX2_isSign_0 8 rfl rfl)
theorem dX2_isSign_9 : decode cX2_isSign 9 = .ok (.iconst 3, 1) := dk_6 (dk_at dksX2_isSign_0 9 rfl rfl)
theorem dX2_isSign_10 : decode cX2_isSign 10 = .ok (.if_icmp .ne 22, 3) := dk_160 0 22 (dk_at dksX2_isSign_0 10 rfl rfl)
theorem dX2_isSign_13 : decode cX2_isSign 13 = .ok (.aload_n 0, 1) := dk_42 (dk_at dksX2_isSign_0 13 rfl rfl)
theorem dX2_isSign_14 : decode cX2_isSign 14 = .ok (.getfield 86, 3) := dk_180 0 86 (dk_at dksX2_isSign_0 14 rfl rfl)
theorem dX2_isSign_17 : decode cX2_isSign 17 = .ok (.aload_n 0, 1) := dk_42 (dk_at dksX2_isSign_0 17 rfl rfl)
theorem dX2_isSign_18 : decode cX2_isSign 18 = .ok (.getfield 132, 3) := dk_180 0 132 (dk_at dksX2_isSign_0 18 rfl rfl)
theorem dX2_isSign_21 : decode cX2_isSign 21 = .ok (.laload, 1) := dk_47 (dk_at dksX2_isSign_0 21 rfl rfl)
theorem dX2_isSign_22 : decode cX2_isSign 22 = .ok (.iload_n 1, 1) := dk_27 (dk_at dksX2_isSign_0 22 rfl rfl)
theorem dX2_isSign_23 : decode cX2_isSign 23 = .ok (.i2l, 1) := dk_133 (dk_at dksX2_isSign_0 23 rfl rfl)
theorem dX2_isSign_24 : decode cX2_isSign 24 = .ok (.lcmp, 1) := dk_148 (dk_at dksX2_isSign_1 0 rfl rfl)
theorem dX2_isSign_25 : decode cX2_isSign 25 = .ok (.ifCond .ne 7, 3) := dk_154 0 7 (dk_at dksX2_isSign_1 1 rfl rfl)
theorem dX2_isSign_28 : decode cX2_isSign 28 = .ok (.iconst 1, 1) := dk_4 (dk_at dksX2_isSign_1 4 rfl rfl)
theorem dX2_isSign_29 : decode cX2_isSign 29 = .ok (.goto 4, 3) := dk_167 0 4 (dk_at dksX2_isSign_1 5 rfl rfl)
theorem dX2_isSign_32 : decode cX2_isSign 32 = .ok (.iconst 0, 1) := dk_3 (dk_at dksX2_isSign_1 8 rfl rfl)
theorem dX2_isSign_33 : decode cX2_isSign 33 = .ok (.ireturn, 1) := dk_172 (dk_at dksX2_isSign_1 9 rfl rfl)
abbrev cX2_sign : ByteArray := prog_25_method_13_code
def yX2_sign : MethodName := ⟨RX2, "sign", "(I)V"⟩
def dkwX2_sign_0 : List UInt8 := [42, 27, 182, 0, 151, 154, 0, 9, 42, 4, 182, 0, 154, 191, 177]
abbrev dktX2_sign_0 : List UInt8 := dkwX2_sign_0 ++ []
theorem dksX2_sign_0 : cX2_sign.data.toList.drop 0 = dktX2_sign_0 := by decide +kernel
theorem dX2_sign_0 : decode cX2_sign 0 = .ok (.aload_n 0, 1) := dk_42 (dk_at dksX2_sign_0 0 rfl rfl)
theorem dX2_sign_1 : decode cX2_sign 1 = .ok (.iload_n 1, 1) := dk_27 (dk_at dksX2_sign_0 1 rfl rfl)
theorem dX2_sign_2 : decode cX2_sign 2 = .ok (.invokevirtual 151, 3) := dk_182 0 151 (dk_at dksX2_sign_0 2 rfl rfl)
theorem dX2_sign_5 : decode cX2_sign 5 = .ok (.ifCond .ne 9, 3) := dk_154 0 9 (dk_at dksX2_sign_0 5 rfl rfl)
theorem dX2_sign_8 : decode cX2_sign 8 = .ok (.aload_n 0, 1) := dk_42 (dk_at dksX2_sign_0 8 rfl rfl)
theorem dX2_sign_9 : decode cX2_sign 9 = .ok (.iconst 1, 1) := dk_4 (dk_at dksX2_sign_0 9 rfl rfl)
theorem dX2_sign_10 : decode cX2_sign 10 = .ok (.invokevirtual 154, 3) := dk_182 0 154 (dk_at dksX2_sign_0 10 rfl rfl)
theorem dX2_sign_13 : decode cX2_sign 13 = .ok (.athrow, 1) := dk_191 (dk_at dksX2_sign_0 13 rfl rfl)
theorem dX2_sign_14 : decode cX2_sign 14 = .ok (.return_, 1) := dk_177 (dk_at dksX2_sign_0 14 rfl rfl)
abbrev cX2_hasSign : ByteArray := prog_25_method_12_code
def yX2_hasSign : MethodName := ⟨RX2, "hasSign", "(I)Z"⟩
def dkwX2_hasSign_0 : List UInt8 := [42, 27, 182, 0, 148, 61, 28, 153, 0, 13, 42, 89, 180, 0, 132, 4, 96, 181, 0, 132, 28, 172]
abbrev dktX2_hasSign_0 : List UInt8 := dkwX2_hasSign_0 ++ []
theorem dksX2_hasSign_0 : cX2_hasSign.data.toList.drop 0 = dktX2_hasSign_0 := by decide +kernel
theorem dX2_hasSign_0 : decode cX2_hasSign 0 = .ok (.aload_n 0, 1) := dk_42 (dk_at dksX2_hasSign_0 0 rfl rfl)
theorem dX2_hasSign_1 : decode cX2_hasSign 1 = .ok (.iload_n 1, 1) := dk_27 (dk_at dksX2_hasSign_0 1 rfl rfl)
theorem dX2_hasSign_2 : decode cX2_hasSign 2 = .ok (.invokevirtual 148, 3) := dk_182 0 148 (dk_at dksX2_hasSign_0 2 rfl rfl)
theorem dX2_hasSign_5 : decode cX2_hasSign 5 = .ok (.istore_n 2, 1) := dk_61 (dk_at dksX2_hasSign_0 5 rfl rfl)
theorem dX2_hasSign_6 : decode cX2_hasSign 6 = .ok (.iload_n 2, 1) := dk_28 (dk_at dksX2_hasSign_0 6 rfl rfl)
theorem dX2_hasSign_7 : decode cX2_hasSign 7 = .ok (.ifCond .eq 13, 3) := dk_153 0 13 (dk_at dksX2_hasSign_0 7 rfl rfl)
theorem dX2_hasSign_10 : decode cX2_hasSign 10 = .ok (.aload_n 0, 1) := dk_42 (dk_at dksX2_hasSign_0 10 rfl rfl)
theorem dX2_hasSign_11 : decode cX2_hasSign 11 = .ok (.dup, 1) := dk_89 (dk_at dksX2_hasSign_0 11 rfl rfl)
theorem dX2_hasSign_12 : decode cX2_hasSign 12 = .ok (.getfield 132, 3) := dk_180 0 132 (dk_at dksX2_hasSign_0 12 rfl rfl)
theorem dX2_hasSign_15 : decode cX2_hasSign 15 = .ok (.iconst 1, 1) := dk_4 (dk_at dksX2_hasSign_0 15 rfl rfl)
theorem dX2_hasSign_16 : decode cX2_hasSign 16 = .ok (.iadd, 1) := dk_96 (dk_at dksX2_hasSign_0 16 rfl rfl)
theorem dX2_hasSign_17 : decode cX2_hasSign 17 = .ok (.putfield 132, 3) := dk_181 0 132 (dk_at dksX2_hasSign_0 17 rfl rfl)
theorem dX2_hasSign_20 : decode cX2_hasSign 20 = .ok (.iload_n 2, 1) := dk_28 (dk_at dksX2_hasSign_0 20 rfl rfl)
theorem dX2_hasSign_21 : decode cX2_hasSign 21 = .ok (.ireturn, 1) := dk_172 (dk_at dksX2_hasSign_0 21 rfl rfl)
abbrev cX2_chain : ByteArray := prog_25_method_32_code
def yX2_chain : MethodName := ⟨RX2, "chain", "(LPaidSecrets$Expression;LPaidSecrets$Chain;)LPaidSecrets$Chain;"⟩
def dkwX2_chain_0 : List UInt8 := [43, 199, 0, 14, 187, 1, 62, 89, 42, 183, 1, 64, 167, 0, 4, 43, 176]
abbrev dktX2_chain_0 : List UInt8 := dkwX2_chain_0 ++ []
theorem dksX2_chain_0 : cX2_chain.data.toList.drop 0 = dktX2_chain_0 := by decide +kernel
theorem dX2_chain_0 : decode cX2_chain 0 = .ok (.aload_n 1, 1) := dk_43 (dk_at dksX2_chain_0 0 rfl rfl)
theorem dX2_chain_1 : decode cX2_chain 1 = .ok (.ifnonnull 14, 3) := dk_199 0 14 (dk_at dksX2_chain_0 1 rfl rfl)
theorem dX2_chain_4 : decode cX2_chain 4 = .ok (.new 318, 3) := dk_187 1 62 (dk_at dksX2_chain_0 4 rfl rfl)
theorem dX2_chain_7 : decode cX2_chain 7 = .ok (.dup, 1) := dk_89 (dk_at dksX2_chain_0 7 rfl rfl)
theorem dX2_chain_8 : decode cX2_chain 8 = .ok (.aload_n 0, 1) := dk_42 (dk_at dksX2_chain_0 8 rfl rfl)
theorem dX2_chain_9 : decode cX2_chain 9 = .ok (.invokespecial 320, 3) := dk_183 1 64 (dk_at dksX2_chain_0 9 rfl rfl)
theorem dX2_chain_12 : decode cX2_chain 12 = .ok (.goto 4, 3) := dk_167 0 4 (dk_at dksX2_chain_0 12 rfl rfl)
theorem dX2_chain_15 : decode cX2_chain 15 = .ok (.aload_n 1, 1) := dk_43 (dk_at dksX2_chain_0 15 rfl rfl)
theorem dX2_chain_16 : decode cX2_chain 16 = .ok (.areturn, 1) := dk_176 (dk_at dksX2_chain_0 16 rfl rfl)
abbrev cX2_gossip : ByteArray := prog_25_method_27_code
def yX2_gossip : MethodName := ⟨RX2, "gossip", "(LPaidSecrets$Town;)Ljava/util/ArrayList;"⟩
def dkwX2_gossip_4 : List UInt8 := [182, 0, 211, 87, 42, 16, 59, 182, 0, 182, 167, 255, 172, 44, 176]
abbrev dktX2_gossip_4 : List UInt8 := dkwX2_gossip_4 ++ []
def dkwX2_gossip_3 : List UInt8 := [182, 0, 154, 191, 44, 182, 0, 235, 16, 30, 160, 0, 9, 42, 8, 182, 0, 154, 191, 44, 42, 182, 1, 33]
abbrev dktX2_gossip_3 : List UInt8 := dkwX2_gossip_3 ++ dktX2_gossip_4
def dkwX2_gossip_2 : List UInt8 := [154, 0, 27, 42, 18, 62, 182, 0, 144, 154, 0, 18, 42, 18, 64, 182, 0, 144, 154, 0, 9, 42, 4]
abbrev dktX2_gossip_2 : List UInt8 := dkwX2_gossip_2 ++ dktX2_gossip_3
def dkwX2_gossip_1 : List UInt8 := [180, 0, 132, 46, 153, 0, 78, 42, 18, 58, 182, 0, 144, 154, 0, 36, 42, 18, 60, 182, 0, 144]
abbrev dktX2_gossip_1 : List UInt8 := dkwX2_gossip_1 ++ dktX2_gossip_2
def dkwX2_gossip_0 : List UInt8 := [42, 182, 0, 162, 42, 43, 181, 0, 168, 187, 0, 212, 89, 5, 183, 1, 32, 77, 42, 180, 0, 83, 42]
abbrev dktX2_gossip_0 : List UInt8 := dkwX2_gossip_0 ++ dktX2_gossip_1
theorem dksX2_gossip_0 : cX2_gossip.data.toList.drop 0 = dktX2_gossip_0 := by decide +kernel
theorem dksX2_gossip_1 : cX2_gossip.data.toList.drop 23 = dktX2_gossip_1 := dk_seg dksX2_gossip_0 23 rfl rfl
theorem dksX2_gossip_2 : cX2_gossip.data.toList.drop 45 = dktX2_gossip_2 := dk_seg dksX2_gossip_1 22 rfl rfl
theorem dksX2_gossip_3 : cX2_gossip.data.toList.drop 68 = dktX2_gossip_3 := dk_seg dksX2_gossip_2 23 rfl rfl
theorem dksX2_gossip_4 : cX2_gossip.data.toList.drop 92 = dktX2_gossip_4 := dk_seg dksX2_gossip_3 24 rfl rfl
theorem dX2_gossip_0 : decode cX2_gossip 0 = .ok (.aload_n 0, 1) := dk_42 (dk_at dksX2_gossip_0 0 rfl rfl)
theorem dX2_gossip_1 : decode cX2_gossip 1 = .ok (.invokevirtual 162, 3) := dk_182 0 162 (dk_at dksX2_gossip_0 1 rfl rfl)
theorem dX2_gossip_4 : decode cX2_gossip 4 = .ok (.aload_n 0, 1) := dk_42 (dk_at dksX2_gossip_0 4 rfl rfl)
theorem dX2_gossip_5 : decode cX2_gossip 5 = .ok (.aload_n 1, 1) := dk_43 (dk_at dksX2_gossip_0 5 rfl rfl)
theorem dX2_gossip_6 : decode cX2_gossip 6 = .ok (.putfield 168, 3) := dk_181 0 168 (dk_at dksX2_gossip_0 6 rfl rfl)
theorem dX2_gossip_9 : decode cX2_gossip 9 = .ok (.new 212, 3) := dk_187 0 212 (dk_at dksX2_gossip_0 9 rfl rfl)
theorem dX2_gossip_12 : decode cX2_gossip 12 = .ok (.dup, 1) := dk_89 (dk_at dksX2_gossip_0 12 rfl rfl)
theorem dX2_gossip_13 : decode cX2_gossip 13 = .ok (.iconst 2, 1) := dk_5 (dk_at dksX2_gossip_0 13 rfl rfl)
theorem dX2_gossip_14 : decode cX2_gossip 14 = .ok (.invokespecial 288, 3) := dk_183 1 32 (dk_at dksX2_gossip_0 14 rfl rfl)
theorem dX2_gossip_17 : decode cX2_gossip 17 = .ok (.astore_n 2, 1) := dk_77 (dk_at dksX2_gossip_0 17 rfl rfl)
theorem dX2_gossip_18 : decode cX2_gossip 18 = .ok (.aload_n 0, 1) := dk_42 (dk_at dksX2_gossip_0 18 rfl rfl)
theorem dX2_gossip_19 : decode cX2_gossip 19 = .ok (.getfield 83, 3) := dk_180 0 83 (dk_at dksX2_gossip_0 19 rfl rfl)
theorem dX2_gossip_22 : decode cX2_gossip 22 = .ok (.aload_n 0, 1) := dk_42 (dk_at dksX2_gossip_0 22 rfl rfl)
theorem dX2_gossip_23 : decode cX2_gossip 23 = .ok (.getfield 132, 3) := dk_180 0 132 (dk_at dksX2_gossip_1 0 rfl rfl)
theorem dX2_gossip_26 : decode cX2_gossip 26 = .ok (.iaload, 1) := dk_46 (dk_at dksX2_gossip_1 3 rfl rfl)
theorem dX2_gossip_27 : decode cX2_gossip 27 = .ok (.ifCond .eq 78, 3) := dk_153 0 78 (dk_at dksX2_gossip_1 4 rfl rfl)
theorem dX2_gossip_30 : decode cX2_gossip 30 = .ok (.aload_n 0, 1) := dk_42 (dk_at dksX2_gossip_1 7 rfl rfl)
theorem dX2_gossip_31 : decode cX2_gossip 31 = .ok (.ldc 58, 2) := dk_18 58 (dk_at dksX2_gossip_1 8 rfl rfl)
theorem dX2_gossip_33 : decode cX2_gossip 33 = .ok (.invokevirtual 144, 3) := dk_182 0 144 (dk_at dksX2_gossip_1 10 rfl rfl)
theorem dX2_gossip_36 : decode cX2_gossip 36 = .ok (.ifCond .ne 36, 3) := dk_154 0 36 (dk_at dksX2_gossip_1 13 rfl rfl)
theorem dX2_gossip_39 : decode cX2_gossip 39 = .ok (.aload_n 0, 1) := dk_42 (dk_at dksX2_gossip_1 16 rfl rfl)
theorem dX2_gossip_40 : decode cX2_gossip 40 = .ok (.ldc 60, 2) := dk_18 60 (dk_at dksX2_gossip_1 17 rfl rfl)
theorem dX2_gossip_42 : decode cX2_gossip 42 = .ok (.invokevirtual 144, 3) := dk_182 0 144 (dk_at dksX2_gossip_1 19 rfl rfl)
theorem dX2_gossip_45 : decode cX2_gossip 45 = .ok (.ifCond .ne 27, 3) := dk_154 0 27 (dk_at dksX2_gossip_2 0 rfl rfl)
theorem dX2_gossip_48 : decode cX2_gossip 48 = .ok (.aload_n 0, 1) := dk_42 (dk_at dksX2_gossip_2 3 rfl rfl)
theorem dX2_gossip_49 : decode cX2_gossip 49 = .ok (.ldc 62, 2) := dk_18 62 (dk_at dksX2_gossip_2 4 rfl rfl)
theorem dX2_gossip_51 : decode cX2_gossip 51 = .ok (.invokevirtual 144, 3) := dk_182 0 144 (dk_at dksX2_gossip_2 6 rfl rfl)
theorem dX2_gossip_54 : decode cX2_gossip 54 = .ok (.ifCond .ne 18, 3) := dk_154 0 18 (dk_at dksX2_gossip_2 9 rfl rfl)
theorem dX2_gossip_57 : decode cX2_gossip 57 = .ok (.aload_n 0, 1) := dk_42 (dk_at dksX2_gossip_2 12 rfl rfl)
theorem dX2_gossip_58 : decode cX2_gossip 58 = .ok (.ldc 64, 2) := dk_18 64 (dk_at dksX2_gossip_2 13 rfl rfl)
theorem dX2_gossip_60 : decode cX2_gossip 60 = .ok (.invokevirtual 144, 3) := dk_182 0 144 (dk_at dksX2_gossip_2 15 rfl rfl)
theorem dX2_gossip_63 : decode cX2_gossip 63 = .ok (.ifCond .ne 9, 3) := dk_154 0 9 (dk_at dksX2_gossip_2 18 rfl rfl)
theorem dX2_gossip_66 : decode cX2_gossip 66 = .ok (.aload_n 0, 1) := dk_42 (dk_at dksX2_gossip_2 21 rfl rfl)
theorem dX2_gossip_67 : decode cX2_gossip 67 = .ok (.iconst 1, 1) := dk_4 (dk_at dksX2_gossip_2 22 rfl rfl)
theorem dX2_gossip_68 : decode cX2_gossip 68 = .ok (.invokevirtual 154, 3) := dk_182 0 154 (dk_at dksX2_gossip_3 0 rfl rfl)
theorem dX2_gossip_71 : decode cX2_gossip 71 = .ok (.athrow, 1) := dk_191 (dk_at dksX2_gossip_3 3 rfl rfl)
theorem dX2_gossip_72 : decode cX2_gossip 72 = .ok (.aload_n 2, 1) := dk_44 (dk_at dksX2_gossip_3 4 rfl rfl)
theorem dX2_gossip_73 : decode cX2_gossip 73 = .ok (.invokevirtual 235, 3) := dk_182 0 235 (dk_at dksX2_gossip_3 5 rfl rfl)
theorem dX2_gossip_76 : decode cX2_gossip 76 = .ok (.bipush 30, 2) := dk_16 30 (dk_at dksX2_gossip_3 8 rfl rfl)
theorem dX2_gossip_78 : decode cX2_gossip 78 = .ok (.if_icmp .ne 9, 3) := dk_160 0 9 (dk_at dksX2_gossip_3 10 rfl rfl)
theorem dX2_gossip_81 : decode cX2_gossip 81 = .ok (.aload_n 0, 1) := dk_42 (dk_at dksX2_gossip_3 13 rfl rfl)
theorem dX2_gossip_82 : decode cX2_gossip 82 = .ok (.iconst 5, 1) := dk_8 (dk_at dksX2_gossip_3 14 rfl rfl)
theorem dX2_gossip_83 : decode cX2_gossip 83 = .ok (.invokevirtual 154, 3) := dk_182 0 154 (dk_at dksX2_gossip_3 15 rfl rfl)
theorem dX2_gossip_86 : decode cX2_gossip 86 = .ok (.athrow, 1) := dk_191 (dk_at dksX2_gossip_3 18 rfl rfl)
theorem dX2_gossip_87 : decode cX2_gossip 87 = .ok (.aload_n 2, 1) := dk_44 (dk_at dksX2_gossip_3 19 rfl rfl)
theorem dX2_gossip_88 : decode cX2_gossip 88 = .ok (.aload_n 0, 1) := dk_42 (dk_at dksX2_gossip_3 20 rfl rfl)
theorem dX2_gossip_89 : decode cX2_gossip 89 = .ok (.invokevirtual 289, 3) := dk_182 1 33 (dk_at dksX2_gossip_3 21 rfl rfl)
theorem dX2_gossip_92 : decode cX2_gossip 92 = .ok (.invokevirtual 211, 3) := dk_182 0 211 (dk_at dksX2_gossip_4 0 rfl rfl)
theorem dX2_gossip_95 : decode cX2_gossip 95 = .ok (.pop, 1) := dk_87 (dk_at dksX2_gossip_4 3 rfl rfl)
theorem dX2_gossip_96 : decode cX2_gossip 96 = .ok (.aload_n 0, 1) := dk_42 (dk_at dksX2_gossip_4 4 rfl rfl)
theorem dX2_gossip_97 : decode cX2_gossip 97 = .ok (.bipush 59, 2) := dk_16 59 (dk_at dksX2_gossip_4 5 rfl rfl)
theorem dX2_gossip_99 : decode cX2_gossip 99 = .ok (.invokevirtual 182, 3) := dk_182 0 182 (dk_at dksX2_gossip_4 7 rfl rfl)
theorem dX2_gossip_102 : decode cX2_gossip 102 = .ok (.goto (-84), 3) := dk_167 255 172 (dk_at dksX2_gossip_4 10 rfl rfl)
theorem dX2_gossip_105 : decode cX2_gossip 105 = .ok (.aload_n 2, 1) := dk_44 (dk_at dksX2_gossip_4 13 rfl rfl)
theorem dX2_gossip_106 : decode cX2_gossip 106 = .ok (.areturn, 1) := dk_176 (dk_at dksX2_gossip_4 14 rfl rfl)
abbrev cX2_line : ByteArray := prog_25_method_28_code
def yX2_line : MethodName := ⟨RX2, "line", "()LPaidSecrets$Line;"⟩
def dkwX2_line_3 : List UInt8 := [89, 180, 0, 132, 4, 96, 181, 0, 132, 187, 1, 48, 89, 183, 1, 50, 176]
abbrev dktX2_line_3 : List UInt8 := dkwX2_line_3 ++ []
def dkwX2_line_2 : List UInt8 := [18, 62, 182, 0, 255, 153, 0, 18, 187, 1, 45, 89, 42, 3, 16, 6, 182, 0, 252, 183, 1, 47, 176, 42]
abbrev dktX2_line_2 : List UInt8 := dkwX2_line_2 ++ dktX2_line_3
def dkwX2_line_1 : List UInt8 := [187, 1, 40, 89, 42, 3, 16, 6, 182, 0, 252, 42, 16, 20, 16, 10, 182, 1, 4, 183, 1, 42, 176, 42]
abbrev dktX2_line_1 : List UInt8 := dkwX2_line_1 ++ dktX2_line_2
def dkwX2_line_0 : List UInt8 := [42, 18, 58, 182, 0, 255, 153, 0, 8, 42, 182, 1, 37, 176, 42, 18, 60, 182, 0, 255, 153, 0, 26]
abbrev dktX2_line_0 : List UInt8 := dkwX2_line_0 ++ dktX2_line_1
theorem dksX2_line_0 : cX2_line.data.toList.drop 0 = dktX2_line_0 := by decide +kernel
theorem dksX2_line_1 : cX2_line.data.toList.drop 23 = dktX2_line_1 := dk_seg dksX2_line_0 23 rfl rfl
theorem dksX2_line_2 : cX2_line.data.toList.drop 47 = dktX2_line_2 := dk_seg dksX2_line_1 24 rfl rfl
theorem dksX2_line_3 : cX2_line.data.toList.drop 71 = dktX2_line_3 := dk_seg dksX2_line_2 24 rfl rfl
theorem dX2_line_0 : decode cX2_line 0 = .ok (.aload_n 0, 1) := dk_42 (dk_at dksX2_line_0 0 rfl rfl)
theorem dX2_line_1 : decode cX2_line 1 = .ok (.ldc 58, 2) := dk_18 58 (dk_at dksX2_line_0 1 rfl rfl)
theorem dX2_line_3 : decode cX2_line 3 = .ok (.invokevirtual 255, 3) := dk_182 0 255 (dk_at dksX2_line_0 3 rfl rfl)
theorem dX2_line_6 : decode cX2_line 6 = .ok (.ifCond .eq 8, 3) := dk_153 0 8 (dk_at dksX2_line_0 6 rfl rfl)
theorem dX2_line_9 : decode cX2_line 9 = .ok (.aload_n 0, 1) := dk_42 (dk_at dksX2_line_0 9 rfl rfl)
theorem dX2_line_10 : decode cX2_line 10 = .ok (.invokevirtual 293, 3) := dk_182 1 37 (dk_at dksX2_line_0 10 rfl rfl)
theorem dX2_line_13 : decode cX2_line 13 = .ok (.areturn, 1) := dk_176 (dk_at dksX2_line_0 13 rfl rfl)
theorem dX2_line_14 : decode cX2_line 14 = .ok (.aload_n 0, 1) := dk_42 (dk_at dksX2_line_0 14 rfl rfl)
theorem dX2_line_15 : decode cX2_line 15 = .ok (.ldc 60, 2) := dk_18 60 (dk_at dksX2_line_0 15 rfl rfl)
theorem dX2_line_17 : decode cX2_line 17 = .ok (.invokevirtual 255, 3) := dk_182 0 255 (dk_at dksX2_line_0 17 rfl rfl)
theorem dX2_line_20 : decode cX2_line 20 = .ok (.ifCond .eq 26, 3) := dk_153 0 26 (dk_at dksX2_line_0 20 rfl rfl)
theorem dX2_line_23 : decode cX2_line 23 = .ok (.new 296, 3) := dk_187 1 40 (dk_at dksX2_line_1 0 rfl rfl)
theorem dX2_line_26 : decode cX2_line 26 = .ok (.dup, 1) := dk_89 (dk_at dksX2_line_1 3 rfl rfl)
theorem dX2_line_27 : decode cX2_line 27 = .ok (.aload_n 0, 1) := dk_42 (dk_at dksX2_line_1 4 rfl rfl)
theorem dX2_line_28 : decode cX2_line 28 = .ok (.iconst 0, 1) := dk_3 (dk_at dksX2_line_1 5 rfl rfl)
theorem dX2_line_29 : decode cX2_line 29 = .ok (.bipush 6, 2) := dk_16 6 (dk_at dksX2_line_1 6 rfl rfl)
theorem dX2_line_31 : decode cX2_line 31 = .ok (.invokevirtual 252, 3) := dk_182 0 252 (dk_at dksX2_line_1 8 rfl rfl)
theorem dX2_line_34 : decode cX2_line 34 = .ok (.aload_n 0, 1) := dk_42 (dk_at dksX2_line_1 11 rfl rfl)
theorem dX2_line_35 : decode cX2_line 35 = .ok (.bipush 20, 2) := dk_16 20 (dk_at dksX2_line_1 12 rfl rfl)
theorem dX2_line_37 : decode cX2_line 37 = .ok (.bipush 10, 2) := dk_16 10 (dk_at dksX2_line_1 14 rfl rfl)
theorem dX2_line_39 : decode cX2_line 39 = .ok (.invokevirtual 260, 3) := dk_182 1 4 (dk_at dksX2_line_1 16 rfl rfl)
theorem dX2_line_42 : decode cX2_line 42 = .ok (.invokespecial 298, 3) := dk_183 1 42 (dk_at dksX2_line_1 19 rfl rfl)
theorem dX2_line_45 : decode cX2_line 45 = .ok (.areturn, 1) := dk_176 (dk_at dksX2_line_1 22 rfl rfl)
theorem dX2_line_46 : decode cX2_line 46 = .ok (.aload_n 0, 1) := dk_42 (dk_at dksX2_line_1 23 rfl rfl)
theorem dX2_line_47 : decode cX2_line 47 = .ok (.ldc 62, 2) := dk_18 62 (dk_at dksX2_line_2 0 rfl rfl)
theorem dX2_line_49 : decode cX2_line 49 = .ok (.invokevirtual 255, 3) := dk_182 0 255 (dk_at dksX2_line_2 2 rfl rfl)
theorem dX2_line_52 : decode cX2_line 52 = .ok (.ifCond .eq 18, 3) := dk_153 0 18 (dk_at dksX2_line_2 5 rfl rfl)
theorem dX2_line_55 : decode cX2_line 55 = .ok (.new 301, 3) := dk_187 1 45 (dk_at dksX2_line_2 8 rfl rfl)
theorem dX2_line_58 : decode cX2_line 58 = .ok (.dup, 1) := dk_89 (dk_at dksX2_line_2 11 rfl rfl)
theorem dX2_line_59 : decode cX2_line 59 = .ok (.aload_n 0, 1) := dk_42 (dk_at dksX2_line_2 12 rfl rfl)
theorem dX2_line_60 : decode cX2_line 60 = .ok (.iconst 0, 1) := dk_3 (dk_at dksX2_line_2 13 rfl rfl)
theorem dX2_line_61 : decode cX2_line 61 = .ok (.bipush 6, 2) := dk_16 6 (dk_at dksX2_line_2 14 rfl rfl)
theorem dX2_line_63 : decode cX2_line 63 = .ok (.invokevirtual 252, 3) := dk_182 0 252 (dk_at dksX2_line_2 16 rfl rfl)
theorem dX2_line_66 : decode cX2_line 66 = .ok (.invokespecial 303, 3) := dk_183 1 47 (dk_at dksX2_line_2 19 rfl rfl)
theorem dX2_line_69 : decode cX2_line 69 = .ok (.areturn, 1) := dk_176 (dk_at dksX2_line_2 22 rfl rfl)
theorem dX2_line_70 : decode cX2_line 70 = .ok (.aload_n 0, 1) := dk_42 (dk_at dksX2_line_2 23 rfl rfl)
theorem dX2_line_71 : decode cX2_line 71 = .ok (.dup, 1) := dk_89 (dk_at dksX2_line_3 0 rfl rfl)
theorem dX2_line_72 : decode cX2_line 72 = .ok (.getfield 132, 3) := dk_180 0 132 (dk_at dksX2_line_3 1 rfl rfl)
theorem dX2_line_75 : decode cX2_line 75 = .ok (.iconst 1, 1) := dk_4 (dk_at dksX2_line_3 4 rfl rfl)
theorem dX2_line_76 : decode cX2_line 76 = .ok (.iadd, 1) := dk_96 (dk_at dksX2_line_3 5 rfl rfl)
theorem dX2_line_77 : decode cX2_line 77 = .ok (.putfield 132, 3) := dk_181 0 132 (dk_at dksX2_line_3 6 rfl rfl)
theorem dX2_line_80 : decode cX2_line 80 = .ok (.new 304, 3) := dk_187 1 48 (dk_at dksX2_line_3 9 rfl rfl)
theorem dX2_line_83 : decode cX2_line 83 = .ok (.dup, 1) := dk_89 (dk_at dksX2_line_3 12 rfl rfl)
theorem dX2_line_84 : decode cX2_line 84 = .ok (.invokespecial 306, 3) := dk_183 1 50 (dk_at dksX2_line_3 13 rfl rfl)
theorem dX2_line_87 : decode cX2_line 87 = .ok (.areturn, 1) := dk_176 (dk_at dksX2_line_3 16 rfl rfl)
abbrev cX2_tells : ByteArray := prog_25_method_29_code
def yX2_tells : MethodName := ⟨RX2, "tells", "()LPaidSecrets$Line;"⟩
def dkwX2_tells_2 : List UInt8 := [16, 10, 182, 0, 252, 183, 1, 53, 176]
abbrev dktX2_tells_2 : List UInt8 := dkwX2_tells_2 ++ []
def dkwX2_tells_1 : List UInt8 := [182, 0, 154, 191, 42, 89, 180, 0, 132, 4, 96, 181, 0, 132, 187, 1, 51, 89, 27, 28, 42, 16, 20]
abbrev dktX2_tells_1 : List UInt8 := dkwX2_tells_1 ++ dktX2_tells_2
def dkwX2_tells_0 : List UInt8 := [42, 3, 16, 6, 182, 0, 252, 60, 42, 3, 16, 6, 182, 0, 225, 61, 27, 28, 160, 0, 9, 42, 6]
abbrev dktX2_tells_0 : List UInt8 := dkwX2_tells_0 ++ dktX2_tells_1
theorem dksX2_tells_0 : cX2_tells.data.toList.drop 0 = dktX2_tells_0 := by decide +kernel
theorem dksX2_tells_1 : cX2_tells.data.toList.drop 23 = dktX2_tells_1 := dk_seg dksX2_tells_0 23 rfl rfl
theorem dksX2_tells_2 : cX2_tells.data.toList.drop 46 = dktX2_tells_2 := dk_seg dksX2_tells_1 23 rfl rfl
theorem dX2_tells_0 : decode cX2_tells 0 = .ok (.aload_n 0, 1) := dk_42 (dk_at dksX2_tells_0 0 rfl rfl)
theorem dX2_tells_1 : decode cX2_tells 1 = .ok (.iconst 0, 1) := dk_3 (dk_at dksX2_tells_0 1 rfl rfl)
theorem dX2_tells_2 : decode cX2_tells 2 = .ok (.bipush 6, 2) := dk_16 6 (dk_at dksX2_tells_0 2 rfl rfl)
theorem dX2_tells_4 : decode cX2_tells 4 = .ok (.invokevirtual 252, 3) := dk_182 0 252 (dk_at dksX2_tells_0 4 rfl rfl)
theorem dX2_tells_7 : decode cX2_tells 7 = .ok (.istore_n 1, 1) := dk_60 (dk_at dksX2_tells_0 7 rfl rfl)
theorem dX2_tells_8 : decode cX2_tells 8 = .ok (.aload_n 0, 1) := dk_42 (dk_at dksX2_tells_0 8 rfl rfl)
theorem dX2_tells_9 : decode cX2_tells 9 = .ok (.iconst 0, 1) := dk_3 (dk_at dksX2_tells_0 9 rfl rfl)
theorem dX2_tells_10 : decode cX2_tells 10 = .ok (.bipush 6, 2) := dk_16 6 (dk_at dksX2_tells_0 10 rfl rfl)
theorem dX2_tells_12 : decode cX2_tells 12 = .ok (.invokevirtual 225, 3) := dk_182 0 225 (dk_at dksX2_tells_0 12 rfl rfl)
theorem dX2_tells_15 : decode cX2_tells 15 = .ok (.istore_n 2, 1) := dk_61 (dk_at dksX2_tells_0 15 rfl rfl)
theorem dX2_tells_16 : decode cX2_tells 16 = .ok (.iload_n 1, 1) := dk_27 (dk_at dksX2_tells_0 16 rfl rfl)
theorem dX2_tells_17 : decode cX2_tells 17 = .ok (.iload_n 2, 1) := dk_28 (dk_at dksX2_tells_0 17 rfl rfl)
theorem dX2_tells_18 : decode cX2_tells 18 = .ok (.if_icmp .ne 9, 3) := dk_160 0 9 (dk_at dksX2_tells_0 18 rfl rfl)
theorem dX2_tells_21 : decode cX2_tells 21 = .ok (.aload_n 0, 1) := dk_42 (dk_at dksX2_tells_0 21 rfl rfl)
theorem dX2_tells_22 : decode cX2_tells 22 = .ok (.iconst 3, 1) := dk_6 (dk_at dksX2_tells_0 22 rfl rfl)
theorem dX2_tells_23 : decode cX2_tells 23 = .ok (.invokevirtual 154, 3) := dk_182 0 154 (dk_at dksX2_tells_1 0 rfl rfl)
theorem dX2_tells_26 : decode cX2_tells 26 = .ok (.athrow, 1) := dk_191 (dk_at dksX2_tells_1 3 rfl rfl)
theorem dX2_tells_27 : decode cX2_tells 27 = .ok (.aload_n 0, 1) := dk_42 (dk_at dksX2_tells_1 4 rfl rfl)
theorem dX2_tells_28 : decode cX2_tells 28 = .ok (.dup, 1) := dk_89 (dk_at dksX2_tells_1 5 rfl rfl)
theorem dX2_tells_29 : decode cX2_tells 29 = .ok (.getfield 132, 3) := dk_180 0 132 (dk_at dksX2_tells_1 6 rfl rfl)
theorem dX2_tells_32 : decode cX2_tells 32 = .ok (.iconst 1, 1) := dk_4 (dk_at dksX2_tells_1 9 rfl rfl)
theorem dX2_tells_33 : decode cX2_tells 33 = .ok (.iadd, 1) := dk_96 (dk_at dksX2_tells_1 10 rfl rfl)
theorem dX2_tells_34 : decode cX2_tells 34 = .ok (.putfield 132, 3) := dk_181 0 132 (dk_at dksX2_tells_1 11 rfl rfl)
theorem dX2_tells_37 : decode cX2_tells 37 = .ok (.new 307, 3) := dk_187 1 51 (dk_at dksX2_tells_1 14 rfl rfl)
theorem dX2_tells_40 : decode cX2_tells 40 = .ok (.dup, 1) := dk_89 (dk_at dksX2_tells_1 17 rfl rfl)
theorem dX2_tells_41 : decode cX2_tells 41 = .ok (.iload_n 1, 1) := dk_27 (dk_at dksX2_tells_1 18 rfl rfl)
theorem dX2_tells_42 : decode cX2_tells 42 = .ok (.iload_n 2, 1) := dk_28 (dk_at dksX2_tells_1 19 rfl rfl)
theorem dX2_tells_43 : decode cX2_tells 43 = .ok (.aload_n 0, 1) := dk_42 (dk_at dksX2_tells_1 20 rfl rfl)
theorem dX2_tells_44 : decode cX2_tells 44 = .ok (.bipush 20, 2) := dk_16 20 (dk_at dksX2_tells_1 21 rfl rfl)
theorem dX2_tells_46 : decode cX2_tells 46 = .ok (.bipush 10, 2) := dk_16 10 (dk_at dksX2_tells_2 0 rfl rfl)
theorem dX2_tells_48 : decode cX2_tells 48 = .ok (.invokevirtual 252, 3) := dk_182 0 252 (dk_at dksX2_tells_2 2 rfl rfl)
theorem dX2_tells_51 : decode cX2_tells 51 = .ok (.invokespecial 309, 3) := dk_183 1 53 (dk_at dksX2_tells_2 5 rfl rfl)
theorem dX2_tells_54 : decode cX2_tells 54 = .ok (.areturn, 1) := dk_176 (dk_at dksX2_tells_2 8 rfl rfl)
theorem q130 : (Jvm.Cond.initialized "PaidSecrets$Reader") ∈ lw_all := lw_g (lw_at lw_m1 2 rfl) rfl
theorem q195 : (Jvm.Cond.instantiable "PaidSecrets$Reader" (11 : Nat)) ∈ lw_all := lw_g (lw_at lw_m1 67 rfl) rfl
theorem q197 : (Jvm.Cond.instanceMethod ({ cls := "PaidSecrets$Reader", name := "<init>", desc := "()V" } : Jvm.MethodName)) ∈ lw_all := lw_g (lw_at lw_m1 69 rfl) rfl
theorem q198 : (Jvm.Cond.code ({ cls := "PaidSecrets$Reader", name := "<init>", desc := "()V" } : Jvm.MethodName) prog_25_method_1_code (1 : Nat) (Option.none : Option Jvm.ClassFile.FieldType)) ∈ lw_all := lw_g (lw_at lw_m1 70 rfl) rfl
theorem q199 : (Jvm.Cond.methodLink "PaidSecrets$Reader" (3 : Nat) ({ cls := "java/lang/Object", name := "<init>", desc := "()V" } : Jvm.MethodName)) ∈ lw_all := lw_g (lw_at lw_m1 71 rfl) rfl
theorem q200 : (Jvm.Cond.classLink "PaidSecrets$Reader" (9 : Nat) "java/lang/String") ∈ lw_all := lw_g (lw_at lw_m1 72 rfl) rfl
theorem q202 : (Jvm.Cond.stringRef "PaidSecrets$Reader" (11 : Nat) "cost") ∈ lw_tbl := lw_at lw_m1 74 rfl
theorem q203 : (Jvm.Cond.stringRef "PaidSecrets$Reader" (13 : Nat) "knowers") ∈ lw_tbl := lw_at lw_m1 75 rfl
theorem q204 : (Jvm.Cond.stringRef "PaidSecrets$Reader" (15 : Nat) "age") ∈ lw_tbl := lw_at lw_m1 76 rfl
theorem q205 : (Jvm.Cond.stringRef "PaidSecrets$Reader" (17 : Nat) "high") ∈ lw_tbl := lw_at lw_m1 77 rfl
theorem q206 : (Jvm.Cond.stringRef "PaidSecrets$Reader" (25 : Nat) "plain") ∈ lw_tbl := lw_at lw_m1 78 rfl
theorem q207 : (Jvm.Cond.stringRef "PaidSecrets$Reader" (27 : Nat) "gossip") ∈ lw_tbl := lw_at lw_m1 79 rfl
theorem q208 : (Jvm.Cond.stringRef "PaidSecrets$Reader" (29 : Nat) "deaf") ∈ lw_tbl := lw_at lw_m1 80 rfl
theorem q209 : (Jvm.Cond.stringRef "PaidSecrets$Reader" (31 : Nat) "priest") ∈ lw_tbl := lw_at lw_m1 81 rfl
theorem q210 : (Jvm.Cond.stringRef "PaidSecrets$Reader" (36 : Nat) "person") ∈ lw_tbl := lw_at lw_m1 82 rfl
theorem q211 : (Jvm.Cond.stringRef "PaidSecrets$Reader" (38 : Nat) "rank") ∈ lw_tbl := lw_at lw_m1 83 rfl
theorem q212 : (Jvm.Cond.stringRef "PaidSecrets$Reader" (40 : Nat) "tax") ∈ lw_tbl := lw_at lw_m1 84 rfl
theorem q213 : (Jvm.Cond.stringRef "PaidSecrets$Reader" (42 : Nat) "secret") ∈ lw_tbl := lw_at lw_m1 85 rfl
theorem q214 : (Jvm.Cond.stringRef "PaidSecrets$Reader" (44 : Nat) "of") ∈ lw_tbl := lw_at lw_m1 86 rfl
theorem q215 : (Jvm.Cond.stringRef "PaidSecrets$Reader" (46 : Nat) "costs") ∈ lw_tbl := lw_at lw_m1 87 rfl
theorem q216 : (Jvm.Cond.stringRef "PaidSecrets$Reader" (48 : Nat) "on") ∈ lw_tbl := lw_at lw_m1 88 rfl
theorem q217 : (Jvm.Cond.stringRef "PaidSecrets$Reader" (50 : Nat) "by") ∈ lw_tbl := lw_at lw_m1 89 rfl
theorem q218 : (Jvm.Cond.stringRef "PaidSecrets$Reader" (52 : Nat) "ear") ∈ lw_tbl := lw_at lw_m1 90 rfl
theorem q219 : (Jvm.Cond.stringRef "PaidSecrets$Reader" (54 : Nat) "clash") ∈ lw_tbl := lw_at lw_m1 91 rfl
theorem q220 : (Jvm.Cond.stringRef "PaidSecrets$Reader" (56 : Nat) "worth") ∈ lw_tbl := lw_at lw_m1 92 rfl
theorem q221 : (Jvm.Cond.stringRef "PaidSecrets$Reader" (58 : Nat) "tell") ∈ lw_tbl := lw_at lw_m1 93 rfl
theorem q222 : (Jvm.Cond.stringRef "PaidSecrets$Reader" (60 : Nat) "pay") ∈ lw_tbl := lw_at lw_m1 94 rfl
theorem q223 : (Jvm.Cond.stringRef "PaidSecrets$Reader" (62 : Nat) "rise") ∈ lw_tbl := lw_at lw_m1 95 rfl
theorem q224 : (Jvm.Cond.stringRef "PaidSecrets$Reader" (64 : Nat) "quarter") ∈ lw_tbl := lw_at lw_m1 96 rfl
theorem q225 : (Jvm.Cond.stringRef "PaidSecrets$Reader" (66 : Nat) "true") ∈ lw_tbl := lw_at lw_m1 97 rfl
theorem q226 : (Jvm.Cond.stringRef "PaidSecrets$Reader" (68 : Nat) "false") ∈ lw_tbl := lw_at lw_m1 98 rfl
theorem q227 : (Jvm.Cond.stringRef "PaidSecrets$Reader" (70 : Nat) "not") ∈ lw_tbl := lw_at lw_m1 99 rfl
theorem q228 : (Jvm.Cond.stringRef "PaidSecrets$Reader" (72 : Nat) "and") ∈ lw_tbl := lw_at lw_m1 100 rfl
theorem q229 : (Jvm.Cond.stringRef "PaidSecrets$Reader" (74 : Nat) "or") ∈ lw_tbl := lw_at lw_m1 101 rfl
theorem q230 : (Jvm.Cond.fieldLink "PaidSecrets$Reader" (19 : Nat) "PaidSecrets$Reader" "facts" "[Ljava/lang/String;") ∈ lw_all := lw_g (lw_at lw_m1 102 rfl) rfl
theorem q231 : (Jvm.Cond.fieldLink "PaidSecrets$Reader" (33 : Nat) "PaidSecrets$Reader" "kinds" "[Ljava/lang/String;") ∈ lw_all := lw_g (lw_at lw_m1 103 rfl) rfl
theorem q232 : (Jvm.Cond.fieldLink "PaidSecrets$Reader" (76 : Nat) "PaidSecrets$Reader" "kept" "[Ljava/lang/String;") ∈ lw_all := lw_g (lw_at lw_m1 104 rfl) rfl
theorem q233 : (Jvm.Cond.fieldLink "PaidSecrets$Reader" (168 : Nat) "PaidSecrets$Reader" "draft" "LPaidSecrets$Town;") ∈ lw_all := lw_g (lw_at lw_m1 105 rfl) rfl
theorem q234 : (Jvm.Cond.fieldLink "PaidSecrets$Reader" (79 : Nat) "PaidSecrets$Reader" "tape" "[I") ∈ lw_all := lw_g (lw_at lw_m1 106 rfl) rfl
theorem q235 : (Jvm.Cond.fieldLink "PaidSecrets$Reader" (99 : Nat) "PaidSecrets$Reader" "taped" "I") ∈ lw_all := lw_g (lw_at lw_m1 107 rfl) rfl
theorem q237 : (Jvm.Cond.fieldLink "PaidSecrets$Reader" (83 : Nat) "PaidSecrets$Reader" "sort" "[I") ∈ lw_all := lw_g (lw_at lw_m1 109 rfl) rfl
theorem q238 : (Jvm.Cond.fieldLink "PaidSecrets$Reader" (86 : Nat) "PaidSecrets$Reader" "value" "[J") ∈ lw_all := lw_g (lw_at lw_m1 110 rfl) rfl
theorem q239 : (Jvm.Cond.fieldLink "PaidSecrets$Reader" (90 : Nat) "PaidSecrets$Reader" "place" "[I") ∈ lw_all := lw_g (lw_at lw_m1 111 rfl) rfl
theorem q240 : (Jvm.Cond.fieldLink "PaidSecrets$Reader" (132 : Nat) "PaidSecrets$Reader" "at" "I") ∈ lw_all := lw_g (lw_at lw_m1 112 rfl) rfl
theorem q241 : (Jvm.Cond.fieldLink "PaidSecrets$Reader" (312 : Nat) "PaidSecrets$Reader" "deep" "I") ∈ lw_all := lw_g (lw_at lw_m1 113 rfl) rfl
theorem q242 : (Jvm.Cond.laysFinal "PaidSecrets$Reader" "PaidSecrets$Reader" "facts" "[Ljava/lang/String;") ∈ lw_all := lw_g (lw_at lw_m1 114 rfl) rfl
theorem q243 : (Jvm.Cond.soleField "PaidSecrets$Reader" "facts") ∈ lw_all := lw_g (lw_at lw_m1 115 rfl) rfl
theorem q244 : (Jvm.Cond.laysFinal "PaidSecrets$Reader" "PaidSecrets$Reader" "kinds" "[Ljava/lang/String;") ∈ lw_all := lw_g (lw_at lw_m1 116 rfl) rfl
theorem q245 : (Jvm.Cond.soleField "PaidSecrets$Reader" "kinds") ∈ lw_all := lw_g (lw_at lw_m1 117 rfl) rfl
theorem q246 : (Jvm.Cond.laysFinal "PaidSecrets$Reader" "PaidSecrets$Reader" "kept" "[Ljava/lang/String;") ∈ lw_all := lw_g (lw_at lw_m1 118 rfl) rfl
theorem q247 : (Jvm.Cond.soleField "PaidSecrets$Reader" "kept") ∈ lw_all := lw_g (lw_at lw_m1 119 rfl) rfl
theorem q248 : (Jvm.Cond.lays "PaidSecrets$Reader" "PaidSecrets$Reader" "draft" "LPaidSecrets$Town;") ∈ lw_all := lw_g (lw_at lw_m1 120 rfl) rfl
theorem q249 : (Jvm.Cond.soleField "PaidSecrets$Reader" "draft") ∈ lw_all := lw_g (lw_at lw_m1 121 rfl) rfl
theorem q250 : (Jvm.Cond.laysFinal "PaidSecrets$Reader" "PaidSecrets$Reader" "tape" "[I") ∈ lw_all := lw_g (lw_at lw_m1 122 rfl) rfl
theorem q251 : (Jvm.Cond.soleField "PaidSecrets$Reader" "tape") ∈ lw_all := lw_g (lw_at lw_m1 123 rfl) rfl
theorem q252 : (Jvm.Cond.lays "PaidSecrets$Reader" "PaidSecrets$Reader" "taped" "I") ∈ lw_all := lw_g (lw_at lw_m1 124 rfl) rfl
theorem q253 : (Jvm.Cond.soleField "PaidSecrets$Reader" "taped") ∈ lw_all := lw_g (lw_at lw_m1 125 rfl) rfl
theorem q254 : (Jvm.Cond.laysFinal "PaidSecrets$Reader" "PaidSecrets$Reader" "sort" "[I") ∈ lw_all := lw_g (lw_at lw_m1 126 rfl) rfl
theorem q255 : (Jvm.Cond.soleField "PaidSecrets$Reader" "sort") ∈ lw_all := lw_g (lw_at lw_m1 127 rfl) rfl
theorem q256 : (Jvm.Cond.laysFinal "PaidSecrets$Reader" "PaidSecrets$Reader" "value" "[J") ∈ lw_all := lw_g (lw_at lw_m1 128 rfl) rfl
theorem q257 : (Jvm.Cond.soleField "PaidSecrets$Reader" "value") ∈ lw_all := lw_g (lw_at lw_m1 129 rfl) rfl
theorem q258 : (Jvm.Cond.laysFinal "PaidSecrets$Reader" "PaidSecrets$Reader" "place" "[I") ∈ lw_all := lw_g (lw_at lw_m1 130 rfl) rfl
theorem q259 : (Jvm.Cond.soleField "PaidSecrets$Reader" "place") ∈ lw_all := lw_g (lw_at lw_m1 131 rfl) rfl
theorem q260 : (Jvm.Cond.lays "PaidSecrets$Reader" "PaidSecrets$Reader" "at" "I") ∈ lw_all := lw_g (lw_at lw_m1 132 rfl) rfl
theorem q261 : (Jvm.Cond.soleField "PaidSecrets$Reader" "at") ∈ lw_all := lw_g (lw_at lw_m1 133 rfl) rfl
theorem q262 : (Jvm.Cond.lays "PaidSecrets$Reader" "PaidSecrets$Reader" "deep" "I") ∈ lw_all := lw_g (lw_at lw_m1 134 rfl) rfl
theorem q263 : (Jvm.Cond.soleField "PaidSecrets$Reader" "deep") ∈ lw_all := lw_g (lw_at lw_m1 135 rfl) rfl
theorem q264 : (Jvm.Cond.superclass "PaidSecrets$Reader" "java/lang/Object") ∈ lw_all := lw_g (lw_at lw_m1 136 rfl) rfl
theorem q369 : (Jvm.Cond.fieldLink "PaidSecrets$Reader" (201 : Nat) "PaidSecrets$Town" "names" "Ljava/util/ArrayList;") ∈ lw_all := lw_g (lw_at lw_m2 1 rfl) rfl
theorem q371 : (Jvm.Cond.fieldLink "PaidSecrets$Reader" (217 : Nat) "PaidSecrets$Town" "nameOf" "Ljava/util/ArrayList;") ∈ lw_all := lw_g (lw_at lw_m2 3 rfl) rfl
theorem q377 : (Jvm.Cond.fieldLink "PaidSecrets$Reader" (232 : Nat) "PaidSecrets$Town" "people" "Ljava/util/ArrayList;") ∈ lw_all := lw_g (lw_at lw_m2 9 rfl) rfl
theorem q381 : (Jvm.Cond.fieldLink "PaidSecrets$Reader" (249 : Nat) "PaidSecrets$Town" "secrets" "Ljava/util/ArrayList;") ∈ lw_all := lw_g (lw_at lw_m2 13 rfl) rfl
theorem q383 : (Jvm.Cond.fieldLink "PaidSecrets$Reader" (268 : Nat) "PaidSecrets$Town" "ears" "Ljava/util/ArrayList;") ∈ lw_all := lw_g (lw_at lw_m2 15 rfl) rfl
theorem q385 : (Jvm.Cond.fieldLink "PaidSecrets$Reader" (278 : Nat) "PaidSecrets$Town" "clashing" "I") ∈ lw_all := lw_g (lw_at lw_m2 17 rfl) rfl
theorem q388 : (Jvm.Cond.fieldLink "PaidSecrets$Reader" (281 : Nat) "PaidSecrets$Town" "worth" "LPaidSecrets$Expression;") ∈ lw_all := lw_g (lw_at lw_m2 20 rfl) rfl
theorem q582 : (Jvm.Cond.instanceMethod ({ cls := "PaidSecrets$Reader", name := "feed", desc := "(J)V" } : Jvm.MethodName)) ∈ lw_all := lw_g (lw_at lw_m2 214 rfl) rfl
theorem q583 : (Jvm.Cond.selects "PaidSecrets$Reader" ({ cls := "PaidSecrets$Reader", name := "feed", desc := "(J)V" } : Jvm.MethodName) ({ cls := "PaidSecrets$Reader", name := "feed", desc := "(J)V" } : Jvm.MethodName)) ∈ lw_all := lw_g (lw_at lw_m2 215 rfl) rfl
theorem q584 : (Jvm.Cond.code ({ cls := "PaidSecrets$Reader", name := "feed", desc := "(J)V" } : Jvm.MethodName) prog_25_method_2_code (5 : Nat) (Option.none : Option Jvm.ClassFile.FieldType)) ∈ lw_all := lw_g (lw_at lw_m2 216 rfl) rfl
theorem q585 : (Jvm.Cond.constantLong "PaidSecrets$Reader" (93 : Nat) (255 : Int64)) ∈ lw_all := lw_g (lw_at lw_m2 217 rfl) rfl
theorem q586 : (Jvm.Cond.methodLinkNest "PaidSecrets$Reader" (95 : Nat) ({ cls := "PaidSecrets", name := "within", desc := "(III)Z" } : Jvm.MethodName) "PaidSecrets") ∈ lw_tbl := lw_at lw_m2 218 rfl
theorem q595 : (Jvm.Cond.instanceMethod ({ cls := "PaidSecrets$Reader", name := "town", desc := "()LPaidSecrets$Town;" } : Jvm.MethodName)) ∈ lw_all := lw_g (lw_at lw_m2 227 rfl) rfl
theorem q596 : (Jvm.Cond.selects "PaidSecrets$Reader" ({ cls := "PaidSecrets$Reader", name := "town", desc := "()LPaidSecrets$Town;" } : Jvm.MethodName) ({ cls := "PaidSecrets$Reader", name := "town", desc := "()LPaidSecrets$Town;" } : Jvm.MethodName)) ∈ lw_all := lw_g (lw_at lw_m2 228 rfl) rfl
theorem q597 : (Jvm.Cond.code ({ cls := "PaidSecrets$Reader", name := "town", desc := "()LPaidSecrets$Town;" } : Jvm.MethodName) prog_25_method_16_code (1 : Nat) (Option.some (Jvm.ClassFile.FieldType.object "PaidSecrets$Town"))) ∈ lw_all := lw_g (lw_at lw_m2 229 rfl) rfl
theorem q598 : (Jvm.Cond.methodLink "PaidSecrets$Reader" (162 : Nat) ({ cls := "PaidSecrets$Reader", name := "cut", desc := "()V" } : Jvm.MethodName)) ∈ lw_all := lw_g (lw_at lw_m2 230 rfl) rfl
theorem q599 : (Jvm.Cond.privateMethod ({ cls := "PaidSecrets$Reader", name := "cut", desc := "()V" } : Jvm.MethodName)) ∈ lw_tbl := lw_at lw_m2 231 rfl
theorem q600 : (Jvm.Cond.instanceMethod ({ cls := "PaidSecrets$Reader", name := "cut", desc := "()V" } : Jvm.MethodName)) ∈ lw_all := lw_g (lw_at lw_m2 232 rfl) rfl
theorem q601 : (Jvm.Cond.code ({ cls := "PaidSecrets$Reader", name := "cut", desc := "()V" } : Jvm.MethodName) prog_25_method_6_code (8 : Nat) (Option.none : Option Jvm.ClassFile.FieldType)) ∈ lw_all := lw_g (lw_at lw_m2 233 rfl) rfl
theorem q602 : (Jvm.Cond.methodLink "PaidSecrets$Reader" (115 : Nat) ({ cls := "PaidSecrets$Reader", name := "isLetter", desc := "(I)Z" } : Jvm.MethodName)) ∈ lw_all := lw_g (lw_at lw_m2 234 rfl) rfl
theorem q603 : (Jvm.Cond.static ({ cls := "PaidSecrets$Reader", name := "isLetter", desc := "(I)Z" } : Jvm.MethodName)) ∈ lw_all := lw_g (lw_at lw_m2 235 rfl) rfl
theorem q604 : (Jvm.Cond.code ({ cls := "PaidSecrets$Reader", name := "isLetter", desc := "(I)Z" } : Jvm.MethodName) prog_25_method_4_code (1 : Nat) (Option.some Jvm.ClassFile.FieldType.boolean)) ∈ lw_all := lw_g (lw_at lw_m2 236 rfl) rfl
theorem q605 : (Jvm.Cond.constantLong "PaidSecrets$Reader" (107 : Nat) (27 : Int64)) ∈ lw_all := lw_g (lw_at lw_m2 237 rfl) rfl
theorem q606 : (Jvm.Cond.constantLong "PaidSecrets$Reader" (113 : Nat) (96 : Int64)) ∈ lw_all := lw_g (lw_at lw_m2 238 rfl) rfl
theorem q607 : (Jvm.Cond.methodLink "PaidSecrets$Reader" (119 : Nat) ({ cls := "PaidSecrets$Reader", name := "isDigit", desc := "(I)Z" } : Jvm.MethodName)) ∈ lw_all := lw_g (lw_at lw_m2 239 rfl) rfl
theorem q608 : (Jvm.Cond.static ({ cls := "PaidSecrets$Reader", name := "isDigit", desc := "(I)Z" } : Jvm.MethodName)) ∈ lw_all := lw_g (lw_at lw_m3 0 rfl) rfl
theorem q609 : (Jvm.Cond.code ({ cls := "PaidSecrets$Reader", name := "isDigit", desc := "(I)Z" } : Jvm.MethodName) prog_25_method_5_code (1 : Nat) (Option.some Jvm.ClassFile.FieldType.boolean)) ∈ lw_all := lw_g (lw_at lw_m3 1 rfl) rfl
theorem q610 : (Jvm.Cond.constantLong "PaidSecrets$Reader" (122 : Nat) (10 : Int64)) ∈ lw_all := lw_g (lw_at lw_m3 2 rfl) rfl
theorem q611 : (Jvm.Cond.constantLong "PaidSecrets$Reader" (124 : Nat) (48 : Int64)) ∈ lw_all := lw_g (lw_at lw_m3 3 rfl) rfl
theorem q612 : (Jvm.Cond.stringRef "PaidSecrets$Reader" (126 : Nat) "()<=+-*;") ∈ lw_tbl := lw_at lw_m3 4 rfl
theorem q613 : (Jvm.Cond.methodLink "PaidSecrets$Reader" (128 : Nat) ({ cls := "java/lang/String", name := "indexOf", desc := "(I)I" } : Jvm.MethodName)) ∈ lw_all := lw_g (lw_at lw_m3 5 rfl) rfl
theorem q699 : (Jvm.Cond.classLink "PaidSecrets$Reader" (165 : Nat) "PaidSecrets$Town") ∈ lw_all := lw_g (lw_at lw_m3 91 rfl) rfl
theorem q700 : (Jvm.Cond.methodLinkNest "PaidSecrets$Reader" (167 : Nat) ({ cls := "PaidSecrets$Town", name := "<init>", desc := "()V" } : Jvm.MethodName) "PaidSecrets") ∈ lw_tbl := lw_at lw_m3 92 rfl
theorem q701 : (Jvm.Cond.methodLink "PaidSecrets$Reader" (144 : Nat) ({ cls := "PaidSecrets$Reader", name := "isWord", desc := "(Ljava/lang/String;)Z" } : Jvm.MethodName)) ∈ lw_all := lw_g (lw_at lw_m3 93 rfl) rfl
theorem q702 : (Jvm.Cond.privateMethod ({ cls := "PaidSecrets$Reader", name := "isWord", desc := "(Ljava/lang/String;)Z" } : Jvm.MethodName)) ∈ lw_tbl := lw_at lw_m3 94 rfl
theorem q703 : (Jvm.Cond.instanceMethod ({ cls := "PaidSecrets$Reader", name := "isWord", desc := "(Ljava/lang/String;)Z" } : Jvm.MethodName)) ∈ lw_all := lw_g (lw_at lw_m3 95 rfl) rfl
theorem q704 : (Jvm.Cond.code ({ cls := "PaidSecrets$Reader", name := "isWord", desc := "(Ljava/lang/String;)Z" } : Jvm.MethodName) prog_25_method_8_code (2 : Nat) (Option.some Jvm.ClassFile.FieldType.boolean)) ∈ lw_all := lw_g (lw_at lw_m3 96 rfl) rfl
theorem q705 : (Jvm.Cond.methodLink "PaidSecrets$Reader" (140 : Nat) ({ cls := "PaidSecrets$Reader", name := "word", desc := "(Ljava/lang/String;)J" } : Jvm.MethodName)) ∈ lw_all := lw_g (lw_at lw_m3 97 rfl) rfl
theorem q706 : (Jvm.Cond.static ({ cls := "PaidSecrets$Reader", name := "word", desc := "(Ljava/lang/String;)J" } : Jvm.MethodName)) ∈ lw_all := lw_g (lw_at lw_m3 98 rfl) rfl
theorem q707 : (Jvm.Cond.code ({ cls := "PaidSecrets$Reader", name := "word", desc := "(Ljava/lang/String;)J" } : Jvm.MethodName) prog_25_method_3_code (4 : Nat) (Option.some Jvm.ClassFile.FieldType.long)) ∈ lw_all := lw_g (lw_at lw_m3 99 rfl) rfl
theorem q708 : (Jvm.Cond.methodLink "PaidSecrets$Reader" (103 : Nat) ({ cls := "java/lang/String", name := "length", desc := "()I" } : Jvm.MethodName)) ∈ lw_all := lw_g (lw_at lw_m3 100 rfl) rfl
theorem q709 : (Jvm.Cond.methodLink "PaidSecrets$Reader" (109 : Nat) ({ cls := "java/lang/String", name := "charAt", desc := "(I)C" } : Jvm.MethodName)) ∈ lw_all := lw_g (lw_at lw_m3 101 rfl) rfl
theorem q727 : (Jvm.Cond.methodLink "PaidSecrets$Reader" (172 : Nat) ({ cls := "PaidSecrets$Reader", name := "person", desc := "()V" } : Jvm.MethodName)) ∈ lw_all := lw_g (lw_at lw_m3 119 rfl) rfl
theorem q728 : (Jvm.Cond.privateMethod ({ cls := "PaidSecrets$Reader", name := "person", desc := "()V" } : Jvm.MethodName)) ∈ lw_tbl := lw_at lw_m3 120 rfl
theorem q729 : (Jvm.Cond.instanceMethod ({ cls := "PaidSecrets$Reader", name := "person", desc := "()V" } : Jvm.MethodName)) ∈ lw_all := lw_g (lw_at lw_m3 121 rfl) rfl
theorem q730 : (Jvm.Cond.code ({ cls := "PaidSecrets$Reader", name := "person", desc := "()V" } : Jvm.MethodName) prog_25_method_22_code (4 : Nat) (Option.none : Option Jvm.ClassFile.FieldType)) ∈ lw_all := lw_g (lw_at lw_m3 122 rfl) rfl
theorem q731 : (Jvm.Cond.methodLink "PaidSecrets$Reader" (235 : Nat) ({ cls := "java/util/ArrayList", name := "size", desc := "()I" } : Jvm.MethodName)) ∈ lw_all := lw_g (lw_at lw_m3 123 rfl) rfl
theorem q732 : (Jvm.Cond.methodLink "PaidSecrets$Reader" (238 : Nat) ({ cls := "PaidSecrets$Reader", name := "newName", desc := "(ZI)V" } : Jvm.MethodName)) ∈ lw_all := lw_g (lw_at lw_m3 124 rfl) rfl
theorem q733 : (Jvm.Cond.privateMethod ({ cls := "PaidSecrets$Reader", name := "newName", desc := "(ZI)V" } : Jvm.MethodName)) ∈ lw_tbl := lw_at lw_m3 125 rfl
theorem q734 : (Jvm.Cond.instanceMethod ({ cls := "PaidSecrets$Reader", name := "newName", desc := "(ZI)V" } : Jvm.MethodName)) ∈ lw_all := lw_g (lw_at lw_m3 126 rfl) rfl
theorem q735 : (Jvm.Cond.code ({ cls := "PaidSecrets$Reader", name := "newName", desc := "(ZI)V" } : Jvm.MethodName) prog_25_method_18_code (3 : Nat) (Option.none : Option Jvm.ClassFile.FieldType)) ∈ lw_all := lw_g (lw_at lw_m3 127 rfl) rfl
theorem q736 : (Jvm.Cond.methodLink "PaidSecrets$Reader" (154 : Nat) ({ cls := "PaidSecrets$Reader", name := "wrong", desc := "(I)LPaidSecrets$Wrong;" } : Jvm.MethodName)) ∈ lw_all := lw_g (lw_at lw_m3 128 rfl) rfl
theorem q737 : (Jvm.Cond.privateMethod ({ cls := "PaidSecrets$Reader", name := "wrong", desc := "(I)LPaidSecrets$Wrong;" } : Jvm.MethodName)) ∈ lw_tbl := lw_at lw_m3 129 rfl
theorem q738 : (Jvm.Cond.instanceMethod ({ cls := "PaidSecrets$Reader", name := "wrong", desc := "(I)LPaidSecrets$Wrong;" } : Jvm.MethodName)) ∈ lw_all := lw_g (lw_at lw_m3 130 rfl) rfl
theorem q739 : (Jvm.Cond.code ({ cls := "PaidSecrets$Reader", name := "wrong", desc := "(I)LPaidSecrets$Wrong;" } : Jvm.MethodName) prog_25_method_7_code (2 : Nat) (Option.some (Jvm.ClassFile.FieldType.object "PaidSecrets$Wrong"))) ∈ lw_all := lw_g (lw_at lw_m3 131 rfl) rfl
theorem q740 : (Jvm.Cond.classLink "PaidSecrets$Reader" (135 : Nat) "PaidSecrets$Wrong") ∈ lw_all := lw_g (lw_at lw_m3 132 rfl) rfl
theorem q778 : (Jvm.Cond.methodLink "PaidSecrets$Reader" (137 : Nat) ({ cls := "PaidSecrets$Wrong", name := "<init>", desc := "(I)V" } : Jvm.MethodName)) ∈ lw_all := lw_g (lw_at lw_m3 170 rfl) rfl
theorem q801 : (Jvm.Cond.methodLink "PaidSecrets$Reader" (193 : Nat) ({ cls := "PaidSecrets$Reader", name := "isName", desc := "()Z" } : Jvm.MethodName)) ∈ lw_all := lw_g (lw_at lw_m3 193 rfl) rfl
theorem q802 : (Jvm.Cond.privateMethod ({ cls := "PaidSecrets$Reader", name := "isName", desc := "()Z" } : Jvm.MethodName)) ∈ lw_tbl := lw_at lw_m3 194 rfl
theorem q803 : (Jvm.Cond.instanceMethod ({ cls := "PaidSecrets$Reader", name := "isName", desc := "()Z" } : Jvm.MethodName)) ∈ lw_all := lw_g (lw_at lw_m3 195 rfl) rfl
theorem q804 : (Jvm.Cond.code ({ cls := "PaidSecrets$Reader", name := "isName", desc := "()Z" } : Jvm.MethodName) prog_25_method_15_code (1 : Nat) (Option.some Jvm.ClassFile.FieldType.boolean)) ∈ lw_all := lw_g (lw_at lw_m3 196 rfl) rfl
theorem q805 : (Jvm.Cond.methodLink "PaidSecrets$Reader" (158 : Nat) ({ cls := "PaidSecrets$Reader", name := "which", desc := "([Ljava/lang/String;)I" } : Jvm.MethodName)) ∈ lw_all := lw_g (lw_at lw_m3 197 rfl) rfl
theorem q806 : (Jvm.Cond.privateMethod ({ cls := "PaidSecrets$Reader", name := "which", desc := "([Ljava/lang/String;)I" } : Jvm.MethodName)) ∈ lw_tbl := lw_at lw_m3 198 rfl
theorem q807 : (Jvm.Cond.instanceMethod ({ cls := "PaidSecrets$Reader", name := "which", desc := "([Ljava/lang/String;)I" } : Jvm.MethodName)) ∈ lw_all := lw_g (lw_at lw_m3 199 rfl) rfl
theorem q808 : (Jvm.Cond.code ({ cls := "PaidSecrets$Reader", name := "which", desc := "([Ljava/lang/String;)I" } : Jvm.MethodName) prog_25_method_10_code (3 : Nat) (Option.some Jvm.ClassFile.FieldType.int)) ∈ lw_all := lw_g (lw_at lw_m3 200 rfl) rfl
theorem q809 : (Jvm.Cond.methodLink "PaidSecrets$Reader" (197 : Nat) ({ cls := "PaidSecrets$Town", name := "find", desc := "(J)I" } : Jvm.MethodName)) ∈ lw_all := lw_g (lw_at lw_m3 201 rfl) rfl
theorem q825 : (Jvm.Cond.methodLink "PaidSecrets$Reader" (205 : Nat) ({ cls := "java/lang/Long", name := "valueOf", desc := "(J)Ljava/lang/Long;" } : Jvm.MethodName)) ∈ lw_all := lw_g (lw_at lw_m3 217 rfl) rfl
theorem q845 : (Jvm.Cond.methodLink "PaidSecrets$Reader" (211 : Nat) ({ cls := "java/util/ArrayList", name := "add", desc := "(Ljava/lang/Object;)Z" } : Jvm.MethodName)) ∈ lw_all := lw_g (lw_at lw_m3 237 rfl) rfl
theorem q896 : (Jvm.Cond.selects "PaidSecrets$Reader" ({ cls := "java/lang/Object", name := "getClass", desc := "()Ljava/lang/Class;" } : Jvm.MethodName) ({ cls := "java/lang/Object", name := "getClass", desc := "()Ljava/lang/Class;" } : Jvm.MethodName)) ∈ lw_all := lw_g (lw_at lw_m4 48 rfl) rfl
theorem q922 : (Jvm.Cond.methodLink "PaidSecrets$Reader" (220 : Nat) ({ cls := "java/lang/Integer", name := "valueOf", desc := "(I)Ljava/lang/Integer;" } : Jvm.MethodName)) ∈ lw_all := lw_g (lw_at lw_m4 74 rfl) rfl
theorem q939 : (Jvm.Cond.methodLink "PaidSecrets$Reader" (242 : Nat) ({ cls := "PaidSecrets$Reader", name := "number", desc := "(Ljava/lang/String;II)I" } : Jvm.MethodName)) ∈ lw_all := lw_g (lw_at lw_m4 91 rfl) rfl
theorem q940 : (Jvm.Cond.privateMethod ({ cls := "PaidSecrets$Reader", name := "number", desc := "(Ljava/lang/String;II)I" } : Jvm.MethodName)) ∈ lw_tbl := lw_at lw_m4 92 rfl
theorem q941 : (Jvm.Cond.instanceMethod ({ cls := "PaidSecrets$Reader", name := "number", desc := "(Ljava/lang/String;II)I" } : Jvm.MethodName)) ∈ lw_all := lw_g (lw_at lw_m4 93 rfl) rfl
theorem q942 : (Jvm.Cond.code ({ cls := "PaidSecrets$Reader", name := "number", desc := "(Ljava/lang/String;II)I" } : Jvm.MethodName) prog_25_method_17_code (4 : Nat) (Option.some Jvm.ClassFile.FieldType.int)) ∈ lw_all := lw_g (lw_at lw_m4 94 rfl) rfl
theorem q943 : (Jvm.Cond.methodLink "PaidSecrets$Reader" (185 : Nat) ({ cls := "PaidSecrets$Reader", name := "takeWord", desc := "(Ljava/lang/String;)V" } : Jvm.MethodName)) ∈ lw_all := lw_g (lw_at lw_m4 95 rfl) rfl
theorem q944 : (Jvm.Cond.privateMethod ({ cls := "PaidSecrets$Reader", name := "takeWord", desc := "(Ljava/lang/String;)V" } : Jvm.MethodName)) ∈ lw_tbl := lw_at lw_m4 96 rfl
theorem q945 : (Jvm.Cond.instanceMethod ({ cls := "PaidSecrets$Reader", name := "takeWord", desc := "(Ljava/lang/String;)V" } : Jvm.MethodName)) ∈ lw_all := lw_g (lw_at lw_m4 97 rfl) rfl
theorem q946 : (Jvm.Cond.code ({ cls := "PaidSecrets$Reader", name := "takeWord", desc := "(Ljava/lang/String;)V" } : Jvm.MethodName) prog_25_method_30_code (2 : Nat) (Option.none : Option Jvm.ClassFile.FieldType)) ∈ lw_all := lw_g (lw_at lw_m4 98 rfl) rfl
theorem q947 : (Jvm.Cond.methodLink "PaidSecrets$Reader" (255 : Nat) ({ cls := "PaidSecrets$Reader", name := "hasWord", desc := "(Ljava/lang/String;)Z" } : Jvm.MethodName)) ∈ lw_all := lw_g (lw_at lw_m4 99 rfl) rfl
theorem q948 : (Jvm.Cond.privateMethod ({ cls := "PaidSecrets$Reader", name := "hasWord", desc := "(Ljava/lang/String;)Z" } : Jvm.MethodName)) ∈ lw_tbl := lw_at lw_m4 100 rfl
theorem q949 : (Jvm.Cond.instanceMethod ({ cls := "PaidSecrets$Reader", name := "hasWord", desc := "(Ljava/lang/String;)Z" } : Jvm.MethodName)) ∈ lw_all := lw_g (lw_at lw_m4 101 rfl) rfl
theorem q950 : (Jvm.Cond.code ({ cls := "PaidSecrets$Reader", name := "hasWord", desc := "(Ljava/lang/String;)Z" } : Jvm.MethodName) prog_25_method_9_code (3 : Nat) (Option.some Jvm.ClassFile.FieldType.boolean)) ∈ lw_all := lw_g (lw_at lw_m4 102 rfl) rfl
theorem q951 : (Jvm.Cond.methodLink "PaidSecrets$Reader" (189 : Nat) ({ cls := "PaidSecrets$Reader", name := "number", desc := "(II)I" } : Jvm.MethodName)) ∈ lw_all := lw_g (lw_at lw_m4 103 rfl) rfl
theorem q952 : (Jvm.Cond.privateMethod ({ cls := "PaidSecrets$Reader", name := "number", desc := "(II)I" } : Jvm.MethodName)) ∈ lw_tbl := lw_at lw_m4 104 rfl
theorem q953 : (Jvm.Cond.instanceMethod ({ cls := "PaidSecrets$Reader", name := "number", desc := "(II)I" } : Jvm.MethodName)) ∈ lw_all := lw_g (lw_at lw_m4 105 rfl) rfl
theorem q954 : (Jvm.Cond.code ({ cls := "PaidSecrets$Reader", name := "number", desc := "(II)I" } : Jvm.MethodName) prog_25_method_14_code (3 : Nat) (Option.some Jvm.ClassFile.FieldType.int)) ∈ lw_all := lw_g (lw_at lw_m4 106 rfl) rfl
theorem q955 : (Jvm.Cond.methodLinkNest "PaidSecrets$Reader" (245 : Nat) ({ cls := "PaidSecrets", name := "made", desc := "(III)LPaidSecrets$Person;" } : Jvm.MethodName) "PaidSecrets") ∈ lw_tbl := lw_at lw_m4 107 rfl
theorem q1002 : (Jvm.Cond.methodLink "PaidSecrets$Reader" (174 : Nat) ({ cls := "PaidSecrets$Reader", name := "secret", desc := "()V" } : Jvm.MethodName)) ∈ lw_all := lw_g (lw_at lw_m4 154 rfl) rfl
theorem q1003 : (Jvm.Cond.privateMethod ({ cls := "PaidSecrets$Reader", name := "secret", desc := "()V" } : Jvm.MethodName)) ∈ lw_tbl := lw_at lw_m4 155 rfl
theorem q1004 : (Jvm.Cond.instanceMethod ({ cls := "PaidSecrets$Reader", name := "secret", desc := "()V" } : Jvm.MethodName)) ∈ lw_all := lw_g (lw_at lw_m4 156 rfl) rfl
theorem q1005 : (Jvm.Cond.code ({ cls := "PaidSecrets$Reader", name := "secret", desc := "()V" } : Jvm.MethodName) prog_25_method_23_code (6 : Nat) (Option.none : Option Jvm.ClassFile.FieldType)) ∈ lw_all := lw_g (lw_at lw_m4 157 rfl) rfl
theorem q1006 : (Jvm.Cond.methodLink "PaidSecrets$Reader" (252 : Nat) ({ cls := "PaidSecrets$Reader", name := "takeTold", desc := "(II)I" } : Jvm.MethodName)) ∈ lw_all := lw_g (lw_at lw_m4 158 rfl) rfl
theorem q1007 : (Jvm.Cond.privateMethod ({ cls := "PaidSecrets$Reader", name := "takeTold", desc := "(II)I" } : Jvm.MethodName)) ∈ lw_tbl := lw_at lw_m4 159 rfl
theorem q1008 : (Jvm.Cond.instanceMethod ({ cls := "PaidSecrets$Reader", name := "takeTold", desc := "(II)I" } : Jvm.MethodName)) ∈ lw_all := lw_g (lw_at lw_m4 160 rfl) rfl
theorem q1009 : (Jvm.Cond.code ({ cls := "PaidSecrets$Reader", name := "takeTold", desc := "(II)I" } : Jvm.MethodName) prog_25_method_20_code (4 : Nat) (Option.some Jvm.ClassFile.FieldType.int)) ∈ lw_all := lw_g (lw_at lw_m4 161 rfl) rfl
theorem q1010 : (Jvm.Cond.methodLink "PaidSecrets$Reader" (225 : Nat) ({ cls := "PaidSecrets$Reader", name := "told", desc := "(II)I" } : Jvm.MethodName)) ∈ lw_all := lw_g (lw_at lw_m4 162 rfl) rfl
theorem q1011 : (Jvm.Cond.privateMethod ({ cls := "PaidSecrets$Reader", name := "told", desc := "(II)I" } : Jvm.MethodName)) ∈ lw_tbl := lw_at lw_m4 163 rfl
theorem q1012 : (Jvm.Cond.instanceMethod ({ cls := "PaidSecrets$Reader", name := "told", desc := "(II)I" } : Jvm.MethodName)) ∈ lw_all := lw_g (lw_at lw_m4 164 rfl) rfl
theorem q1013 : (Jvm.Cond.code ({ cls := "PaidSecrets$Reader", name := "told", desc := "(II)I" } : Jvm.MethodName) prog_25_method_19_code (4 : Nat) (Option.some Jvm.ClassFile.FieldType.int)) ∈ lw_all := lw_g (lw_at lw_m4 165 rfl) rfl
theorem q1014 : (Jvm.Cond.classLink "PaidSecrets$Reader" (258 : Nat) "PaidSecrets$Secret") ∈ lw_all := lw_g (lw_at lw_m4 166 rfl) rfl
theorem q1016 : (Jvm.Cond.methodLink "PaidSecrets$Reader" (260 : Nat) ({ cls := "PaidSecrets$Reader", name := "some", desc := "(II)I" } : Jvm.MethodName)) ∈ lw_all := lw_g (lw_at lw_m4 168 rfl) rfl
theorem q1017 : (Jvm.Cond.privateMethod ({ cls := "PaidSecrets$Reader", name := "some", desc := "(II)I" } : Jvm.MethodName)) ∈ lw_tbl := lw_at lw_m4 169 rfl
theorem q1018 : (Jvm.Cond.instanceMethod ({ cls := "PaidSecrets$Reader", name := "some", desc := "(II)I" } : Jvm.MethodName)) ∈ lw_all := lw_g (lw_at lw_m4 170 rfl) rfl
theorem q1019 : (Jvm.Cond.code ({ cls := "PaidSecrets$Reader", name := "some", desc := "(II)I" } : Jvm.MethodName) prog_25_method_21_code (5 : Nat) (Option.some Jvm.ClassFile.FieldType.int)) ∈ lw_all := lw_g (lw_at lw_m4 171 rfl) rfl
theorem q1020 : (Jvm.Cond.methodLinkNest "PaidSecrets$Reader" (228 : Nat) ({ cls := "PaidSecrets", name := "has", desc := "(II)Z" } : Jvm.MethodName) "PaidSecrets") ∈ lw_tbl := lw_at lw_m4 172 rfl
theorem q1023 : (Jvm.Cond.methodLink "PaidSecrets$Reader" (263 : Nat) ({ cls := "PaidSecrets$Secret", name := "<init>", desc := "(ZIIII)V" } : Jvm.MethodName)) ∈ lw_all := lw_g (lw_at lw_m4 175 rfl) rfl
theorem q1042 : (Jvm.Cond.fieldLink "PaidSecrets$Reader" (275 : Nat) "PaidSecrets$Secret" "clashes" "I") ∈ lw_all := lw_g (lw_at lw_m4 194 rfl) rfl
theorem q1056 : (Jvm.Cond.methodLink "PaidSecrets$Reader" (176 : Nat) ({ cls := "PaidSecrets$Reader", name := "ear", desc := "()V" } : Jvm.MethodName)) ∈ lw_all := lw_g (lw_at lw_m4 208 rfl) rfl
theorem q1057 : (Jvm.Cond.privateMethod ({ cls := "PaidSecrets$Reader", name := "ear", desc := "()V" } : Jvm.MethodName)) ∈ lw_tbl := lw_at lw_m4 209 rfl
theorem q1058 : (Jvm.Cond.instanceMethod ({ cls := "PaidSecrets$Reader", name := "ear", desc := "()V" } : Jvm.MethodName)) ∈ lw_all := lw_g (lw_at lw_m4 210 rfl) rfl
theorem q1059 : (Jvm.Cond.code ({ cls := "PaidSecrets$Reader", name := "ear", desc := "()V" } : Jvm.MethodName) prog_25_method_24_code (3 : Nat) (Option.none : Option Jvm.ClassFile.FieldType)) ∈ lw_all := lw_g (lw_at lw_m4 211 rfl) rfl
theorem q1060 : (Jvm.Cond.methodLink "PaidSecrets$Reader" (266 : Nat) ({ cls := "PaidSecrets$Town", name := "ear", desc := "(II)I" } : Jvm.MethodName)) ∈ lw_all := lw_g (lw_at lw_m4 212 rfl) rfl
theorem q1081 : (Jvm.Cond.methodLink "PaidSecrets$Reader" (178 : Nat) ({ cls := "PaidSecrets$Reader", name := "clash", desc := "()V" } : Jvm.MethodName)) ∈ lw_all := lw_g (lw_at lw_m4 233 rfl) rfl
theorem q1082 : (Jvm.Cond.privateMethod ({ cls := "PaidSecrets$Reader", name := "clash", desc := "()V" } : Jvm.MethodName)) ∈ lw_tbl := lw_at lw_m4 234 rfl
theorem q1083 : (Jvm.Cond.instanceMethod ({ cls := "PaidSecrets$Reader", name := "clash", desc := "()V" } : Jvm.MethodName)) ∈ lw_all := lw_g (lw_at lw_m4 235 rfl) rfl
theorem q1084 : (Jvm.Cond.code ({ cls := "PaidSecrets$Reader", name := "clash", desc := "()V" } : Jvm.MethodName) prog_25_method_25_code (3 : Nat) (Option.none : Option Jvm.ClassFile.FieldType)) ∈ lw_all := lw_g (lw_at lw_m4 236 rfl) rfl
theorem q1085 : (Jvm.Cond.methodLink "PaidSecrets$Reader" (271 : Nat) ({ cls := "java/util/ArrayList", name := "get", desc := "(I)Ljava/lang/Object;" } : Jvm.MethodName)) ∈ lw_all := lw_g (lw_at lw_m4 237 rfl) rfl
theorem q1086 : (Jvm.Cond.methodLink "PaidSecrets$Reader" (180 : Nat) ({ cls := "PaidSecrets$Reader", name := "worth", desc := "()V" } : Jvm.MethodName)) ∈ lw_all := lw_g (lw_at lw_m4 238 rfl) rfl
theorem q1087 : (Jvm.Cond.privateMethod ({ cls := "PaidSecrets$Reader", name := "worth", desc := "()V" } : Jvm.MethodName)) ∈ lw_tbl := lw_at lw_m4 239 rfl
theorem q1088 : (Jvm.Cond.instanceMethod ({ cls := "PaidSecrets$Reader", name := "worth", desc := "()V" } : Jvm.MethodName)) ∈ lw_all := lw_g (lw_at lw_m5 0 rfl) rfl
theorem q1089 : (Jvm.Cond.code ({ cls := "PaidSecrets$Reader", name := "worth", desc := "()V" } : Jvm.MethodName) prog_25_method_26_code (1 : Nat) (Option.none : Option Jvm.ClassFile.FieldType)) ∈ lw_all := lw_g (lw_at lw_m5 1 rfl) rfl
theorem q1090 : (Jvm.Cond.methodLink "PaidSecrets$Reader" (284 : Nat) ({ cls := "PaidSecrets$Reader", name := "whole", desc := "()LPaidSecrets$Expression;" } : Jvm.MethodName)) ∈ lw_all := lw_g (lw_at lw_m5 2 rfl) rfl
theorem q1091 : (Jvm.Cond.privateMethod ({ cls := "PaidSecrets$Reader", name := "whole", desc := "()LPaidSecrets$Expression;" } : Jvm.MethodName)) ∈ lw_tbl := lw_at lw_m5 3 rfl
theorem q1092 : (Jvm.Cond.instanceMethod ({ cls := "PaidSecrets$Reader", name := "whole", desc := "()LPaidSecrets$Expression;" } : Jvm.MethodName)) ∈ lw_all := lw_g (lw_at lw_m5 4 rfl) rfl
theorem q1093 : (Jvm.Cond.code ({ cls := "PaidSecrets$Reader", name := "whole", desc := "()LPaidSecrets$Expression;" } : Jvm.MethodName) prog_25_method_31_code (1 : Nat) (Option.some (Jvm.ClassFile.FieldType.object "PaidSecrets$Expression"))) ∈ lw_all := lw_g (lw_at lw_m5 5 rfl) rfl
theorem q1094 : (Jvm.Cond.methodLink "PaidSecrets$Reader" (315 : Nat) ({ cls := "PaidSecrets$Reader", name := "all", desc := "()LPaidSecrets$Expression;" } : Jvm.MethodName)) ∈ lw_all := lw_g (lw_at lw_m5 6 rfl) rfl
theorem q1095 : (Jvm.Cond.privateMethod ({ cls := "PaidSecrets$Reader", name := "all", desc := "()LPaidSecrets$Expression;" } : Jvm.MethodName)) ∈ lw_tbl := lw_at lw_m5 7 rfl
theorem q1096 : (Jvm.Cond.instanceMethod ({ cls := "PaidSecrets$Reader", name := "all", desc := "()LPaidSecrets$Expression;" } : Jvm.MethodName)) ∈ lw_all := lw_g (lw_at lw_m5 8 rfl) rfl
theorem q1097 : (Jvm.Cond.code ({ cls := "PaidSecrets$Reader", name := "all", desc := "()LPaidSecrets$Expression;" } : Jvm.MethodName) prog_25_method_33_code (5 : Nat) (Option.some (Jvm.ClassFile.FieldType.object "PaidSecrets$Expression"))) ∈ lw_all := lw_g (lw_at lw_m5 9 rfl) rfl
theorem q1098 : (Jvm.Cond.methodLink "PaidSecrets$Reader" (323 : Nat) ({ cls := "PaidSecrets$Reader", name := "test", desc := "()LPaidSecrets$Expression;" } : Jvm.MethodName)) ∈ lw_all := lw_g (lw_at lw_m5 10 rfl) rfl
theorem q1099 : (Jvm.Cond.privateMethod ({ cls := "PaidSecrets$Reader", name := "test", desc := "()LPaidSecrets$Expression;" } : Jvm.MethodName)) ∈ lw_tbl := lw_at lw_m5 11 rfl
theorem q1100 : (Jvm.Cond.instanceMethod ({ cls := "PaidSecrets$Reader", name := "test", desc := "()LPaidSecrets$Expression;" } : Jvm.MethodName)) ∈ lw_all := lw_g (lw_at lw_m5 12 rfl) rfl
theorem q1101 : (Jvm.Cond.code ({ cls := "PaidSecrets$Reader", name := "test", desc := "()LPaidSecrets$Expression;" } : Jvm.MethodName) prog_25_method_34_code (5 : Nat) (Option.some (Jvm.ClassFile.FieldType.object "PaidSecrets$Expression"))) ∈ lw_all := lw_g (lw_at lw_m5 13 rfl) rfl
theorem q1102 : (Jvm.Cond.methodLink "PaidSecrets$Reader" (339 : Nat) ({ cls := "PaidSecrets$Reader", name := "sum", desc := "()LPaidSecrets$Expression;" } : Jvm.MethodName)) ∈ lw_all := lw_g (lw_at lw_m5 14 rfl) rfl
theorem q1103 : (Jvm.Cond.privateMethod ({ cls := "PaidSecrets$Reader", name := "sum", desc := "()LPaidSecrets$Expression;" } : Jvm.MethodName)) ∈ lw_tbl := lw_at lw_m5 15 rfl
theorem q1104 : (Jvm.Cond.instanceMethod ({ cls := "PaidSecrets$Reader", name := "sum", desc := "()LPaidSecrets$Expression;" } : Jvm.MethodName)) ∈ lw_all := lw_g (lw_at lw_m5 16 rfl) rfl
theorem q1105 : (Jvm.Cond.code ({ cls := "PaidSecrets$Reader", name := "sum", desc := "()LPaidSecrets$Expression;" } : Jvm.MethodName) prog_25_method_35_code (5 : Nat) (Option.some (Jvm.ClassFile.FieldType.object "PaidSecrets$Expression"))) ∈ lw_all := lw_g (lw_at lw_m5 17 rfl) rfl
theorem q1106 : (Jvm.Cond.methodLink "PaidSecrets$Reader" (348 : Nat) ({ cls := "PaidSecrets$Reader", name := "term", desc := "()LPaidSecrets$Expression;" } : Jvm.MethodName)) ∈ lw_all := lw_g (lw_at lw_m5 18 rfl) rfl
theorem q1107 : (Jvm.Cond.privateMethod ({ cls := "PaidSecrets$Reader", name := "term", desc := "()LPaidSecrets$Expression;" } : Jvm.MethodName)) ∈ lw_tbl := lw_at lw_m5 19 rfl
theorem q1108 : (Jvm.Cond.instanceMethod ({ cls := "PaidSecrets$Reader", name := "term", desc := "()LPaidSecrets$Expression;" } : Jvm.MethodName)) ∈ lw_all := lw_g (lw_at lw_m5 20 rfl) rfl
theorem q1109 : (Jvm.Cond.code ({ cls := "PaidSecrets$Reader", name := "term", desc := "()LPaidSecrets$Expression;" } : Jvm.MethodName) prog_25_method_36_code (4 : Nat) (Option.some (Jvm.ClassFile.FieldType.object "PaidSecrets$Expression"))) ∈ lw_all := lw_g (lw_at lw_m5 21 rfl) rfl
theorem q1110 : (Jvm.Cond.methodLink "PaidSecrets$Reader" (357 : Nat) ({ cls := "PaidSecrets$Reader", name := "part", desc := "()LPaidSecrets$Expression;" } : Jvm.MethodName)) ∈ lw_all := lw_g (lw_at lw_m5 22 rfl) rfl
theorem q1111 : (Jvm.Cond.privateMethod ({ cls := "PaidSecrets$Reader", name := "part", desc := "()LPaidSecrets$Expression;" } : Jvm.MethodName)) ∈ lw_tbl := lw_at lw_m5 23 rfl
theorem q1112 : (Jvm.Cond.instanceMethod ({ cls := "PaidSecrets$Reader", name := "part", desc := "()LPaidSecrets$Expression;" } : Jvm.MethodName)) ∈ lw_all := lw_g (lw_at lw_m5 24 rfl) rfl
theorem q1113 : (Jvm.Cond.code ({ cls := "PaidSecrets$Reader", name := "part", desc := "()LPaidSecrets$Expression;" } : Jvm.MethodName) prog_25_method_37_code (4 : Nat) (Option.some (Jvm.ClassFile.FieldType.object "PaidSecrets$Expression"))) ∈ lw_all := lw_g (lw_at lw_m5 25 rfl) rfl
theorem q1114 : (Jvm.Cond.methodLink "PaidSecrets$Reader" (148 : Nat) ({ cls := "PaidSecrets$Reader", name := "isSign", desc := "(I)Z" } : Jvm.MethodName)) ∈ lw_all := lw_g (lw_at lw_m5 26 rfl) rfl
theorem q1115 : (Jvm.Cond.privateMethod ({ cls := "PaidSecrets$Reader", name := "isSign", desc := "(I)Z" } : Jvm.MethodName)) ∈ lw_tbl := lw_at lw_m5 27 rfl
theorem q1116 : (Jvm.Cond.instanceMethod ({ cls := "PaidSecrets$Reader", name := "isSign", desc := "(I)Z" } : Jvm.MethodName)) ∈ lw_all := lw_g (lw_at lw_m5 28 rfl) rfl
theorem q1117 : (Jvm.Cond.code ({ cls := "PaidSecrets$Reader", name := "isSign", desc := "(I)Z" } : Jvm.MethodName) prog_25_method_11_code (2 : Nat) (Option.some Jvm.ClassFile.FieldType.boolean)) ∈ lw_all := lw_g (lw_at lw_m5 29 rfl) rfl
theorem q1118 : (Jvm.Cond.classLink "PaidSecrets$Reader" (363 : Nat) "PaidSecrets$Fact") ∈ lw_all := lw_g (lw_at lw_m5 30 rfl) rfl
theorem q1120 : (Jvm.Cond.methodLink "PaidSecrets$Reader" (365 : Nat) ({ cls := "PaidSecrets$Fact", name := "<init>", desc := "(I)V" } : Jvm.MethodName)) ∈ lw_all := lw_g (lw_at lw_m5 32 rfl) rfl
theorem q1131 : (Jvm.Cond.classLink "PaidSecrets$Reader" (366 : Nat) "PaidSecrets$Plain") ∈ lw_all := lw_g (lw_at lw_m5 43 rfl) rfl
theorem q1133 : (Jvm.Cond.methodLink "PaidSecrets$Reader" (368 : Nat) ({ cls := "PaidSecrets$Plain", name := "<init>", desc := "(I)V" } : Jvm.MethodName)) ∈ lw_all := lw_g (lw_at lw_m5 45 rfl) rfl
theorem q1141 : (Jvm.Cond.classLink "PaidSecrets$Reader" (369 : Nat) "PaidSecrets$Not") ∈ lw_all := lw_g (lw_at lw_m5 53 rfl) rfl
theorem q1143 : (Jvm.Cond.methodLink "PaidSecrets$Reader" (371 : Nat) ({ cls := "PaidSecrets$Not", name := "<init>", desc := "(LPaidSecrets$Expression;)V" } : Jvm.MethodName)) ∈ lw_all := lw_g (lw_at lw_m5 55 rfl) rfl
theorem q1151 : (Jvm.Cond.methodLink "PaidSecrets$Reader" (182 : Nat) ({ cls := "PaidSecrets$Reader", name := "sign", desc := "(I)V" } : Jvm.MethodName)) ∈ lw_all := lw_g (lw_at lw_m5 63 rfl) rfl
theorem q1152 : (Jvm.Cond.privateMethod ({ cls := "PaidSecrets$Reader", name := "sign", desc := "(I)V" } : Jvm.MethodName)) ∈ lw_tbl := lw_at lw_m5 64 rfl
theorem q1153 : (Jvm.Cond.instanceMethod ({ cls := "PaidSecrets$Reader", name := "sign", desc := "(I)V" } : Jvm.MethodName)) ∈ lw_all := lw_g (lw_at lw_m5 65 rfl) rfl
theorem q1154 : (Jvm.Cond.code ({ cls := "PaidSecrets$Reader", name := "sign", desc := "(I)V" } : Jvm.MethodName) prog_25_method_13_code (2 : Nat) (Option.none : Option Jvm.ClassFile.FieldType)) ∈ lw_all := lw_g (lw_at lw_m5 66 rfl) rfl
theorem q1155 : (Jvm.Cond.methodLink "PaidSecrets$Reader" (151 : Nat) ({ cls := "PaidSecrets$Reader", name := "hasSign", desc := "(I)Z" } : Jvm.MethodName)) ∈ lw_all := lw_g (lw_at lw_m5 67 rfl) rfl
theorem q1156 : (Jvm.Cond.privateMethod ({ cls := "PaidSecrets$Reader", name := "hasSign", desc := "(I)Z" } : Jvm.MethodName)) ∈ lw_tbl := lw_at lw_m5 68 rfl
theorem q1157 : (Jvm.Cond.instanceMethod ({ cls := "PaidSecrets$Reader", name := "hasSign", desc := "(I)Z" } : Jvm.MethodName)) ∈ lw_all := lw_g (lw_at lw_m5 69 rfl) rfl
theorem q1158 : (Jvm.Cond.code ({ cls := "PaidSecrets$Reader", name := "hasSign", desc := "(I)Z" } : Jvm.MethodName) prog_25_method_12_code (3 : Nat) (Option.some Jvm.ClassFile.FieldType.boolean)) ∈ lw_all := lw_g (lw_at lw_m5 70 rfl) rfl
theorem q1159 : (Jvm.Cond.methodLink "PaidSecrets$Reader" (326 : Nat) ({ cls := "PaidSecrets$Reader", name := "chain", desc := "(LPaidSecrets$Expression;LPaidSecrets$Chain;)LPaidSecrets$Chain;" } : Jvm.MethodName)) ∈ lw_all := lw_g (lw_at lw_m5 71 rfl) rfl
theorem q1160 : (Jvm.Cond.static ({ cls := "PaidSecrets$Reader", name := "chain", desc := "(LPaidSecrets$Expression;LPaidSecrets$Chain;)LPaidSecrets$Chain;" } : Jvm.MethodName)) ∈ lw_all := lw_g (lw_at lw_m5 72 rfl) rfl
theorem q1161 : (Jvm.Cond.code ({ cls := "PaidSecrets$Reader", name := "chain", desc := "(LPaidSecrets$Expression;LPaidSecrets$Chain;)LPaidSecrets$Chain;" } : Jvm.MethodName) prog_25_method_32_code (2 : Nat) (Option.some (Jvm.ClassFile.FieldType.object "PaidSecrets$Chain"))) ∈ lw_all := lw_g (lw_at lw_m5 73 rfl) rfl
theorem q1162 : (Jvm.Cond.classLink "PaidSecrets$Reader" (318 : Nat) "PaidSecrets$Chain") ∈ lw_all := lw_g (lw_at lw_m5 74 rfl) rfl
theorem q1164 : (Jvm.Cond.methodLink "PaidSecrets$Reader" (320 : Nat) ({ cls := "PaidSecrets$Chain", name := "<init>", desc := "(LPaidSecrets$Expression;)V" } : Jvm.MethodName)) ∈ lw_all := lw_g (lw_at lw_m5 76 rfl) rfl
theorem q1172 : (Jvm.Cond.fieldLink "PaidSecrets$Reader" (330 : Nat) "PaidSecrets$Chain" "links" "Ljava/util/ArrayList;") ∈ lw_all := lw_g (lw_at lw_m5 84 rfl) rfl
theorem q1178 : (Jvm.Cond.classLink "PaidSecrets$Reader" (360 : Nat) "PaidSecrets$Times") ∈ lw_all := lw_g (lw_at lw_m5 90 rfl) rfl
theorem q1180 : (Jvm.Cond.methodLink "PaidSecrets$Reader" (362 : Nat) ({ cls := "PaidSecrets$Times", name := "<init>", desc := "(LPaidSecrets$Expression;)V" } : Jvm.MethodName)) ∈ lw_all := lw_g (lw_at lw_m5 92 rfl) rfl
theorem q1191 : (Jvm.Cond.classLink "PaidSecrets$Reader" (351 : Nat) "PaidSecrets$Plus") ∈ lw_all := lw_g (lw_at lw_m5 103 rfl) rfl
theorem q1193 : (Jvm.Cond.methodLink "PaidSecrets$Reader" (353 : Nat) ({ cls := "PaidSecrets$Plus", name := "<init>", desc := "(LPaidSecrets$Expression;)V" } : Jvm.MethodName)) ∈ lw_all := lw_g (lw_at lw_m5 105 rfl) rfl
theorem q1199 : (Jvm.Cond.classLink "PaidSecrets$Reader" (354 : Nat) "PaidSecrets$Minus") ∈ lw_all := lw_g (lw_at lw_m5 111 rfl) rfl
theorem q1201 : (Jvm.Cond.methodLink "PaidSecrets$Reader" (356 : Nat) ({ cls := "PaidSecrets$Minus", name := "<init>", desc := "(LPaidSecrets$Expression;)V" } : Jvm.MethodName)) ∈ lw_all := lw_g (lw_at lw_m5 113 rfl) rfl
theorem q1207 : (Jvm.Cond.classLink "PaidSecrets$Reader" (342 : Nat) "PaidSecrets$Less") ∈ lw_all := lw_g (lw_at lw_m5 119 rfl) rfl
theorem q1209 : (Jvm.Cond.methodLink "PaidSecrets$Reader" (344 : Nat) ({ cls := "PaidSecrets$Less", name := "<init>", desc := "(LPaidSecrets$Expression;)V" } : Jvm.MethodName)) ∈ lw_all := lw_g (lw_at lw_m5 121 rfl) rfl
theorem q1215 : (Jvm.Cond.classLink "PaidSecrets$Reader" (345 : Nat) "PaidSecrets$Same") ∈ lw_all := lw_g (lw_at lw_m5 127 rfl) rfl
theorem q1217 : (Jvm.Cond.methodLink "PaidSecrets$Reader" (347 : Nat) ({ cls := "PaidSecrets$Same", name := "<init>", desc := "(LPaidSecrets$Expression;)V" } : Jvm.MethodName)) ∈ lw_all := lw_g (lw_at lw_m5 129 rfl) rfl
theorem q1223 : (Jvm.Cond.classLink "PaidSecrets$Reader" (333 : Nat) "PaidSecrets$And") ∈ lw_all := lw_g (lw_at lw_m5 135 rfl) rfl
theorem q1225 : (Jvm.Cond.methodLink "PaidSecrets$Reader" (335 : Nat) ({ cls := "PaidSecrets$And", name := "<init>", desc := "(LPaidSecrets$Expression;)V" } : Jvm.MethodName)) ∈ lw_all := lw_g (lw_at lw_m5 137 rfl) rfl
theorem q1231 : (Jvm.Cond.classLink "PaidSecrets$Reader" (336 : Nat) "PaidSecrets$Or") ∈ lw_all := lw_g (lw_at lw_m5 143 rfl) rfl
theorem q1233 : (Jvm.Cond.methodLink "PaidSecrets$Reader" (338 : Nat) ({ cls := "PaidSecrets$Or", name := "<init>", desc := "(LPaidSecrets$Expression;)V" } : Jvm.MethodName)) ∈ lw_all := lw_g (lw_at lw_m5 145 rfl) rfl
theorem q1252 : (Jvm.Cond.instanceMethod ({ cls := "PaidSecrets$Reader", name := "gossip", desc := "(LPaidSecrets$Town;)Ljava/util/ArrayList;" } : Jvm.MethodName)) ∈ lw_all := lw_g (lw_at lw_m5 164 rfl) rfl
theorem q1253 : (Jvm.Cond.selects "PaidSecrets$Reader" ({ cls := "PaidSecrets$Reader", name := "gossip", desc := "(LPaidSecrets$Town;)Ljava/util/ArrayList;" } : Jvm.MethodName) ({ cls := "PaidSecrets$Reader", name := "gossip", desc := "(LPaidSecrets$Town;)Ljava/util/ArrayList;" } : Jvm.MethodName)) ∈ lw_all := lw_g (lw_at lw_m5 165 rfl) rfl
theorem q1254 : (Jvm.Cond.code ({ cls := "PaidSecrets$Reader", name := "gossip", desc := "(LPaidSecrets$Town;)Ljava/util/ArrayList;" } : Jvm.MethodName) prog_25_method_27_code (3 : Nat) (Option.some (Jvm.ClassFile.FieldType.object "java/util/ArrayList"))) ∈ lw_all := lw_g (lw_at lw_m5 166 rfl) rfl
theorem q1255 : (Jvm.Cond.classLink "PaidSecrets$Reader" (212 : Nat) "java/util/ArrayList") ∈ lw_all := lw_g (lw_at lw_m5 167 rfl) rfl
theorem q1256 : (Jvm.Cond.methodLink "PaidSecrets$Reader" (288 : Nat) ({ cls := "java/util/ArrayList", name := "<init>", desc := "(I)V" } : Jvm.MethodName)) ∈ lw_all := lw_g (lw_at lw_m5 168 rfl) rfl
theorem q1257 : (Jvm.Cond.methodLink "PaidSecrets$Reader" (289 : Nat) ({ cls := "PaidSecrets$Reader", name := "line", desc := "()LPaidSecrets$Line;" } : Jvm.MethodName)) ∈ lw_all := lw_g (lw_at lw_m5 169 rfl) rfl
theorem q1258 : (Jvm.Cond.privateMethod ({ cls := "PaidSecrets$Reader", name := "line", desc := "()LPaidSecrets$Line;" } : Jvm.MethodName)) ∈ lw_tbl := lw_at lw_m5 170 rfl
theorem q1259 : (Jvm.Cond.instanceMethod ({ cls := "PaidSecrets$Reader", name := "line", desc := "()LPaidSecrets$Line;" } : Jvm.MethodName)) ∈ lw_all := lw_g (lw_at lw_m5 171 rfl) rfl
theorem q1260 : (Jvm.Cond.code ({ cls := "PaidSecrets$Reader", name := "line", desc := "()LPaidSecrets$Line;" } : Jvm.MethodName) prog_25_method_28_code (1 : Nat) (Option.some (Jvm.ClassFile.FieldType.object "PaidSecrets$Line"))) ∈ lw_all := lw_g (lw_at lw_m5 172 rfl) rfl
theorem q1261 : (Jvm.Cond.methodLink "PaidSecrets$Reader" (293 : Nat) ({ cls := "PaidSecrets$Reader", name := "tells", desc := "()LPaidSecrets$Line;" } : Jvm.MethodName)) ∈ lw_all := lw_g (lw_at lw_m5 173 rfl) rfl
theorem q1262 : (Jvm.Cond.privateMethod ({ cls := "PaidSecrets$Reader", name := "tells", desc := "()LPaidSecrets$Line;" } : Jvm.MethodName)) ∈ lw_tbl := lw_at lw_m5 174 rfl
theorem q1263 : (Jvm.Cond.instanceMethod ({ cls := "PaidSecrets$Reader", name := "tells", desc := "()LPaidSecrets$Line;" } : Jvm.MethodName)) ∈ lw_all := lw_g (lw_at lw_m5 175 rfl) rfl
theorem q1264 : (Jvm.Cond.code ({ cls := "PaidSecrets$Reader", name := "tells", desc := "()LPaidSecrets$Line;" } : Jvm.MethodName) prog_25_method_29_code (3 : Nat) (Option.some (Jvm.ClassFile.FieldType.object "PaidSecrets$Line"))) ∈ lw_all := lw_g (lw_at lw_m5 176 rfl) rfl
theorem q1265 : (Jvm.Cond.classLink "PaidSecrets$Reader" (307 : Nat) "PaidSecrets$Tells") ∈ lw_all := lw_g (lw_at lw_m5 177 rfl) rfl
theorem q1267 : (Jvm.Cond.methodLink "PaidSecrets$Reader" (309 : Nat) ({ cls := "PaidSecrets$Tells", name := "<init>", desc := "(III)V" } : Jvm.MethodName)) ∈ lw_all := lw_g (lw_at lw_m5 179 rfl) rfl
theorem q1284 : (Jvm.Cond.classLink "PaidSecrets$Reader" (296 : Nat) "PaidSecrets$Pays") ∈ lw_all := lw_g (lw_at lw_m5 196 rfl) rfl
theorem q1286 : (Jvm.Cond.methodLink "PaidSecrets$Reader" (298 : Nat) ({ cls := "PaidSecrets$Pays", name := "<init>", desc := "(II)V" } : Jvm.MethodName)) ∈ lw_all := lw_g (lw_at lw_m5 198 rfl) rfl
theorem q1297 : (Jvm.Cond.classLink "PaidSecrets$Reader" (301 : Nat) "PaidSecrets$Rises") ∈ lw_all := lw_g (lw_at lw_m5 209 rfl) rfl
theorem q1299 : (Jvm.Cond.methodLink "PaidSecrets$Reader" (303 : Nat) ({ cls := "PaidSecrets$Rises", name := "<init>", desc := "(I)V" } : Jvm.MethodName)) ∈ lw_all := lw_g (lw_at lw_m5 211 rfl) rfl
theorem q1307 : (Jvm.Cond.classLink "PaidSecrets$Reader" (304 : Nat) "PaidSecrets$Quarter") ∈ lw_all := lw_g (lw_at lw_m5 219 rfl) rfl
theorem q1309 : (Jvm.Cond.methodLinkNest "PaidSecrets$Reader" (306 : Nat) ({ cls := "PaidSecrets$Quarter", name := "<init>", desc := "()V" } : Jvm.MethodName) "PaidSecrets") ∈ lw_tbl := lw_at lw_m5 221 rfl
theorem q2535 : (Jvm.Cond.castable "PaidSecrets$Reader" "java/lang/Object") ∈ lw_tbl := lw_at lw_m11 7 rfl
theorem in_X2 : ∀ w ∈ wsX20, w ∈ lw_all := lw_in wsX20 [242, 244, 246, 248, 250, 252, 254, 256, 258, 260, 262] (by decide +kernel) (by decide +kernel)
