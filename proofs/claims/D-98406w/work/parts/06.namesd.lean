set_option maxRecDepth 100000
/-! PaidSecrets$Talk -/
set_option maxRecDepth 100000
def RX3 : String := "PaidSecrets$Talk"
def TX3 : u_T := fun k => match k with
  | 0 => ("PaidSecrets$Talk", "town", "LPaidSecrets$Town;", false)
  | 1 => ("PaidSecrets$Talk", "knows", "[I", true)
  | 2 => ("PaidSecrets$Talk", "aware", "[I", true)
  | 3 => ("PaidSecrets$Talk", "rank", "[I", true)
  | 4 => ("PaidSecrets$Talk", "fined", "[I", true)
  | 5 => ("PaidSecrets$Talk", "net", "[I", true)
  | 6 => ("PaidSecrets$Talk", "met", "I", false)
  | 7 => ("PaidSecrets$Talk", "paid", "I", false)
  | 8 => ("PaidSecrets$Talk", "payers", "I", false)
  | 9 => ("PaidSecrets$Talk", "loans", "I", false)
  | _ => ("PaidSecrets$Talk", "quarter", "I", false)
def tyX3 : Nat → FieldType := fun k => match k with
  | 0 => .object "PaidSecrets$Town"
  | 1 => .array .int
  | 2 => .array .int
  | 3 => .array .int
  | 4 => .array .int
  | 5 => .array .int
  | 6 => .int
  | 7 => .int
  | 8 => .int
  | 9 => .int
  | _ => .int
abbrev wsX30 : List Cond := u_ws RX3 TX3 11
theorem nmX3 : ∀ a, a < 11 → ∀ b, b < 11 → a ≠ b → (TX3 a).2.1 ≠ (TX3 b).2.1 := by decide +kernel
theorem tyX3_ok : ∀ k, k < 11 → parseFieldDescriptor (TX3 k).2.2.1 = some (tyX3 k) := by decide +kernel
abbrev cX3_init : ByteArray := prog_30_method_1_code
def yX3_init : MethodName := ⟨RX3, "<init>", "()V"⟩
def dkwX3_init_1 : List UInt8 := [188, 10, 181, 0, 18, 42, 16, 6, 188, 10, 181, 0, 21, 42, 16, 6, 188, 10, 181, 0, 24, 177]
abbrev dktX3_init_1 : List UInt8 := dkwX3_init_1 ++ []
def dkwX3_init_0 : List UInt8 := [42, 183, 0, 3, 42, 16, 10, 188, 10, 181, 0, 9, 42, 16, 36, 188, 10, 181, 0, 15, 42, 16, 6]
abbrev dktX3_init_0 : List UInt8 := dkwX3_init_0 ++ dktX3_init_1
theorem dksX3_init_0 : cX3_init.data.toList.drop 0 = dktX3_init_0 := by decide +kernel
theorem dksX3_init_1 : cX3_init.data.toList.drop 23 = dktX3_init_1 := dk_seg dksX3_init_0 23 rfl rfl
theorem dX3_init_0 : decode cX3_init 0 = .ok (.aload_n 0, 1) := dk_42 (dk_at dksX3_init_0 0 rfl rfl)
theorem dX3_init_1 : decode cX3_init 1 = .ok (.invokespecial 3, 3) := dk_183 0 3 (dk_at dksX3_init_0 1 rfl rfl)
theorem dX3_init_4 : decode cX3_init 4 = .ok (.aload_n 0, 1) := dk_42 (dk_at dksX3_init_0 4 rfl rfl)
theorem dX3_init_5 : decode cX3_init 5 = .ok (.bipush 10, 2) := dk_16 10 (dk_at dksX3_init_0 5 rfl rfl)
theorem dX3_init_7 : decode cX3_init 7 = .ok (.newarray .int, 2) := dk_188_10 (dk_at dksX3_init_0 7 rfl rfl)
theorem dX3_init_9 : decode cX3_init 9 = .ok (.putfield 9, 3) := dk_181 0 9 (dk_at dksX3_init_0 9 rfl rfl)
theorem dX3_init_12 : decode cX3_init 12 = .ok (.aload_n 0, 1) := dk_42 (dk_at dksX3_init_0 12 rfl rfl)
theorem dX3_init_13 : decode cX3_init 13 = .ok (.bipush 36, 2) := dk_16 36 (dk_at dksX3_init_0 13 rfl rfl)
theorem dX3_init_15 : decode cX3_init 15 = .ok (.newarray .int, 2) := dk_188_10 (dk_at dksX3_init_0 15 rfl rfl)
theorem dX3_init_17 : decode cX3_init 17 = .ok (.putfield 15, 3) := dk_181 0 15 (dk_at dksX3_init_0 17 rfl rfl)
theorem dX3_init_20 : decode cX3_init 20 = .ok (.aload_n 0, 1) := dk_42 (dk_at dksX3_init_0 20 rfl rfl)
theorem dX3_init_21 : decode cX3_init 21 = .ok (.bipush 6, 2) := dk_16 6 (dk_at dksX3_init_0 21 rfl rfl)
theorem dX3_init_23 : decode cX3_init 23 = .ok (.newarray .int, 2) := dk_188_10 (dk_at dksX3_init_1 0 rfl rfl)
theorem dX3_init_25 : decode cX3_init 25 = .ok (.putfield 18, 3) := dk_181 0 18 (dk_at dksX3_init_1 2 rfl rfl)
theorem dX3_init_28 : decode cX3_init 28 = .ok (.aload_n 0, 1) := dk_42 (dk_at dksX3_init_1 5 rfl rfl)
theorem dX3_init_29 : decode cX3_init 29 = .ok (.bipush 6, 2) := dk_16 6 (dk_at dksX3_init_1 6 rfl rfl)
theorem dX3_init_31 : decode cX3_init 31 = .ok (.newarray .int, 2) := dk_188_10 (dk_at dksX3_init_1 8 rfl rfl)
theorem dX3_init_33 : decode cX3_init 33 = .ok (.putfield 21, 3) := dk_181 0 21 (dk_at dksX3_init_1 10 rfl rfl)
theorem dX3_init_36 : decode cX3_init 36 = .ok (.aload_n 0, 1) := dk_42 (dk_at dksX3_init_1 13 rfl rfl)
theorem dX3_init_37 : decode cX3_init 37 = .ok (.bipush 6, 2) := dk_16 6 (dk_at dksX3_init_1 14 rfl rfl)
theorem dX3_init_39 : decode cX3_init 39 = .ok (.newarray .int, 2) := dk_188_10 (dk_at dksX3_init_1 16 rfl rfl)
theorem dX3_init_41 : decode cX3_init 41 = .ok (.putfield 24, 3) := dk_181 0 24 (dk_at dksX3_init_1 18 rfl rfl)
theorem dX3_init_44 : decode cX3_init 44 = .ok (.return_, 1) := dk_177 (dk_at dksX3_init_1 21 rfl rfl)
abbrev cX3_begins : ByteArray := prog_30_method_2_code
def yX3_begins : MethodName := ⟨RX3, "begins", "(LPaidSecrets$Town;)LPaidSecrets$Talk;"⟩
def dkwX3_begins_7 : List UInt8 := [176]
abbrev dktX3_begins_7 : List UInt8 := dkwX3_begins_7 ++ []
def dkwX3_begins_6 : List UInt8 := [181, 0, 60, 42, 3, 181, 0, 63, 42, 3, 181, 0, 66, 42, 3, 181, 0, 69, 42, 3, 181, 0, 72, 42]
abbrev dktX3_begins_6 : List UInt8 := dkwX3_begins_6 ++ dktX3_begins_7
def dkwX3_begins_5 : List UInt8 := [79, 42, 180, 0, 21, 28, 3, 79, 42, 180, 0, 24, 28, 3, 79, 132, 2, 1, 167, 255, 198, 42, 3]
abbrev dktX3_begins_5 : List UInt8 := dkwX3_begins_5 ++ dktX3_begins_6
def dkwX3_begins_4 : List UInt8 := [182, 0, 37, 162, 0, 20, 43, 180, 0, 53, 28, 182, 0, 43, 192, 0, 56, 180, 0, 58, 167, 0, 4, 3]
abbrev dktX3_begins_4 : List UInt8 := dkwX3_begins_4 ++ dktX3_begins_5
def dkwX3_begins_3 : List UInt8 := [132, 2, 1, 167, 255, 240, 3, 61, 28, 16, 6, 162, 0, 58, 42, 180, 0, 18, 28, 28, 43, 180, 0, 53]
abbrev dktX3_begins_3 : List UInt8 := dkwX3_begins_3 ++ dktX3_begins_4
def dkwX3_begins_2 : List UInt8 := [79, 132, 2, 1, 167, 255, 212, 3, 61, 28, 16, 36, 162, 0, 16, 42, 180, 0, 15, 28, 3, 79]
abbrev dktX3_begins_2 : List UInt8 := dkwX3_begins_2 ++ dktX3_begins_3
def dkwX3_begins_1 : List UInt8 := [182, 0, 37, 162, 0, 20, 43, 180, 0, 31, 28, 182, 0, 43, 192, 0, 47, 180, 0, 49, 167, 0, 4, 3]
abbrev dktX3_begins_1 : List UInt8 := dkwX3_begins_1 ++ dktX3_begins_2
def dkwX3_begins_0 : List UInt8 := [42, 43, 181, 0, 27, 3, 61, 28, 16, 10, 162, 0, 44, 42, 180, 0, 9, 28, 28, 43, 180, 0, 31]
abbrev dktX3_begins_0 : List UInt8 := dkwX3_begins_0 ++ dktX3_begins_1
theorem dksX3_begins_0 : cX3_begins.data.toList.drop 0 = dktX3_begins_0 := by decide +kernel
theorem dksX3_begins_1 : cX3_begins.data.toList.drop 23 = dktX3_begins_1 := dk_seg dksX3_begins_0 23 rfl rfl
theorem dksX3_begins_2 : cX3_begins.data.toList.drop 47 = dktX3_begins_2 := dk_seg dksX3_begins_1 24 rfl rfl
theorem dksX3_begins_3 : cX3_begins.data.toList.drop 69 = dktX3_begins_3 := dk_seg dksX3_begins_2 22 rfl rfl
theorem dksX3_begins_4 : cX3_begins.data.toList.drop 93 = dktX3_begins_4 := dk_seg dksX3_begins_3 24 rfl rfl
theorem dksX3_begins_5 : cX3_begins.data.toList.drop 117 = dktX3_begins_5 := dk_seg dksX3_begins_4 24 rfl rfl
theorem dksX3_begins_6 : cX3_begins.data.toList.drop 140 = dktX3_begins_6 := dk_seg dksX3_begins_5 23 rfl rfl
theorem dksX3_begins_7 : cX3_begins.data.toList.drop 164 = dktX3_begins_7 := dk_seg dksX3_begins_6 24 rfl rfl
theorem dX3_begins_0 : decode cX3_begins 0 = .ok (.aload_n 0, 1) := dk_42 (dk_at dksX3_begins_0 0 rfl rfl)
theorem dX3_begins_1 : decode cX3_begins 1 = .ok (.aload_n 1, 1) := dk_43 (dk_at dksX3_begins_0 1 rfl rfl)
theorem dX3_begins_2 : decode cX3_begins 2 = .ok (.putfield 27, 3) := dk_181 0 27 (dk_at dksX3_begins_0 2 rfl rfl)
theorem dX3_begins_5 : decode cX3_begins 5 = .ok (.iconst 0, 1) := dk_3 (dk_at dksX3_begins_0 5 rfl rfl)
theorem dX3_begins_6 : decode cX3_begins 6 = .ok (.istore_n 2, 1) := dk_61 (dk_at dksX3_begins_0 6 rfl rfl)
theorem dX3_begins_7 : decode cX3_begins 7 = .ok (.iload_n 2, 1) := dk_28 (dk_at dksX3_begins_0 7 rfl rfl)
theorem dX3_begins_8 : decode cX3_begins 8 = .ok (.bipush 10, 2) := dk_16 10 (dk_at dksX3_begins_0 8 rfl rfl)
theorem dX3_begins_10 : decode cX3_begins 10 = .ok (.if_icmp .ge 44, 3) := dk_162 0 44 (dk_at dksX3_begins_0 10 rfl rfl)
theorem dX3_begins_13 : decode cX3_begins 13 = .ok (.aload_n 0, 1) := dk_42 (dk_at dksX3_begins_0 13 rfl rfl)
theorem dX3_begins_14 : decode cX3_begins 14 = .ok (.getfield 9, 3) := dk_180 0 9 (dk_at dksX3_begins_0 14 rfl rfl)
theorem dX3_begins_17 : decode cX3_begins 17 = .ok (.iload_n 2, 1) := dk_28 (dk_at dksX3_begins_0 17 rfl rfl)
theorem dX3_begins_18 : decode cX3_begins 18 = .ok (.iload_n 2, 1) := dk_28 (dk_at dksX3_begins_0 18 rfl rfl)
theorem dX3_begins_19 : decode cX3_begins 19 = .ok (.aload_n 1, 1) := dk_43 (dk_at dksX3_begins_0 19 rfl rfl)
theorem dX3_begins_20 : decode cX3_begins 20 = .ok (.getfield 31, 3) := dk_180 0 31 (dk_at dksX3_begins_0 20 rfl rfl)
theorem dX3_begins_23 : decode cX3_begins 23 = .ok (.invokevirtual 37, 3) := dk_182 0 37 (dk_at dksX3_begins_1 0 rfl rfl)
theorem dX3_begins_26 : decode cX3_begins 26 = .ok (.if_icmp .ge 20, 3) := dk_162 0 20 (dk_at dksX3_begins_1 3 rfl rfl)
theorem dX3_begins_29 : decode cX3_begins 29 = .ok (.aload_n 1, 1) := dk_43 (dk_at dksX3_begins_1 6 rfl rfl)
theorem dX3_begins_30 : decode cX3_begins 30 = .ok (.getfield 31, 3) := dk_180 0 31 (dk_at dksX3_begins_1 7 rfl rfl)
theorem dX3_begins_33 : decode cX3_begins 33 = .ok (.iload_n 2, 1) := dk_28 (dk_at dksX3_begins_1 10 rfl rfl)
theorem dX3_begins_34 : decode cX3_begins 34 = .ok (.invokevirtual 43, 3) := dk_182 0 43 (dk_at dksX3_begins_1 11 rfl rfl)
theorem dX3_begins_37 : decode cX3_begins 37 = .ok (.checkcast 47, 3) := dk_192 0 47 (dk_at dksX3_begins_1 14 rfl rfl)
theorem dX3_begins_40 : decode cX3_begins 40 = .ok (.getfield 49, 3) := dk_180 0 49 (dk_at dksX3_begins_1 17 rfl rfl)
theorem dX3_begins_43 : decode cX3_begins 43 = .ok (.goto 4, 3) := dk_167 0 4 (dk_at dksX3_begins_1 20 rfl rfl)
theorem dX3_begins_46 : decode cX3_begins 46 = .ok (.iconst 0, 1) := dk_3 (dk_at dksX3_begins_1 23 rfl rfl)
theorem dX3_begins_47 : decode cX3_begins 47 = .ok (.iastore, 1) := dk_79 (dk_at dksX3_begins_2 0 rfl rfl)
theorem dX3_begins_48 : decode cX3_begins 48 = .ok (.iinc 2 1, 3) := dk_132 2 1 (dk_at dksX3_begins_2 1 rfl rfl)
theorem dX3_begins_51 : decode cX3_begins 51 = .ok (.goto (-44), 3) := dk_167 255 212 (dk_at dksX3_begins_2 4 rfl rfl)
theorem dX3_begins_54 : decode cX3_begins 54 = .ok (.iconst 0, 1) := dk_3 (dk_at dksX3_begins_2 7 rfl rfl)
theorem dX3_begins_55 : decode cX3_begins 55 = .ok (.istore_n 2, 1) := dk_61 (dk_at dksX3_begins_2 8 rfl rfl)
theorem dX3_begins_56 : decode cX3_begins 56 = .ok (.iload_n 2, 1) := dk_28 (dk_at dksX3_begins_2 9 rfl rfl)
theorem dX3_begins_57 : decode cX3_begins 57 = .ok (.bipush 36, 2) := dk_16 36 (dk_at dksX3_begins_2 10 rfl rfl)
theorem dX3_begins_59 : decode cX3_begins 59 = .ok (.if_icmp .ge 16, 3) := dk_162 0 16 (dk_at dksX3_begins_2 12 rfl rfl)
theorem dX3_begins_62 : decode cX3_begins 62 = .ok (.aload_n 0, 1) := dk_42 (dk_at dksX3_begins_2 15 rfl rfl)
theorem dX3_begins_63 : decode cX3_begins 63 = .ok (.getfield 15, 3) := dk_180 0 15 (dk_at dksX3_begins_2 16 rfl rfl)
theorem dX3_begins_66 : decode cX3_begins 66 = .ok (.iload_n 2, 1) := dk_28 (dk_at dksX3_begins_2 19 rfl rfl)
theorem dX3_begins_67 : decode cX3_begins 67 = .ok (.iconst 0, 1) := dk_3 (dk_at dksX3_begins_2 20 rfl rfl)
theorem dX3_begins_68 : decode cX3_begins 68 = .ok (.iastore, 1) := dk_79 (dk_at dksX3_begins_2 21 rfl rfl)
theorem dX3_begins_69 : decode cX3_begins 69 = .ok (.iinc 2 1, 3) := dk_132 2 1 (dk_at dksX3_begins_3 0 rfl rfl)
theorem dX3_begins_72 : decode cX3_begins 72 = .ok (.goto (-16), 3) := dk_167 255 240 (dk_at dksX3_begins_3 3 rfl rfl)
theorem dX3_begins_75 : decode cX3_begins 75 = .ok (.iconst 0, 1) := dk_3 (dk_at dksX3_begins_3 6 rfl rfl)
theorem dX3_begins_76 : decode cX3_begins 76 = .ok (.istore_n 2, 1) := dk_61 (dk_at dksX3_begins_3 7 rfl rfl)
theorem dX3_begins_77 : decode cX3_begins 77 = .ok (.iload_n 2, 1) := dk_28 (dk_at dksX3_begins_3 8 rfl rfl)
theorem dX3_begins_78 : decode cX3_begins 78 = .ok (.bipush 6, 2) := dk_16 6 (dk_at dksX3_begins_3 9 rfl rfl)
theorem dX3_begins_80 : decode cX3_begins 80 = .ok (.if_icmp .ge 58, 3) := dk_162 0 58 (dk_at dksX3_begins_3 11 rfl rfl)
theorem dX3_begins_83 : decode cX3_begins 83 = .ok (.aload_n 0, 1) := dk_42 (dk_at dksX3_begins_3 14 rfl rfl)
theorem dX3_begins_84 : decode cX3_begins 84 = .ok (.getfield 18, 3) := dk_180 0 18 (dk_at dksX3_begins_3 15 rfl rfl)
theorem dX3_begins_87 : decode cX3_begins 87 = .ok (.iload_n 2, 1) := dk_28 (dk_at dksX3_begins_3 18 rfl rfl)
theorem dX3_begins_88 : decode cX3_begins 88 = .ok (.iload_n 2, 1) := dk_28 (dk_at dksX3_begins_3 19 rfl rfl)
theorem dX3_begins_89 : decode cX3_begins 89 = .ok (.aload_n 1, 1) := dk_43 (dk_at dksX3_begins_3 20 rfl rfl)
theorem dX3_begins_90 : decode cX3_begins 90 = .ok (.getfield 53, 3) := dk_180 0 53 (dk_at dksX3_begins_3 21 rfl rfl)
theorem dX3_begins_93 : decode cX3_begins 93 = .ok (.invokevirtual 37, 3) := dk_182 0 37 (dk_at dksX3_begins_4 0 rfl rfl)
theorem dX3_begins_96 : decode cX3_begins 96 = .ok (.if_icmp .ge 20, 3) := dk_162 0 20 (dk_at dksX3_begins_4 3 rfl rfl)
theorem dX3_begins_99 : decode cX3_begins 99 = .ok (.aload_n 1, 1) := dk_43 (dk_at dksX3_begins_4 6 rfl rfl)
theorem dX3_begins_100 : decode cX3_begins 100 = .ok (.getfield 53, 3) := dk_180 0 53 (dk_at dksX3_begins_4 7 rfl rfl)
theorem dX3_begins_103 : decode cX3_begins 103 = .ok (.iload_n 2, 1) := dk_28 (dk_at dksX3_begins_4 10 rfl rfl)
theorem dX3_begins_104 : decode cX3_begins 104 = .ok (.invokevirtual 43, 3) := dk_182 0 43 (dk_at dksX3_begins_4 11 rfl rfl)
theorem dX3_begins_107 : decode cX3_begins 107 = .ok (.checkcast 56, 3) := dk_192 0 56 (dk_at dksX3_begins_4 14 rfl rfl)
theorem dX3_begins_110 : decode cX3_begins 110 = .ok (.getfield 58, 3) := dk_180 0 58 (dk_at dksX3_begins_4 17 rfl rfl)
theorem dX3_begins_113 : decode cX3_begins 113 = .ok (.goto 4, 3) := dk_167 0 4 (dk_at dksX3_begins_4 20 rfl rfl)
theorem dX3_begins_116 : decode cX3_begins 116 = .ok (.iconst 0, 1) := dk_3 (dk_at dksX3_begins_4 23 rfl rfl)
theorem dX3_begins_117 : decode cX3_begins 117 = .ok (.iastore, 1) := dk_79 (dk_at dksX3_begins_5 0 rfl rfl)
theorem dX3_begins_118 : decode cX3_begins 118 = .ok (.aload_n 0, 1) := dk_42 (dk_at dksX3_begins_5 1 rfl rfl)
theorem dX3_begins_119 : decode cX3_begins 119 = .ok (.getfield 21, 3) := dk_180 0 21 (dk_at dksX3_begins_5 2 rfl rfl)
theorem dX3_begins_122 : decode cX3_begins 122 = .ok (.iload_n 2, 1) := dk_28 (dk_at dksX3_begins_5 5 rfl rfl)
theorem dX3_begins_123 : decode cX3_begins 123 = .ok (.iconst 0, 1) := dk_3 (dk_at dksX3_begins_5 6 rfl rfl)
theorem dX3_begins_124 : decode cX3_begins 124 = .ok (.iastore, 1) := dk_79 (dk_at dksX3_begins_5 7 rfl rfl)
theorem dX3_begins_125 : decode cX3_begins 125 = .ok (.aload_n 0, 1) := dk_42 (dk_at dksX3_begins_5 8 rfl rfl)
theorem dX3_begins_126 : decode cX3_begins 126 = .ok (.getfield 24, 3) := dk_180 0 24 (dk_at dksX3_begins_5 9 rfl rfl)
theorem dX3_begins_129 : decode cX3_begins 129 = .ok (.iload_n 2, 1) := dk_28 (dk_at dksX3_begins_5 12 rfl rfl)
theorem dX3_begins_130 : decode cX3_begins 130 = .ok (.iconst 0, 1) := dk_3 (dk_at dksX3_begins_5 13 rfl rfl)
theorem dX3_begins_131 : decode cX3_begins 131 = .ok (.iastore, 1) := dk_79 (dk_at dksX3_begins_5 14 rfl rfl)
theorem dX3_begins_132 : decode cX3_begins 132 = .ok (.iinc 2 1, 3) := dk_132 2 1 (dk_at dksX3_begins_5 15 rfl rfl)
theorem dX3_begins_135 : decode cX3_begins 135 = .ok (.goto (-58), 3) := dk_167 255 198 (dk_at dksX3_begins_5 18 rfl rfl)
theorem dX3_begins_138 : decode cX3_begins 138 = .ok (.aload_n 0, 1) := dk_42 (dk_at dksX3_begins_5 21 rfl rfl)
theorem dX3_begins_139 : decode cX3_begins 139 = .ok (.iconst 0, 1) := dk_3 (dk_at dksX3_begins_5 22 rfl rfl)
theorem dX3_begins_140 : decode cX3_begins 140 = .ok (.putfield 60, 3) := dk_181 0 60 (dk_at dksX3_begins_6 0 rfl rfl)
theorem dX3_begins_143 : decode cX3_begins 143 = .ok (.aload_n 0, 1) := dk_42 (dk_at dksX3_begins_6 3 rfl rfl)
theorem dX3_begins_144 : decode cX3_begins 144 = .ok (.iconst 0, 1) := dk_3 (dk_at dksX3_begins_6 4 rfl rfl)
theorem dX3_begins_145 : decode cX3_begins 145 = .ok (.putfield 63, 3) := dk_181 0 63 (dk_at dksX3_begins_6 5 rfl rfl)
theorem dX3_begins_148 : decode cX3_begins 148 = .ok (.aload_n 0, 1) := dk_42 (dk_at dksX3_begins_6 8 rfl rfl)
theorem dX3_begins_149 : decode cX3_begins 149 = .ok (.iconst 0, 1) := dk_3 (dk_at dksX3_begins_6 9 rfl rfl)
theorem dX3_begins_150 : decode cX3_begins 150 = .ok (.putfield 66, 3) := dk_181 0 66 (dk_at dksX3_begins_6 10 rfl rfl)
theorem dX3_begins_153 : decode cX3_begins 153 = .ok (.aload_n 0, 1) := dk_42 (dk_at dksX3_begins_6 13 rfl rfl)
theorem dX3_begins_154 : decode cX3_begins 154 = .ok (.iconst 0, 1) := dk_3 (dk_at dksX3_begins_6 14 rfl rfl)
theorem dX3_begins_155 : decode cX3_begins 155 = .ok (.putfield 69, 3) := dk_181 0 69 (dk_at dksX3_begins_6 15 rfl rfl)
theorem dX3_begins_158 : decode cX3_begins 158 = .ok (.aload_n 0, 1) := dk_42 (dk_at dksX3_begins_6 18 rfl rfl)
theorem dX3_begins_159 : decode cX3_begins 159 = .ok (.iconst 0, 1) := dk_3 (dk_at dksX3_begins_6 19 rfl rfl)
theorem dX3_begins_160 : decode cX3_begins 160 = .ok (.putfield 72, 3) := dk_181 0 72 (dk_at dksX3_begins_6 20 rfl rfl)
theorem dX3_begins_163 : decode cX3_begins 163 = .ok (.aload_n 0, 1) := dk_42 (dk_at dksX3_begins_6 23 rfl rfl)
theorem dX3_begins_164 : decode cX3_begins 164 = .ok (.areturn, 1) := dk_176 (dk_at dksX3_begins_7 0 rfl rfl)
abbrev cX3_worth : ByteArray := prog_30_method_7_code
def yX3_worth : MethodName := ⟨RX3, "worth", "(I)I"⟩
def dkwX3_worth_2 : List UInt8 := [172]
abbrev dktX3_worth_2 : List UInt8 := dkwX3_worth_2 ++ []
def dkwX3_worth_1 : List UInt8 := [42, 180, 0, 9, 27, 46, 182, 0, 104, 28, 2, 160, 0, 7, 3, 167, 0, 8, 42, 28, 182, 0, 107, 96]
abbrev dktX3_worth_1 : List UInt8 := dkwX3_worth_1 ++ dktX3_worth_2
def dkwX3_worth_0 : List UInt8 := [42, 180, 0, 60, 27, 184, 0, 97, 153, 0, 5, 3, 172, 42, 27, 182, 0, 86, 180, 0, 101, 61, 42, 27]
abbrev dktX3_worth_0 : List UInt8 := dkwX3_worth_0 ++ dktX3_worth_1
theorem dksX3_worth_0 : cX3_worth.data.toList.drop 0 = dktX3_worth_0 := by decide +kernel
theorem dksX3_worth_1 : cX3_worth.data.toList.drop 24 = dktX3_worth_1 := dk_seg dksX3_worth_0 24 rfl rfl
theorem dksX3_worth_2 : cX3_worth.data.toList.drop 48 = dktX3_worth_2 := dk_seg dksX3_worth_1 24 rfl rfl
theorem dX3_worth_0 : decode cX3_worth 0 = .ok (.aload_n 0, 1) := dk_42 (dk_at dksX3_worth_0 0 rfl rfl)
theorem dX3_worth_1 : decode cX3_worth 1 = .ok (.getfield 60, 3) := dk_180 0 60 (dk_at dksX3_worth_0 1 rfl rfl)
theorem dX3_worth_4 : decode cX3_worth 4 = .ok (.iload_n 1, 1) := dk_27 (dk_at dksX3_worth_0 4 rfl rfl)
theorem dX3_worth_5 : decode cX3_worth 5 = .ok (.invokestatic 97, 3) := dk_184 0 97 (dk_at dksX3_worth_0 5 rfl rfl)
theorem dX3_worth_8 : decode cX3_worth 8 = .ok (.ifCond .eq 5, 3) := dk_153 0 5 (dk_at dksX3_worth_0 8 rfl rfl)
theorem dX3_worth_11 : decode cX3_worth 11 = .ok (.iconst 0, 1) := dk_3 (dk_at dksX3_worth_0 11 rfl rfl)
theorem dX3_worth_12 : decode cX3_worth 12 = .ok (.ireturn, 1) := dk_172 (dk_at dksX3_worth_0 12 rfl rfl)
theorem dX3_worth_13 : decode cX3_worth 13 = .ok (.aload_n 0, 1) := dk_42 (dk_at dksX3_worth_0 13 rfl rfl)
theorem dX3_worth_14 : decode cX3_worth 14 = .ok (.iload_n 1, 1) := dk_27 (dk_at dksX3_worth_0 14 rfl rfl)
theorem dX3_worth_15 : decode cX3_worth 15 = .ok (.invokevirtual 86, 3) := dk_182 0 86 (dk_at dksX3_worth_0 15 rfl rfl)
theorem dX3_worth_18 : decode cX3_worth 18 = .ok (.getfield 101, 3) := dk_180 0 101 (dk_at dksX3_worth_0 18 rfl rfl)
theorem dX3_worth_21 : decode cX3_worth 21 = .ok (.istore_n 2, 1) := dk_61 (dk_at dksX3_worth_0 21 rfl rfl)
theorem dX3_worth_22 : decode cX3_worth 22 = .ok (.aload_n 0, 1) := dk_42 (dk_at dksX3_worth_0 22 rfl rfl)
theorem dX3_worth_23 : decode cX3_worth 23 = .ok (.iload_n 1, 1) := dk_27 (dk_at dksX3_worth_0 23 rfl rfl)
theorem dX3_worth_24 : decode cX3_worth 24 = .ok (.aload_n 0, 1) := dk_42 (dk_at dksX3_worth_1 0 rfl rfl)
theorem dX3_worth_25 : decode cX3_worth 25 = .ok (.getfield 9, 3) := dk_180 0 9 (dk_at dksX3_worth_1 1 rfl rfl)
theorem dX3_worth_28 : decode cX3_worth 28 = .ok (.iload_n 1, 1) := dk_27 (dk_at dksX3_worth_1 4 rfl rfl)
theorem dX3_worth_29 : decode cX3_worth 29 = .ok (.iaload, 1) := dk_46 (dk_at dksX3_worth_1 5 rfl rfl)
theorem dX3_worth_30 : decode cX3_worth 30 = .ok (.invokevirtual 104, 3) := dk_182 0 104 (dk_at dksX3_worth_1 6 rfl rfl)
theorem dX3_worth_33 : decode cX3_worth 33 = .ok (.iload_n 2, 1) := dk_28 (dk_at dksX3_worth_1 9 rfl rfl)
theorem dX3_worth_34 : decode cX3_worth 34 = .ok (.iconst (-1), 1) := dk_2 (dk_at dksX3_worth_1 10 rfl rfl)
theorem dX3_worth_35 : decode cX3_worth 35 = .ok (.if_icmp .ne 7, 3) := dk_160 0 7 (dk_at dksX3_worth_1 11 rfl rfl)
theorem dX3_worth_38 : decode cX3_worth 38 = .ok (.iconst 0, 1) := dk_3 (dk_at dksX3_worth_1 14 rfl rfl)
theorem dX3_worth_39 : decode cX3_worth 39 = .ok (.goto 8, 3) := dk_167 0 8 (dk_at dksX3_worth_1 15 rfl rfl)
theorem dX3_worth_42 : decode cX3_worth 42 = .ok (.aload_n 0, 1) := dk_42 (dk_at dksX3_worth_1 18 rfl rfl)
theorem dX3_worth_43 : decode cX3_worth 43 = .ok (.iload_n 2, 1) := dk_28 (dk_at dksX3_worth_1 19 rfl rfl)
theorem dX3_worth_44 : decode cX3_worth 44 = .ok (.invokevirtual 107, 3) := dk_182 0 107 (dk_at dksX3_worth_1 20 rfl rfl)
theorem dX3_worth_47 : decode cX3_worth 47 = .ok (.iadd, 1) := dk_96 (dk_at dksX3_worth_1 23 rfl rfl)
theorem dX3_worth_48 : decode cX3_worth 48 = .ok (.ireturn, 1) := dk_172 (dk_at dksX3_worth_2 0 rfl rfl)
abbrev cX3_secret : ByteArray := prog_30_method_5_code
def yX3_secret : MethodName := ⟨RX3, "secret", "(I)LPaidSecrets$Secret;"⟩
def dkwX3_secret_0 : List UInt8 := [42, 180, 0, 27, 180, 0, 31, 27, 182, 0, 43, 192, 0, 47, 176]
abbrev dktX3_secret_0 : List UInt8 := dkwX3_secret_0 ++ []
theorem dksX3_secret_0 : cX3_secret.data.toList.drop 0 = dktX3_secret_0 := by decide +kernel
theorem dX3_secret_0 : decode cX3_secret 0 = .ok (.aload_n 0, 1) := dk_42 (dk_at dksX3_secret_0 0 rfl rfl)
theorem dX3_secret_1 : decode cX3_secret 1 = .ok (.getfield 27, 3) := dk_180 0 27 (dk_at dksX3_secret_0 1 rfl rfl)
theorem dX3_secret_4 : decode cX3_secret 4 = .ok (.getfield 31, 3) := dk_180 0 31 (dk_at dksX3_secret_0 4 rfl rfl)
theorem dX3_secret_7 : decode cX3_secret 7 = .ok (.iload_n 1, 1) := dk_27 (dk_at dksX3_secret_0 7 rfl rfl)
theorem dX3_secret_8 : decode cX3_secret 8 = .ok (.invokevirtual 43, 3) := dk_182 0 43 (dk_at dksX3_secret_0 8 rfl rfl)
theorem dX3_secret_11 : decode cX3_secret 11 = .ok (.checkcast 47, 3) := dk_192 0 47 (dk_at dksX3_secret_0 11 rfl rfl)
theorem dX3_secret_14 : decode cX3_secret 14 = .ok (.areturn, 1) := dk_176 (dk_at dksX3_secret_0 14 rfl rfl)
abbrev cX3_bare : ByteArray := prog_30_method_6_code
def yX3_bare : MethodName := ⟨RX3, "bare", "(II)I"⟩
def dkwX3_bare_1 : List UInt8 := [182, 0, 93, 172]
abbrev dktX3_bare_1 : List UInt8 := dkwX3_bare_1 ++ []
def dkwX3_bare_0 : List UInt8 := [42, 180, 0, 27, 27, 28, 42, 180, 0, 72, 42, 180, 0, 18, 42, 27, 182, 0, 86, 180, 0, 90, 46]
abbrev dktX3_bare_0 : List UInt8 := dkwX3_bare_0 ++ dktX3_bare_1
theorem dksX3_bare_0 : cX3_bare.data.toList.drop 0 = dktX3_bare_0 := by decide +kernel
theorem dksX3_bare_1 : cX3_bare.data.toList.drop 23 = dktX3_bare_1 := dk_seg dksX3_bare_0 23 rfl rfl
theorem dX3_bare_0 : decode cX3_bare 0 = .ok (.aload_n 0, 1) := dk_42 (dk_at dksX3_bare_0 0 rfl rfl)
theorem dX3_bare_1 : decode cX3_bare 1 = .ok (.getfield 27, 3) := dk_180 0 27 (dk_at dksX3_bare_0 1 rfl rfl)
theorem dX3_bare_4 : decode cX3_bare 4 = .ok (.iload_n 1, 1) := dk_27 (dk_at dksX3_bare_0 4 rfl rfl)
theorem dX3_bare_5 : decode cX3_bare 5 = .ok (.iload_n 2, 1) := dk_28 (dk_at dksX3_bare_0 5 rfl rfl)
theorem dX3_bare_6 : decode cX3_bare 6 = .ok (.aload_n 0, 1) := dk_42 (dk_at dksX3_bare_0 6 rfl rfl)
theorem dX3_bare_7 : decode cX3_bare 7 = .ok (.getfield 72, 3) := dk_180 0 72 (dk_at dksX3_bare_0 7 rfl rfl)
theorem dX3_bare_10 : decode cX3_bare 10 = .ok (.aload_n 0, 1) := dk_42 (dk_at dksX3_bare_0 10 rfl rfl)
theorem dX3_bare_11 : decode cX3_bare 11 = .ok (.getfield 18, 3) := dk_180 0 18 (dk_at dksX3_bare_0 11 rfl rfl)
theorem dX3_bare_14 : decode cX3_bare 14 = .ok (.aload_n 0, 1) := dk_42 (dk_at dksX3_bare_0 14 rfl rfl)
theorem dX3_bare_15 : decode cX3_bare 15 = .ok (.iload_n 1, 1) := dk_27 (dk_at dksX3_bare_0 15 rfl rfl)
theorem dX3_bare_16 : decode cX3_bare 16 = .ok (.invokevirtual 86, 3) := dk_182 0 86 (dk_at dksX3_bare_0 16 rfl rfl)
theorem dX3_bare_19 : decode cX3_bare 19 = .ok (.getfield 90, 3) := dk_180 0 90 (dk_at dksX3_bare_0 19 rfl rfl)
theorem dX3_bare_22 : decode cX3_bare 22 = .ok (.iaload, 1) := dk_46 (dk_at dksX3_bare_0 22 rfl rfl)
theorem dX3_bare_23 : decode cX3_bare 23 = .ok (.invokevirtual 93, 3) := dk_182 0 93 (dk_at dksX3_bare_1 0 rfl rfl)
theorem dX3_bare_26 : decode cX3_bare 26 = .ok (.ireturn, 1) := dk_172 (dk_at dksX3_bare_1 3 rfl rfl)
abbrev cX3_mayTell : ByteArray := prog_30_method_12_code
def yX3_mayTell : MethodName := ⟨RX3, "mayTell", "(III)Z"⟩
def dkwX3_mayTell_2 : List UInt8 := [184, 0, 97, 154, 0, 7, 4, 167, 0, 4, 3, 172]
abbrev dktX3_mayTell_2 : List UInt8 := dkwX3_mayTell_2 ++ []
def dkwX3_mayTell_1 : List UInt8 := [153, 0, 33, 42, 180, 0, 9, 29, 46, 27, 184, 0, 97, 153, 0, 20, 42, 180, 0, 9, 29, 46, 28]
abbrev dktX3_mayTell_1 : List UInt8 := dkwX3_mayTell_1 ++ dktX3_mayTell_2
def dkwX3_mayTell_0 : List UInt8 := [27, 28, 159, 0, 53, 42, 180, 0, 27, 180, 0, 53, 27, 182, 0, 43, 192, 0, 56, 182, 0, 117]
abbrev dktX3_mayTell_0 : List UInt8 := dkwX3_mayTell_0 ++ dktX3_mayTell_1
theorem dksX3_mayTell_0 : cX3_mayTell.data.toList.drop 0 = dktX3_mayTell_0 := by decide +kernel
theorem dksX3_mayTell_1 : cX3_mayTell.data.toList.drop 22 = dktX3_mayTell_1 := dk_seg dksX3_mayTell_0 22 rfl rfl
theorem dksX3_mayTell_2 : cX3_mayTell.data.toList.drop 45 = dktX3_mayTell_2 := dk_seg dksX3_mayTell_1 23 rfl rfl
theorem dX3_mayTell_0 : decode cX3_mayTell 0 = .ok (.iload_n 1, 1) := dk_27 (dk_at dksX3_mayTell_0 0 rfl rfl)
theorem dX3_mayTell_1 : decode cX3_mayTell 1 = .ok (.iload_n 2, 1) := dk_28 (dk_at dksX3_mayTell_0 1 rfl rfl)
theorem dX3_mayTell_2 : decode cX3_mayTell 2 = .ok (.if_icmp .eq 53, 3) := dk_159 0 53 (dk_at dksX3_mayTell_0 2 rfl rfl)
theorem dX3_mayTell_5 : decode cX3_mayTell 5 = .ok (.aload_n 0, 1) := dk_42 (dk_at dksX3_mayTell_0 5 rfl rfl)
theorem dX3_mayTell_6 : decode cX3_mayTell 6 = .ok (.getfield 27, 3) := dk_180 0 27 (dk_at dksX3_mayTell_0 6 rfl rfl)
theorem dX3_mayTell_9 : decode cX3_mayTell 9 = .ok (.getfield 53, 3) := dk_180 0 53 (dk_at dksX3_mayTell_0 9 rfl rfl)
theorem dX3_mayTell_12 : decode cX3_mayTell 12 = .ok (.iload_n 1, 1) := dk_27 (dk_at dksX3_mayTell_0 12 rfl rfl)
theorem dX3_mayTell_13 : decode cX3_mayTell 13 = .ok (.invokevirtual 43, 3) := dk_182 0 43 (dk_at dksX3_mayTell_0 13 rfl rfl)
theorem dX3_mayTell_16 : decode cX3_mayTell 16 = .ok (.checkcast 56, 3) := dk_192 0 56 (dk_at dksX3_mayTell_0 16 rfl rfl)
theorem dX3_mayTell_19 : decode cX3_mayTell 19 = .ok (.invokevirtual 117, 3) := dk_182 0 117 (dk_at dksX3_mayTell_0 19 rfl rfl)
theorem dX3_mayTell_22 : decode cX3_mayTell 22 = .ok (.ifCond .eq 33, 3) := dk_153 0 33 (dk_at dksX3_mayTell_1 0 rfl rfl)
theorem dX3_mayTell_25 : decode cX3_mayTell 25 = .ok (.aload_n 0, 1) := dk_42 (dk_at dksX3_mayTell_1 3 rfl rfl)
theorem dX3_mayTell_26 : decode cX3_mayTell 26 = .ok (.getfield 9, 3) := dk_180 0 9 (dk_at dksX3_mayTell_1 4 rfl rfl)
theorem dX3_mayTell_29 : decode cX3_mayTell 29 = .ok (.iload_n 3, 1) := dk_29 (dk_at dksX3_mayTell_1 7 rfl rfl)
theorem dX3_mayTell_30 : decode cX3_mayTell 30 = .ok (.iaload, 1) := dk_46 (dk_at dksX3_mayTell_1 8 rfl rfl)
theorem dX3_mayTell_31 : decode cX3_mayTell 31 = .ok (.iload_n 1, 1) := dk_27 (dk_at dksX3_mayTell_1 9 rfl rfl)
theorem dX3_mayTell_32 : decode cX3_mayTell 32 = .ok (.invokestatic 97, 3) := dk_184 0 97 (dk_at dksX3_mayTell_1 10 rfl rfl)
theorem dX3_mayTell_35 : decode cX3_mayTell 35 = .ok (.ifCond .eq 20, 3) := dk_153 0 20 (dk_at dksX3_mayTell_1 13 rfl rfl)
theorem dX3_mayTell_38 : decode cX3_mayTell 38 = .ok (.aload_n 0, 1) := dk_42 (dk_at dksX3_mayTell_1 16 rfl rfl)
theorem dX3_mayTell_39 : decode cX3_mayTell 39 = .ok (.getfield 9, 3) := dk_180 0 9 (dk_at dksX3_mayTell_1 17 rfl rfl)
theorem dX3_mayTell_42 : decode cX3_mayTell 42 = .ok (.iload_n 3, 1) := dk_29 (dk_at dksX3_mayTell_1 20 rfl rfl)
theorem dX3_mayTell_43 : decode cX3_mayTell 43 = .ok (.iaload, 1) := dk_46 (dk_at dksX3_mayTell_1 21 rfl rfl)
theorem dX3_mayTell_44 : decode cX3_mayTell 44 = .ok (.iload_n 2, 1) := dk_28 (dk_at dksX3_mayTell_1 22 rfl rfl)
theorem dX3_mayTell_45 : decode cX3_mayTell 45 = .ok (.invokestatic 97, 3) := dk_184 0 97 (dk_at dksX3_mayTell_2 0 rfl rfl)
theorem dX3_mayTell_48 : decode cX3_mayTell 48 = .ok (.ifCond .ne 7, 3) := dk_154 0 7 (dk_at dksX3_mayTell_2 3 rfl rfl)
theorem dX3_mayTell_51 : decode cX3_mayTell 51 = .ok (.iconst 1, 1) := dk_4 (dk_at dksX3_mayTell_2 6 rfl rfl)
theorem dX3_mayTell_52 : decode cX3_mayTell 52 = .ok (.goto 4, 3) := dk_167 0 4 (dk_at dksX3_mayTell_2 7 rfl rfl)
theorem dX3_mayTell_55 : decode cX3_mayTell 55 = .ok (.iconst 0, 1) := dk_3 (dk_at dksX3_mayTell_2 10 rfl rfl)
theorem dX3_mayTell_56 : decode cX3_mayTell 56 = .ok (.ireturn, 1) := dk_172 (dk_at dksX3_mayTell_2 11 rfl rfl)
abbrev cX3_copied : ByteArray := prog_30_method_3_code
def yX3_copied : MethodName := ⟨RX3, "copied", "()LPaidSecrets$Talk;"⟩
def dkwX3_copied_0 : List UInt8 := [187, 0, 10, 89, 183, 0, 75, 42, 182, 0, 76, 176]
abbrev dktX3_copied_0 : List UInt8 := dkwX3_copied_0 ++ []
theorem dksX3_copied_0 : cX3_copied.data.toList.drop 0 = dktX3_copied_0 := by decide +kernel
theorem dX3_copied_0 : decode cX3_copied 0 = .ok (.new 10, 3) := dk_187 0 10 (dk_at dksX3_copied_0 0 rfl rfl)
theorem dX3_copied_3 : decode cX3_copied 3 = .ok (.dup, 1) := dk_89 (dk_at dksX3_copied_0 3 rfl rfl)
theorem dX3_copied_4 : decode cX3_copied 4 = .ok (.invokespecial 75, 3) := dk_183 0 75 (dk_at dksX3_copied_0 4 rfl rfl)
theorem dX3_copied_7 : decode cX3_copied 7 = .ok (.aload_n 0, 1) := dk_42 (dk_at dksX3_copied_0 7 rfl rfl)
theorem dX3_copied_8 : decode cX3_copied 8 = .ok (.invokevirtual 76, 3) := dk_182 0 76 (dk_at dksX3_copied_0 8 rfl rfl)
theorem dX3_copied_11 : decode cX3_copied 11 = .ok (.areturn, 1) := dk_176 (dk_at dksX3_copied_0 11 rfl rfl)
abbrev cX3_copies : ByteArray := prog_30_method_4_code
def yX3_copies : MethodName := ⟨RX3, "copies", "(LPaidSecrets$Talk;)LPaidSecrets$Talk;"⟩
def dkwX3_copies_5 : List UInt8 := [181, 0, 72, 42, 176]
abbrev dktX3_copies_5 : List UInt8 := dkwX3_copies_5 ++ []
def dkwX3_copies_4 : List UInt8 := [181, 0, 63, 42, 43, 180, 0, 66, 181, 0, 66, 42, 43, 180, 0, 69, 181, 0, 69, 42, 43, 180, 0, 72]
abbrev dktX3_copies_4 : List UInt8 := dkwX3_copies_4 ++ dktX3_copies_5
def dkwX3_copies_3 : List UInt8 := [3, 42, 180, 0, 24, 3, 16, 6, 184, 0, 80, 42, 43, 180, 0, 60, 181, 0, 60, 42, 43, 180, 0, 63]
abbrev dktX3_copies_3 : List UInt8 := dkwX3_copies_3 ++ dktX3_copies_4
def dkwX3_copies_2 : List UInt8 := [16, 6, 184, 0, 80, 43, 180, 0, 21, 3, 42, 180, 0, 21, 3, 16, 6, 184, 0, 80, 43, 180, 0, 24]
abbrev dktX3_copies_2 : List UInt8 := dkwX3_copies_2 ++ dktX3_copies_3
def dkwX3_copies_1 : List UInt8 := [180, 0, 15, 3, 42, 180, 0, 15, 3, 16, 36, 184, 0, 80, 43, 180, 0, 18, 3, 42, 180, 0, 18, 3]
abbrev dktX3_copies_1 : List UInt8 := dkwX3_copies_1 ++ dktX3_copies_2
def dkwX3_copies_0 : List UInt8 := [42, 43, 180, 0, 27, 181, 0, 27, 43, 180, 0, 9, 3, 42, 180, 0, 9, 3, 16, 10, 184, 0, 80, 43]
abbrev dktX3_copies_0 : List UInt8 := dkwX3_copies_0 ++ dktX3_copies_1
theorem dksX3_copies_0 : cX3_copies.data.toList.drop 0 = dktX3_copies_0 := by decide +kernel
theorem dksX3_copies_1 : cX3_copies.data.toList.drop 24 = dktX3_copies_1 := dk_seg dksX3_copies_0 24 rfl rfl
theorem dksX3_copies_2 : cX3_copies.data.toList.drop 48 = dktX3_copies_2 := dk_seg dksX3_copies_1 24 rfl rfl
theorem dksX3_copies_3 : cX3_copies.data.toList.drop 72 = dktX3_copies_3 := dk_seg dksX3_copies_2 24 rfl rfl
theorem dksX3_copies_4 : cX3_copies.data.toList.drop 96 = dktX3_copies_4 := dk_seg dksX3_copies_3 24 rfl rfl
theorem dksX3_copies_5 : cX3_copies.data.toList.drop 120 = dktX3_copies_5 := dk_seg dksX3_copies_4 24 rfl rfl
theorem dX3_copies_0 : decode cX3_copies 0 = .ok (.aload_n 0, 1) := dk_42 (dk_at dksX3_copies_0 0 rfl rfl)
theorem dX3_copies_1 : decode cX3_copies 1 = .ok (.aload_n 1, 1) := dk_43 (dk_at dksX3_copies_0 1 rfl rfl)
theorem dX3_copies_2 : decode cX3_copies 2 = .ok (.getfield 27, 3) := dk_180 0 27 (dk_at dksX3_copies_0 2 rfl rfl)
theorem dX3_copies_5 : decode cX3_copies 5 = .ok (.putfield 27, 3) := dk_181 0 27 (dk_at dksX3_copies_0 5 rfl rfl)
theorem dX3_copies_8 : decode cX3_copies 8 = .ok (.aload_n 1, 1) := dk_43 (dk_at dksX3_copies_0 8 rfl rfl)
theorem dX3_copies_9 : decode cX3_copies 9 = .ok (.getfield 9, 3) := dk_180 0 9 (dk_at dksX3_copies_0 9 rfl rfl)
theorem dX3_copies_12 : decode cX3_copies 12 = .ok (.iconst 0, 1) := dk_3 (dk_at dksX3_copies_0 12 rfl rfl)
theorem dX3_copies_13 : decode cX3_copies 13 = .ok (.aload_n 0, 1) := dk_42 (dk_at dksX3_copies_0 13 rfl rfl)
theorem dX3_copies_14 : decode cX3_copies 14 = .ok (.getfield 9, 3) := dk_180 0 9 (dk_at dksX3_copies_0 14 rfl rfl)
theorem dX3_copies_17 : decode cX3_copies 17 = .ok (.iconst 0, 1) := dk_3 (dk_at dksX3_copies_0 17 rfl rfl)
theorem dX3_copies_18 : decode cX3_copies 18 = .ok (.bipush 10, 2) := dk_16 10 (dk_at dksX3_copies_0 18 rfl rfl)
theorem dX3_copies_20 : decode cX3_copies 20 = .ok (.invokestatic 80, 3) := dk_184 0 80 (dk_at dksX3_copies_0 20 rfl rfl)
theorem dX3_copies_23 : decode cX3_copies 23 = .ok (.aload_n 1, 1) := dk_43 (dk_at dksX3_copies_0 23 rfl rfl)
theorem dX3_copies_24 : decode cX3_copies 24 = .ok (.getfield 15, 3) := dk_180 0 15 (dk_at dksX3_copies_1 0 rfl rfl)
theorem dX3_copies_27 : decode cX3_copies 27 = .ok (.iconst 0, 1) := dk_3 (dk_at dksX3_copies_1 3 rfl rfl)
theorem dX3_copies_28 : decode cX3_copies 28 = .ok (.aload_n 0, 1) := dk_42 (dk_at dksX3_copies_1 4 rfl rfl)
theorem dX3_copies_29 : decode cX3_copies 29 = .ok (.getfield 15, 3) := dk_180 0 15 (dk_at dksX3_copies_1 5 rfl rfl)
theorem dX3_copies_32 : decode cX3_copies 32 = .ok (.iconst 0, 1) := dk_3 (dk_at dksX3_copies_1 8 rfl rfl)
theorem dX3_copies_33 : decode cX3_copies 33 = .ok (.bipush 36, 2) := dk_16 36 (dk_at dksX3_copies_1 9 rfl rfl)
theorem dX3_copies_35 : decode cX3_copies 35 = .ok (.invokestatic 80, 3) := dk_184 0 80 (dk_at dksX3_copies_1 11 rfl rfl)
theorem dX3_copies_38 : decode cX3_copies 38 = .ok (.aload_n 1, 1) := dk_43 (dk_at dksX3_copies_1 14 rfl rfl)
theorem dX3_copies_39 : decode cX3_copies 39 = .ok (.getfield 18, 3) := dk_180 0 18 (dk_at dksX3_copies_1 15 rfl rfl)
theorem dX3_copies_42 : decode cX3_copies 42 = .ok (.iconst 0, 1) := dk_3 (dk_at dksX3_copies_1 18 rfl rfl)
theorem dX3_copies_43 : decode cX3_copies 43 = .ok (.aload_n 0, 1) := dk_42 (dk_at dksX3_copies_1 19 rfl rfl)
theorem dX3_copies_44 : decode cX3_copies 44 = .ok (.getfield 18, 3) := dk_180 0 18 (dk_at dksX3_copies_1 20 rfl rfl)
theorem dX3_copies_47 : decode cX3_copies 47 = .ok (.iconst 0, 1) := dk_3 (dk_at dksX3_copies_1 23 rfl rfl)
theorem dX3_copies_48 : decode cX3_copies 48 = .ok (.bipush 6, 2) := dk_16 6 (dk_at dksX3_copies_2 0 rfl rfl)
theorem dX3_copies_50 : decode cX3_copies 50 = .ok (.invokestatic 80, 3) := dk_184 0 80 (dk_at dksX3_copies_2 2 rfl rfl)
theorem dX3_copies_53 : decode cX3_copies 53 = .ok (.aload_n 1, 1) := dk_43 (dk_at dksX3_copies_2 5 rfl rfl)
theorem dX3_copies_54 : decode cX3_copies 54 = .ok (.getfield 21, 3) := dk_180 0 21 (dk_at dksX3_copies_2 6 rfl rfl)
theorem dX3_copies_57 : decode cX3_copies 57 = .ok (.iconst 0, 1) := dk_3 (dk_at dksX3_copies_2 9 rfl rfl)
theorem dX3_copies_58 : decode cX3_copies 58 = .ok (.aload_n 0, 1) := dk_42 (dk_at dksX3_copies_2 10 rfl rfl)
theorem dX3_copies_59 : decode cX3_copies 59 = .ok (.getfield 21, 3) := dk_180 0 21 (dk_at dksX3_copies_2 11 rfl rfl)
theorem dX3_copies_62 : decode cX3_copies 62 = .ok (.iconst 0, 1) := dk_3 (dk_at dksX3_copies_2 14 rfl rfl)
theorem dX3_copies_63 : decode cX3_copies 63 = .ok (.bipush 6, 2) := dk_16 6 (dk_at dksX3_copies_2 15 rfl rfl)
theorem dX3_copies_65 : decode cX3_copies 65 = .ok (.invokestatic 80, 3) := dk_184 0 80 (dk_at dksX3_copies_2 17 rfl rfl)
theorem dX3_copies_68 : decode cX3_copies 68 = .ok (.aload_n 1, 1) := dk_43 (dk_at dksX3_copies_2 20 rfl rfl)
theorem dX3_copies_69 : decode cX3_copies 69 = .ok (.getfield 24, 3) := dk_180 0 24 (dk_at dksX3_copies_2 21 rfl rfl)
theorem dX3_copies_72 : decode cX3_copies 72 = .ok (.iconst 0, 1) := dk_3 (dk_at dksX3_copies_3 0 rfl rfl)
theorem dX3_copies_73 : decode cX3_copies 73 = .ok (.aload_n 0, 1) := dk_42 (dk_at dksX3_copies_3 1 rfl rfl)
theorem dX3_copies_74 : decode cX3_copies 74 = .ok (.getfield 24, 3) := dk_180 0 24 (dk_at dksX3_copies_3 2 rfl rfl)
theorem dX3_copies_77 : decode cX3_copies 77 = .ok (.iconst 0, 1) := dk_3 (dk_at dksX3_copies_3 5 rfl rfl)
theorem dX3_copies_78 : decode cX3_copies 78 = .ok (.bipush 6, 2) := dk_16 6 (dk_at dksX3_copies_3 6 rfl rfl)
theorem dX3_copies_80 : decode cX3_copies 80 = .ok (.invokestatic 80, 3) := dk_184 0 80 (dk_at dksX3_copies_3 8 rfl rfl)
theorem dX3_copies_83 : decode cX3_copies 83 = .ok (.aload_n 0, 1) := dk_42 (dk_at dksX3_copies_3 11 rfl rfl)
theorem dX3_copies_84 : decode cX3_copies 84 = .ok (.aload_n 1, 1) := dk_43 (dk_at dksX3_copies_3 12 rfl rfl)
theorem dX3_copies_85 : decode cX3_copies 85 = .ok (.getfield 60, 3) := dk_180 0 60 (dk_at dksX3_copies_3 13 rfl rfl)
theorem dX3_copies_88 : decode cX3_copies 88 = .ok (.putfield 60, 3) := dk_181 0 60 (dk_at dksX3_copies_3 16 rfl rfl)
theorem dX3_copies_91 : decode cX3_copies 91 = .ok (.aload_n 0, 1) := dk_42 (dk_at dksX3_copies_3 19 rfl rfl)
theorem dX3_copies_92 : decode cX3_copies 92 = .ok (.aload_n 1, 1) := dk_43 (dk_at dksX3_copies_3 20 rfl rfl)
theorem dX3_copies_93 : decode cX3_copies 93 = .ok (.getfield 63, 3) := dk_180 0 63 (dk_at dksX3_copies_3 21 rfl rfl)
theorem dX3_copies_96 : decode cX3_copies 96 = .ok (.putfield 63, 3) := dk_181 0 63 (dk_at dksX3_copies_4 0 rfl rfl)
theorem dX3_copies_99 : decode cX3_copies 99 = .ok (.aload_n 0, 1) := dk_42 (dk_at dksX3_copies_4 3 rfl rfl)
theorem dX3_copies_100 : decode cX3_copies 100 = .ok (.aload_n 1, 1) := dk_43 (dk_at dksX3_copies_4 4 rfl rfl)
theorem dX3_copies_101 : decode cX3_copies 101 = .ok (.getfield 66, 3) := dk_180 0 66 (dk_at dksX3_copies_4 5 rfl rfl)
theorem dX3_copies_104 : decode cX3_copies 104 = .ok (.putfield 66, 3) := dk_181 0 66 (dk_at dksX3_copies_4 8 rfl rfl)
theorem dX3_copies_107 : decode cX3_copies 107 = .ok (.aload_n 0, 1) := dk_42 (dk_at dksX3_copies_4 11 rfl rfl)
theorem dX3_copies_108 : decode cX3_copies 108 = .ok (.aload_n 1, 1) := dk_43 (dk_at dksX3_copies_4 12 rfl rfl)
theorem dX3_copies_109 : decode cX3_copies 109 = .ok (.getfield 69, 3) := dk_180 0 69 (dk_at dksX3_copies_4 13 rfl rfl)
theorem dX3_copies_112 : decode cX3_copies 112 = .ok (.putfield 69, 3) := dk_181 0 69 (dk_at dksX3_copies_4 16 rfl rfl)
theorem dX3_copies_115 : decode cX3_copies 115 = .ok (.aload_n 0, 1) := dk_42 (dk_at dksX3_copies_4 19 rfl rfl)
theorem dX3_copies_116 : decode cX3_copies 116 = .ok (.aload_n 1, 1) := dk_43 (dk_at dksX3_copies_4 20 rfl rfl)
theorem dX3_copies_117 : decode cX3_copies 117 = .ok (.getfield 72, 3) := dk_180 0 72 (dk_at dksX3_copies_4 21 rfl rfl)
theorem dX3_copies_120 : decode cX3_copies 120 = .ok (.putfield 72, 3) := dk_181 0 72 (dk_at dksX3_copies_5 0 rfl rfl)
theorem dX3_copies_123 : decode cX3_copies 123 = .ok (.aload_n 0, 1) := dk_42 (dk_at dksX3_copies_5 3 rfl rfl)
theorem dX3_copies_124 : decode cX3_copies 124 = .ok (.areturn, 1) := dk_176 (dk_at dksX3_copies_5 4 rfl rfl)
abbrev cX3_tells : ByteArray := prog_30_method_13_code
def yX3_tells : MethodName := ⟨RX3, "tells", "(III)V"⟩
def dkwX3_tells_3 : List UInt8 := [180, 0, 60, 4, 29, 120, 128, 181, 0, 60, 177]
abbrev dktX3_tells_3 : List UInt8 := dkwX3_tells_3 ++ []
def dkwX3_tells_2 : List UInt8 := [182, 0, 86, 180, 0, 121, 153, 0, 27, 42, 29, 182, 0, 86, 180, 0, 90, 28, 160, 0, 15, 42, 89]
abbrev dktX3_tells_2 : List UInt8 := dkwX3_tells_2 ++ dktX3_tells_3
def dkwX3_tells_1 : List UInt8 := [4, 29, 120, 128, 79, 42, 180, 0, 15, 16, 6, 28, 104, 27, 96, 92, 46, 4, 29, 120, 128, 79, 42, 29]
abbrev dktX3_tells_1 : List UInt8 := dkwX3_tells_1 ++ dktX3_tells_2
def dkwX3_tells_0 : List UInt8 := [42, 180, 0, 9, 29, 92, 46, 4, 28, 120, 128, 79, 42, 180, 0, 15, 16, 6, 27, 104, 28, 96, 92, 46]
abbrev dktX3_tells_0 : List UInt8 := dkwX3_tells_0 ++ dktX3_tells_1
theorem dksX3_tells_0 : cX3_tells.data.toList.drop 0 = dktX3_tells_0 := by decide +kernel
theorem dksX3_tells_1 : cX3_tells.data.toList.drop 24 = dktX3_tells_1 := dk_seg dksX3_tells_0 24 rfl rfl
theorem dksX3_tells_2 : cX3_tells.data.toList.drop 48 = dktX3_tells_2 := dk_seg dksX3_tells_1 24 rfl rfl
theorem dksX3_tells_3 : cX3_tells.data.toList.drop 71 = dktX3_tells_3 := dk_seg dksX3_tells_2 23 rfl rfl
theorem dX3_tells_0 : decode cX3_tells 0 = .ok (.aload_n 0, 1) := dk_42 (dk_at dksX3_tells_0 0 rfl rfl)
theorem dX3_tells_1 : decode cX3_tells 1 = .ok (.getfield 9, 3) := dk_180 0 9 (dk_at dksX3_tells_0 1 rfl rfl)
theorem dX3_tells_4 : decode cX3_tells 4 = .ok (.iload_n 3, 1) := dk_29 (dk_at dksX3_tells_0 4 rfl rfl)
theorem dX3_tells_5 : decode cX3_tells 5 = .ok (.dup2, 1) := dk_92 (dk_at dksX3_tells_0 5 rfl rfl)
theorem dX3_tells_6 : decode cX3_tells 6 = .ok (.iaload, 1) := dk_46 (dk_at dksX3_tells_0 6 rfl rfl)
theorem dX3_tells_7 : decode cX3_tells 7 = .ok (.iconst 1, 1) := dk_4 (dk_at dksX3_tells_0 7 rfl rfl)
theorem dX3_tells_8 : decode cX3_tells 8 = .ok (.iload_n 2, 1) := dk_28 (dk_at dksX3_tells_0 8 rfl rfl)
theorem dX3_tells_9 : decode cX3_tells 9 = .ok (.ishl, 1) := dk_120 (dk_at dksX3_tells_0 9 rfl rfl)
theorem dX3_tells_10 : decode cX3_tells 10 = .ok (.ior, 1) := dk_128 (dk_at dksX3_tells_0 10 rfl rfl)
theorem dX3_tells_11 : decode cX3_tells 11 = .ok (.iastore, 1) := dk_79 (dk_at dksX3_tells_0 11 rfl rfl)
theorem dX3_tells_12 : decode cX3_tells 12 = .ok (.aload_n 0, 1) := dk_42 (dk_at dksX3_tells_0 12 rfl rfl)
theorem dX3_tells_13 : decode cX3_tells 13 = .ok (.getfield 15, 3) := dk_180 0 15 (dk_at dksX3_tells_0 13 rfl rfl)
theorem dX3_tells_16 : decode cX3_tells 16 = .ok (.bipush 6, 2) := dk_16 6 (dk_at dksX3_tells_0 16 rfl rfl)
theorem dX3_tells_18 : decode cX3_tells 18 = .ok (.iload_n 1, 1) := dk_27 (dk_at dksX3_tells_0 18 rfl rfl)
theorem dX3_tells_19 : decode cX3_tells 19 = .ok (.imul, 1) := dk_104 (dk_at dksX3_tells_0 19 rfl rfl)
theorem dX3_tells_20 : decode cX3_tells 20 = .ok (.iload_n 2, 1) := dk_28 (dk_at dksX3_tells_0 20 rfl rfl)
theorem dX3_tells_21 : decode cX3_tells 21 = .ok (.iadd, 1) := dk_96 (dk_at dksX3_tells_0 21 rfl rfl)
theorem dX3_tells_22 : decode cX3_tells 22 = .ok (.dup2, 1) := dk_92 (dk_at dksX3_tells_0 22 rfl rfl)
theorem dX3_tells_23 : decode cX3_tells 23 = .ok (.iaload, 1) := dk_46 (dk_at dksX3_tells_0 23 rfl rfl)
theorem dX3_tells_24 : decode cX3_tells 24 = .ok (.iconst 1, 1) := dk_4 (dk_at dksX3_tells_1 0 rfl rfl)
theorem dX3_tells_25 : decode cX3_tells 25 = .ok (.iload_n 3, 1) := dk_29 (dk_at dksX3_tells_1 1 rfl rfl)
theorem dX3_tells_26 : decode cX3_tells 26 = .ok (.ishl, 1) := dk_120 (dk_at dksX3_tells_1 2 rfl rfl)
theorem dX3_tells_27 : decode cX3_tells 27 = .ok (.ior, 1) := dk_128 (dk_at dksX3_tells_1 3 rfl rfl)
theorem dX3_tells_28 : decode cX3_tells 28 = .ok (.iastore, 1) := dk_79 (dk_at dksX3_tells_1 4 rfl rfl)
theorem dX3_tells_29 : decode cX3_tells 29 = .ok (.aload_n 0, 1) := dk_42 (dk_at dksX3_tells_1 5 rfl rfl)
theorem dX3_tells_30 : decode cX3_tells 30 = .ok (.getfield 15, 3) := dk_180 0 15 (dk_at dksX3_tells_1 6 rfl rfl)
theorem dX3_tells_33 : decode cX3_tells 33 = .ok (.bipush 6, 2) := dk_16 6 (dk_at dksX3_tells_1 9 rfl rfl)
theorem dX3_tells_35 : decode cX3_tells 35 = .ok (.iload_n 2, 1) := dk_28 (dk_at dksX3_tells_1 11 rfl rfl)
theorem dX3_tells_36 : decode cX3_tells 36 = .ok (.imul, 1) := dk_104 (dk_at dksX3_tells_1 12 rfl rfl)
theorem dX3_tells_37 : decode cX3_tells 37 = .ok (.iload_n 1, 1) := dk_27 (dk_at dksX3_tells_1 13 rfl rfl)
theorem dX3_tells_38 : decode cX3_tells 38 = .ok (.iadd, 1) := dk_96 (dk_at dksX3_tells_1 14 rfl rfl)
theorem dX3_tells_39 : decode cX3_tells 39 = .ok (.dup2, 1) := dk_92 (dk_at dksX3_tells_1 15 rfl rfl)
theorem dX3_tells_40 : decode cX3_tells 40 = .ok (.iaload, 1) := dk_46 (dk_at dksX3_tells_1 16 rfl rfl)
theorem dX3_tells_41 : decode cX3_tells 41 = .ok (.iconst 1, 1) := dk_4 (dk_at dksX3_tells_1 17 rfl rfl)
theorem dX3_tells_42 : decode cX3_tells 42 = .ok (.iload_n 3, 1) := dk_29 (dk_at dksX3_tells_1 18 rfl rfl)
theorem dX3_tells_43 : decode cX3_tells 43 = .ok (.ishl, 1) := dk_120 (dk_at dksX3_tells_1 19 rfl rfl)
theorem dX3_tells_44 : decode cX3_tells 44 = .ok (.ior, 1) := dk_128 (dk_at dksX3_tells_1 20 rfl rfl)
theorem dX3_tells_45 : decode cX3_tells 45 = .ok (.iastore, 1) := dk_79 (dk_at dksX3_tells_1 21 rfl rfl)
theorem dX3_tells_46 : decode cX3_tells 46 = .ok (.aload_n 0, 1) := dk_42 (dk_at dksX3_tells_1 22 rfl rfl)
theorem dX3_tells_47 : decode cX3_tells 47 = .ok (.iload_n 3, 1) := dk_29 (dk_at dksX3_tells_1 23 rfl rfl)
theorem dX3_tells_48 : decode cX3_tells 48 = .ok (.invokevirtual 86, 3) := dk_182 0 86 (dk_at dksX3_tells_2 0 rfl rfl)
theorem dX3_tells_51 : decode cX3_tells 51 = .ok (.getfield 121, 3) := dk_180 0 121 (dk_at dksX3_tells_2 3 rfl rfl)
theorem dX3_tells_54 : decode cX3_tells 54 = .ok (.ifCond .eq 27, 3) := dk_153 0 27 (dk_at dksX3_tells_2 6 rfl rfl)
theorem dX3_tells_57 : decode cX3_tells 57 = .ok (.aload_n 0, 1) := dk_42 (dk_at dksX3_tells_2 9 rfl rfl)
theorem dX3_tells_58 : decode cX3_tells 58 = .ok (.iload_n 3, 1) := dk_29 (dk_at dksX3_tells_2 10 rfl rfl)
theorem dX3_tells_59 : decode cX3_tells 59 = .ok (.invokevirtual 86, 3) := dk_182 0 86 (dk_at dksX3_tells_2 11 rfl rfl)
theorem dX3_tells_62 : decode cX3_tells 62 = .ok (.getfield 90, 3) := dk_180 0 90 (dk_at dksX3_tells_2 14 rfl rfl)
theorem dX3_tells_65 : decode cX3_tells 65 = .ok (.iload_n 2, 1) := dk_28 (dk_at dksX3_tells_2 17 rfl rfl)
theorem dX3_tells_66 : decode cX3_tells 66 = .ok (.if_icmp .ne 15, 3) := dk_160 0 15 (dk_at dksX3_tells_2 18 rfl rfl)
theorem dX3_tells_69 : decode cX3_tells 69 = .ok (.aload_n 0, 1) := dk_42 (dk_at dksX3_tells_2 21 rfl rfl)
theorem dX3_tells_70 : decode cX3_tells 70 = .ok (.dup, 1) := dk_89 (dk_at dksX3_tells_2 22 rfl rfl)
theorem dX3_tells_71 : decode cX3_tells 71 = .ok (.getfield 60, 3) := dk_180 0 60 (dk_at dksX3_tells_3 0 rfl rfl)
theorem dX3_tells_74 : decode cX3_tells 74 = .ok (.iconst 1, 1) := dk_4 (dk_at dksX3_tells_3 3 rfl rfl)
theorem dX3_tells_75 : decode cX3_tells 75 = .ok (.iload_n 3, 1) := dk_29 (dk_at dksX3_tells_3 4 rfl rfl)
theorem dX3_tells_76 : decode cX3_tells 76 = .ok (.ishl, 1) := dk_120 (dk_at dksX3_tells_3 5 rfl rfl)
theorem dX3_tells_77 : decode cX3_tells 77 = .ok (.ior, 1) := dk_128 (dk_at dksX3_tells_3 6 rfl rfl)
theorem dX3_tells_78 : decode cX3_tells 78 = .ok (.putfield 60, 3) := dk_181 0 60 (dk_at dksX3_tells_3 7 rfl rfl)
theorem dX3_tells_81 : decode cX3_tells 81 = .ok (.return_, 1) := dk_177 (dk_at dksX3_tells_3 10 rfl rfl)
abbrev cX3_mayPay : ByteArray := prog_30_method_14_code
def yX3_mayPay : MethodName := ⟨RX3, "mayPay", "(II)Z"⟩
def dkwX3_mayPay_2 : List UInt8 := [27, 182, 0, 43, 192, 0, 56, 180, 0, 125, 161, 0, 7, 4, 167, 0, 4, 3, 172]
abbrev dktX3_mayPay_2 : List UInt8 := dkwX3_mayPay_2 ++ []
def dkwX3_mayPay_1 : List UInt8 := [154, 0, 41, 28, 42, 180, 0, 63, 126, 154, 0, 32, 42, 28, 182, 0, 111, 42, 180, 0, 27, 180, 0, 53]
abbrev dktX3_mayPay_1 : List UInt8 := dkwX3_mayPay_1 ++ dktX3_mayPay_2
def dkwX3_mayPay_0 : List UInt8 := [28, 153, 0, 64, 42, 180, 0, 66, 27, 184, 0, 97, 154, 0, 53, 28, 42, 27, 182, 0, 114, 2, 130, 126]
abbrev dktX3_mayPay_0 : List UInt8 := dkwX3_mayPay_0 ++ dktX3_mayPay_1
theorem dksX3_mayPay_0 : cX3_mayPay.data.toList.drop 0 = dktX3_mayPay_0 := by decide +kernel
theorem dksX3_mayPay_1 : cX3_mayPay.data.toList.drop 24 = dktX3_mayPay_1 := dk_seg dksX3_mayPay_0 24 rfl rfl
theorem dksX3_mayPay_2 : cX3_mayPay.data.toList.drop 48 = dktX3_mayPay_2 := dk_seg dksX3_mayPay_1 24 rfl rfl
theorem dX3_mayPay_0 : decode cX3_mayPay 0 = .ok (.iload_n 2, 1) := dk_28 (dk_at dksX3_mayPay_0 0 rfl rfl)
theorem dX3_mayPay_1 : decode cX3_mayPay 1 = .ok (.ifCond .eq 64, 3) := dk_153 0 64 (dk_at dksX3_mayPay_0 1 rfl rfl)
theorem dX3_mayPay_4 : decode cX3_mayPay 4 = .ok (.aload_n 0, 1) := dk_42 (dk_at dksX3_mayPay_0 4 rfl rfl)
theorem dX3_mayPay_5 : decode cX3_mayPay 5 = .ok (.getfield 66, 3) := dk_180 0 66 (dk_at dksX3_mayPay_0 5 rfl rfl)
theorem dX3_mayPay_8 : decode cX3_mayPay 8 = .ok (.iload_n 1, 1) := dk_27 (dk_at dksX3_mayPay_0 8 rfl rfl)
theorem dX3_mayPay_9 : decode cX3_mayPay 9 = .ok (.invokestatic 97, 3) := dk_184 0 97 (dk_at dksX3_mayPay_0 9 rfl rfl)
theorem dX3_mayPay_12 : decode cX3_mayPay 12 = .ok (.ifCond .ne 53, 3) := dk_154 0 53 (dk_at dksX3_mayPay_0 12 rfl rfl)
theorem dX3_mayPay_15 : decode cX3_mayPay 15 = .ok (.iload_n 2, 1) := dk_28 (dk_at dksX3_mayPay_0 15 rfl rfl)
theorem dX3_mayPay_16 : decode cX3_mayPay 16 = .ok (.aload_n 0, 1) := dk_42 (dk_at dksX3_mayPay_0 16 rfl rfl)
theorem dX3_mayPay_17 : decode cX3_mayPay 17 = .ok (.iload_n 1, 1) := dk_27 (dk_at dksX3_mayPay_0 17 rfl rfl)
theorem dX3_mayPay_18 : decode cX3_mayPay 18 = .ok (.invokevirtual 114, 3) := dk_182 0 114 (dk_at dksX3_mayPay_0 18 rfl rfl)
theorem dX3_mayPay_21 : decode cX3_mayPay 21 = .ok (.iconst (-1), 1) := dk_2 (dk_at dksX3_mayPay_0 21 rfl rfl)
theorem dX3_mayPay_22 : decode cX3_mayPay 22 = .ok (.ixor, 1) := dk_130 (dk_at dksX3_mayPay_0 22 rfl rfl)
theorem dX3_mayPay_23 : decode cX3_mayPay 23 = .ok (.iand, 1) := dk_126 (dk_at dksX3_mayPay_0 23 rfl rfl)
theorem dX3_mayPay_24 : decode cX3_mayPay 24 = .ok (.ifCond .ne 41, 3) := dk_154 0 41 (dk_at dksX3_mayPay_1 0 rfl rfl)
theorem dX3_mayPay_27 : decode cX3_mayPay 27 = .ok (.iload_n 2, 1) := dk_28 (dk_at dksX3_mayPay_1 3 rfl rfl)
theorem dX3_mayPay_28 : decode cX3_mayPay 28 = .ok (.aload_n 0, 1) := dk_42 (dk_at dksX3_mayPay_1 4 rfl rfl)
theorem dX3_mayPay_29 : decode cX3_mayPay 29 = .ok (.getfield 63, 3) := dk_180 0 63 (dk_at dksX3_mayPay_1 5 rfl rfl)
theorem dX3_mayPay_32 : decode cX3_mayPay 32 = .ok (.iand, 1) := dk_126 (dk_at dksX3_mayPay_1 8 rfl rfl)
theorem dX3_mayPay_33 : decode cX3_mayPay 33 = .ok (.ifCond .ne 32, 3) := dk_154 0 32 (dk_at dksX3_mayPay_1 9 rfl rfl)
theorem dX3_mayPay_36 : decode cX3_mayPay 36 = .ok (.aload_n 0, 1) := dk_42 (dk_at dksX3_mayPay_1 12 rfl rfl)
theorem dX3_mayPay_37 : decode cX3_mayPay 37 = .ok (.iload_n 2, 1) := dk_28 (dk_at dksX3_mayPay_1 13 rfl rfl)
theorem dX3_mayPay_38 : decode cX3_mayPay 38 = .ok (.invokevirtual 111, 3) := dk_182 0 111 (dk_at dksX3_mayPay_1 14 rfl rfl)
theorem dX3_mayPay_41 : decode cX3_mayPay 41 = .ok (.aload_n 0, 1) := dk_42 (dk_at dksX3_mayPay_1 17 rfl rfl)
theorem dX3_mayPay_42 : decode cX3_mayPay 42 = .ok (.getfield 27, 3) := dk_180 0 27 (dk_at dksX3_mayPay_1 18 rfl rfl)
theorem dX3_mayPay_45 : decode cX3_mayPay 45 = .ok (.getfield 53, 3) := dk_180 0 53 (dk_at dksX3_mayPay_1 21 rfl rfl)
theorem dX3_mayPay_48 : decode cX3_mayPay 48 = .ok (.iload_n 1, 1) := dk_27 (dk_at dksX3_mayPay_2 0 rfl rfl)
theorem dX3_mayPay_49 : decode cX3_mayPay 49 = .ok (.invokevirtual 43, 3) := dk_182 0 43 (dk_at dksX3_mayPay_2 1 rfl rfl)
theorem dX3_mayPay_52 : decode cX3_mayPay 52 = .ok (.checkcast 56, 3) := dk_192 0 56 (dk_at dksX3_mayPay_2 4 rfl rfl)
theorem dX3_mayPay_55 : decode cX3_mayPay 55 = .ok (.getfield 125, 3) := dk_180 0 125 (dk_at dksX3_mayPay_2 7 rfl rfl)
theorem dX3_mayPay_58 : decode cX3_mayPay 58 = .ok (.if_icmp .lt 7, 3) := dk_161 0 7 (dk_at dksX3_mayPay_2 10 rfl rfl)
theorem dX3_mayPay_61 : decode cX3_mayPay 61 = .ok (.iconst 1, 1) := dk_4 (dk_at dksX3_mayPay_2 13 rfl rfl)
theorem dX3_mayPay_62 : decode cX3_mayPay 62 = .ok (.goto 4, 3) := dk_167 0 4 (dk_at dksX3_mayPay_2 14 rfl rfl)
theorem dX3_mayPay_65 : decode cX3_mayPay 65 = .ok (.iconst 0, 1) := dk_3 (dk_at dksX3_mayPay_2 17 rfl rfl)
theorem dX3_mayPay_66 : decode cX3_mayPay 66 = .ok (.ireturn, 1) := dk_172 (dk_at dksX3_mayPay_2 18 rfl rfl)
abbrev cX3_known : ByteArray := prog_30_method_10_code
def yX3_known : MethodName := ⟨RX3, "known", "(I)I"⟩
def dkwX3_known_1 : List UInt8 := [27, 184, 0, 97, 153, 0, 9, 28, 4, 29, 120, 128, 61, 132, 3, 1, 167, 255, 220, 28, 172]
abbrev dktX3_known_1 : List UInt8 := dkwX3_known_1 ++ []
def dkwX3_known_0 : List UInt8 := [3, 61, 3, 62, 29, 42, 180, 0, 27, 180, 0, 31, 182, 0, 37, 162, 0, 28, 42, 180, 0, 9, 29, 46]
abbrev dktX3_known_0 : List UInt8 := dkwX3_known_0 ++ dktX3_known_1
theorem dksX3_known_0 : cX3_known.data.toList.drop 0 = dktX3_known_0 := by decide +kernel
theorem dksX3_known_1 : cX3_known.data.toList.drop 24 = dktX3_known_1 := dk_seg dksX3_known_0 24 rfl rfl
theorem dX3_known_0 : decode cX3_known 0 = .ok (.iconst 0, 1) := dk_3 (dk_at dksX3_known_0 0 rfl rfl)
theorem dX3_known_1 : decode cX3_known 1 = .ok (.istore_n 2, 1) := dk_61 (dk_at dksX3_known_0 1 rfl rfl)
theorem dX3_known_2 : decode cX3_known 2 = .ok (.iconst 0, 1) := dk_3 (dk_at dksX3_known_0 2 rfl rfl)
theorem dX3_known_3 : decode cX3_known 3 = .ok (.istore_n 3, 1) := dk_62 (dk_at dksX3_known_0 3 rfl rfl)
theorem dX3_known_4 : decode cX3_known 4 = .ok (.iload_n 3, 1) := dk_29 (dk_at dksX3_known_0 4 rfl rfl)
theorem dX3_known_5 : decode cX3_known 5 = .ok (.aload_n 0, 1) := dk_42 (dk_at dksX3_known_0 5 rfl rfl)
theorem dX3_known_6 : decode cX3_known 6 = .ok (.getfield 27, 3) := dk_180 0 27 (dk_at dksX3_known_0 6 rfl rfl)
theorem dX3_known_9 : decode cX3_known 9 = .ok (.getfield 31, 3) := dk_180 0 31 (dk_at dksX3_known_0 9 rfl rfl)
theorem dX3_known_12 : decode cX3_known 12 = .ok (.invokevirtual 37, 3) := dk_182 0 37 (dk_at dksX3_known_0 12 rfl rfl)
theorem dX3_known_15 : decode cX3_known 15 = .ok (.if_icmp .ge 28, 3) := dk_162 0 28 (dk_at dksX3_known_0 15 rfl rfl)
theorem dX3_known_18 : decode cX3_known 18 = .ok (.aload_n 0, 1) := dk_42 (dk_at dksX3_known_0 18 rfl rfl)
theorem dX3_known_19 : decode cX3_known 19 = .ok (.getfield 9, 3) := dk_180 0 9 (dk_at dksX3_known_0 19 rfl rfl)
theorem dX3_known_22 : decode cX3_known 22 = .ok (.iload_n 3, 1) := dk_29 (dk_at dksX3_known_0 22 rfl rfl)
theorem dX3_known_23 : decode cX3_known 23 = .ok (.iaload, 1) := dk_46 (dk_at dksX3_known_0 23 rfl rfl)
theorem dX3_known_24 : decode cX3_known 24 = .ok (.iload_n 1, 1) := dk_27 (dk_at dksX3_known_1 0 rfl rfl)
theorem dX3_known_25 : decode cX3_known 25 = .ok (.invokestatic 97, 3) := dk_184 0 97 (dk_at dksX3_known_1 1 rfl rfl)
theorem dX3_known_28 : decode cX3_known 28 = .ok (.ifCond .eq 9, 3) := dk_153 0 9 (dk_at dksX3_known_1 4 rfl rfl)
theorem dX3_known_31 : decode cX3_known 31 = .ok (.iload_n 2, 1) := dk_28 (dk_at dksX3_known_1 7 rfl rfl)
theorem dX3_known_32 : decode cX3_known 32 = .ok (.iconst 1, 1) := dk_4 (dk_at dksX3_known_1 8 rfl rfl)
theorem dX3_known_33 : decode cX3_known 33 = .ok (.iload_n 3, 1) := dk_29 (dk_at dksX3_known_1 9 rfl rfl)
theorem dX3_known_34 : decode cX3_known 34 = .ok (.ishl, 1) := dk_120 (dk_at dksX3_known_1 10 rfl rfl)
theorem dX3_known_35 : decode cX3_known 35 = .ok (.ior, 1) := dk_128 (dk_at dksX3_known_1 11 rfl rfl)
theorem dX3_known_36 : decode cX3_known 36 = .ok (.istore_n 2, 1) := dk_61 (dk_at dksX3_known_1 12 rfl rfl)
theorem dX3_known_37 : decode cX3_known 37 = .ok (.iinc 3 1, 3) := dk_132 3 1 (dk_at dksX3_known_1 13 rfl rfl)
theorem dX3_known_40 : decode cX3_known 40 = .ok (.goto (-36), 3) := dk_167 255 220 (dk_at dksX3_known_1 16 rfl rfl)
theorem dX3_known_43 : decode cX3_known 43 = .ok (.iload_n 2, 1) := dk_28 (dk_at dksX3_known_1 19 rfl rfl)
theorem dX3_known_44 : decode cX3_known 44 = .ok (.ireturn, 1) := dk_172 (dk_at dksX3_known_1 20 rfl rfl)
abbrev cX3_worths : ByteArray := prog_30_method_8_code
def yX3_worths : MethodName := ⟨RX3, "worths", "(I)I"⟩
def dkwX3_worths_1 : List UInt8 := [153, 0, 11, 28, 42, 29, 182, 0, 107, 96, 61, 132, 3, 1, 167, 255, 223, 28, 172]
abbrev dktX3_worths_1 : List UInt8 := dkwX3_worths_1 ++ []
def dkwX3_worths_0 : List UInt8 := [3, 61, 3, 62, 29, 42, 180, 0, 27, 180, 0, 31, 182, 0, 37, 162, 0, 25, 27, 29, 184, 0, 97]
abbrev dktX3_worths_0 : List UInt8 := dkwX3_worths_0 ++ dktX3_worths_1
theorem dksX3_worths_0 : cX3_worths.data.toList.drop 0 = dktX3_worths_0 := by decide +kernel
theorem dksX3_worths_1 : cX3_worths.data.toList.drop 23 = dktX3_worths_1 := dk_seg dksX3_worths_0 23 rfl rfl
theorem dX3_worths_0 : decode cX3_worths 0 = .ok (.iconst 0, 1) := dk_3 (dk_at dksX3_worths_0 0 rfl rfl)
theorem dX3_worths_1 : decode cX3_worths 1 = .ok (.istore_n 2, 1) := dk_61 (dk_at dksX3_worths_0 1 rfl rfl)
theorem dX3_worths_2 : decode cX3_worths 2 = .ok (.iconst 0, 1) := dk_3 (dk_at dksX3_worths_0 2 rfl rfl)
theorem dX3_worths_3 : decode cX3_worths 3 = .ok (.istore_n 3, 1) := dk_62 (dk_at dksX3_worths_0 3 rfl rfl)
theorem dX3_worths_4 : decode cX3_worths 4 = .ok (.iload_n 3, 1) := dk_29 (dk_at dksX3_worths_0 4 rfl rfl)
theorem dX3_worths_5 : decode cX3_worths 5 = .ok (.aload_n 0, 1) := dk_42 (dk_at dksX3_worths_0 5 rfl rfl)
theorem dX3_worths_6 : decode cX3_worths 6 = .ok (.getfield 27, 3) := dk_180 0 27 (dk_at dksX3_worths_0 6 rfl rfl)
theorem dX3_worths_9 : decode cX3_worths 9 = .ok (.getfield 31, 3) := dk_180 0 31 (dk_at dksX3_worths_0 9 rfl rfl)
theorem dX3_worths_12 : decode cX3_worths 12 = .ok (.invokevirtual 37, 3) := dk_182 0 37 (dk_at dksX3_worths_0 12 rfl rfl)
theorem dX3_worths_15 : decode cX3_worths 15 = .ok (.if_icmp .ge 25, 3) := dk_162 0 25 (dk_at dksX3_worths_0 15 rfl rfl)
theorem dX3_worths_18 : decode cX3_worths 18 = .ok (.iload_n 1, 1) := dk_27 (dk_at dksX3_worths_0 18 rfl rfl)
theorem dX3_worths_19 : decode cX3_worths 19 = .ok (.iload_n 3, 1) := dk_29 (dk_at dksX3_worths_0 19 rfl rfl)
theorem dX3_worths_20 : decode cX3_worths 20 = .ok (.invokestatic 97, 3) := dk_184 0 97 (dk_at dksX3_worths_0 20 rfl rfl)
theorem dX3_worths_23 : decode cX3_worths 23 = .ok (.ifCond .eq 11, 3) := dk_153 0 11 (dk_at dksX3_worths_1 0 rfl rfl)
theorem dX3_worths_26 : decode cX3_worths 26 = .ok (.iload_n 2, 1) := dk_28 (dk_at dksX3_worths_1 3 rfl rfl)
theorem dX3_worths_27 : decode cX3_worths 27 = .ok (.aload_n 0, 1) := dk_42 (dk_at dksX3_worths_1 4 rfl rfl)
theorem dX3_worths_28 : decode cX3_worths 28 = .ok (.iload_n 3, 1) := dk_29 (dk_at dksX3_worths_1 5 rfl rfl)
theorem dX3_worths_29 : decode cX3_worths 29 = .ok (.invokevirtual 107, 3) := dk_182 0 107 (dk_at dksX3_worths_1 6 rfl rfl)
theorem dX3_worths_32 : decode cX3_worths 32 = .ok (.iadd, 1) := dk_96 (dk_at dksX3_worths_1 9 rfl rfl)
theorem dX3_worths_33 : decode cX3_worths 33 = .ok (.istore_n 2, 1) := dk_61 (dk_at dksX3_worths_1 10 rfl rfl)
theorem dX3_worths_34 : decode cX3_worths 34 = .ok (.iinc 3 1, 3) := dk_132 3 1 (dk_at dksX3_worths_1 11 rfl rfl)
theorem dX3_worths_37 : decode cX3_worths 37 = .ok (.goto (-33), 3) := dk_167 255 223 (dk_at dksX3_worths_1 14 rfl rfl)
theorem dX3_worths_40 : decode cX3_worths 40 = .ok (.iload_n 2, 1) := dk_28 (dk_at dksX3_worths_1 17 rfl rfl)
theorem dX3_worths_41 : decode cX3_worths 41 = .ok (.ireturn, 1) := dk_172 (dk_at dksX3_worths_1 18 rfl rfl)
abbrev cX3_pays : ByteArray := prog_30_method_15_code
def yX3_pays : MethodName := ⟨RX3, "pays", "(II)V"⟩
def dkwX3_pays_0 : List UInt8 := [42, 89, 180, 0, 66, 4, 27, 120, 128, 181, 0, 66, 42, 89, 180, 0, 63, 28, 128, 181, 0, 63, 177]
abbrev dktX3_pays_0 : List UInt8 := dkwX3_pays_0 ++ []
theorem dksX3_pays_0 : cX3_pays.data.toList.drop 0 = dktX3_pays_0 := by decide +kernel
theorem dX3_pays_0 : decode cX3_pays 0 = .ok (.aload_n 0, 1) := dk_42 (dk_at dksX3_pays_0 0 rfl rfl)
theorem dX3_pays_1 : decode cX3_pays 1 = .ok (.dup, 1) := dk_89 (dk_at dksX3_pays_0 1 rfl rfl)
theorem dX3_pays_2 : decode cX3_pays 2 = .ok (.getfield 66, 3) := dk_180 0 66 (dk_at dksX3_pays_0 2 rfl rfl)
theorem dX3_pays_5 : decode cX3_pays 5 = .ok (.iconst 1, 1) := dk_4 (dk_at dksX3_pays_0 5 rfl rfl)
theorem dX3_pays_6 : decode cX3_pays 6 = .ok (.iload_n 1, 1) := dk_27 (dk_at dksX3_pays_0 6 rfl rfl)
theorem dX3_pays_7 : decode cX3_pays 7 = .ok (.ishl, 1) := dk_120 (dk_at dksX3_pays_0 7 rfl rfl)
theorem dX3_pays_8 : decode cX3_pays 8 = .ok (.ior, 1) := dk_128 (dk_at dksX3_pays_0 8 rfl rfl)
theorem dX3_pays_9 : decode cX3_pays 9 = .ok (.putfield 66, 3) := dk_181 0 66 (dk_at dksX3_pays_0 9 rfl rfl)
theorem dX3_pays_12 : decode cX3_pays 12 = .ok (.aload_n 0, 1) := dk_42 (dk_at dksX3_pays_0 12 rfl rfl)
theorem dX3_pays_13 : decode cX3_pays 13 = .ok (.dup, 1) := dk_89 (dk_at dksX3_pays_0 13 rfl rfl)
theorem dX3_pays_14 : decode cX3_pays 14 = .ok (.getfield 63, 3) := dk_180 0 63 (dk_at dksX3_pays_0 14 rfl rfl)
theorem dX3_pays_17 : decode cX3_pays 17 = .ok (.iload_n 2, 1) := dk_28 (dk_at dksX3_pays_0 17 rfl rfl)
theorem dX3_pays_18 : decode cX3_pays 18 = .ok (.ior, 1) := dk_128 (dk_at dksX3_pays_0 18 rfl rfl)
theorem dX3_pays_19 : decode cX3_pays 19 = .ok (.putfield 63, 3) := dk_181 0 63 (dk_at dksX3_pays_0 19 rfl rfl)
theorem dX3_pays_22 : decode cX3_pays 22 = .ok (.return_, 1) := dk_177 (dk_at dksX3_pays_0 22 rfl rfl)
abbrev cX3_rises : ByteArray := prog_30_method_16_code
def yX3_rises : MethodName := ⟨RX3, "rises", "(I)Z"⟩
def dkwX3_rises_1 : List UInt8 := [172]
abbrev dktX3_rises_1 : List UInt8 := dkwX3_rises_1 ++ []
def dkwX3_rises_0 : List UInt8 := [42, 180, 0, 18, 27, 46, 16, 9, 160, 0, 5, 3, 172, 42, 180, 0, 18, 27, 92, 46, 4, 96, 79, 4]
abbrev dktX3_rises_0 : List UInt8 := dkwX3_rises_0 ++ dktX3_rises_1
theorem dksX3_rises_0 : cX3_rises.data.toList.drop 0 = dktX3_rises_0 := by decide +kernel
theorem dksX3_rises_1 : cX3_rises.data.toList.drop 24 = dktX3_rises_1 := dk_seg dksX3_rises_0 24 rfl rfl
theorem dX3_rises_0 : decode cX3_rises 0 = .ok (.aload_n 0, 1) := dk_42 (dk_at dksX3_rises_0 0 rfl rfl)
theorem dX3_rises_1 : decode cX3_rises 1 = .ok (.getfield 18, 3) := dk_180 0 18 (dk_at dksX3_rises_0 1 rfl rfl)
theorem dX3_rises_4 : decode cX3_rises 4 = .ok (.iload_n 1, 1) := dk_27 (dk_at dksX3_rises_0 4 rfl rfl)
theorem dX3_rises_5 : decode cX3_rises 5 = .ok (.iaload, 1) := dk_46 (dk_at dksX3_rises_0 5 rfl rfl)
theorem dX3_rises_6 : decode cX3_rises 6 = .ok (.bipush 9, 2) := dk_16 9 (dk_at dksX3_rises_0 6 rfl rfl)
theorem dX3_rises_8 : decode cX3_rises 8 = .ok (.if_icmp .ne 5, 3) := dk_160 0 5 (dk_at dksX3_rises_0 8 rfl rfl)
theorem dX3_rises_11 : decode cX3_rises 11 = .ok (.iconst 0, 1) := dk_3 (dk_at dksX3_rises_0 11 rfl rfl)
theorem dX3_rises_12 : decode cX3_rises 12 = .ok (.ireturn, 1) := dk_172 (dk_at dksX3_rises_0 12 rfl rfl)
theorem dX3_rises_13 : decode cX3_rises 13 = .ok (.aload_n 0, 1) := dk_42 (dk_at dksX3_rises_0 13 rfl rfl)
theorem dX3_rises_14 : decode cX3_rises 14 = .ok (.getfield 18, 3) := dk_180 0 18 (dk_at dksX3_rises_0 14 rfl rfl)
theorem dX3_rises_17 : decode cX3_rises 17 = .ok (.iload_n 1, 1) := dk_27 (dk_at dksX3_rises_0 17 rfl rfl)
theorem dX3_rises_18 : decode cX3_rises 18 = .ok (.dup2, 1) := dk_92 (dk_at dksX3_rises_0 18 rfl rfl)
theorem dX3_rises_19 : decode cX3_rises 19 = .ok (.iaload, 1) := dk_46 (dk_at dksX3_rises_0 19 rfl rfl)
theorem dX3_rises_20 : decode cX3_rises 20 = .ok (.iconst 1, 1) := dk_4 (dk_at dksX3_rises_0 20 rfl rfl)
theorem dX3_rises_21 : decode cX3_rises 21 = .ok (.iadd, 1) := dk_96 (dk_at dksX3_rises_0 21 rfl rfl)
theorem dX3_rises_22 : decode cX3_rises 22 = .ok (.iastore, 1) := dk_79 (dk_at dksX3_rises_0 22 rfl rfl)
theorem dX3_rises_23 : decode cX3_rises 23 = .ok (.iconst 1, 1) := dk_4 (dk_at dksX3_rises_0 23 rfl rfl)
theorem dX3_rises_24 : decode cX3_rises 24 = .ok (.ireturn, 1) := dk_172 (dk_at dksX3_rises_1 0 rfl rfl)
abbrev cX3_ends : ByteArray := prog_30_method_17_code
def yX3_ends : MethodName := ⟨RX3, "ends", "()I"⟩
def dkwX3_ends_4 : List UInt8 := [181, 0, 72, 27, 172]
abbrev dktX3_ends_4 : List UInt8 := dkwX3_ends_4 ++ []
def dkwX3_ends_3 : List UInt8 := [132, 2, 1, 167, 255, 189, 42, 3, 181, 0, 66, 42, 3, 181, 0, 63, 42, 89, 180, 0, 72, 4, 96]
abbrev dktX3_ends_3 : List UInt8 := dkwX3_ends_3 ++ dktX3_ends_4
def dkwX3_ends_2 : List UInt8 := [153, 0, 6, 167, 0, 19, 42, 180, 0, 21, 28, 92, 46, 4, 96, 79, 27, 4, 28, 120, 128, 60]
abbrev dktX3_ends_2 : List UInt8 := dkwX3_ends_2 ++ dktX3_ends_3
def dkwX3_ends_1 : List UInt8 := [180, 0, 53, 28, 182, 0, 43, 192, 0, 56, 180, 0, 125, 153, 0, 33, 42, 180, 0, 66, 28, 184, 0, 97]
abbrev dktX3_ends_1 : List UInt8 := dkwX3_ends_1 ++ dktX3_ends_2
def dkwX3_ends_0 : List UInt8 := [3, 60, 3, 61, 28, 42, 180, 0, 27, 180, 0, 53, 182, 0, 37, 162, 0, 59, 42, 180, 0, 27]
abbrev dktX3_ends_0 : List UInt8 := dkwX3_ends_0 ++ dktX3_ends_1
theorem dksX3_ends_0 : cX3_ends.data.toList.drop 0 = dktX3_ends_0 := by decide +kernel
theorem dksX3_ends_1 : cX3_ends.data.toList.drop 22 = dktX3_ends_1 := dk_seg dksX3_ends_0 22 rfl rfl
theorem dksX3_ends_2 : cX3_ends.data.toList.drop 46 = dktX3_ends_2 := dk_seg dksX3_ends_1 24 rfl rfl
theorem dksX3_ends_3 : cX3_ends.data.toList.drop 68 = dktX3_ends_3 := dk_seg dksX3_ends_2 22 rfl rfl
theorem dksX3_ends_4 : cX3_ends.data.toList.drop 91 = dktX3_ends_4 := dk_seg dksX3_ends_3 23 rfl rfl
theorem dX3_ends_0 : decode cX3_ends 0 = .ok (.iconst 0, 1) := dk_3 (dk_at dksX3_ends_0 0 rfl rfl)
theorem dX3_ends_1 : decode cX3_ends 1 = .ok (.istore_n 1, 1) := dk_60 (dk_at dksX3_ends_0 1 rfl rfl)
theorem dX3_ends_2 : decode cX3_ends 2 = .ok (.iconst 0, 1) := dk_3 (dk_at dksX3_ends_0 2 rfl rfl)
theorem dX3_ends_3 : decode cX3_ends 3 = .ok (.istore_n 2, 1) := dk_61 (dk_at dksX3_ends_0 3 rfl rfl)
theorem dX3_ends_4 : decode cX3_ends 4 = .ok (.iload_n 2, 1) := dk_28 (dk_at dksX3_ends_0 4 rfl rfl)
theorem dX3_ends_5 : decode cX3_ends 5 = .ok (.aload_n 0, 1) := dk_42 (dk_at dksX3_ends_0 5 rfl rfl)
theorem dX3_ends_6 : decode cX3_ends 6 = .ok (.getfield 27, 3) := dk_180 0 27 (dk_at dksX3_ends_0 6 rfl rfl)
theorem dX3_ends_9 : decode cX3_ends 9 = .ok (.getfield 53, 3) := dk_180 0 53 (dk_at dksX3_ends_0 9 rfl rfl)
theorem dX3_ends_12 : decode cX3_ends 12 = .ok (.invokevirtual 37, 3) := dk_182 0 37 (dk_at dksX3_ends_0 12 rfl rfl)
theorem dX3_ends_15 : decode cX3_ends 15 = .ok (.if_icmp .ge 59, 3) := dk_162 0 59 (dk_at dksX3_ends_0 15 rfl rfl)
theorem dX3_ends_18 : decode cX3_ends 18 = .ok (.aload_n 0, 1) := dk_42 (dk_at dksX3_ends_0 18 rfl rfl)
theorem dX3_ends_19 : decode cX3_ends 19 = .ok (.getfield 27, 3) := dk_180 0 27 (dk_at dksX3_ends_0 19 rfl rfl)
theorem dX3_ends_22 : decode cX3_ends 22 = .ok (.getfield 53, 3) := dk_180 0 53 (dk_at dksX3_ends_1 0 rfl rfl)
theorem dX3_ends_25 : decode cX3_ends 25 = .ok (.iload_n 2, 1) := dk_28 (dk_at dksX3_ends_1 3 rfl rfl)
theorem dX3_ends_26 : decode cX3_ends 26 = .ok (.invokevirtual 43, 3) := dk_182 0 43 (dk_at dksX3_ends_1 4 rfl rfl)
theorem dX3_ends_29 : decode cX3_ends 29 = .ok (.checkcast 56, 3) := dk_192 0 56 (dk_at dksX3_ends_1 7 rfl rfl)
theorem dX3_ends_32 : decode cX3_ends 32 = .ok (.getfield 125, 3) := dk_180 0 125 (dk_at dksX3_ends_1 10 rfl rfl)
theorem dX3_ends_35 : decode cX3_ends 35 = .ok (.ifCond .eq 33, 3) := dk_153 0 33 (dk_at dksX3_ends_1 13 rfl rfl)
theorem dX3_ends_38 : decode cX3_ends 38 = .ok (.aload_n 0, 1) := dk_42 (dk_at dksX3_ends_1 16 rfl rfl)
theorem dX3_ends_39 : decode cX3_ends 39 = .ok (.getfield 66, 3) := dk_180 0 66 (dk_at dksX3_ends_1 17 rfl rfl)
theorem dX3_ends_42 : decode cX3_ends 42 = .ok (.iload_n 2, 1) := dk_28 (dk_at dksX3_ends_1 20 rfl rfl)
theorem dX3_ends_43 : decode cX3_ends 43 = .ok (.invokestatic 97, 3) := dk_184 0 97 (dk_at dksX3_ends_1 21 rfl rfl)
theorem dX3_ends_46 : decode cX3_ends 46 = .ok (.ifCond .eq 6, 3) := dk_153 0 6 (dk_at dksX3_ends_2 0 rfl rfl)
theorem dX3_ends_49 : decode cX3_ends 49 = .ok (.goto 19, 3) := dk_167 0 19 (dk_at dksX3_ends_2 3 rfl rfl)
theorem dX3_ends_52 : decode cX3_ends 52 = .ok (.aload_n 0, 1) := dk_42 (dk_at dksX3_ends_2 6 rfl rfl)
theorem dX3_ends_53 : decode cX3_ends 53 = .ok (.getfield 21, 3) := dk_180 0 21 (dk_at dksX3_ends_2 7 rfl rfl)
theorem dX3_ends_56 : decode cX3_ends 56 = .ok (.iload_n 2, 1) := dk_28 (dk_at dksX3_ends_2 10 rfl rfl)
theorem dX3_ends_57 : decode cX3_ends 57 = .ok (.dup2, 1) := dk_92 (dk_at dksX3_ends_2 11 rfl rfl)
theorem dX3_ends_58 : decode cX3_ends 58 = .ok (.iaload, 1) := dk_46 (dk_at dksX3_ends_2 12 rfl rfl)
theorem dX3_ends_59 : decode cX3_ends 59 = .ok (.iconst 1, 1) := dk_4 (dk_at dksX3_ends_2 13 rfl rfl)
theorem dX3_ends_60 : decode cX3_ends 60 = .ok (.iadd, 1) := dk_96 (dk_at dksX3_ends_2 14 rfl rfl)
theorem dX3_ends_61 : decode cX3_ends 61 = .ok (.iastore, 1) := dk_79 (dk_at dksX3_ends_2 15 rfl rfl)
theorem dX3_ends_62 : decode cX3_ends 62 = .ok (.iload_n 1, 1) := dk_27 (dk_at dksX3_ends_2 16 rfl rfl)
theorem dX3_ends_63 : decode cX3_ends 63 = .ok (.iconst 1, 1) := dk_4 (dk_at dksX3_ends_2 17 rfl rfl)
theorem dX3_ends_64 : decode cX3_ends 64 = .ok (.iload_n 2, 1) := dk_28 (dk_at dksX3_ends_2 18 rfl rfl)
theorem dX3_ends_65 : decode cX3_ends 65 = .ok (.ishl, 1) := dk_120 (dk_at dksX3_ends_2 19 rfl rfl)
theorem dX3_ends_66 : decode cX3_ends 66 = .ok (.ior, 1) := dk_128 (dk_at dksX3_ends_2 20 rfl rfl)
theorem dX3_ends_67 : decode cX3_ends 67 = .ok (.istore_n 1, 1) := dk_60 (dk_at dksX3_ends_2 21 rfl rfl)
theorem dX3_ends_68 : decode cX3_ends 68 = .ok (.iinc 2 1, 3) := dk_132 2 1 (dk_at dksX3_ends_3 0 rfl rfl)
theorem dX3_ends_71 : decode cX3_ends 71 = .ok (.goto (-67), 3) := dk_167 255 189 (dk_at dksX3_ends_3 3 rfl rfl)
theorem dX3_ends_74 : decode cX3_ends 74 = .ok (.aload_n 0, 1) := dk_42 (dk_at dksX3_ends_3 6 rfl rfl)
theorem dX3_ends_75 : decode cX3_ends 75 = .ok (.iconst 0, 1) := dk_3 (dk_at dksX3_ends_3 7 rfl rfl)
theorem dX3_ends_76 : decode cX3_ends 76 = .ok (.putfield 66, 3) := dk_181 0 66 (dk_at dksX3_ends_3 8 rfl rfl)
theorem dX3_ends_79 : decode cX3_ends 79 = .ok (.aload_n 0, 1) := dk_42 (dk_at dksX3_ends_3 11 rfl rfl)
theorem dX3_ends_80 : decode cX3_ends 80 = .ok (.iconst 0, 1) := dk_3 (dk_at dksX3_ends_3 12 rfl rfl)
theorem dX3_ends_81 : decode cX3_ends 81 = .ok (.putfield 63, 3) := dk_181 0 63 (dk_at dksX3_ends_3 13 rfl rfl)
theorem dX3_ends_84 : decode cX3_ends 84 = .ok (.aload_n 0, 1) := dk_42 (dk_at dksX3_ends_3 16 rfl rfl)
theorem dX3_ends_85 : decode cX3_ends 85 = .ok (.dup, 1) := dk_89 (dk_at dksX3_ends_3 17 rfl rfl)
theorem dX3_ends_86 : decode cX3_ends 86 = .ok (.getfield 72, 3) := dk_180 0 72 (dk_at dksX3_ends_3 18 rfl rfl)
theorem dX3_ends_89 : decode cX3_ends 89 = .ok (.iconst 1, 1) := dk_4 (dk_at dksX3_ends_3 21 rfl rfl)
theorem dX3_ends_90 : decode cX3_ends 90 = .ok (.iadd, 1) := dk_96 (dk_at dksX3_ends_3 22 rfl rfl)
theorem dX3_ends_91 : decode cX3_ends 91 = .ok (.putfield 72, 3) := dk_181 0 72 (dk_at dksX3_ends_4 0 rfl rfl)
theorem dX3_ends_94 : decode cX3_ends 94 = .ok (.iload_n 1, 1) := dk_27 (dk_at dksX3_ends_4 3 rfl rfl)
theorem dX3_ends_95 : decode cX3_ends 95 = .ok (.ireturn, 1) := dk_172 (dk_at dksX3_ends_4 4 rfl rfl)
abbrev cX3_lends : ByteArray := prog_30_method_21_code
def yX3_lends : MethodName := ⟨RX3, "lends", "(III)Z"⟩
def dkwX3_lends_3 : List UInt8 := [180, 0, 69, 4, 96, 181, 0, 69, 4, 172]
abbrev dktX3_lends_3 : List UInt8 := dkwX3_lends_3 ++ []
def dkwX3_lends_2 : List UInt8 := [42, 29, 182, 0, 107, 96, 79, 42, 180, 0, 24, 28, 92, 46, 42, 29, 182, 0, 107, 100, 79, 42, 89]
abbrev dktX3_lends_2 : List UInt8 := dkwX3_lends_2 ++ dktX3_lends_3
def dkwX3_lends_1 : List UInt8 := [184, 0, 97, 153, 0, 12, 42, 180, 0, 69, 16, 12, 160, 0, 5, 3, 172, 42, 180, 0, 24, 27, 92, 46]
abbrev dktX3_lends_1 : List UInt8 := dkwX3_lends_1 ++ dktX3_lends_2
def dkwX3_lends_0 : List UInt8 := [27, 28, 159, 0, 37, 42, 29, 182, 0, 86, 180, 0, 90, 28, 160, 0, 25, 42, 180, 0, 9, 29, 46, 27]
abbrev dktX3_lends_0 : List UInt8 := dkwX3_lends_0 ++ dktX3_lends_1
theorem dksX3_lends_0 : cX3_lends.data.toList.drop 0 = dktX3_lends_0 := by decide +kernel
theorem dksX3_lends_1 : cX3_lends.data.toList.drop 24 = dktX3_lends_1 := dk_seg dksX3_lends_0 24 rfl rfl
theorem dksX3_lends_2 : cX3_lends.data.toList.drop 48 = dktX3_lends_2 := dk_seg dksX3_lends_1 24 rfl rfl
theorem dksX3_lends_3 : cX3_lends.data.toList.drop 71 = dktX3_lends_3 := dk_seg dksX3_lends_2 23 rfl rfl
theorem dX3_lends_0 : decode cX3_lends 0 = .ok (.iload_n 1, 1) := dk_27 (dk_at dksX3_lends_0 0 rfl rfl)
theorem dX3_lends_1 : decode cX3_lends 1 = .ok (.iload_n 2, 1) := dk_28 (dk_at dksX3_lends_0 1 rfl rfl)
theorem dX3_lends_2 : decode cX3_lends 2 = .ok (.if_icmp .eq 37, 3) := dk_159 0 37 (dk_at dksX3_lends_0 2 rfl rfl)
theorem dX3_lends_5 : decode cX3_lends 5 = .ok (.aload_n 0, 1) := dk_42 (dk_at dksX3_lends_0 5 rfl rfl)
theorem dX3_lends_6 : decode cX3_lends 6 = .ok (.iload_n 3, 1) := dk_29 (dk_at dksX3_lends_0 6 rfl rfl)
theorem dX3_lends_7 : decode cX3_lends 7 = .ok (.invokevirtual 86, 3) := dk_182 0 86 (dk_at dksX3_lends_0 7 rfl rfl)
theorem dX3_lends_10 : decode cX3_lends 10 = .ok (.getfield 90, 3) := dk_180 0 90 (dk_at dksX3_lends_0 10 rfl rfl)
theorem dX3_lends_13 : decode cX3_lends 13 = .ok (.iload_n 2, 1) := dk_28 (dk_at dksX3_lends_0 13 rfl rfl)
theorem dX3_lends_14 : decode cX3_lends 14 = .ok (.if_icmp .ne 25, 3) := dk_160 0 25 (dk_at dksX3_lends_0 14 rfl rfl)
theorem dX3_lends_17 : decode cX3_lends 17 = .ok (.aload_n 0, 1) := dk_42 (dk_at dksX3_lends_0 17 rfl rfl)
theorem dX3_lends_18 : decode cX3_lends 18 = .ok (.getfield 9, 3) := dk_180 0 9 (dk_at dksX3_lends_0 18 rfl rfl)
theorem dX3_lends_21 : decode cX3_lends 21 = .ok (.iload_n 3, 1) := dk_29 (dk_at dksX3_lends_0 21 rfl rfl)
theorem dX3_lends_22 : decode cX3_lends 22 = .ok (.iaload, 1) := dk_46 (dk_at dksX3_lends_0 22 rfl rfl)
theorem dX3_lends_23 : decode cX3_lends 23 = .ok (.iload_n 1, 1) := dk_27 (dk_at dksX3_lends_0 23 rfl rfl)
theorem dX3_lends_24 : decode cX3_lends 24 = .ok (.invokestatic 97, 3) := dk_184 0 97 (dk_at dksX3_lends_1 0 rfl rfl)
theorem dX3_lends_27 : decode cX3_lends 27 = .ok (.ifCond .eq 12, 3) := dk_153 0 12 (dk_at dksX3_lends_1 3 rfl rfl)
theorem dX3_lends_30 : decode cX3_lends 30 = .ok (.aload_n 0, 1) := dk_42 (dk_at dksX3_lends_1 6 rfl rfl)
theorem dX3_lends_31 : decode cX3_lends 31 = .ok (.getfield 69, 3) := dk_180 0 69 (dk_at dksX3_lends_1 7 rfl rfl)
theorem dX3_lends_34 : decode cX3_lends 34 = .ok (.bipush 12, 2) := dk_16 12 (dk_at dksX3_lends_1 10 rfl rfl)
theorem dX3_lends_36 : decode cX3_lends 36 = .ok (.if_icmp .ne 5, 3) := dk_160 0 5 (dk_at dksX3_lends_1 12 rfl rfl)
theorem dX3_lends_39 : decode cX3_lends 39 = .ok (.iconst 0, 1) := dk_3 (dk_at dksX3_lends_1 15 rfl rfl)
theorem dX3_lends_40 : decode cX3_lends 40 = .ok (.ireturn, 1) := dk_172 (dk_at dksX3_lends_1 16 rfl rfl)
theorem dX3_lends_41 : decode cX3_lends 41 = .ok (.aload_n 0, 1) := dk_42 (dk_at dksX3_lends_1 17 rfl rfl)
theorem dX3_lends_42 : decode cX3_lends 42 = .ok (.getfield 24, 3) := dk_180 0 24 (dk_at dksX3_lends_1 18 rfl rfl)
theorem dX3_lends_45 : decode cX3_lends 45 = .ok (.iload_n 1, 1) := dk_27 (dk_at dksX3_lends_1 21 rfl rfl)
theorem dX3_lends_46 : decode cX3_lends 46 = .ok (.dup2, 1) := dk_92 (dk_at dksX3_lends_1 22 rfl rfl)
theorem dX3_lends_47 : decode cX3_lends 47 = .ok (.iaload, 1) := dk_46 (dk_at dksX3_lends_1 23 rfl rfl)
theorem dX3_lends_48 : decode cX3_lends 48 = .ok (.aload_n 0, 1) := dk_42 (dk_at dksX3_lends_2 0 rfl rfl)
theorem dX3_lends_49 : decode cX3_lends 49 = .ok (.iload_n 3, 1) := dk_29 (dk_at dksX3_lends_2 1 rfl rfl)
theorem dX3_lends_50 : decode cX3_lends 50 = .ok (.invokevirtual 107, 3) := dk_182 0 107 (dk_at dksX3_lends_2 2 rfl rfl)
theorem dX3_lends_53 : decode cX3_lends 53 = .ok (.iadd, 1) := dk_96 (dk_at dksX3_lends_2 5 rfl rfl)
theorem dX3_lends_54 : decode cX3_lends 54 = .ok (.iastore, 1) := dk_79 (dk_at dksX3_lends_2 6 rfl rfl)
theorem dX3_lends_55 : decode cX3_lends 55 = .ok (.aload_n 0, 1) := dk_42 (dk_at dksX3_lends_2 7 rfl rfl)
theorem dX3_lends_56 : decode cX3_lends 56 = .ok (.getfield 24, 3) := dk_180 0 24 (dk_at dksX3_lends_2 8 rfl rfl)
theorem dX3_lends_59 : decode cX3_lends 59 = .ok (.iload_n 2, 1) := dk_28 (dk_at dksX3_lends_2 11 rfl rfl)
theorem dX3_lends_60 : decode cX3_lends 60 = .ok (.dup2, 1) := dk_92 (dk_at dksX3_lends_2 12 rfl rfl)
theorem dX3_lends_61 : decode cX3_lends 61 = .ok (.iaload, 1) := dk_46 (dk_at dksX3_lends_2 13 rfl rfl)
theorem dX3_lends_62 : decode cX3_lends 62 = .ok (.aload_n 0, 1) := dk_42 (dk_at dksX3_lends_2 14 rfl rfl)
theorem dX3_lends_63 : decode cX3_lends 63 = .ok (.iload_n 3, 1) := dk_29 (dk_at dksX3_lends_2 15 rfl rfl)
theorem dX3_lends_64 : decode cX3_lends 64 = .ok (.invokevirtual 107, 3) := dk_182 0 107 (dk_at dksX3_lends_2 16 rfl rfl)
theorem dX3_lends_67 : decode cX3_lends 67 = .ok (.isub, 1) := dk_100 (dk_at dksX3_lends_2 19 rfl rfl)
theorem dX3_lends_68 : decode cX3_lends 68 = .ok (.iastore, 1) := dk_79 (dk_at dksX3_lends_2 20 rfl rfl)
theorem dX3_lends_69 : decode cX3_lends 69 = .ok (.aload_n 0, 1) := dk_42 (dk_at dksX3_lends_2 21 rfl rfl)
theorem dX3_lends_70 : decode cX3_lends 70 = .ok (.dup, 1) := dk_89 (dk_at dksX3_lends_2 22 rfl rfl)
theorem dX3_lends_71 : decode cX3_lends 71 = .ok (.getfield 69, 3) := dk_180 0 69 (dk_at dksX3_lends_3 0 rfl rfl)
theorem dX3_lends_74 : decode cX3_lends 74 = .ok (.iconst 1, 1) := dk_4 (dk_at dksX3_lends_3 3 rfl rfl)
theorem dX3_lends_75 : decode cX3_lends 75 = .ok (.iadd, 1) := dk_96 (dk_at dksX3_lends_3 4 rfl rfl)
theorem dX3_lends_76 : decode cX3_lends 76 = .ok (.putfield 69, 3) := dk_181 0 69 (dk_at dksX3_lends_3 5 rfl rfl)
theorem dX3_lends_79 : decode cX3_lends 79 = .ok (.iconst 1, 1) := dk_4 (dk_at dksX3_lends_3 8 rfl rfl)
theorem dX3_lends_80 : decode cX3_lends 80 = .ok (.ireturn, 1) := dk_172 (dk_at dksX3_lends_3 9 rfl rfl)
abbrev cX3_finedInAll : ByteArray := prog_30_method_18_code
def yX3_finedInAll : MethodName := ⟨RX3, "finedInAll", "()I"⟩
def dkwX3_finedInAll_1 : List UInt8 := [167, 255, 238, 27, 172]
abbrev dktX3_finedInAll_1 : List UInt8 := dkwX3_finedInAll_1 ++ []
def dkwX3_finedInAll_0 : List UInt8 := [3, 60, 3, 61, 28, 16, 6, 162, 0, 18, 27, 42, 180, 0, 21, 28, 46, 96, 60, 132, 2, 1]
abbrev dktX3_finedInAll_0 : List UInt8 := dkwX3_finedInAll_0 ++ dktX3_finedInAll_1
theorem dksX3_finedInAll_0 : cX3_finedInAll.data.toList.drop 0 = dktX3_finedInAll_0 := by decide +kernel
theorem dksX3_finedInAll_1 : cX3_finedInAll.data.toList.drop 22 = dktX3_finedInAll_1 := dk_seg dksX3_finedInAll_0 22 rfl rfl
theorem dX3_finedInAll_0 : decode cX3_finedInAll 0 = .ok (.iconst 0, 1) := dk_3 (dk_at dksX3_finedInAll_0 0 rfl rfl)
theorem dX3_finedInAll_1 : decode cX3_finedInAll 1 = .ok (.istore_n 1, 1) := dk_60 (dk_at dksX3_finedInAll_0 1 rfl rfl)
theorem dX3_finedInAll_2 : decode cX3_finedInAll 2 = .ok (.iconst 0, 1) := dk_3 (dk_at dksX3_finedInAll_0 2 rfl rfl)
theorem dX3_finedInAll_3 : decode cX3_finedInAll 3 = .ok (.istore_n 2, 1) := dk_61 (dk_at dksX3_finedInAll_0 3 rfl rfl)
theorem dX3_finedInAll_4 : decode cX3_finedInAll 4 = .ok (.iload_n 2, 1) := dk_28 (dk_at dksX3_finedInAll_0 4 rfl rfl)
theorem dX3_finedInAll_5 : decode cX3_finedInAll 5 = .ok (.bipush 6, 2) := dk_16 6 (dk_at dksX3_finedInAll_0 5 rfl rfl)
theorem dX3_finedInAll_7 : decode cX3_finedInAll 7 = .ok (.if_icmp .ge 18, 3) := dk_162 0 18 (dk_at dksX3_finedInAll_0 7 rfl rfl)
theorem dX3_finedInAll_10 : decode cX3_finedInAll 10 = .ok (.iload_n 1, 1) := dk_27 (dk_at dksX3_finedInAll_0 10 rfl rfl)
theorem dX3_finedInAll_11 : decode cX3_finedInAll 11 = .ok (.aload_n 0, 1) := dk_42 (dk_at dksX3_finedInAll_0 11 rfl rfl)
theorem dX3_finedInAll_12 : decode cX3_finedInAll 12 = .ok (.getfield 21, 3) := dk_180 0 21 (dk_at dksX3_finedInAll_0 12 rfl rfl)
theorem dX3_finedInAll_15 : decode cX3_finedInAll 15 = .ok (.iload_n 2, 1) := dk_28 (dk_at dksX3_finedInAll_0 15 rfl rfl)
theorem dX3_finedInAll_16 : decode cX3_finedInAll 16 = .ok (.iaload, 1) := dk_46 (dk_at dksX3_finedInAll_0 16 rfl rfl)
theorem dX3_finedInAll_17 : decode cX3_finedInAll 17 = .ok (.iadd, 1) := dk_96 (dk_at dksX3_finedInAll_0 17 rfl rfl)
theorem dX3_finedInAll_18 : decode cX3_finedInAll 18 = .ok (.istore_n 1, 1) := dk_60 (dk_at dksX3_finedInAll_0 18 rfl rfl)
theorem dX3_finedInAll_19 : decode cX3_finedInAll 19 = .ok (.iinc 2 1, 3) := dk_132 2 1 (dk_at dksX3_finedInAll_0 19 rfl rfl)
theorem dX3_finedInAll_22 : decode cX3_finedInAll 22 = .ok (.goto (-18), 3) := dk_167 255 238 (dk_at dksX3_finedInAll_1 0 rfl rfl)
theorem dX3_finedInAll_25 : decode cX3_finedInAll 25 = .ok (.iload_n 1, 1) := dk_27 (dk_at dksX3_finedInAll_1 3 rfl rfl)
theorem dX3_finedInAll_26 : decode cX3_finedInAll 26 = .ok (.ireturn, 1) := dk_172 (dk_at dksX3_finedInAll_1 4 rfl rfl)
abbrev cX3_all : ByteArray := prog_30_method_9_code
def yX3_all : MethodName := ⟨RX3, "all", "()I"⟩
def dkwX3_all_0 : List UInt8 := [42, 4, 42, 180, 0, 27, 180, 0, 31, 182, 0, 37, 120, 4, 100, 182, 0, 111, 172]
abbrev dktX3_all_0 : List UInt8 := dkwX3_all_0 ++ []
theorem dksX3_all_0 : cX3_all.data.toList.drop 0 = dktX3_all_0 := by decide +kernel
theorem dX3_all_0 : decode cX3_all 0 = .ok (.aload_n 0, 1) := dk_42 (dk_at dksX3_all_0 0 rfl rfl)
theorem dX3_all_1 : decode cX3_all 1 = .ok (.iconst 1, 1) := dk_4 (dk_at dksX3_all_0 1 rfl rfl)
theorem dX3_all_2 : decode cX3_all 2 = .ok (.aload_n 0, 1) := dk_42 (dk_at dksX3_all_0 2 rfl rfl)
theorem dX3_all_3 : decode cX3_all 3 = .ok (.getfield 27, 3) := dk_180 0 27 (dk_at dksX3_all_0 3 rfl rfl)
theorem dX3_all_6 : decode cX3_all 6 = .ok (.getfield 31, 3) := dk_180 0 31 (dk_at dksX3_all_0 6 rfl rfl)
theorem dX3_all_9 : decode cX3_all 9 = .ok (.invokevirtual 37, 3) := dk_182 0 37 (dk_at dksX3_all_0 9 rfl rfl)
theorem dX3_all_12 : decode cX3_all 12 = .ok (.ishl, 1) := dk_120 (dk_at dksX3_all_0 12 rfl rfl)
theorem dX3_all_13 : decode cX3_all 13 = .ok (.iconst 1, 1) := dk_4 (dk_at dksX3_all_0 13 rfl rfl)
theorem dX3_all_14 : decode cX3_all 14 = .ok (.isub, 1) := dk_100 (dk_at dksX3_all_0 14 rfl rfl)
theorem dX3_all_15 : decode cX3_all 15 = .ok (.invokevirtual 111, 3) := dk_182 0 111 (dk_at dksX3_all_0 15 rfl rfl)
theorem dX3_all_18 : decode cX3_all 18 = .ok (.ireturn, 1) := dk_172 (dk_at dksX3_all_0 18 rfl rfl)
abbrev cX3_least : ByteArray := prog_30_method_19_code
def yX3_least : MethodName := ⟨RX3, "least", "(I)I"⟩
def dkwX3_least_3 : List UInt8 := [21, 4, 62, 132, 4, 1, 167, 255, 199, 29, 172]
abbrev dktX3_least_3 : List UInt8 := dkwX3_least_3 ++ []
def dkwX3_least_2 : List UInt8 := [21, 4, 182, 0, 128, 153, 0, 21, 29, 2, 159, 0, 13, 42, 21, 4, 29, 182, 0, 131, 153, 0, 6]
abbrev dktX3_least_2 : List UInt8 := dkwX3_least_2 ++ dktX3_least_3
def dkwX3_least_1 : List UInt8 := [180, 0, 27, 180, 0, 31, 182, 0, 37, 120, 162, 0, 46, 21, 4, 28, 2, 130, 126, 154, 0, 31, 42, 27]
abbrev dktX3_least_1 : List UInt8 := dkwX3_least_1 ++ dktX3_least_2
def dkwX3_least_0 : List UInt8 := [42, 27, 182, 0, 114, 42, 180, 0, 63, 2, 130, 126, 61, 2, 62, 3, 54, 4, 21, 4, 4, 42]
abbrev dktX3_least_0 : List UInt8 := dkwX3_least_0 ++ dktX3_least_1
theorem dksX3_least_0 : cX3_least.data.toList.drop 0 = dktX3_least_0 := by decide +kernel
theorem dksX3_least_1 : cX3_least.data.toList.drop 22 = dktX3_least_1 := dk_seg dksX3_least_0 22 rfl rfl
theorem dksX3_least_2 : cX3_least.data.toList.drop 46 = dktX3_least_2 := dk_seg dksX3_least_1 24 rfl rfl
theorem dksX3_least_3 : cX3_least.data.toList.drop 69 = dktX3_least_3 := dk_seg dksX3_least_2 23 rfl rfl
theorem dX3_least_0 : decode cX3_least 0 = .ok (.aload_n 0, 1) := dk_42 (dk_at dksX3_least_0 0 rfl rfl)
theorem dX3_least_1 : decode cX3_least 1 = .ok (.iload_n 1, 1) := dk_27 (dk_at dksX3_least_0 1 rfl rfl)
theorem dX3_least_2 : decode cX3_least 2 = .ok (.invokevirtual 114, 3) := dk_182 0 114 (dk_at dksX3_least_0 2 rfl rfl)
theorem dX3_least_5 : decode cX3_least 5 = .ok (.aload_n 0, 1) := dk_42 (dk_at dksX3_least_0 5 rfl rfl)
theorem dX3_least_6 : decode cX3_least 6 = .ok (.getfield 63, 3) := dk_180 0 63 (dk_at dksX3_least_0 6 rfl rfl)
theorem dX3_least_9 : decode cX3_least 9 = .ok (.iconst (-1), 1) := dk_2 (dk_at dksX3_least_0 9 rfl rfl)
theorem dX3_least_10 : decode cX3_least 10 = .ok (.ixor, 1) := dk_130 (dk_at dksX3_least_0 10 rfl rfl)
theorem dX3_least_11 : decode cX3_least 11 = .ok (.iand, 1) := dk_126 (dk_at dksX3_least_0 11 rfl rfl)
theorem dX3_least_12 : decode cX3_least 12 = .ok (.istore_n 2, 1) := dk_61 (dk_at dksX3_least_0 12 rfl rfl)
theorem dX3_least_13 : decode cX3_least 13 = .ok (.iconst (-1), 1) := dk_2 (dk_at dksX3_least_0 13 rfl rfl)
theorem dX3_least_14 : decode cX3_least 14 = .ok (.istore_n 3, 1) := dk_62 (dk_at dksX3_least_0 14 rfl rfl)
theorem dX3_least_15 : decode cX3_least 15 = .ok (.iconst 0, 1) := dk_3 (dk_at dksX3_least_0 15 rfl rfl)
theorem dX3_least_16 : decode cX3_least 16 = .ok (.istore 4, 2) := dk_54 4 (dk_at dksX3_least_0 16 rfl rfl)
theorem dX3_least_18 : decode cX3_least 18 = .ok (.iload 4, 2) := dk_21 4 (dk_at dksX3_least_0 18 rfl rfl)
theorem dX3_least_20 : decode cX3_least 20 = .ok (.iconst 1, 1) := dk_4 (dk_at dksX3_least_0 20 rfl rfl)
theorem dX3_least_21 : decode cX3_least 21 = .ok (.aload_n 0, 1) := dk_42 (dk_at dksX3_least_0 21 rfl rfl)
theorem dX3_least_22 : decode cX3_least 22 = .ok (.getfield 27, 3) := dk_180 0 27 (dk_at dksX3_least_1 0 rfl rfl)
theorem dX3_least_25 : decode cX3_least 25 = .ok (.getfield 31, 3) := dk_180 0 31 (dk_at dksX3_least_1 3 rfl rfl)
theorem dX3_least_28 : decode cX3_least 28 = .ok (.invokevirtual 37, 3) := dk_182 0 37 (dk_at dksX3_least_1 6 rfl rfl)
theorem dX3_least_31 : decode cX3_least 31 = .ok (.ishl, 1) := dk_120 (dk_at dksX3_least_1 9 rfl rfl)
theorem dX3_least_32 : decode cX3_least 32 = .ok (.if_icmp .ge 46, 3) := dk_162 0 46 (dk_at dksX3_least_1 10 rfl rfl)
theorem dX3_least_35 : decode cX3_least 35 = .ok (.iload 4, 2) := dk_21 4 (dk_at dksX3_least_1 13 rfl rfl)
theorem dX3_least_37 : decode cX3_least 37 = .ok (.iload_n 2, 1) := dk_28 (dk_at dksX3_least_1 15 rfl rfl)
theorem dX3_least_38 : decode cX3_least 38 = .ok (.iconst (-1), 1) := dk_2 (dk_at dksX3_least_1 16 rfl rfl)
theorem dX3_least_39 : decode cX3_least 39 = .ok (.ixor, 1) := dk_130 (dk_at dksX3_least_1 17 rfl rfl)
theorem dX3_least_40 : decode cX3_least 40 = .ok (.iand, 1) := dk_126 (dk_at dksX3_least_1 18 rfl rfl)
theorem dX3_least_41 : decode cX3_least 41 = .ok (.ifCond .ne 31, 3) := dk_154 0 31 (dk_at dksX3_least_1 19 rfl rfl)
theorem dX3_least_44 : decode cX3_least 44 = .ok (.aload_n 0, 1) := dk_42 (dk_at dksX3_least_1 22 rfl rfl)
theorem dX3_least_45 : decode cX3_least 45 = .ok (.iload_n 1, 1) := dk_27 (dk_at dksX3_least_1 23 rfl rfl)
theorem dX3_least_46 : decode cX3_least 46 = .ok (.iload 4, 2) := dk_21 4 (dk_at dksX3_least_2 0 rfl rfl)
theorem dX3_least_48 : decode cX3_least 48 = .ok (.invokevirtual 128, 3) := dk_182 0 128 (dk_at dksX3_least_2 2 rfl rfl)
theorem dX3_least_51 : decode cX3_least 51 = .ok (.ifCond .eq 21, 3) := dk_153 0 21 (dk_at dksX3_least_2 5 rfl rfl)
theorem dX3_least_54 : decode cX3_least 54 = .ok (.iload_n 3, 1) := dk_29 (dk_at dksX3_least_2 8 rfl rfl)
theorem dX3_least_55 : decode cX3_least 55 = .ok (.iconst (-1), 1) := dk_2 (dk_at dksX3_least_2 9 rfl rfl)
theorem dX3_least_56 : decode cX3_least 56 = .ok (.if_icmp .eq 13, 3) := dk_159 0 13 (dk_at dksX3_least_2 10 rfl rfl)
theorem dX3_least_59 : decode cX3_least 59 = .ok (.aload_n 0, 1) := dk_42 (dk_at dksX3_least_2 13 rfl rfl)
theorem dX3_least_60 : decode cX3_least 60 = .ok (.iload 4, 2) := dk_21 4 (dk_at dksX3_least_2 14 rfl rfl)
theorem dX3_least_62 : decode cX3_least 62 = .ok (.iload_n 3, 1) := dk_29 (dk_at dksX3_least_2 16 rfl rfl)
theorem dX3_least_63 : decode cX3_least 63 = .ok (.invokevirtual 131, 3) := dk_182 0 131 (dk_at dksX3_least_2 17 rfl rfl)
theorem dX3_least_66 : decode cX3_least 66 = .ok (.ifCond .eq 6, 3) := dk_153 0 6 (dk_at dksX3_least_2 20 rfl rfl)
theorem dX3_least_69 : decode cX3_least 69 = .ok (.iload 4, 2) := dk_21 4 (dk_at dksX3_least_3 0 rfl rfl)
theorem dX3_least_71 : decode cX3_least 71 = .ok (.istore_n 3, 1) := dk_62 (dk_at dksX3_least_3 2 rfl rfl)
theorem dX3_least_72 : decode cX3_least 72 = .ok (.iinc 4 1, 3) := dk_132 4 1 (dk_at dksX3_least_3 3 rfl rfl)
theorem dX3_least_75 : decode cX3_least 75 = .ok (.goto (-57), 3) := dk_167 255 199 (dk_at dksX3_least_3 6 rfl rfl)
theorem dX3_least_78 : decode cX3_least 78 = .ok (.iload_n 3, 1) := dk_29 (dk_at dksX3_least_3 9 rfl rfl)
theorem dX3_least_79 : decode cX3_least 79 = .ok (.ireturn, 1) := dk_172 (dk_at dksX3_least_3 10 rfl rfl)
abbrev cX3_isLess : ByteArray := prog_30_method_20_code
def yX3_isLess : MethodName := ⟨RX3, "isLess", "(II)Z"⟩
def dkwX3_isLess_1 : List UInt8 := [182, 0, 111, 42, 28, 182, 0, 111, 162, 0, 7, 4, 167, 0, 4, 3, 172]
abbrev dktX3_isLess_1 : List UInt8 := dkwX3_isLess_1 ++ []
def dkwX3_isLess_0 : List UInt8 := [27, 184, 0, 134, 28, 184, 0, 134, 161, 0, 27, 27, 184, 0, 134, 28, 184, 0, 134, 160, 0, 20, 42, 27]
abbrev dktX3_isLess_0 : List UInt8 := dkwX3_isLess_0 ++ dktX3_isLess_1
theorem dksX3_isLess_0 : cX3_isLess.data.toList.drop 0 = dktX3_isLess_0 := by decide +kernel
theorem dksX3_isLess_1 : cX3_isLess.data.toList.drop 24 = dktX3_isLess_1 := dk_seg dksX3_isLess_0 24 rfl rfl
theorem dX3_isLess_0 : decode cX3_isLess 0 = .ok (.iload_n 1, 1) := dk_27 (dk_at dksX3_isLess_0 0 rfl rfl)
theorem dX3_isLess_1 : decode cX3_isLess 1 = .ok (.invokestatic 134, 3) := dk_184 0 134 (dk_at dksX3_isLess_0 1 rfl rfl)
theorem dX3_isLess_4 : decode cX3_isLess 4 = .ok (.iload_n 2, 1) := dk_28 (dk_at dksX3_isLess_0 4 rfl rfl)
theorem dX3_isLess_5 : decode cX3_isLess 5 = .ok (.invokestatic 134, 3) := dk_184 0 134 (dk_at dksX3_isLess_0 5 rfl rfl)
theorem dX3_isLess_8 : decode cX3_isLess 8 = .ok (.if_icmp .lt 27, 3) := dk_161 0 27 (dk_at dksX3_isLess_0 8 rfl rfl)
theorem dX3_isLess_11 : decode cX3_isLess 11 = .ok (.iload_n 1, 1) := dk_27 (dk_at dksX3_isLess_0 11 rfl rfl)
theorem dX3_isLess_12 : decode cX3_isLess 12 = .ok (.invokestatic 134, 3) := dk_184 0 134 (dk_at dksX3_isLess_0 12 rfl rfl)
theorem dX3_isLess_15 : decode cX3_isLess 15 = .ok (.iload_n 2, 1) := dk_28 (dk_at dksX3_isLess_0 15 rfl rfl)
theorem dX3_isLess_16 : decode cX3_isLess 16 = .ok (.invokestatic 134, 3) := dk_184 0 134 (dk_at dksX3_isLess_0 16 rfl rfl)
theorem dX3_isLess_19 : decode cX3_isLess 19 = .ok (.if_icmp .ne 20, 3) := dk_160 0 20 (dk_at dksX3_isLess_0 19 rfl rfl)
theorem dX3_isLess_22 : decode cX3_isLess 22 = .ok (.aload_n 0, 1) := dk_42 (dk_at dksX3_isLess_0 22 rfl rfl)
theorem dX3_isLess_23 : decode cX3_isLess 23 = .ok (.iload_n 1, 1) := dk_27 (dk_at dksX3_isLess_0 23 rfl rfl)
theorem dX3_isLess_24 : decode cX3_isLess 24 = .ok (.invokevirtual 111, 3) := dk_182 0 111 (dk_at dksX3_isLess_1 0 rfl rfl)
theorem dX3_isLess_27 : decode cX3_isLess 27 = .ok (.aload_n 0, 1) := dk_42 (dk_at dksX3_isLess_1 3 rfl rfl)
theorem dX3_isLess_28 : decode cX3_isLess 28 = .ok (.iload_n 2, 1) := dk_28 (dk_at dksX3_isLess_1 4 rfl rfl)
theorem dX3_isLess_29 : decode cX3_isLess 29 = .ok (.invokevirtual 111, 3) := dk_182 0 111 (dk_at dksX3_isLess_1 5 rfl rfl)
theorem dX3_isLess_32 : decode cX3_isLess 32 = .ok (.if_icmp .ge 7, 3) := dk_162 0 7 (dk_at dksX3_isLess_1 8 rfl rfl)
theorem dX3_isLess_35 : decode cX3_isLess 35 = .ok (.iconst 1, 1) := dk_4 (dk_at dksX3_isLess_1 11 rfl rfl)
theorem dX3_isLess_36 : decode cX3_isLess 36 = .ok (.goto 4, 3) := dk_167 0 4 (dk_at dksX3_isLess_1 12 rfl rfl)
theorem dX3_isLess_39 : decode cX3_isLess 39 = .ok (.iconst 0, 1) := dk_3 (dk_at dksX3_isLess_1 15 rfl rfl)
theorem dX3_isLess_40 : decode cX3_isLess 40 = .ok (.ireturn, 1) := dk_172 (dk_at dksX3_isLess_1 16 rfl rfl)
abbrev cX3_purse : ByteArray := prog_30_method_11_code
def yX3_purse : MethodName := ⟨RX3, "purse", "(I)I"⟩
def dkwX3_purse_0 : List UInt8 := [42, 42, 27, 182, 0, 114, 182, 0, 111, 172]
abbrev dktX3_purse_0 : List UInt8 := dkwX3_purse_0 ++ []
theorem dksX3_purse_0 : cX3_purse.data.toList.drop 0 = dktX3_purse_0 := by decide +kernel
theorem dX3_purse_0 : decode cX3_purse 0 = .ok (.aload_n 0, 1) := dk_42 (dk_at dksX3_purse_0 0 rfl rfl)
theorem dX3_purse_1 : decode cX3_purse 1 = .ok (.aload_n 0, 1) := dk_42 (dk_at dksX3_purse_0 1 rfl rfl)
theorem dX3_purse_2 : decode cX3_purse 2 = .ok (.iload_n 1, 1) := dk_27 (dk_at dksX3_purse_0 2 rfl rfl)
theorem dX3_purse_3 : decode cX3_purse 3 = .ok (.invokevirtual 114, 3) := dk_182 0 114 (dk_at dksX3_purse_0 3 rfl rfl)
theorem dX3_purse_6 : decode cX3_purse 6 = .ok (.invokevirtual 111, 3) := dk_182 0 111 (dk_at dksX3_purse_0 6 rfl rfl)
theorem dX3_purse_9 : decode cX3_purse 9 = .ok (.ireturn, 1) := dk_172 (dk_at dksX3_purse_0 9 rfl rfl)
theorem q131 : (Jvm.Cond.initialized "PaidSecrets$Talk") ∈ lw_all := lw_g (lw_at lw_m1 3 rfl) rfl
theorem q269 : (Jvm.Cond.instantiable "PaidSecrets$Talk" (11 : Nat)) ∈ lw_all := lw_g (lw_at lw_m1 141 rfl) rfl
theorem q271 : (Jvm.Cond.instanceMethod ({ cls := "PaidSecrets$Talk", name := "<init>", desc := "()V" } : Jvm.MethodName)) ∈ lw_all := lw_g (lw_at lw_m1 143 rfl) rfl
theorem q272 : (Jvm.Cond.code ({ cls := "PaidSecrets$Talk", name := "<init>", desc := "()V" } : Jvm.MethodName) prog_30_method_1_code (1 : Nat) (Option.none : Option Jvm.ClassFile.FieldType)) ∈ lw_all := lw_g (lw_at lw_m1 144 rfl) rfl
theorem q273 : (Jvm.Cond.methodLink "PaidSecrets$Talk" (3 : Nat) ({ cls := "java/lang/Object", name := "<init>", desc := "()V" } : Jvm.MethodName)) ∈ lw_all := lw_g (lw_at lw_m1 145 rfl) rfl
theorem q274 : (Jvm.Cond.fieldLink "PaidSecrets$Talk" (27 : Nat) "PaidSecrets$Talk" "town" "LPaidSecrets$Town;") ∈ lw_all := lw_g (lw_at lw_m1 146 rfl) rfl
theorem q276 : (Jvm.Cond.fieldLink "PaidSecrets$Talk" (9 : Nat) "PaidSecrets$Talk" "knows" "[I") ∈ lw_all := lw_g (lw_at lw_m1 148 rfl) rfl
theorem q280 : (Jvm.Cond.fieldLink "PaidSecrets$Talk" (15 : Nat) "PaidSecrets$Talk" "aware" "[I") ∈ lw_all := lw_g (lw_at lw_m1 152 rfl) rfl
theorem q282 : (Jvm.Cond.fieldLink "PaidSecrets$Talk" (18 : Nat) "PaidSecrets$Talk" "rank" "[I") ∈ lw_all := lw_g (lw_at lw_m1 154 rfl) rfl
theorem q284 : (Jvm.Cond.fieldLink "PaidSecrets$Talk" (21 : Nat) "PaidSecrets$Talk" "fined" "[I") ∈ lw_all := lw_g (lw_at lw_m1 156 rfl) rfl
theorem q286 : (Jvm.Cond.fieldLink "PaidSecrets$Talk" (24 : Nat) "PaidSecrets$Talk" "net" "[I") ∈ lw_all := lw_g (lw_at lw_m1 158 rfl) rfl
theorem q288 : (Jvm.Cond.fieldLink "PaidSecrets$Talk" (60 : Nat) "PaidSecrets$Talk" "met" "I") ∈ lw_all := lw_g (lw_at lw_m1 160 rfl) rfl
theorem q290 : (Jvm.Cond.fieldLink "PaidSecrets$Talk" (63 : Nat) "PaidSecrets$Talk" "paid" "I") ∈ lw_all := lw_g (lw_at lw_m1 162 rfl) rfl
theorem q293 : (Jvm.Cond.fieldLink "PaidSecrets$Talk" (66 : Nat) "PaidSecrets$Talk" "payers" "I") ∈ lw_all := lw_g (lw_at lw_m1 165 rfl) rfl
theorem q295 : (Jvm.Cond.fieldLink "PaidSecrets$Talk" (69 : Nat) "PaidSecrets$Talk" "loans" "I") ∈ lw_all := lw_g (lw_at lw_m1 167 rfl) rfl
theorem q297 : (Jvm.Cond.fieldLink "PaidSecrets$Talk" (72 : Nat) "PaidSecrets$Talk" "quarter" "I") ∈ lw_all := lw_g (lw_at lw_m1 169 rfl) rfl
theorem q299 : (Jvm.Cond.lays "PaidSecrets$Talk" "PaidSecrets$Talk" "town" "LPaidSecrets$Town;") ∈ lw_all := lw_g (lw_at lw_m1 171 rfl) rfl
theorem q300 : (Jvm.Cond.soleField "PaidSecrets$Talk" "town") ∈ lw_all := lw_g (lw_at lw_m1 172 rfl) rfl
theorem q301 : (Jvm.Cond.laysFinal "PaidSecrets$Talk" "PaidSecrets$Talk" "knows" "[I") ∈ lw_all := lw_g (lw_at lw_m1 173 rfl) rfl
theorem q302 : (Jvm.Cond.soleField "PaidSecrets$Talk" "knows") ∈ lw_all := lw_g (lw_at lw_m1 174 rfl) rfl
theorem q303 : (Jvm.Cond.laysFinal "PaidSecrets$Talk" "PaidSecrets$Talk" "aware" "[I") ∈ lw_all := lw_g (lw_at lw_m1 175 rfl) rfl
theorem q304 : (Jvm.Cond.soleField "PaidSecrets$Talk" "aware") ∈ lw_all := lw_g (lw_at lw_m1 176 rfl) rfl
theorem q305 : (Jvm.Cond.laysFinal "PaidSecrets$Talk" "PaidSecrets$Talk" "rank" "[I") ∈ lw_all := lw_g (lw_at lw_m1 177 rfl) rfl
theorem q306 : (Jvm.Cond.soleField "PaidSecrets$Talk" "rank") ∈ lw_all := lw_g (lw_at lw_m1 178 rfl) rfl
theorem q307 : (Jvm.Cond.laysFinal "PaidSecrets$Talk" "PaidSecrets$Talk" "fined" "[I") ∈ lw_all := lw_g (lw_at lw_m1 179 rfl) rfl
theorem q308 : (Jvm.Cond.soleField "PaidSecrets$Talk" "fined") ∈ lw_all := lw_g (lw_at lw_m1 180 rfl) rfl
theorem q309 : (Jvm.Cond.laysFinal "PaidSecrets$Talk" "PaidSecrets$Talk" "net" "[I") ∈ lw_all := lw_g (lw_at lw_m1 181 rfl) rfl
theorem q310 : (Jvm.Cond.soleField "PaidSecrets$Talk" "net") ∈ lw_all := lw_g (lw_at lw_m1 182 rfl) rfl
theorem q311 : (Jvm.Cond.lays "PaidSecrets$Talk" "PaidSecrets$Talk" "met" "I") ∈ lw_all := lw_g (lw_at lw_m1 183 rfl) rfl
theorem q312 : (Jvm.Cond.soleField "PaidSecrets$Talk" "met") ∈ lw_all := lw_g (lw_at lw_m1 184 rfl) rfl
theorem q313 : (Jvm.Cond.lays "PaidSecrets$Talk" "PaidSecrets$Talk" "paid" "I") ∈ lw_all := lw_g (lw_at lw_m1 185 rfl) rfl
theorem q314 : (Jvm.Cond.soleField "PaidSecrets$Talk" "paid") ∈ lw_all := lw_g (lw_at lw_m1 186 rfl) rfl
theorem q315 : (Jvm.Cond.lays "PaidSecrets$Talk" "PaidSecrets$Talk" "payers" "I") ∈ lw_all := lw_g (lw_at lw_m1 187 rfl) rfl
theorem q316 : (Jvm.Cond.soleField "PaidSecrets$Talk" "payers") ∈ lw_all := lw_g (lw_at lw_m1 188 rfl) rfl
theorem q317 : (Jvm.Cond.lays "PaidSecrets$Talk" "PaidSecrets$Talk" "loans" "I") ∈ lw_all := lw_g (lw_at lw_m1 189 rfl) rfl
theorem q318 : (Jvm.Cond.soleField "PaidSecrets$Talk" "loans") ∈ lw_all := lw_g (lw_at lw_m1 190 rfl) rfl
theorem q319 : (Jvm.Cond.lays "PaidSecrets$Talk" "PaidSecrets$Talk" "quarter" "I") ∈ lw_all := lw_g (lw_at lw_m1 191 rfl) rfl
theorem q320 : (Jvm.Cond.soleField "PaidSecrets$Talk" "quarter") ∈ lw_all := lw_g (lw_at lw_m1 192 rfl) rfl
theorem q321 : (Jvm.Cond.superclass "PaidSecrets$Talk" "java/lang/Object") ∈ lw_all := lw_g (lw_at lw_m1 193 rfl) rfl
theorem q373 : (Jvm.Cond.fieldLink "PaidSecrets$Talk" (53 : Nat) "PaidSecrets$Town" "people" "Ljava/util/ArrayList;") ∈ lw_all := lw_g (lw_at lw_m2 5 rfl) rfl
theorem q379 : (Jvm.Cond.fieldLink "PaidSecrets$Talk" (31 : Nat) "PaidSecrets$Town" "secrets" "Ljava/util/ArrayList;") ∈ lw_all := lw_g (lw_at lw_m2 11 rfl) rfl
theorem q408 : (Jvm.Cond.instanceMethod ({ cls := "PaidSecrets$Talk", name := "begins", desc := "(LPaidSecrets$Town;)LPaidSecrets$Talk;" } : Jvm.MethodName)) ∈ lw_all := lw_g (lw_at lw_m2 40 rfl) rfl
theorem q409 : (Jvm.Cond.selects "PaidSecrets$Talk" ({ cls := "PaidSecrets$Talk", name := "begins", desc := "(LPaidSecrets$Town;)LPaidSecrets$Talk;" } : Jvm.MethodName) ({ cls := "PaidSecrets$Talk", name := "begins", desc := "(LPaidSecrets$Town;)LPaidSecrets$Talk;" } : Jvm.MethodName)) ∈ lw_all := lw_g (lw_at lw_m2 41 rfl) rfl
theorem q410 : (Jvm.Cond.code ({ cls := "PaidSecrets$Talk", name := "begins", desc := "(LPaidSecrets$Town;)LPaidSecrets$Talk;" } : Jvm.MethodName) prog_30_method_2_code (3 : Nat) (Option.some (Jvm.ClassFile.FieldType.object "PaidSecrets$Talk"))) ∈ lw_all := lw_g (lw_at lw_m2 42 rfl) rfl
theorem q411 : (Jvm.Cond.methodLink "PaidSecrets$Talk" (37 : Nat) ({ cls := "java/util/ArrayList", name := "size", desc := "()I" } : Jvm.MethodName)) ∈ lw_all := lw_g (lw_at lw_m2 43 rfl) rfl
theorem q415 : (Jvm.Cond.methodLink "PaidSecrets$Talk" (43 : Nat) ({ cls := "java/util/ArrayList", name := "get", desc := "(I)Ljava/lang/Object;" } : Jvm.MethodName)) ∈ lw_all := lw_g (lw_at lw_m2 47 rfl) rfl
theorem q429 : (Jvm.Cond.classLink "PaidSecrets$Talk" (47 : Nat) "PaidSecrets$Secret") ∈ lw_all := lw_g (lw_at lw_m2 61 rfl) rfl
theorem q430 : (Jvm.Cond.classLink "PaidSecrets$Talk" (56 : Nat) "PaidSecrets$Person") ∈ lw_all := lw_g (lw_at lw_m2 62 rfl) rfl
theorem q901 : (Jvm.Cond.selects "PaidSecrets$Talk" ({ cls := "java/lang/Object", name := "getClass", desc := "()Ljava/lang/Class;" } : Jvm.MethodName) ({ cls := "java/lang/Object", name := "getClass", desc := "()Ljava/lang/Class;" } : Jvm.MethodName)) ∈ lw_all := lw_g (lw_at lw_m4 53 rfl) rfl
theorem q968 : (Jvm.Cond.fieldLink "PaidSecrets$Talk" (58 : Nat) "PaidSecrets$Person" "rank" "I") ∈ lw_all := lw_g (lw_at lw_m4 120 rfl) rfl
theorem q971 : (Jvm.Cond.fieldLink "PaidSecrets$Talk" (125 : Nat) "PaidSecrets$Person" "tax" "I") ∈ lw_all := lw_g (lw_at lw_m4 123 rfl) rfl
theorem q1028 : (Jvm.Cond.fieldLink "PaidSecrets$Talk" (121 : Nat) "PaidSecrets$Secret" "isFalse" "Z") ∈ lw_all := lw_g (lw_at lw_m4 180 rfl) rfl
theorem q1031 : (Jvm.Cond.fieldLink "PaidSecrets$Talk" (90 : Nat) "PaidSecrets$Secret" "of" "I") ∈ lw_all := lw_g (lw_at lw_m4 183 rfl) rfl
theorem q1037 : (Jvm.Cond.fieldLink "PaidSecrets$Talk" (101 : Nat) "PaidSecrets$Secret" "on" "I") ∈ lw_all := lw_g (lw_at lw_m4 189 rfl) rfl
theorem q1040 : (Jvm.Cond.fieldLink "PaidSecrets$Talk" (49 : Nat) "PaidSecrets$Secret" "by" "I") ∈ lw_all := lw_g (lw_at lw_m4 192 rfl) rfl
theorem q1346 : (Jvm.Cond.instanceMethod ({ cls := "PaidSecrets$Talk", name := "worth", desc := "(I)I" } : Jvm.MethodName)) ∈ lw_all := lw_g (lw_at lw_m6 18 rfl) rfl
theorem q1347 : (Jvm.Cond.selects "PaidSecrets$Talk" ({ cls := "PaidSecrets$Talk", name := "worth", desc := "(I)I" } : Jvm.MethodName) ({ cls := "PaidSecrets$Talk", name := "worth", desc := "(I)I" } : Jvm.MethodName)) ∈ lw_all := lw_g (lw_at lw_m6 19 rfl) rfl
theorem q1348 : (Jvm.Cond.code ({ cls := "PaidSecrets$Talk", name := "worth", desc := "(I)I" } : Jvm.MethodName) prog_30_method_7_code (3 : Nat) (Option.some Jvm.ClassFile.FieldType.int)) ∈ lw_all := lw_g (lw_at lw_m6 20 rfl) rfl
theorem q1349 : (Jvm.Cond.methodLinkNest "PaidSecrets$Talk" (97 : Nat) ({ cls := "PaidSecrets", name := "has", desc := "(II)Z" } : Jvm.MethodName) "PaidSecrets") ∈ lw_tbl := lw_at lw_m6 21 rfl
theorem q1350 : (Jvm.Cond.methodLink "PaidSecrets$Talk" (86 : Nat) ({ cls := "PaidSecrets$Talk", name := "secret", desc := "(I)LPaidSecrets$Secret;" } : Jvm.MethodName)) ∈ lw_all := lw_g (lw_at lw_m6 22 rfl) rfl
theorem q1351 : (Jvm.Cond.instanceMethod ({ cls := "PaidSecrets$Talk", name := "secret", desc := "(I)LPaidSecrets$Secret;" } : Jvm.MethodName)) ∈ lw_all := lw_g (lw_at lw_m6 23 rfl) rfl
theorem q1352 : (Jvm.Cond.selects "PaidSecrets$Talk" ({ cls := "PaidSecrets$Talk", name := "secret", desc := "(I)LPaidSecrets$Secret;" } : Jvm.MethodName) ({ cls := "PaidSecrets$Talk", name := "secret", desc := "(I)LPaidSecrets$Secret;" } : Jvm.MethodName)) ∈ lw_all := lw_g (lw_at lw_m6 24 rfl) rfl
theorem q1353 : (Jvm.Cond.code ({ cls := "PaidSecrets$Talk", name := "secret", desc := "(I)LPaidSecrets$Secret;" } : Jvm.MethodName) prog_30_method_5_code (2 : Nat) (Option.some (Jvm.ClassFile.FieldType.object "PaidSecrets$Secret"))) ∈ lw_all := lw_g (lw_at lw_m6 25 rfl) rfl
theorem q1354 : (Jvm.Cond.methodLink "PaidSecrets$Talk" (104 : Nat) ({ cls := "PaidSecrets$Talk", name := "bare", desc := "(II)I" } : Jvm.MethodName)) ∈ lw_all := lw_g (lw_at lw_m6 26 rfl) rfl
theorem q1355 : (Jvm.Cond.instanceMethod ({ cls := "PaidSecrets$Talk", name := "bare", desc := "(II)I" } : Jvm.MethodName)) ∈ lw_all := lw_g (lw_at lw_m6 27 rfl) rfl
theorem q1356 : (Jvm.Cond.selects "PaidSecrets$Talk" ({ cls := "PaidSecrets$Talk", name := "bare", desc := "(II)I" } : Jvm.MethodName) ({ cls := "PaidSecrets$Talk", name := "bare", desc := "(II)I" } : Jvm.MethodName)) ∈ lw_all := lw_g (lw_at lw_m6 28 rfl) rfl
theorem q1357 : (Jvm.Cond.code ({ cls := "PaidSecrets$Talk", name := "bare", desc := "(II)I" } : Jvm.MethodName) prog_30_method_6_code (3 : Nat) (Option.some Jvm.ClassFile.FieldType.int)) ∈ lw_all := lw_g (lw_at lw_m6 29 rfl) rfl
theorem q1358 : (Jvm.Cond.methodLink "PaidSecrets$Talk" (93 : Nat) ({ cls := "PaidSecrets$Town", name := "bare", desc := "(IIII)I" } : Jvm.MethodName)) ∈ lw_all := lw_g (lw_at lw_m6 30 rfl) rfl
theorem q1421 : (Jvm.Cond.methodLink "PaidSecrets$Talk" (107 : Nat) ({ cls := "PaidSecrets$Talk", name := "worth", desc := "(I)I" } : Jvm.MethodName)) ∈ lw_all := lw_g (lw_at lw_m6 93 rfl) rfl
theorem q1445 : (Jvm.Cond.instanceMethod ({ cls := "PaidSecrets$Talk", name := "mayTell", desc := "(III)Z" } : Jvm.MethodName)) ∈ lw_all := lw_g (lw_at lw_m6 117 rfl) rfl
theorem q1446 : (Jvm.Cond.selects "PaidSecrets$Talk" ({ cls := "PaidSecrets$Talk", name := "mayTell", desc := "(III)Z" } : Jvm.MethodName) ({ cls := "PaidSecrets$Talk", name := "mayTell", desc := "(III)Z" } : Jvm.MethodName)) ∈ lw_all := lw_g (lw_at lw_m6 118 rfl) rfl
theorem q1447 : (Jvm.Cond.code ({ cls := "PaidSecrets$Talk", name := "mayTell", desc := "(III)Z" } : Jvm.MethodName) prog_30_method_12_code (4 : Nat) (Option.some Jvm.ClassFile.FieldType.boolean)) ∈ lw_all := lw_g (lw_at lw_m6 119 rfl) rfl
theorem q1448 : (Jvm.Cond.methodLink "PaidSecrets$Talk" (117 : Nat) ({ cls := "PaidSecrets$Person", name := "tells", desc := "()Z" } : Jvm.MethodName)) ∈ lw_all := lw_g (lw_at lw_m6 120 rfl) rfl
theorem q1472 : (Jvm.Cond.instanceMethod ({ cls := "PaidSecrets$Talk", name := "copied", desc := "()LPaidSecrets$Talk;" } : Jvm.MethodName)) ∈ lw_all := lw_g (lw_at lw_m6 144 rfl) rfl
theorem q1473 : (Jvm.Cond.selects "PaidSecrets$Talk" ({ cls := "PaidSecrets$Talk", name := "copied", desc := "()LPaidSecrets$Talk;" } : Jvm.MethodName) ({ cls := "PaidSecrets$Talk", name := "copied", desc := "()LPaidSecrets$Talk;" } : Jvm.MethodName)) ∈ lw_all := lw_g (lw_at lw_m6 145 rfl) rfl
theorem q1474 : (Jvm.Cond.code ({ cls := "PaidSecrets$Talk", name := "copied", desc := "()LPaidSecrets$Talk;" } : Jvm.MethodName) prog_30_method_3_code (1 : Nat) (Option.some (Jvm.ClassFile.FieldType.object "PaidSecrets$Talk"))) ∈ lw_all := lw_g (lw_at lw_m6 146 rfl) rfl
theorem q1475 : (Jvm.Cond.classLink "PaidSecrets$Talk" (10 : Nat) "PaidSecrets$Talk") ∈ lw_all := lw_g (lw_at lw_m6 147 rfl) rfl
theorem q1476 : (Jvm.Cond.methodLink "PaidSecrets$Talk" (75 : Nat) ({ cls := "PaidSecrets$Talk", name := "<init>", desc := "()V" } : Jvm.MethodName)) ∈ lw_all := lw_g (lw_at lw_m6 148 rfl) rfl
theorem q1477 : (Jvm.Cond.methodLink "PaidSecrets$Talk" (76 : Nat) ({ cls := "PaidSecrets$Talk", name := "copies", desc := "(LPaidSecrets$Talk;)LPaidSecrets$Talk;" } : Jvm.MethodName)) ∈ lw_all := lw_g (lw_at lw_m6 149 rfl) rfl
theorem q1478 : (Jvm.Cond.instanceMethod ({ cls := "PaidSecrets$Talk", name := "copies", desc := "(LPaidSecrets$Talk;)LPaidSecrets$Talk;" } : Jvm.MethodName)) ∈ lw_all := lw_g (lw_at lw_m6 150 rfl) rfl
theorem q1479 : (Jvm.Cond.selects "PaidSecrets$Talk" ({ cls := "PaidSecrets$Talk", name := "copies", desc := "(LPaidSecrets$Talk;)LPaidSecrets$Talk;" } : Jvm.MethodName) ({ cls := "PaidSecrets$Talk", name := "copies", desc := "(LPaidSecrets$Talk;)LPaidSecrets$Talk;" } : Jvm.MethodName)) ∈ lw_all := lw_g (lw_at lw_m6 151 rfl) rfl
theorem q1480 : (Jvm.Cond.code ({ cls := "PaidSecrets$Talk", name := "copies", desc := "(LPaidSecrets$Talk;)LPaidSecrets$Talk;" } : Jvm.MethodName) prog_30_method_4_code (2 : Nat) (Option.some (Jvm.ClassFile.FieldType.object "PaidSecrets$Talk"))) ∈ lw_all := lw_g (lw_at lw_m6 152 rfl) rfl
theorem q1481 : (Jvm.Cond.methodLink "PaidSecrets$Talk" (80 : Nat) ({ cls := "java/lang/System", name := "arraycopy", desc := "(Ljava/lang/Object;ILjava/lang/Object;II)V" } : Jvm.MethodName)) ∈ lw_all := lw_g (lw_at lw_m6 153 rfl) rfl
theorem q1484 : (Jvm.Cond.instanceMethod ({ cls := "PaidSecrets$Talk", name := "tells", desc := "(III)V" } : Jvm.MethodName)) ∈ lw_all := lw_g (lw_at lw_m6 156 rfl) rfl
theorem q1485 : (Jvm.Cond.selects "PaidSecrets$Talk" ({ cls := "PaidSecrets$Talk", name := "tells", desc := "(III)V" } : Jvm.MethodName) ({ cls := "PaidSecrets$Talk", name := "tells", desc := "(III)V" } : Jvm.MethodName)) ∈ lw_all := lw_g (lw_at lw_m6 157 rfl) rfl
theorem q1486 : (Jvm.Cond.code ({ cls := "PaidSecrets$Talk", name := "tells", desc := "(III)V" } : Jvm.MethodName) prog_30_method_13_code (4 : Nat) (Option.none : Option Jvm.ClassFile.FieldType)) ∈ lw_all := lw_g (lw_at lw_m6 158 rfl) rfl
theorem q1496 : (Jvm.Cond.instanceMethod ({ cls := "PaidSecrets$Talk", name := "mayPay", desc := "(II)Z" } : Jvm.MethodName)) ∈ lw_all := lw_g (lw_at lw_m6 168 rfl) rfl
theorem q1497 : (Jvm.Cond.selects "PaidSecrets$Talk" ({ cls := "PaidSecrets$Talk", name := "mayPay", desc := "(II)Z" } : Jvm.MethodName) ({ cls := "PaidSecrets$Talk", name := "mayPay", desc := "(II)Z" } : Jvm.MethodName)) ∈ lw_all := lw_g (lw_at lw_m6 169 rfl) rfl
theorem q1498 : (Jvm.Cond.code ({ cls := "PaidSecrets$Talk", name := "mayPay", desc := "(II)Z" } : Jvm.MethodName) prog_30_method_14_code (3 : Nat) (Option.some Jvm.ClassFile.FieldType.boolean)) ∈ lw_all := lw_g (lw_at lw_m6 170 rfl) rfl
theorem q1499 : (Jvm.Cond.methodLink "PaidSecrets$Talk" (114 : Nat) ({ cls := "PaidSecrets$Talk", name := "known", desc := "(I)I" } : Jvm.MethodName)) ∈ lw_all := lw_g (lw_at lw_m6 171 rfl) rfl
theorem q1500 : (Jvm.Cond.instanceMethod ({ cls := "PaidSecrets$Talk", name := "known", desc := "(I)I" } : Jvm.MethodName)) ∈ lw_all := lw_g (lw_at lw_m6 172 rfl) rfl
theorem q1501 : (Jvm.Cond.selects "PaidSecrets$Talk" ({ cls := "PaidSecrets$Talk", name := "known", desc := "(I)I" } : Jvm.MethodName) ({ cls := "PaidSecrets$Talk", name := "known", desc := "(I)I" } : Jvm.MethodName)) ∈ lw_all := lw_g (lw_at lw_m6 173 rfl) rfl
theorem q1502 : (Jvm.Cond.code ({ cls := "PaidSecrets$Talk", name := "known", desc := "(I)I" } : Jvm.MethodName) prog_30_method_10_code (4 : Nat) (Option.some Jvm.ClassFile.FieldType.int)) ∈ lw_all := lw_g (lw_at lw_m6 174 rfl) rfl
theorem q1503 : (Jvm.Cond.methodLink "PaidSecrets$Talk" (111 : Nat) ({ cls := "PaidSecrets$Talk", name := "worths", desc := "(I)I" } : Jvm.MethodName)) ∈ lw_all := lw_g (lw_at lw_m6 175 rfl) rfl
theorem q1504 : (Jvm.Cond.instanceMethod ({ cls := "PaidSecrets$Talk", name := "worths", desc := "(I)I" } : Jvm.MethodName)) ∈ lw_all := lw_g (lw_at lw_m6 176 rfl) rfl
theorem q1505 : (Jvm.Cond.selects "PaidSecrets$Talk" ({ cls := "PaidSecrets$Talk", name := "worths", desc := "(I)I" } : Jvm.MethodName) ({ cls := "PaidSecrets$Talk", name := "worths", desc := "(I)I" } : Jvm.MethodName)) ∈ lw_all := lw_g (lw_at lw_m6 177 rfl) rfl
theorem q1506 : (Jvm.Cond.code ({ cls := "PaidSecrets$Talk", name := "worths", desc := "(I)I" } : Jvm.MethodName) prog_30_method_8_code (4 : Nat) (Option.some Jvm.ClassFile.FieldType.int)) ∈ lw_all := lw_g (lw_at lw_m6 178 rfl) rfl
theorem q1508 : (Jvm.Cond.instanceMethod ({ cls := "PaidSecrets$Talk", name := "pays", desc := "(II)V" } : Jvm.MethodName)) ∈ lw_all := lw_g (lw_at lw_m6 180 rfl) rfl
theorem q1509 : (Jvm.Cond.selects "PaidSecrets$Talk" ({ cls := "PaidSecrets$Talk", name := "pays", desc := "(II)V" } : Jvm.MethodName) ({ cls := "PaidSecrets$Talk", name := "pays", desc := "(II)V" } : Jvm.MethodName)) ∈ lw_all := lw_g (lw_at lw_m6 181 rfl) rfl
theorem q1510 : (Jvm.Cond.code ({ cls := "PaidSecrets$Talk", name := "pays", desc := "(II)V" } : Jvm.MethodName) prog_30_method_15_code (3 : Nat) (Option.none : Option Jvm.ClassFile.FieldType)) ∈ lw_all := lw_g (lw_at lw_m6 182 rfl) rfl
theorem q1517 : (Jvm.Cond.instanceMethod ({ cls := "PaidSecrets$Talk", name := "rises", desc := "(I)Z" } : Jvm.MethodName)) ∈ lw_all := lw_g (lw_at lw_m6 189 rfl) rfl
theorem q1518 : (Jvm.Cond.selects "PaidSecrets$Talk" ({ cls := "PaidSecrets$Talk", name := "rises", desc := "(I)Z" } : Jvm.MethodName) ({ cls := "PaidSecrets$Talk", name := "rises", desc := "(I)Z" } : Jvm.MethodName)) ∈ lw_all := lw_g (lw_at lw_m6 190 rfl) rfl
theorem q1519 : (Jvm.Cond.code ({ cls := "PaidSecrets$Talk", name := "rises", desc := "(I)Z" } : Jvm.MethodName) prog_30_method_16_code (2 : Nat) (Option.some Jvm.ClassFile.FieldType.boolean)) ∈ lw_all := lw_g (lw_at lw_m6 191 rfl) rfl
theorem q1525 : (Jvm.Cond.instanceMethod ({ cls := "PaidSecrets$Talk", name := "ends", desc := "()I" } : Jvm.MethodName)) ∈ lw_all := lw_g (lw_at lw_m6 197 rfl) rfl
theorem q1526 : (Jvm.Cond.selects "PaidSecrets$Talk" ({ cls := "PaidSecrets$Talk", name := "ends", desc := "()I" } : Jvm.MethodName) ({ cls := "PaidSecrets$Talk", name := "ends", desc := "()I" } : Jvm.MethodName)) ∈ lw_all := lw_g (lw_at lw_m6 198 rfl) rfl
theorem q1527 : (Jvm.Cond.code ({ cls := "PaidSecrets$Talk", name := "ends", desc := "()I" } : Jvm.MethodName) prog_30_method_17_code (3 : Nat) (Option.some Jvm.ClassFile.FieldType.int)) ∈ lw_all := lw_g (lw_at lw_m6 199 rfl) rfl
theorem q1533 : (Jvm.Cond.instanceMethod ({ cls := "PaidSecrets$Talk", name := "lends", desc := "(III)Z" } : Jvm.MethodName)) ∈ lw_all := lw_g (lw_at lw_m6 205 rfl) rfl
theorem q1534 : (Jvm.Cond.selects "PaidSecrets$Talk" ({ cls := "PaidSecrets$Talk", name := "lends", desc := "(III)Z" } : Jvm.MethodName) ({ cls := "PaidSecrets$Talk", name := "lends", desc := "(III)Z" } : Jvm.MethodName)) ∈ lw_all := lw_g (lw_at lw_m6 206 rfl) rfl
theorem q1535 : (Jvm.Cond.code ({ cls := "PaidSecrets$Talk", name := "lends", desc := "(III)Z" } : Jvm.MethodName) prog_30_method_21_code (4 : Nat) (Option.some Jvm.ClassFile.FieldType.boolean)) ∈ lw_all := lw_g (lw_at lw_m6 207 rfl) rfl
theorem q1571 : (Jvm.Cond.instanceMethod ({ cls := "PaidSecrets$Talk", name := "finedInAll", desc := "()I" } : Jvm.MethodName)) ∈ lw_all := lw_g (lw_at lw_m7 3 rfl) rfl
theorem q1572 : (Jvm.Cond.selects "PaidSecrets$Talk" ({ cls := "PaidSecrets$Talk", name := "finedInAll", desc := "()I" } : Jvm.MethodName) ({ cls := "PaidSecrets$Talk", name := "finedInAll", desc := "()I" } : Jvm.MethodName)) ∈ lw_all := lw_g (lw_at lw_m7 4 rfl) rfl
theorem q1573 : (Jvm.Cond.code ({ cls := "PaidSecrets$Talk", name := "finedInAll", desc := "()I" } : Jvm.MethodName) prog_30_method_18_code (3 : Nat) (Option.some Jvm.ClassFile.FieldType.int)) ∈ lw_all := lw_g (lw_at lw_m7 5 rfl) rfl
theorem q1575 : (Jvm.Cond.instanceMethod ({ cls := "PaidSecrets$Talk", name := "all", desc := "()I" } : Jvm.MethodName)) ∈ lw_all := lw_g (lw_at lw_m7 7 rfl) rfl
theorem q1576 : (Jvm.Cond.selects "PaidSecrets$Talk" ({ cls := "PaidSecrets$Talk", name := "all", desc := "()I" } : Jvm.MethodName) ({ cls := "PaidSecrets$Talk", name := "all", desc := "()I" } : Jvm.MethodName)) ∈ lw_all := lw_g (lw_at lw_m7 8 rfl) rfl
theorem q1577 : (Jvm.Cond.code ({ cls := "PaidSecrets$Talk", name := "all", desc := "()I" } : Jvm.MethodName) prog_30_method_9_code (1 : Nat) (Option.some Jvm.ClassFile.FieldType.int)) ∈ lw_all := lw_g (lw_at lw_m7 9 rfl) rfl
theorem q1583 : (Jvm.Cond.instanceMethod ({ cls := "PaidSecrets$Talk", name := "least", desc := "(I)I" } : Jvm.MethodName)) ∈ lw_all := lw_g (lw_at lw_m7 15 rfl) rfl
theorem q1584 : (Jvm.Cond.selects "PaidSecrets$Talk" ({ cls := "PaidSecrets$Talk", name := "least", desc := "(I)I" } : Jvm.MethodName) ({ cls := "PaidSecrets$Talk", name := "least", desc := "(I)I" } : Jvm.MethodName)) ∈ lw_all := lw_g (lw_at lw_m7 16 rfl) rfl
theorem q1585 : (Jvm.Cond.code ({ cls := "PaidSecrets$Talk", name := "least", desc := "(I)I" } : Jvm.MethodName) prog_30_method_19_code (5 : Nat) (Option.some Jvm.ClassFile.FieldType.int)) ∈ lw_all := lw_g (lw_at lw_m7 17 rfl) rfl
theorem q1586 : (Jvm.Cond.methodLink "PaidSecrets$Talk" (128 : Nat) ({ cls := "PaidSecrets$Talk", name := "mayPay", desc := "(II)Z" } : Jvm.MethodName)) ∈ lw_all := lw_g (lw_at lw_m7 18 rfl) rfl
theorem q1587 : (Jvm.Cond.methodLink "PaidSecrets$Talk" (131 : Nat) ({ cls := "PaidSecrets$Talk", name := "isLess", desc := "(II)Z" } : Jvm.MethodName)) ∈ lw_all := lw_g (lw_at lw_m7 19 rfl) rfl
theorem q1588 : (Jvm.Cond.privateMethod ({ cls := "PaidSecrets$Talk", name := "isLess", desc := "(II)Z" } : Jvm.MethodName)) ∈ lw_tbl := lw_at lw_m7 20 rfl
theorem q1589 : (Jvm.Cond.instanceMethod ({ cls := "PaidSecrets$Talk", name := "isLess", desc := "(II)Z" } : Jvm.MethodName)) ∈ lw_all := lw_g (lw_at lw_m7 21 rfl) rfl
theorem q1590 : (Jvm.Cond.code ({ cls := "PaidSecrets$Talk", name := "isLess", desc := "(II)Z" } : Jvm.MethodName) prog_30_method_20_code (3 : Nat) (Option.some Jvm.ClassFile.FieldType.boolean)) ∈ lw_all := lw_g (lw_at lw_m7 22 rfl) rfl
theorem q1591 : (Jvm.Cond.methodLinkNest "PaidSecrets$Talk" (134 : Nat) ({ cls := "PaidSecrets", name := "bits", desc := "(I)I" } : Jvm.MethodName) "PaidSecrets") ∈ lw_tbl := lw_at lw_m7 23 rfl
theorem q1811 : (Jvm.Cond.instanceMethod ({ cls := "PaidSecrets$Talk", name := "purse", desc := "(I)I" } : Jvm.MethodName)) ∈ lw_all := lw_g (lw_at lw_m8 3 rfl) rfl
theorem q1812 : (Jvm.Cond.selects "PaidSecrets$Talk" ({ cls := "PaidSecrets$Talk", name := "purse", desc := "(I)I" } : Jvm.MethodName) ({ cls := "PaidSecrets$Talk", name := "purse", desc := "(I)I" } : Jvm.MethodName)) ∈ lw_all := lw_g (lw_at lw_m8 4 rfl) rfl
theorem q1813 : (Jvm.Cond.code ({ cls := "PaidSecrets$Talk", name := "purse", desc := "(I)I" } : Jvm.MethodName) prog_30_method_11_code (2 : Nat) (Option.some Jvm.ClassFile.FieldType.int)) ∈ lw_all := lw_g (lw_at lw_m8 5 rfl) rfl
theorem q2532 : (Jvm.Cond.castable "PaidSecrets$Talk" "java/lang/Object") ∈ lw_tbl := lw_at lw_m11 4 rfl
theorem in_X3 : ∀ w ∈ wsX30, w ∈ lw_all := lw_in wsX30 [299, 301, 303, 305, 307, 309, 311, 313, 315, 317, 319] (by decide +kernel) (by decide +kernel)
/-! PaidSecrets$Town -/
set_option maxRecDepth 100000
def RX4 : String := "PaidSecrets$Town"
def TX4 : u_T := fun k => match k with
  | 0 => ("PaidSecrets$Town", "names", "Ljava/util/ArrayList;", true)
  | 1 => ("PaidSecrets$Town", "nameOf", "Ljava/util/ArrayList;", true)
  | 2 => ("PaidSecrets$Town", "people", "Ljava/util/ArrayList;", true)
  | 3 => ("PaidSecrets$Town", "secrets", "Ljava/util/ArrayList;", true)
  | 4 => ("PaidSecrets$Town", "ears", "Ljava/util/ArrayList;", true)
  | 5 => ("PaidSecrets$Town", "clashing", "I", false)
  | 6 => ("PaidSecrets$Town", "worth", "LPaidSecrets$Expression;", false)
  | _ => ("PaidSecrets$Town", "facts", "LPaidSecrets$Facts;", true)
def tyX4 : Nat → FieldType := fun k => match k with
  | 0 => .object "java/util/ArrayList"
  | 1 => .object "java/util/ArrayList"
  | 2 => .object "java/util/ArrayList"
  | 3 => .object "java/util/ArrayList"
  | 4 => .object "java/util/ArrayList"
  | 5 => .int
  | 6 => .object "PaidSecrets$Expression"
  | _ => .object "PaidSecrets$Facts"
abbrev wsX40 : List Cond := u_ws RX4 TX4 8
theorem nmX4 : ∀ a, a < 8 → ∀ b, b < 8 → a ≠ b → (TX4 a).2.1 ≠ (TX4 b).2.1 := by decide +kernel
theorem tyX4_ok : ∀ k, k < 8 → parseFieldDescriptor (TX4 k).2.2.1 = some (tyX4 k) := by decide +kernel
abbrev cX4_init : ByteArray := prog_33_method_1_code
def yX4_init : MethodName := ⟨RX4, "<init>", "()V"⟩
def dkwX4_init_3 : List UInt8 := [183, 0, 34, 181, 0, 35, 177]
abbrev dktX4_init_3 : List UInt8 := dkwX4_init_3 ++ []
def dkwX4_init_2 : List UInt8 := [183, 0, 11, 181, 0, 26, 42, 187, 0, 9, 89, 5, 183, 0, 11, 181, 0, 29, 42, 187, 0, 32, 89]
abbrev dktX4_init_2 : List UInt8 := dkwX4_init_2 ++ dktX4_init_3
def dkwX4_init_1 : List UInt8 := [183, 0, 11, 181, 0, 20, 42, 187, 0, 9, 89, 5, 183, 0, 11, 181, 0, 23, 42, 187, 0, 9, 89, 5]
abbrev dktX4_init_1 : List UInt8 := dkwX4_init_1 ++ dktX4_init_2
def dkwX4_init_0 : List UInt8 := [42, 183, 0, 3, 42, 187, 0, 9, 89, 5, 183, 0, 11, 181, 0, 14, 42, 187, 0, 9, 89, 5]
abbrev dktX4_init_0 : List UInt8 := dkwX4_init_0 ++ dktX4_init_1
theorem dksX4_init_0 : cX4_init.data.toList.drop 0 = dktX4_init_0 := by decide +kernel
theorem dksX4_init_1 : cX4_init.data.toList.drop 22 = dktX4_init_1 := dk_seg dksX4_init_0 22 rfl rfl
theorem dksX4_init_2 : cX4_init.data.toList.drop 46 = dktX4_init_2 := dk_seg dksX4_init_1 24 rfl rfl
theorem dksX4_init_3 : cX4_init.data.toList.drop 69 = dktX4_init_3 := dk_seg dksX4_init_2 23 rfl rfl
theorem dX4_init_0 : decode cX4_init 0 = .ok (.aload_n 0, 1) := dk_42 (dk_at dksX4_init_0 0 rfl rfl)
theorem dX4_init_1 : decode cX4_init 1 = .ok (.invokespecial 3, 3) := dk_183 0 3 (dk_at dksX4_init_0 1 rfl rfl)
theorem dX4_init_4 : decode cX4_init 4 = .ok (.aload_n 0, 1) := dk_42 (dk_at dksX4_init_0 4 rfl rfl)
theorem dX4_init_5 : decode cX4_init 5 = .ok (.new 9, 3) := dk_187 0 9 (dk_at dksX4_init_0 5 rfl rfl)
theorem dX4_init_8 : decode cX4_init 8 = .ok (.dup, 1) := dk_89 (dk_at dksX4_init_0 8 rfl rfl)
theorem dX4_init_9 : decode cX4_init 9 = .ok (.iconst 2, 1) := dk_5 (dk_at dksX4_init_0 9 rfl rfl)
theorem dX4_init_10 : decode cX4_init 10 = .ok (.invokespecial 11, 3) := dk_183 0 11 (dk_at dksX4_init_0 10 rfl rfl)
theorem dX4_init_13 : decode cX4_init 13 = .ok (.putfield 14, 3) := dk_181 0 14 (dk_at dksX4_init_0 13 rfl rfl)
theorem dX4_init_16 : decode cX4_init 16 = .ok (.aload_n 0, 1) := dk_42 (dk_at dksX4_init_0 16 rfl rfl)
theorem dX4_init_17 : decode cX4_init 17 = .ok (.new 9, 3) := dk_187 0 9 (dk_at dksX4_init_0 17 rfl rfl)
theorem dX4_init_20 : decode cX4_init 20 = .ok (.dup, 1) := dk_89 (dk_at dksX4_init_0 20 rfl rfl)
theorem dX4_init_21 : decode cX4_init 21 = .ok (.iconst 2, 1) := dk_5 (dk_at dksX4_init_0 21 rfl rfl)
theorem dX4_init_22 : decode cX4_init 22 = .ok (.invokespecial 11, 3) := dk_183 0 11 (dk_at dksX4_init_1 0 rfl rfl)
theorem dX4_init_25 : decode cX4_init 25 = .ok (.putfield 20, 3) := dk_181 0 20 (dk_at dksX4_init_1 3 rfl rfl)
theorem dX4_init_28 : decode cX4_init 28 = .ok (.aload_n 0, 1) := dk_42 (dk_at dksX4_init_1 6 rfl rfl)
theorem dX4_init_29 : decode cX4_init 29 = .ok (.new 9, 3) := dk_187 0 9 (dk_at dksX4_init_1 7 rfl rfl)
theorem dX4_init_32 : decode cX4_init 32 = .ok (.dup, 1) := dk_89 (dk_at dksX4_init_1 10 rfl rfl)
theorem dX4_init_33 : decode cX4_init 33 = .ok (.iconst 2, 1) := dk_5 (dk_at dksX4_init_1 11 rfl rfl)
theorem dX4_init_34 : decode cX4_init 34 = .ok (.invokespecial 11, 3) := dk_183 0 11 (dk_at dksX4_init_1 12 rfl rfl)
theorem dX4_init_37 : decode cX4_init 37 = .ok (.putfield 23, 3) := dk_181 0 23 (dk_at dksX4_init_1 15 rfl rfl)
theorem dX4_init_40 : decode cX4_init 40 = .ok (.aload_n 0, 1) := dk_42 (dk_at dksX4_init_1 18 rfl rfl)
theorem dX4_init_41 : decode cX4_init 41 = .ok (.new 9, 3) := dk_187 0 9 (dk_at dksX4_init_1 19 rfl rfl)
theorem dX4_init_44 : decode cX4_init 44 = .ok (.dup, 1) := dk_89 (dk_at dksX4_init_1 22 rfl rfl)
theorem dX4_init_45 : decode cX4_init 45 = .ok (.iconst 2, 1) := dk_5 (dk_at dksX4_init_1 23 rfl rfl)
theorem dX4_init_46 : decode cX4_init 46 = .ok (.invokespecial 11, 3) := dk_183 0 11 (dk_at dksX4_init_2 0 rfl rfl)
theorem dX4_init_49 : decode cX4_init 49 = .ok (.putfield 26, 3) := dk_181 0 26 (dk_at dksX4_init_2 3 rfl rfl)
theorem dX4_init_52 : decode cX4_init 52 = .ok (.aload_n 0, 1) := dk_42 (dk_at dksX4_init_2 6 rfl rfl)
theorem dX4_init_53 : decode cX4_init 53 = .ok (.new 9, 3) := dk_187 0 9 (dk_at dksX4_init_2 7 rfl rfl)
theorem dX4_init_56 : decode cX4_init 56 = .ok (.dup, 1) := dk_89 (dk_at dksX4_init_2 10 rfl rfl)
theorem dX4_init_57 : decode cX4_init 57 = .ok (.iconst 2, 1) := dk_5 (dk_at dksX4_init_2 11 rfl rfl)
theorem dX4_init_58 : decode cX4_init 58 = .ok (.invokespecial 11, 3) := dk_183 0 11 (dk_at dksX4_init_2 12 rfl rfl)
theorem dX4_init_61 : decode cX4_init 61 = .ok (.putfield 29, 3) := dk_181 0 29 (dk_at dksX4_init_2 15 rfl rfl)
theorem dX4_init_64 : decode cX4_init 64 = .ok (.aload_n 0, 1) := dk_42 (dk_at dksX4_init_2 18 rfl rfl)
theorem dX4_init_65 : decode cX4_init 65 = .ok (.new 32, 3) := dk_187 0 32 (dk_at dksX4_init_2 19 rfl rfl)
theorem dX4_init_68 : decode cX4_init 68 = .ok (.dup, 1) := dk_89 (dk_at dksX4_init_2 22 rfl rfl)
theorem dX4_init_69 : decode cX4_init 69 = .ok (.invokespecial 34, 3) := dk_183 0 34 (dk_at dksX4_init_3 0 rfl rfl)
theorem dX4_init_72 : decode cX4_init 72 = .ok (.putfield 35, 3) := dk_181 0 35 (dk_at dksX4_init_3 3 rfl rfl)
theorem dX4_init_75 : decode cX4_init 75 = .ok (.return_, 1) := dk_177 (dk_at dksX4_init_3 6 rfl rfl)
abbrev cX4_find : ByteArray := prog_33_method_2_code
def yX4_find : MethodName := ⟨RX4, "find", "(J)I"⟩
def dkwX4_find_2 : List UInt8 := [132, 3, 1, 167, 255, 208, 2, 172]
abbrev dktX4_find_2 : List UInt8 := dkwX4_find_2 ++ []
def dkwX4_find_1 : List UInt8 := [182, 0, 49, 31, 148, 154, 0, 18, 42, 180, 0, 20, 29, 182, 0, 43, 192, 0, 53, 182, 0, 55, 172]
abbrev dktX4_find_1 : List UInt8 := dkwX4_find_1 ++ dktX4_find_2
def dkwX4_find_0 : List UInt8 := [3, 62, 29, 42, 180, 0, 14, 182, 0, 39, 162, 0, 43, 42, 180, 0, 14, 29, 182, 0, 43, 192, 0, 47]
abbrev dktX4_find_0 : List UInt8 := dkwX4_find_0 ++ dktX4_find_1
theorem dksX4_find_0 : cX4_find.data.toList.drop 0 = dktX4_find_0 := by decide +kernel
theorem dksX4_find_1 : cX4_find.data.toList.drop 24 = dktX4_find_1 := dk_seg dksX4_find_0 24 rfl rfl
theorem dksX4_find_2 : cX4_find.data.toList.drop 47 = dktX4_find_2 := dk_seg dksX4_find_1 23 rfl rfl
theorem dX4_find_0 : decode cX4_find 0 = .ok (.iconst 0, 1) := dk_3 (dk_at dksX4_find_0 0 rfl rfl)
theorem dX4_find_1 : decode cX4_find 1 = .ok (.istore_n 3, 1) := dk_62 (dk_at dksX4_find_0 1 rfl rfl)
theorem dX4_find_2 : decode cX4_find 2 = .ok (.iload_n 3, 1) := dk_29 (dk_at dksX4_find_0 2 rfl rfl)
theorem dX4_find_3 : decode cX4_find 3 = .ok (.aload_n 0, 1) := dk_42 (dk_at dksX4_find_0 3 rfl rfl)
theorem dX4_find_4 : decode cX4_find 4 = .ok (.getfield 14, 3) := dk_180 0 14 (dk_at dksX4_find_0 4 rfl rfl)
theorem dX4_find_7 : decode cX4_find 7 = .ok (.invokevirtual 39, 3) := dk_182 0 39 (dk_at dksX4_find_0 7 rfl rfl)
theorem dX4_find_10 : decode cX4_find 10 = .ok (.if_icmp .ge 43, 3) := dk_162 0 43 (dk_at dksX4_find_0 10 rfl rfl)
theorem dX4_find_13 : decode cX4_find 13 = .ok (.aload_n 0, 1) := dk_42 (dk_at dksX4_find_0 13 rfl rfl)
theorem dX4_find_14 : decode cX4_find 14 = .ok (.getfield 14, 3) := dk_180 0 14 (dk_at dksX4_find_0 14 rfl rfl)
theorem dX4_find_17 : decode cX4_find 17 = .ok (.iload_n 3, 1) := dk_29 (dk_at dksX4_find_0 17 rfl rfl)
theorem dX4_find_18 : decode cX4_find 18 = .ok (.invokevirtual 43, 3) := dk_182 0 43 (dk_at dksX4_find_0 18 rfl rfl)
theorem dX4_find_21 : decode cX4_find 21 = .ok (.checkcast 47, 3) := dk_192 0 47 (dk_at dksX4_find_0 21 rfl rfl)
theorem dX4_find_24 : decode cX4_find 24 = .ok (.invokevirtual 49, 3) := dk_182 0 49 (dk_at dksX4_find_1 0 rfl rfl)
theorem dX4_find_27 : decode cX4_find 27 = .ok (.lload_n 1, 1) := dk_31 (dk_at dksX4_find_1 3 rfl rfl)
theorem dX4_find_28 : decode cX4_find 28 = .ok (.lcmp, 1) := dk_148 (dk_at dksX4_find_1 4 rfl rfl)
theorem dX4_find_29 : decode cX4_find 29 = .ok (.ifCond .ne 18, 3) := dk_154 0 18 (dk_at dksX4_find_1 5 rfl rfl)
theorem dX4_find_32 : decode cX4_find 32 = .ok (.aload_n 0, 1) := dk_42 (dk_at dksX4_find_1 8 rfl rfl)
theorem dX4_find_33 : decode cX4_find 33 = .ok (.getfield 20, 3) := dk_180 0 20 (dk_at dksX4_find_1 9 rfl rfl)
theorem dX4_find_36 : decode cX4_find 36 = .ok (.iload_n 3, 1) := dk_29 (dk_at dksX4_find_1 12 rfl rfl)
theorem dX4_find_37 : decode cX4_find 37 = .ok (.invokevirtual 43, 3) := dk_182 0 43 (dk_at dksX4_find_1 13 rfl rfl)
theorem dX4_find_40 : decode cX4_find 40 = .ok (.checkcast 53, 3) := dk_192 0 53 (dk_at dksX4_find_1 16 rfl rfl)
theorem dX4_find_43 : decode cX4_find 43 = .ok (.invokevirtual 55, 3) := dk_182 0 55 (dk_at dksX4_find_1 19 rfl rfl)
theorem dX4_find_46 : decode cX4_find 46 = .ok (.ireturn, 1) := dk_172 (dk_at dksX4_find_1 22 rfl rfl)
theorem dX4_find_47 : decode cX4_find 47 = .ok (.iinc 3 1, 3) := dk_132 3 1 (dk_at dksX4_find_2 0 rfl rfl)
theorem dX4_find_50 : decode cX4_find 50 = .ok (.goto (-48), 3) := dk_167 255 208 (dk_at dksX4_find_2 3 rfl rfl)
theorem dX4_find_53 : decode cX4_find 53 = .ok (.iconst (-1), 1) := dk_2 (dk_at dksX4_find_2 6 rfl rfl)
theorem dX4_find_54 : decode cX4_find 54 = .ok (.ireturn, 1) := dk_172 (dk_at dksX4_find_2 7 rfl rfl)
abbrev cX4_ear : ByteArray := prog_33_method_3_code
def yX4_ear : MethodName := ⟨RX4, "ear", "(II)I"⟩
def dkwX4_ear_2 : List UInt8 := [29, 182, 0, 60, 172, 132, 3, 1, 167, 255, 202, 2, 172]
abbrev dktX4_ear_2 : List UInt8 := dkwX4_ear_2 ++ []
def dkwX4_ear_1 : List UInt8 := [3, 46, 27, 160, 0, 26, 42, 180, 0, 29, 29, 182, 0, 43, 192, 0, 58, 4, 46, 28, 160, 0, 9, 42]
abbrev dktX4_ear_1 : List UInt8 := dkwX4_ear_1 ++ dktX4_ear_2
def dkwX4_ear_0 : List UInt8 := [3, 62, 29, 42, 180, 0, 29, 182, 0, 39, 162, 0, 49, 42, 180, 0, 29, 29, 182, 0, 43, 192, 0, 58]
abbrev dktX4_ear_0 : List UInt8 := dkwX4_ear_0 ++ dktX4_ear_1
theorem dksX4_ear_0 : cX4_ear.data.toList.drop 0 = dktX4_ear_0 := by decide +kernel
theorem dksX4_ear_1 : cX4_ear.data.toList.drop 24 = dktX4_ear_1 := dk_seg dksX4_ear_0 24 rfl rfl
theorem dksX4_ear_2 : cX4_ear.data.toList.drop 48 = dktX4_ear_2 := dk_seg dksX4_ear_1 24 rfl rfl
theorem dX4_ear_0 : decode cX4_ear 0 = .ok (.iconst 0, 1) := dk_3 (dk_at dksX4_ear_0 0 rfl rfl)
theorem dX4_ear_1 : decode cX4_ear 1 = .ok (.istore_n 3, 1) := dk_62 (dk_at dksX4_ear_0 1 rfl rfl)
theorem dX4_ear_2 : decode cX4_ear 2 = .ok (.iload_n 3, 1) := dk_29 (dk_at dksX4_ear_0 2 rfl rfl)
theorem dX4_ear_3 : decode cX4_ear 3 = .ok (.aload_n 0, 1) := dk_42 (dk_at dksX4_ear_0 3 rfl rfl)
theorem dX4_ear_4 : decode cX4_ear 4 = .ok (.getfield 29, 3) := dk_180 0 29 (dk_at dksX4_ear_0 4 rfl rfl)
theorem dX4_ear_7 : decode cX4_ear 7 = .ok (.invokevirtual 39, 3) := dk_182 0 39 (dk_at dksX4_ear_0 7 rfl rfl)
theorem dX4_ear_10 : decode cX4_ear 10 = .ok (.if_icmp .ge 49, 3) := dk_162 0 49 (dk_at dksX4_ear_0 10 rfl rfl)
theorem dX4_ear_13 : decode cX4_ear 13 = .ok (.aload_n 0, 1) := dk_42 (dk_at dksX4_ear_0 13 rfl rfl)
theorem dX4_ear_14 : decode cX4_ear 14 = .ok (.getfield 29, 3) := dk_180 0 29 (dk_at dksX4_ear_0 14 rfl rfl)
theorem dX4_ear_17 : decode cX4_ear 17 = .ok (.iload_n 3, 1) := dk_29 (dk_at dksX4_ear_0 17 rfl rfl)
theorem dX4_ear_18 : decode cX4_ear 18 = .ok (.invokevirtual 43, 3) := dk_182 0 43 (dk_at dksX4_ear_0 18 rfl rfl)
theorem dX4_ear_21 : decode cX4_ear 21 = .ok (.checkcast 58, 3) := dk_192 0 58 (dk_at dksX4_ear_0 21 rfl rfl)
theorem dX4_ear_24 : decode cX4_ear 24 = .ok (.iconst 0, 1) := dk_3 (dk_at dksX4_ear_1 0 rfl rfl)
theorem dX4_ear_25 : decode cX4_ear 25 = .ok (.iaload, 1) := dk_46 (dk_at dksX4_ear_1 1 rfl rfl)
theorem dX4_ear_26 : decode cX4_ear 26 = .ok (.iload_n 1, 1) := dk_27 (dk_at dksX4_ear_1 2 rfl rfl)
theorem dX4_ear_27 : decode cX4_ear 27 = .ok (.if_icmp .ne 26, 3) := dk_160 0 26 (dk_at dksX4_ear_1 3 rfl rfl)
theorem dX4_ear_30 : decode cX4_ear 30 = .ok (.aload_n 0, 1) := dk_42 (dk_at dksX4_ear_1 6 rfl rfl)
theorem dX4_ear_31 : decode cX4_ear 31 = .ok (.getfield 29, 3) := dk_180 0 29 (dk_at dksX4_ear_1 7 rfl rfl)
theorem dX4_ear_34 : decode cX4_ear 34 = .ok (.iload_n 3, 1) := dk_29 (dk_at dksX4_ear_1 10 rfl rfl)
theorem dX4_ear_35 : decode cX4_ear 35 = .ok (.invokevirtual 43, 3) := dk_182 0 43 (dk_at dksX4_ear_1 11 rfl rfl)
theorem dX4_ear_38 : decode cX4_ear 38 = .ok (.checkcast 58, 3) := dk_192 0 58 (dk_at dksX4_ear_1 14 rfl rfl)
theorem dX4_ear_41 : decode cX4_ear 41 = .ok (.iconst 1, 1) := dk_4 (dk_at dksX4_ear_1 17 rfl rfl)
theorem dX4_ear_42 : decode cX4_ear 42 = .ok (.iaload, 1) := dk_46 (dk_at dksX4_ear_1 18 rfl rfl)
theorem dX4_ear_43 : decode cX4_ear 43 = .ok (.iload_n 2, 1) := dk_28 (dk_at dksX4_ear_1 19 rfl rfl)
theorem dX4_ear_44 : decode cX4_ear 44 = .ok (.if_icmp .ne 9, 3) := dk_160 0 9 (dk_at dksX4_ear_1 20 rfl rfl)
theorem dX4_ear_47 : decode cX4_ear 47 = .ok (.aload_n 0, 1) := dk_42 (dk_at dksX4_ear_1 23 rfl rfl)
theorem dX4_ear_48 : decode cX4_ear 48 = .ok (.iload_n 3, 1) := dk_29 (dk_at dksX4_ear_2 0 rfl rfl)
theorem dX4_ear_49 : decode cX4_ear 49 = .ok (.invokevirtual 60, 3) := dk_182 0 60 (dk_at dksX4_ear_2 1 rfl rfl)
theorem dX4_ear_52 : decode cX4_ear 52 = .ok (.ireturn, 1) := dk_172 (dk_at dksX4_ear_2 4 rfl rfl)
theorem dX4_ear_53 : decode cX4_ear 53 = .ok (.iinc 3 1, 3) := dk_132 3 1 (dk_at dksX4_ear_2 5 rfl rfl)
theorem dX4_ear_56 : decode cX4_ear 56 = .ok (.goto (-54), 3) := dk_167 255 202 (dk_at dksX4_ear_2 8 rfl rfl)
theorem dX4_ear_59 : decode cX4_ear 59 = .ok (.iconst (-1), 1) := dk_2 (dk_at dksX4_ear_2 11 rfl rfl)
theorem dX4_ear_60 : decode cX4_ear 60 = .ok (.ireturn, 1) := dk_172 (dk_at dksX4_ear_2 12 rfl rfl)
abbrev cX4_chance : ByteArray := prog_33_method_4_code
def yX4_chance : MethodName := ⟨RX4, "chance", "(I)I"⟩
def dkwX4_chance_1 : List UInt8 := [182, 0, 43, 192, 0, 58, 3, 46, 182, 0, 43, 192, 0, 64, 182, 0, 66, 96, 184, 0, 69, 172]
abbrev dktX4_chance_1 : List UInt8 := dkwX4_chance_1 ++ []
def dkwX4_chance_0 : List UInt8 := [16, 10, 42, 180, 0, 29, 27, 182, 0, 43, 192, 0, 58, 5, 46, 42, 180, 0, 23, 42, 180, 0, 29, 27]
abbrev dktX4_chance_0 : List UInt8 := dkwX4_chance_0 ++ dktX4_chance_1
theorem dksX4_chance_0 : cX4_chance.data.toList.drop 0 = dktX4_chance_0 := by decide +kernel
theorem dksX4_chance_1 : cX4_chance.data.toList.drop 24 = dktX4_chance_1 := dk_seg dksX4_chance_0 24 rfl rfl
theorem dX4_chance_0 : decode cX4_chance 0 = .ok (.bipush 10, 2) := dk_16 10 (dk_at dksX4_chance_0 0 rfl rfl)
theorem dX4_chance_2 : decode cX4_chance 2 = .ok (.aload_n 0, 1) := dk_42 (dk_at dksX4_chance_0 2 rfl rfl)
theorem dX4_chance_3 : decode cX4_chance 3 = .ok (.getfield 29, 3) := dk_180 0 29 (dk_at dksX4_chance_0 3 rfl rfl)
theorem dX4_chance_6 : decode cX4_chance 6 = .ok (.iload_n 1, 1) := dk_27 (dk_at dksX4_chance_0 6 rfl rfl)
theorem dX4_chance_7 : decode cX4_chance 7 = .ok (.invokevirtual 43, 3) := dk_182 0 43 (dk_at dksX4_chance_0 7 rfl rfl)
theorem dX4_chance_10 : decode cX4_chance 10 = .ok (.checkcast 58, 3) := dk_192 0 58 (dk_at dksX4_chance_0 10 rfl rfl)
theorem dX4_chance_13 : decode cX4_chance 13 = .ok (.iconst 2, 1) := dk_5 (dk_at dksX4_chance_0 13 rfl rfl)
theorem dX4_chance_14 : decode cX4_chance 14 = .ok (.iaload, 1) := dk_46 (dk_at dksX4_chance_0 14 rfl rfl)
theorem dX4_chance_15 : decode cX4_chance 15 = .ok (.aload_n 0, 1) := dk_42 (dk_at dksX4_chance_0 15 rfl rfl)
theorem dX4_chance_16 : decode cX4_chance 16 = .ok (.getfield 23, 3) := dk_180 0 23 (dk_at dksX4_chance_0 16 rfl rfl)
theorem dX4_chance_19 : decode cX4_chance 19 = .ok (.aload_n 0, 1) := dk_42 (dk_at dksX4_chance_0 19 rfl rfl)
theorem dX4_chance_20 : decode cX4_chance 20 = .ok (.getfield 29, 3) := dk_180 0 29 (dk_at dksX4_chance_0 20 rfl rfl)
theorem dX4_chance_23 : decode cX4_chance 23 = .ok (.iload_n 1, 1) := dk_27 (dk_at dksX4_chance_0 23 rfl rfl)
theorem dX4_chance_24 : decode cX4_chance 24 = .ok (.invokevirtual 43, 3) := dk_182 0 43 (dk_at dksX4_chance_1 0 rfl rfl)
theorem dX4_chance_27 : decode cX4_chance 27 = .ok (.checkcast 58, 3) := dk_192 0 58 (dk_at dksX4_chance_1 3 rfl rfl)
theorem dX4_chance_30 : decode cX4_chance 30 = .ok (.iconst 0, 1) := dk_3 (dk_at dksX4_chance_1 6 rfl rfl)
theorem dX4_chance_31 : decode cX4_chance 31 = .ok (.iaload, 1) := dk_46 (dk_at dksX4_chance_1 7 rfl rfl)
theorem dX4_chance_32 : decode cX4_chance 32 = .ok (.invokevirtual 43, 3) := dk_182 0 43 (dk_at dksX4_chance_1 8 rfl rfl)
theorem dX4_chance_35 : decode cX4_chance 35 = .ok (.checkcast 64, 3) := dk_192 0 64 (dk_at dksX4_chance_1 11 rfl rfl)
theorem dX4_chance_38 : decode cX4_chance 38 = .ok (.invokevirtual 66, 3) := dk_182 0 66 (dk_at dksX4_chance_1 14 rfl rfl)
theorem dX4_chance_41 : decode cX4_chance 41 = .ok (.iadd, 1) := dk_96 (dk_at dksX4_chance_1 17 rfl rfl)
theorem dX4_chance_42 : decode cX4_chance 42 = .ok (.invokestatic 69, 3) := dk_184 0 69 (dk_at dksX4_chance_1 18 rfl rfl)
theorem dX4_chance_45 : decode cX4_chance 45 = .ok (.ireturn, 1) := dk_172 (dk_at dksX4_chance_1 21 rfl rfl)
abbrev cX4_knowers : ByteArray := prog_33_method_5_code
def yX4_knowers : MethodName := ⟨RX4, "knowers", "(I)I"⟩
def dkwX4_knowers_2 : List UInt8 := [167, 255, 214, 28, 172]
abbrev dktX4_knowers_2 : List UInt8 := dkwX4_knowers_2 ++ []
def dkwX4_knowers_1 : List UInt8 := [180, 0, 23, 29, 182, 0, 43, 192, 0, 64, 182, 0, 79, 153, 0, 6, 132, 2, 1, 132, 3, 1]
abbrev dktX4_knowers_1 : List UInt8 := dkwX4_knowers_1 ++ dktX4_knowers_2
def dkwX4_knowers_0 : List UInt8 := [3, 61, 3, 62, 29, 42, 180, 0, 23, 182, 0, 39, 162, 0, 37, 27, 29, 184, 0, 75, 153, 0, 23, 42]
abbrev dktX4_knowers_0 : List UInt8 := dkwX4_knowers_0 ++ dktX4_knowers_1
theorem dksX4_knowers_0 : cX4_knowers.data.toList.drop 0 = dktX4_knowers_0 := by decide +kernel
theorem dksX4_knowers_1 : cX4_knowers.data.toList.drop 24 = dktX4_knowers_1 := dk_seg dksX4_knowers_0 24 rfl rfl
theorem dksX4_knowers_2 : cX4_knowers.data.toList.drop 46 = dktX4_knowers_2 := dk_seg dksX4_knowers_1 22 rfl rfl
theorem dX4_knowers_0 : decode cX4_knowers 0 = .ok (.iconst 0, 1) := dk_3 (dk_at dksX4_knowers_0 0 rfl rfl)
theorem dX4_knowers_1 : decode cX4_knowers 1 = .ok (.istore_n 2, 1) := dk_61 (dk_at dksX4_knowers_0 1 rfl rfl)
theorem dX4_knowers_2 : decode cX4_knowers 2 = .ok (.iconst 0, 1) := dk_3 (dk_at dksX4_knowers_0 2 rfl rfl)
theorem dX4_knowers_3 : decode cX4_knowers 3 = .ok (.istore_n 3, 1) := dk_62 (dk_at dksX4_knowers_0 3 rfl rfl)
theorem dX4_knowers_4 : decode cX4_knowers 4 = .ok (.iload_n 3, 1) := dk_29 (dk_at dksX4_knowers_0 4 rfl rfl)
theorem dX4_knowers_5 : decode cX4_knowers 5 = .ok (.aload_n 0, 1) := dk_42 (dk_at dksX4_knowers_0 5 rfl rfl)
theorem dX4_knowers_6 : decode cX4_knowers 6 = .ok (.getfield 23, 3) := dk_180 0 23 (dk_at dksX4_knowers_0 6 rfl rfl)
theorem dX4_knowers_9 : decode cX4_knowers 9 = .ok (.invokevirtual 39, 3) := dk_182 0 39 (dk_at dksX4_knowers_0 9 rfl rfl)
theorem dX4_knowers_12 : decode cX4_knowers 12 = .ok (.if_icmp .ge 37, 3) := dk_162 0 37 (dk_at dksX4_knowers_0 12 rfl rfl)
theorem dX4_knowers_15 : decode cX4_knowers 15 = .ok (.iload_n 1, 1) := dk_27 (dk_at dksX4_knowers_0 15 rfl rfl)
theorem dX4_knowers_16 : decode cX4_knowers 16 = .ok (.iload_n 3, 1) := dk_29 (dk_at dksX4_knowers_0 16 rfl rfl)
theorem dX4_knowers_17 : decode cX4_knowers 17 = .ok (.invokestatic 75, 3) := dk_184 0 75 (dk_at dksX4_knowers_0 17 rfl rfl)
theorem dX4_knowers_20 : decode cX4_knowers 20 = .ok (.ifCond .eq 23, 3) := dk_153 0 23 (dk_at dksX4_knowers_0 20 rfl rfl)
theorem dX4_knowers_23 : decode cX4_knowers 23 = .ok (.aload_n 0, 1) := dk_42 (dk_at dksX4_knowers_0 23 rfl rfl)
theorem dX4_knowers_24 : decode cX4_knowers 24 = .ok (.getfield 23, 3) := dk_180 0 23 (dk_at dksX4_knowers_1 0 rfl rfl)
theorem dX4_knowers_27 : decode cX4_knowers 27 = .ok (.iload_n 3, 1) := dk_29 (dk_at dksX4_knowers_1 3 rfl rfl)
theorem dX4_knowers_28 : decode cX4_knowers 28 = .ok (.invokevirtual 43, 3) := dk_182 0 43 (dk_at dksX4_knowers_1 4 rfl rfl)
theorem dX4_knowers_31 : decode cX4_knowers 31 = .ok (.checkcast 64, 3) := dk_192 0 64 (dk_at dksX4_knowers_1 7 rfl rfl)
theorem dX4_knowers_34 : decode cX4_knowers 34 = .ok (.invokevirtual 79, 3) := dk_182 0 79 (dk_at dksX4_knowers_1 10 rfl rfl)
theorem dX4_knowers_37 : decode cX4_knowers 37 = .ok (.ifCond .eq 6, 3) := dk_153 0 6 (dk_at dksX4_knowers_1 13 rfl rfl)
theorem dX4_knowers_40 : decode cX4_knowers 40 = .ok (.iinc 2 1, 3) := dk_132 2 1 (dk_at dksX4_knowers_1 16 rfl rfl)
theorem dX4_knowers_43 : decode cX4_knowers 43 = .ok (.iinc 3 1, 3) := dk_132 3 1 (dk_at dksX4_knowers_1 19 rfl rfl)
theorem dX4_knowers_46 : decode cX4_knowers 46 = .ok (.goto (-42), 3) := dk_167 255 214 (dk_at dksX4_knowers_2 0 rfl rfl)
theorem dX4_knowers_49 : decode cX4_knowers 49 = .ok (.iload_n 2, 1) := dk_28 (dk_at dksX4_knowers_2 3 rfl rfl)
theorem dX4_knowers_50 : decode cX4_knowers 50 = .ok (.ireturn, 1) := dk_172 (dk_at dksX4_knowers_2 4 rfl rfl)
abbrev cX4_bare : ByteArray := prog_33_method_6_code
def yX4_bare : MethodName := ⟨RX4, "bare", "(IIII)I"⟩
def dkwX4_bare_4 : List UInt8 := [17, 3, 231, 42, 180, 0, 92, 42, 180, 0, 35, 182, 0, 102, 184, 0, 69, 184, 0, 96, 172]
abbrev dktX4_bare_4 : List UInt8 := dkwX4_bare_4 ++ []
def dkwX4_bare_3 : List UInt8 := [42, 180, 0, 35, 180, 0, 99, 5, 29, 79, 42, 180, 0, 35, 180, 0, 99, 6, 21, 4, 79, 3]
abbrev dktX4_bare_3 : List UInt8 := dkwX4_bare_3 ++ dktX4_bare_4
def dkwX4_bare_2 : List UInt8 := [108, 172, 42, 180, 0, 35, 180, 0, 99, 3, 21, 6, 79, 42, 180, 0, 35, 180, 0, 99, 4, 21, 5, 79]
abbrev dktX4_bare_2 : List UInt8 := dkwX4_bare_2 ++ dktX4_bare_3
def dkwX4_bare_1 : List UInt8 := [180, 0, 92, 199, 0, 23, 21, 5, 8, 161, 0, 7, 3, 167, 0, 12, 21, 6, 4, 21, 5, 184, 0, 96]
abbrev dktX4_bare_1 : List UInt8 := dkwX4_bare_1 ++ dktX4_bare_2
def dkwX4_bare_0 : List UInt8 := [42, 28, 182, 0, 83, 54, 5, 42, 180, 0, 26, 27, 182, 0, 43, 192, 0, 86, 180, 0, 88, 54, 6, 42]
abbrev dktX4_bare_0 : List UInt8 := dkwX4_bare_0 ++ dktX4_bare_1
theorem dksX4_bare_0 : cX4_bare.data.toList.drop 0 = dktX4_bare_0 := by decide +kernel
theorem dksX4_bare_1 : cX4_bare.data.toList.drop 24 = dktX4_bare_1 := dk_seg dksX4_bare_0 24 rfl rfl
theorem dksX4_bare_2 : cX4_bare.data.toList.drop 48 = dktX4_bare_2 := dk_seg dksX4_bare_1 24 rfl rfl
theorem dksX4_bare_3 : cX4_bare.data.toList.drop 72 = dktX4_bare_3 := dk_seg dksX4_bare_2 24 rfl rfl
theorem dksX4_bare_4 : cX4_bare.data.toList.drop 94 = dktX4_bare_4 := dk_seg dksX4_bare_3 22 rfl rfl
theorem dX4_bare_0 : decode cX4_bare 0 = .ok (.aload_n 0, 1) := dk_42 (dk_at dksX4_bare_0 0 rfl rfl)
theorem dX4_bare_1 : decode cX4_bare 1 = .ok (.iload_n 2, 1) := dk_28 (dk_at dksX4_bare_0 1 rfl rfl)
theorem dX4_bare_2 : decode cX4_bare 2 = .ok (.invokevirtual 83, 3) := dk_182 0 83 (dk_at dksX4_bare_0 2 rfl rfl)
theorem dX4_bare_5 : decode cX4_bare 5 = .ok (.istore 5, 2) := dk_54 5 (dk_at dksX4_bare_0 5 rfl rfl)
theorem dX4_bare_7 : decode cX4_bare 7 = .ok (.aload_n 0, 1) := dk_42 (dk_at dksX4_bare_0 7 rfl rfl)
theorem dX4_bare_8 : decode cX4_bare 8 = .ok (.getfield 26, 3) := dk_180 0 26 (dk_at dksX4_bare_0 8 rfl rfl)
theorem dX4_bare_11 : decode cX4_bare 11 = .ok (.iload_n 1, 1) := dk_27 (dk_at dksX4_bare_0 11 rfl rfl)
theorem dX4_bare_12 : decode cX4_bare 12 = .ok (.invokevirtual 43, 3) := dk_182 0 43 (dk_at dksX4_bare_0 12 rfl rfl)
theorem dX4_bare_15 : decode cX4_bare 15 = .ok (.checkcast 86, 3) := dk_192 0 86 (dk_at dksX4_bare_0 15 rfl rfl)
theorem dX4_bare_18 : decode cX4_bare 18 = .ok (.getfield 88, 3) := dk_180 0 88 (dk_at dksX4_bare_0 18 rfl rfl)
theorem dX4_bare_21 : decode cX4_bare 21 = .ok (.istore 6, 2) := dk_54 6 (dk_at dksX4_bare_0 21 rfl rfl)
theorem dX4_bare_23 : decode cX4_bare 23 = .ok (.aload_n 0, 1) := dk_42 (dk_at dksX4_bare_0 23 rfl rfl)
theorem dX4_bare_24 : decode cX4_bare 24 = .ok (.getfield 92, 3) := dk_180 0 92 (dk_at dksX4_bare_1 0 rfl rfl)
theorem dX4_bare_27 : decode cX4_bare 27 = .ok (.ifnonnull 23, 3) := dk_199 0 23 (dk_at dksX4_bare_1 3 rfl rfl)
theorem dX4_bare_30 : decode cX4_bare 30 = .ok (.iload 5, 2) := dk_21 5 (dk_at dksX4_bare_1 6 rfl rfl)
theorem dX4_bare_32 : decode cX4_bare 32 = .ok (.iconst 5, 1) := dk_8 (dk_at dksX4_bare_1 8 rfl rfl)
theorem dX4_bare_33 : decode cX4_bare 33 = .ok (.if_icmp .lt 7, 3) := dk_161 0 7 (dk_at dksX4_bare_1 9 rfl rfl)
theorem dX4_bare_36 : decode cX4_bare 36 = .ok (.iconst 0, 1) := dk_3 (dk_at dksX4_bare_1 12 rfl rfl)
theorem dX4_bare_37 : decode cX4_bare 37 = .ok (.goto 12, 3) := dk_167 0 12 (dk_at dksX4_bare_1 13 rfl rfl)
theorem dX4_bare_40 : decode cX4_bare 40 = .ok (.iload 6, 2) := dk_21 6 (dk_at dksX4_bare_1 16 rfl rfl)
theorem dX4_bare_42 : decode cX4_bare 42 = .ok (.iconst 1, 1) := dk_4 (dk_at dksX4_bare_1 18 rfl rfl)
theorem dX4_bare_43 : decode cX4_bare 43 = .ok (.iload 5, 2) := dk_21 5 (dk_at dksX4_bare_1 19 rfl rfl)
theorem dX4_bare_45 : decode cX4_bare 45 = .ok (.invokestatic 96, 3) := dk_184 0 96 (dk_at dksX4_bare_1 21 rfl rfl)
theorem dX4_bare_48 : decode cX4_bare 48 = .ok (.idiv, 1) := dk_108 (dk_at dksX4_bare_2 0 rfl rfl)
theorem dX4_bare_49 : decode cX4_bare 49 = .ok (.ireturn, 1) := dk_172 (dk_at dksX4_bare_2 1 rfl rfl)
theorem dX4_bare_50 : decode cX4_bare 50 = .ok (.aload_n 0, 1) := dk_42 (dk_at dksX4_bare_2 2 rfl rfl)
theorem dX4_bare_51 : decode cX4_bare 51 = .ok (.getfield 35, 3) := dk_180 0 35 (dk_at dksX4_bare_2 3 rfl rfl)
theorem dX4_bare_54 : decode cX4_bare 54 = .ok (.getfield 99, 3) := dk_180 0 99 (dk_at dksX4_bare_2 6 rfl rfl)
theorem dX4_bare_57 : decode cX4_bare 57 = .ok (.iconst 0, 1) := dk_3 (dk_at dksX4_bare_2 9 rfl rfl)
theorem dX4_bare_58 : decode cX4_bare 58 = .ok (.iload 6, 2) := dk_21 6 (dk_at dksX4_bare_2 10 rfl rfl)
theorem dX4_bare_60 : decode cX4_bare 60 = .ok (.iastore, 1) := dk_79 (dk_at dksX4_bare_2 12 rfl rfl)
theorem dX4_bare_61 : decode cX4_bare 61 = .ok (.aload_n 0, 1) := dk_42 (dk_at dksX4_bare_2 13 rfl rfl)
theorem dX4_bare_62 : decode cX4_bare 62 = .ok (.getfield 35, 3) := dk_180 0 35 (dk_at dksX4_bare_2 14 rfl rfl)
theorem dX4_bare_65 : decode cX4_bare 65 = .ok (.getfield 99, 3) := dk_180 0 99 (dk_at dksX4_bare_2 17 rfl rfl)
theorem dX4_bare_68 : decode cX4_bare 68 = .ok (.iconst 1, 1) := dk_4 (dk_at dksX4_bare_2 20 rfl rfl)
theorem dX4_bare_69 : decode cX4_bare 69 = .ok (.iload 5, 2) := dk_21 5 (dk_at dksX4_bare_2 21 rfl rfl)
theorem dX4_bare_71 : decode cX4_bare 71 = .ok (.iastore, 1) := dk_79 (dk_at dksX4_bare_2 23 rfl rfl)
theorem dX4_bare_72 : decode cX4_bare 72 = .ok (.aload_n 0, 1) := dk_42 (dk_at dksX4_bare_3 0 rfl rfl)
theorem dX4_bare_73 : decode cX4_bare 73 = .ok (.getfield 35, 3) := dk_180 0 35 (dk_at dksX4_bare_3 1 rfl rfl)
theorem dX4_bare_76 : decode cX4_bare 76 = .ok (.getfield 99, 3) := dk_180 0 99 (dk_at dksX4_bare_3 4 rfl rfl)
theorem dX4_bare_79 : decode cX4_bare 79 = .ok (.iconst 2, 1) := dk_5 (dk_at dksX4_bare_3 7 rfl rfl)
theorem dX4_bare_80 : decode cX4_bare 80 = .ok (.iload_n 3, 1) := dk_29 (dk_at dksX4_bare_3 8 rfl rfl)
theorem dX4_bare_81 : decode cX4_bare 81 = .ok (.iastore, 1) := dk_79 (dk_at dksX4_bare_3 9 rfl rfl)
theorem dX4_bare_82 : decode cX4_bare 82 = .ok (.aload_n 0, 1) := dk_42 (dk_at dksX4_bare_3 10 rfl rfl)
theorem dX4_bare_83 : decode cX4_bare 83 = .ok (.getfield 35, 3) := dk_180 0 35 (dk_at dksX4_bare_3 11 rfl rfl)
theorem dX4_bare_86 : decode cX4_bare 86 = .ok (.getfield 99, 3) := dk_180 0 99 (dk_at dksX4_bare_3 14 rfl rfl)
theorem dX4_bare_89 : decode cX4_bare 89 = .ok (.iconst 3, 1) := dk_6 (dk_at dksX4_bare_3 17 rfl rfl)
theorem dX4_bare_90 : decode cX4_bare 90 = .ok (.iload 4, 2) := dk_21 4 (dk_at dksX4_bare_3 18 rfl rfl)
theorem dX4_bare_92 : decode cX4_bare 92 = .ok (.iastore, 1) := dk_79 (dk_at dksX4_bare_3 20 rfl rfl)
theorem dX4_bare_93 : decode cX4_bare 93 = .ok (.iconst 0, 1) := dk_3 (dk_at dksX4_bare_3 21 rfl rfl)
theorem dX4_bare_94 : decode cX4_bare 94 = .ok (.sipush 999, 3) := dk_17 3 231 (dk_at dksX4_bare_4 0 rfl rfl)
theorem dX4_bare_97 : decode cX4_bare 97 = .ok (.aload_n 0, 1) := dk_42 (dk_at dksX4_bare_4 3 rfl rfl)
theorem dX4_bare_98 : decode cX4_bare 98 = .ok (.getfield 92, 3) := dk_180 0 92 (dk_at dksX4_bare_4 4 rfl rfl)
theorem dX4_bare_101 : decode cX4_bare 101 = .ok (.aload_n 0, 1) := dk_42 (dk_at dksX4_bare_4 7 rfl rfl)
theorem dX4_bare_102 : decode cX4_bare 102 = .ok (.getfield 35, 3) := dk_180 0 35 (dk_at dksX4_bare_4 8 rfl rfl)
theorem dX4_bare_105 : decode cX4_bare 105 = .ok (.invokevirtual 102, 3) := dk_182 0 102 (dk_at dksX4_bare_4 11 rfl rfl)
theorem dX4_bare_108 : decode cX4_bare 108 = .ok (.invokestatic 69, 3) := dk_184 0 69 (dk_at dksX4_bare_4 14 rfl rfl)
theorem dX4_bare_111 : decode cX4_bare 111 = .ok (.invokestatic 96, 3) := dk_184 0 96 (dk_at dksX4_bare_4 17 rfl rfl)
theorem dX4_bare_114 : decode cX4_bare 114 = .ok (.ireturn, 1) := dk_172 (dk_at dksX4_bare_4 20 rfl rfl)
theorem q132 : (Jvm.Cond.initialized "PaidSecrets$Town") ∈ lw_all := lw_g (lw_at lw_m1 4 rfl) rfl
theorem q323 : (Jvm.Cond.instantiable "PaidSecrets$Town" (8 : Nat)) ∈ lw_all := lw_g (lw_at lw_m1 195 rfl) rfl
theorem q325 : (Jvm.Cond.instanceMethod ({ cls := "PaidSecrets$Town", name := "<init>", desc := "()V" } : Jvm.MethodName)) ∈ lw_all := lw_g (lw_at lw_m1 197 rfl) rfl
theorem q326 : (Jvm.Cond.code ({ cls := "PaidSecrets$Town", name := "<init>", desc := "()V" } : Jvm.MethodName) prog_33_method_1_code (1 : Nat) (Option.none : Option Jvm.ClassFile.FieldType)) ∈ lw_all := lw_g (lw_at lw_m1 198 rfl) rfl
theorem q327 : (Jvm.Cond.methodLink "PaidSecrets$Town" (3 : Nat) ({ cls := "java/lang/Object", name := "<init>", desc := "()V" } : Jvm.MethodName)) ∈ lw_all := lw_g (lw_at lw_m1 199 rfl) rfl
theorem q328 : (Jvm.Cond.classLink "PaidSecrets$Town" (9 : Nat) "java/util/ArrayList") ∈ lw_all := lw_g (lw_at lw_m1 200 rfl) rfl
theorem q330 : (Jvm.Cond.methodLink "PaidSecrets$Town" (11 : Nat) ({ cls := "java/util/ArrayList", name := "<init>", desc := "(I)V" } : Jvm.MethodName)) ∈ lw_all := lw_g (lw_at lw_m1 202 rfl) rfl
theorem q356 : (Jvm.Cond.classLink "PaidSecrets$Town" (32 : Nat) "PaidSecrets$Facts") ∈ lw_all := lw_g (lw_at lw_m1 228 rfl) rfl
theorem q358 : (Jvm.Cond.methodLinkNest "PaidSecrets$Town" (34 : Nat) ({ cls := "PaidSecrets$Facts", name := "<init>", desc := "()V" } : Jvm.MethodName) "PaidSecrets") ∈ lw_tbl := lw_at lw_m1 230 rfl
theorem q364 : (Jvm.Cond.fieldLink "PaidSecrets$Town" (99 : Nat) "PaidSecrets$Facts" "of" "[I") ∈ lw_all := lw_g (lw_at lw_m1 236 rfl) rfl
theorem q368 : (Jvm.Cond.fieldLink "PaidSecrets$Town" (14 : Nat) "PaidSecrets$Town" "names" "Ljava/util/ArrayList;") ∈ lw_all := lw_g (lw_at lw_m2 0 rfl) rfl
theorem q370 : (Jvm.Cond.fieldLink "PaidSecrets$Town" (20 : Nat) "PaidSecrets$Town" "nameOf" "Ljava/util/ArrayList;") ∈ lw_all := lw_g (lw_at lw_m2 2 rfl) rfl
theorem q372 : (Jvm.Cond.fieldLink "PaidSecrets$Town" (23 : Nat) "PaidSecrets$Town" "people" "Ljava/util/ArrayList;") ∈ lw_all := lw_g (lw_at lw_m2 4 rfl) rfl
theorem q378 : (Jvm.Cond.fieldLink "PaidSecrets$Town" (26 : Nat) "PaidSecrets$Town" "secrets" "Ljava/util/ArrayList;") ∈ lw_all := lw_g (lw_at lw_m2 10 rfl) rfl
theorem q382 : (Jvm.Cond.fieldLink "PaidSecrets$Town" (29 : Nat) "PaidSecrets$Town" "ears" "Ljava/util/ArrayList;") ∈ lw_all := lw_g (lw_at lw_m2 14 rfl) rfl
theorem q387 : (Jvm.Cond.fieldLink "PaidSecrets$Town" (92 : Nat) "PaidSecrets$Town" "worth" "LPaidSecrets$Expression;") ∈ lw_all := lw_g (lw_at lw_m2 19 rfl) rfl
theorem q389 : (Jvm.Cond.fieldLink "PaidSecrets$Town" (35 : Nat) "PaidSecrets$Town" "facts" "LPaidSecrets$Facts;") ∈ lw_all := lw_g (lw_at lw_m2 21 rfl) rfl
theorem q390 : (Jvm.Cond.laysFinal "PaidSecrets$Town" "PaidSecrets$Town" "names" "Ljava/util/ArrayList;") ∈ lw_all := lw_g (lw_at lw_m2 22 rfl) rfl
theorem q391 : (Jvm.Cond.soleField "PaidSecrets$Town" "names") ∈ lw_all := lw_g (lw_at lw_m2 23 rfl) rfl
theorem q392 : (Jvm.Cond.laysFinal "PaidSecrets$Town" "PaidSecrets$Town" "nameOf" "Ljava/util/ArrayList;") ∈ lw_all := lw_g (lw_at lw_m2 24 rfl) rfl
theorem q393 : (Jvm.Cond.soleField "PaidSecrets$Town" "nameOf") ∈ lw_all := lw_g (lw_at lw_m2 25 rfl) rfl
theorem q394 : (Jvm.Cond.laysFinal "PaidSecrets$Town" "PaidSecrets$Town" "people" "Ljava/util/ArrayList;") ∈ lw_all := lw_g (lw_at lw_m2 26 rfl) rfl
theorem q395 : (Jvm.Cond.soleField "PaidSecrets$Town" "people") ∈ lw_all := lw_g (lw_at lw_m2 27 rfl) rfl
theorem q396 : (Jvm.Cond.laysFinal "PaidSecrets$Town" "PaidSecrets$Town" "secrets" "Ljava/util/ArrayList;") ∈ lw_all := lw_g (lw_at lw_m2 28 rfl) rfl
theorem q397 : (Jvm.Cond.soleField "PaidSecrets$Town" "secrets") ∈ lw_all := lw_g (lw_at lw_m2 29 rfl) rfl
theorem q398 : (Jvm.Cond.laysFinal "PaidSecrets$Town" "PaidSecrets$Town" "ears" "Ljava/util/ArrayList;") ∈ lw_all := lw_g (lw_at lw_m2 30 rfl) rfl
theorem q399 : (Jvm.Cond.soleField "PaidSecrets$Town" "ears") ∈ lw_all := lw_g (lw_at lw_m2 31 rfl) rfl
theorem q400 : (Jvm.Cond.lays "PaidSecrets$Town" "PaidSecrets$Town" "clashing" "I") ∈ lw_all := lw_g (lw_at lw_m2 32 rfl) rfl
theorem q401 : (Jvm.Cond.soleField "PaidSecrets$Town" "clashing") ∈ lw_all := lw_g (lw_at lw_m2 33 rfl) rfl
theorem q402 : (Jvm.Cond.lays "PaidSecrets$Town" "PaidSecrets$Town" "worth" "LPaidSecrets$Expression;") ∈ lw_all := lw_g (lw_at lw_m2 34 rfl) rfl
theorem q403 : (Jvm.Cond.soleField "PaidSecrets$Town" "worth") ∈ lw_all := lw_g (lw_at lw_m2 35 rfl) rfl
theorem q404 : (Jvm.Cond.laysFinal "PaidSecrets$Town" "PaidSecrets$Town" "facts" "LPaidSecrets$Facts;") ∈ lw_all := lw_g (lw_at lw_m2 36 rfl) rfl
theorem q405 : (Jvm.Cond.soleField "PaidSecrets$Town" "facts") ∈ lw_all := lw_g (lw_at lw_m2 37 rfl) rfl
theorem q406 : (Jvm.Cond.superclass "PaidSecrets$Town" "java/lang/Object") ∈ lw_all := lw_g (lw_at lw_m2 38 rfl) rfl
theorem q810 : (Jvm.Cond.instanceMethod ({ cls := "PaidSecrets$Town", name := "find", desc := "(J)I" } : Jvm.MethodName)) ∈ lw_all := lw_g (lw_at lw_m3 202 rfl) rfl
theorem q811 : (Jvm.Cond.selects "PaidSecrets$Town" ({ cls := "PaidSecrets$Town", name := "find", desc := "(J)I" } : Jvm.MethodName) ({ cls := "PaidSecrets$Town", name := "find", desc := "(J)I" } : Jvm.MethodName)) ∈ lw_all := lw_g (lw_at lw_m3 203 rfl) rfl
theorem q812 : (Jvm.Cond.code ({ cls := "PaidSecrets$Town", name := "find", desc := "(J)I" } : Jvm.MethodName) prog_33_method_2_code (4 : Nat) (Option.some Jvm.ClassFile.FieldType.int)) ∈ lw_all := lw_g (lw_at lw_m3 204 rfl) rfl
theorem q813 : (Jvm.Cond.methodLink "PaidSecrets$Town" (39 : Nat) ({ cls := "java/util/ArrayList", name := "size", desc := "()I" } : Jvm.MethodName)) ∈ lw_all := lw_g (lw_at lw_m3 205 rfl) rfl
theorem q814 : (Jvm.Cond.methodLink "PaidSecrets$Town" (43 : Nat) ({ cls := "java/util/ArrayList", name := "get", desc := "(I)Ljava/lang/Object;" } : Jvm.MethodName)) ∈ lw_all := lw_g (lw_at lw_m3 206 rfl) rfl
theorem q815 : (Jvm.Cond.classLink "PaidSecrets$Town" (47 : Nat) "java/lang/Long") ∈ lw_all := lw_g (lw_at lw_m3 207 rfl) rfl
theorem q816 : (Jvm.Cond.methodLink "PaidSecrets$Town" (49 : Nat) ({ cls := "java/lang/Long", name := "longValue", desc := "()J" } : Jvm.MethodName)) ∈ lw_all := lw_g (lw_at lw_m3 208 rfl) rfl
theorem q820 : (Jvm.Cond.classLink "PaidSecrets$Town" (53 : Nat) "java/lang/Integer") ∈ lw_all := lw_g (lw_at lw_m3 212 rfl) rfl
theorem q821 : (Jvm.Cond.methodLink "PaidSecrets$Town" (55 : Nat) ({ cls := "java/lang/Integer", name := "intValue", desc := "()I" } : Jvm.MethodName)) ∈ lw_all := lw_g (lw_at lw_m3 213 rfl) rfl
theorem q904 : (Jvm.Cond.selects "PaidSecrets$Town" ({ cls := "java/lang/Object", name := "getClass", desc := "()Ljava/lang/Class;" } : Jvm.MethodName) ({ cls := "java/lang/Object", name := "getClass", desc := "()Ljava/lang/Class;" } : Jvm.MethodName)) ∈ lw_all := lw_g (lw_at lw_m4 56 rfl) rfl
theorem q1034 : (Jvm.Cond.fieldLink "PaidSecrets$Town" (88 : Nat) "PaidSecrets$Secret" "cost" "I") ∈ lw_all := lw_g (lw_at lw_m4 186 rfl) rfl
theorem q1061 : (Jvm.Cond.instanceMethod ({ cls := "PaidSecrets$Town", name := "ear", desc := "(II)I" } : Jvm.MethodName)) ∈ lw_all := lw_g (lw_at lw_m4 213 rfl) rfl
theorem q1062 : (Jvm.Cond.selects "PaidSecrets$Town" ({ cls := "PaidSecrets$Town", name := "ear", desc := "(II)I" } : Jvm.MethodName) ({ cls := "PaidSecrets$Town", name := "ear", desc := "(II)I" } : Jvm.MethodName)) ∈ lw_all := lw_g (lw_at lw_m4 214 rfl) rfl
theorem q1063 : (Jvm.Cond.code ({ cls := "PaidSecrets$Town", name := "ear", desc := "(II)I" } : Jvm.MethodName) prog_33_method_3_code (4 : Nat) (Option.some Jvm.ClassFile.FieldType.int)) ∈ lw_all := lw_g (lw_at lw_m4 215 rfl) rfl
theorem q1064 : (Jvm.Cond.classLink "PaidSecrets$Town" (58 : Nat) "[I") ∈ lw_all := lw_g (lw_at lw_m4 216 rfl) rfl
theorem q1065 : (Jvm.Cond.methodLink "PaidSecrets$Town" (60 : Nat) ({ cls := "PaidSecrets$Town", name := "chance", desc := "(I)I" } : Jvm.MethodName)) ∈ lw_all := lw_g (lw_at lw_m4 217 rfl) rfl
theorem q1066 : (Jvm.Cond.instanceMethod ({ cls := "PaidSecrets$Town", name := "chance", desc := "(I)I" } : Jvm.MethodName)) ∈ lw_all := lw_g (lw_at lw_m4 218 rfl) rfl
theorem q1067 : (Jvm.Cond.selects "PaidSecrets$Town" ({ cls := "PaidSecrets$Town", name := "chance", desc := "(I)I" } : Jvm.MethodName) ({ cls := "PaidSecrets$Town", name := "chance", desc := "(I)I" } : Jvm.MethodName)) ∈ lw_all := lw_g (lw_at lw_m4 219 rfl) rfl
theorem q1068 : (Jvm.Cond.code ({ cls := "PaidSecrets$Town", name := "chance", desc := "(I)I" } : Jvm.MethodName) prog_33_method_4_code (2 : Nat) (Option.some Jvm.ClassFile.FieldType.int)) ∈ lw_all := lw_g (lw_at lw_m4 220 rfl) rfl
theorem q1069 : (Jvm.Cond.classLink "PaidSecrets$Town" (64 : Nat) "PaidSecrets$Person") ∈ lw_all := lw_g (lw_at lw_m4 221 rfl) rfl
theorem q1070 : (Jvm.Cond.methodLink "PaidSecrets$Town" (66 : Nat) ({ cls := "PaidSecrets$Person", name := "more", desc := "()I" } : Jvm.MethodName)) ∈ lw_all := lw_g (lw_at lw_m4 222 rfl) rfl
theorem q1080 : (Jvm.Cond.methodLink "PaidSecrets$Town" (69 : Nat) ({ cls := "java/lang/Math", name := "min", desc := "(II)I" } : Jvm.MethodName)) ∈ lw_all := lw_g (lw_at lw_m4 232 rfl) rfl
theorem q1331 : (Jvm.Cond.instanceMethod ({ cls := "PaidSecrets$Town", name := "knowers", desc := "(I)I" } : Jvm.MethodName)) ∈ lw_all := lw_g (lw_at lw_m6 3 rfl) rfl
theorem q1332 : (Jvm.Cond.selects "PaidSecrets$Town" ({ cls := "PaidSecrets$Town", name := "knowers", desc := "(I)I" } : Jvm.MethodName) ({ cls := "PaidSecrets$Town", name := "knowers", desc := "(I)I" } : Jvm.MethodName)) ∈ lw_all := lw_g (lw_at lw_m6 4 rfl) rfl
theorem q1333 : (Jvm.Cond.code ({ cls := "PaidSecrets$Town", name := "knowers", desc := "(I)I" } : Jvm.MethodName) prog_33_method_5_code (4 : Nat) (Option.some Jvm.ClassFile.FieldType.int)) ∈ lw_all := lw_g (lw_at lw_m6 5 rfl) rfl
theorem q1334 : (Jvm.Cond.methodLinkNest "PaidSecrets$Town" (75 : Nat) ({ cls := "PaidSecrets", name := "has", desc := "(II)Z" } : Jvm.MethodName) "PaidSecrets") ∈ lw_tbl := lw_at lw_m6 6 rfl
theorem q1335 : (Jvm.Cond.methodLink "PaidSecrets$Town" (79 : Nat) ({ cls := "PaidSecrets$Person", name := "counts", desc := "()Z" } : Jvm.MethodName)) ∈ lw_all := lw_g (lw_at lw_m6 7 rfl) rfl
theorem q1359 : (Jvm.Cond.instanceMethod ({ cls := "PaidSecrets$Town", name := "bare", desc := "(IIII)I" } : Jvm.MethodName)) ∈ lw_all := lw_g (lw_at lw_m6 31 rfl) rfl
theorem q1360 : (Jvm.Cond.selects "PaidSecrets$Town" ({ cls := "PaidSecrets$Town", name := "bare", desc := "(IIII)I" } : Jvm.MethodName) ({ cls := "PaidSecrets$Town", name := "bare", desc := "(IIII)I" } : Jvm.MethodName)) ∈ lw_all := lw_g (lw_at lw_m6 32 rfl) rfl
theorem q1361 : (Jvm.Cond.code ({ cls := "PaidSecrets$Town", name := "bare", desc := "(IIII)I" } : Jvm.MethodName) prog_33_method_6_code (7 : Nat) (Option.some Jvm.ClassFile.FieldType.int)) ∈ lw_all := lw_g (lw_at lw_m6 33 rfl) rfl
theorem q1362 : (Jvm.Cond.methodLink "PaidSecrets$Town" (83 : Nat) ({ cls := "PaidSecrets$Town", name := "knowers", desc := "(I)I" } : Jvm.MethodName)) ∈ lw_all := lw_g (lw_at lw_m6 34 rfl) rfl
theorem q1363 : (Jvm.Cond.classLink "PaidSecrets$Town" (86 : Nat) "PaidSecrets$Secret") ∈ lw_all := lw_g (lw_at lw_m6 35 rfl) rfl
theorem q1364 : (Jvm.Cond.methodLink "PaidSecrets$Town" (96 : Nat) ({ cls := "java/lang/Math", name := "max", desc := "(II)I" } : Jvm.MethodName)) ∈ lw_all := lw_g (lw_at lw_m6 36 rfl) rfl
theorem q1365 : (Jvm.Cond.methodLink "PaidSecrets$Town" (102 : Nat) ({ cls := "PaidSecrets$Expression", name := "of", desc := "(LPaidSecrets$Facts;)I" } : Jvm.MethodName)) ∈ lw_all := lw_g (lw_at lw_m6 37 rfl) rfl
theorem q2536 : (Jvm.Cond.castable "PaidSecrets$Town" "java/lang/Object") ∈ lw_tbl := lw_at lw_m11 8 rfl
theorem in_X4 : ∀ w ∈ wsX40, w ∈ lw_all := lw_in wsX40 [390, 392, 394, 396, 398, 400, 402, 404] (by decide +kernel) (by decide +kernel)
/-! PaidSecrets$Facts -/
set_option maxRecDepth 100000
def RX5 : String := "PaidSecrets$Facts"
def TX5 : u_T := fun k => match k with
  | _ => ("PaidSecrets$Facts", "of", "[I", true)
def tyX5 : Nat → FieldType := fun k => match k with
  | _ => .array .int
abbrev wsX50 : List Cond := u_ws RX5 TX5 1
theorem nmX5 : ∀ a, a < 1 → ∀ b, b < 1 → a ≠ b → (TX5 a).2.1 ≠ (TX5 b).2.1 := by decide +kernel
theorem tyX5_ok : ∀ k, k < 1 → parseFieldDescriptor (TX5 k).2.2.1 = some (tyX5 k) := by decide +kernel
abbrev cX5_init : ByteArray := prog_6_method_1_code
def yX5_init : MethodName := ⟨RX5, "<init>", "()V"⟩
def dkwX5_init_0 : List UInt8 := [42, 183, 0, 1, 42, 7, 188, 10, 181, 0, 9, 177]
abbrev dktX5_init_0 : List UInt8 := dkwX5_init_0 ++ []
theorem dksX5_init_0 : cX5_init.data.toList.drop 0 = dktX5_init_0 := by decide +kernel
theorem dX5_init_0 : decode cX5_init 0 = .ok (.aload_n 0, 1) := dk_42 (dk_at dksX5_init_0 0 rfl rfl)
theorem dX5_init_1 : decode cX5_init 1 = .ok (.invokespecial 1, 3) := dk_183 0 1 (dk_at dksX5_init_0 1 rfl rfl)
theorem dX5_init_4 : decode cX5_init 4 = .ok (.aload_n 0, 1) := dk_42 (dk_at dksX5_init_0 4 rfl rfl)
theorem dX5_init_5 : decode cX5_init 5 = .ok (.iconst 4, 1) := dk_7 (dk_at dksX5_init_0 5 rfl rfl)
theorem dX5_init_6 : decode cX5_init 6 = .ok (.newarray .int, 2) := dk_188_10 (dk_at dksX5_init_0 6 rfl rfl)
theorem dX5_init_8 : decode cX5_init 8 = .ok (.putfield 9, 3) := dk_181 0 9 (dk_at dksX5_init_0 8 rfl rfl)
theorem dX5_init_11 : decode cX5_init 11 = .ok (.return_, 1) := dk_177 (dk_at dksX5_init_0 11 rfl rfl)
theorem q136 : (Jvm.Cond.initialized "PaidSecrets$Facts") ∈ lw_all := lw_g (lw_at lw_m1 8 rfl) rfl
theorem q357 : (Jvm.Cond.instantiable "PaidSecrets$Facts" (1 : Nat)) ∈ lw_all := lw_g (lw_at lw_m1 229 rfl) rfl
theorem q359 : (Jvm.Cond.instanceMethod ({ cls := "PaidSecrets$Facts", name := "<init>", desc := "()V" } : Jvm.MethodName)) ∈ lw_all := lw_g (lw_at lw_m1 231 rfl) rfl
theorem q360 : (Jvm.Cond.code ({ cls := "PaidSecrets$Facts", name := "<init>", desc := "()V" } : Jvm.MethodName) prog_6_method_1_code (1 : Nat) (Option.none : Option Jvm.ClassFile.FieldType)) ∈ lw_all := lw_g (lw_at lw_m1 232 rfl) rfl
theorem q361 : (Jvm.Cond.methodLink "PaidSecrets$Facts" (1 : Nat) ({ cls := "java/lang/Object", name := "<init>", desc := "()V" } : Jvm.MethodName)) ∈ lw_all := lw_g (lw_at lw_m1 233 rfl) rfl
theorem q362 : (Jvm.Cond.fieldLink "PaidSecrets$Facts" (9 : Nat) "PaidSecrets$Facts" "of" "[I") ∈ lw_all := lw_g (lw_at lw_m1 234 rfl) rfl
theorem q365 : (Jvm.Cond.laysFinal "PaidSecrets$Facts" "PaidSecrets$Facts" "of" "[I") ∈ lw_all := lw_g (lw_at lw_m1 237 rfl) rfl
theorem q366 : (Jvm.Cond.soleField "PaidSecrets$Facts" "of") ∈ lw_all := lw_g (lw_at lw_m1 238 rfl) rfl
theorem q367 : (Jvm.Cond.superclass "PaidSecrets$Facts" "java/lang/Object") ∈ lw_all := lw_g (lw_at lw_m1 239 rfl) rfl
theorem q879 : (Jvm.Cond.selects "PaidSecrets$Facts" ({ cls := "java/lang/Object", name := "getClass", desc := "()Ljava/lang/Class;" } : Jvm.MethodName) ({ cls := "java/lang/Object", name := "getClass", desc := "()Ljava/lang/Class;" } : Jvm.MethodName)) ∈ lw_all := lw_g (lw_at lw_m4 31 rfl) rfl
theorem q2538 : (Jvm.Cond.castable "PaidSecrets$Facts" "java/lang/Object") ∈ lw_tbl := lw_at lw_m11 10 rfl
theorem in_X5 : ∀ w ∈ wsX50, w ∈ lw_all := lw_in wsX50 [365] (by decide +kernel) (by decide +kernel)
/-! PaidSecrets$Payers -/
set_option maxRecDepth 100000
def RX6 : String := "PaidSecrets$Payers"
def TX6 : u_T := fun k => match k with
  | 0 => ("PaidSecrets$Payers", "now0", "[Z", true)
  | 1 => ("PaidSecrets$Payers", "next", "[Z", true)
  | 2 => ("PaidSecrets$Payers", "worths", "[I", true)
  | _ => ("PaidSecrets$Payers", "this$0", "LPaidSecrets;", true)
def tyX6 : Nat → FieldType := fun k => match k with
  | 0 => .array .boolean
  | 1 => .array .boolean
  | 2 => .array .int
  | _ => .object "PaidSecrets"
abbrev wsX60 : List Cond := u_ws RX6 TX6 4
theorem nmX6 : ∀ a, a < 4 → ∀ b, b < 4 → a ≠ b → (TX6 a).2.1 ≠ (TX6 b).2.1 := by decide +kernel
theorem tyX6_ok : ∀ k, k < 4 → parseFieldDescriptor (TX6 k).2.2.1 = some (tyX6 k) := by decide +kernel
abbrev cX6_init : ByteArray := prog_17_method_1_code
def yX6_init : MethodName := ⟨RX6, "<init>", "(LPaidSecrets;)V"⟩
def dkwX6_init_1 : List UInt8 := [181, 0, 19, 42, 17, 4, 0, 188, 10, 181, 0, 22, 177]
abbrev dktX6_init_1 : List UInt8 := dkwX6_init_1 ++ []
def dkwX6_init_0 : List UInt8 := [42, 43, 181, 0, 3, 42, 183, 0, 9, 42, 17, 4, 0, 188, 4, 181, 0, 15, 42, 17, 4, 0, 188, 4]
abbrev dktX6_init_0 : List UInt8 := dkwX6_init_0 ++ dktX6_init_1
theorem dksX6_init_0 : cX6_init.data.toList.drop 0 = dktX6_init_0 := by decide +kernel
theorem dksX6_init_1 : cX6_init.data.toList.drop 24 = dktX6_init_1 := dk_seg dksX6_init_0 24 rfl rfl
theorem dX6_init_0 : decode cX6_init 0 = .ok (.aload_n 0, 1) := dk_42 (dk_at dksX6_init_0 0 rfl rfl)
theorem dX6_init_1 : decode cX6_init 1 = .ok (.aload_n 1, 1) := dk_43 (dk_at dksX6_init_0 1 rfl rfl)
theorem dX6_init_2 : decode cX6_init 2 = .ok (.putfield 3, 3) := dk_181 0 3 (dk_at dksX6_init_0 2 rfl rfl)
theorem dX6_init_5 : decode cX6_init 5 = .ok (.aload_n 0, 1) := dk_42 (dk_at dksX6_init_0 5 rfl rfl)
theorem dX6_init_6 : decode cX6_init 6 = .ok (.invokespecial 9, 3) := dk_183 0 9 (dk_at dksX6_init_0 6 rfl rfl)
theorem dX6_init_9 : decode cX6_init 9 = .ok (.aload_n 0, 1) := dk_42 (dk_at dksX6_init_0 9 rfl rfl)
theorem dX6_init_10 : decode cX6_init 10 = .ok (.sipush 1024, 3) := dk_17 4 0 (dk_at dksX6_init_0 10 rfl rfl)
theorem dX6_init_13 : decode cX6_init 13 = .ok (.newarray .boolean, 2) := dk_188_4 (dk_at dksX6_init_0 13 rfl rfl)
theorem dX6_init_15 : decode cX6_init 15 = .ok (.putfield 15, 3) := dk_181 0 15 (dk_at dksX6_init_0 15 rfl rfl)
theorem dX6_init_18 : decode cX6_init 18 = .ok (.aload_n 0, 1) := dk_42 (dk_at dksX6_init_0 18 rfl rfl)
theorem dX6_init_19 : decode cX6_init 19 = .ok (.sipush 1024, 3) := dk_17 4 0 (dk_at dksX6_init_0 19 rfl rfl)
theorem dX6_init_22 : decode cX6_init 22 = .ok (.newarray .boolean, 2) := dk_188_4 (dk_at dksX6_init_0 22 rfl rfl)
theorem dX6_init_24 : decode cX6_init 24 = .ok (.putfield 19, 3) := dk_181 0 19 (dk_at dksX6_init_1 0 rfl rfl)
theorem dX6_init_27 : decode cX6_init 27 = .ok (.aload_n 0, 1) := dk_42 (dk_at dksX6_init_1 3 rfl rfl)
theorem dX6_init_28 : decode cX6_init 28 = .ok (.sipush 1024, 3) := dk_17 4 0 (dk_at dksX6_init_1 4 rfl rfl)
theorem dX6_init_31 : decode cX6_init 31 = .ok (.newarray .int, 2) := dk_188_10 (dk_at dksX6_init_1 7 rfl rfl)
theorem dX6_init_33 : decode cX6_init 33 = .ok (.putfield 22, 3) := dk_181 0 22 (dk_at dksX6_init_1 9 rfl rfl)
theorem dX6_init_36 : decode cX6_init 36 = .ok (.return_, 1) := dk_177 (dk_at dksX6_init_1 12 rfl rfl)
abbrev cX6_lays : ByteArray := prog_17_method_2_code
def yX6_lays : MethodName := ⟨RX6, "lays", "()V"⟩
def dkwX6_lays_1 : List UInt8 := [180, 0, 30, 27, 182, 0, 34, 79, 132, 1, 1, 167, 255, 225, 177]
abbrev dktX6_lays_1 : List UInt8 := dkwX6_lays_1 ++ []
def dkwX6_lays_0 : List UInt8 := [3, 60, 27, 42, 180, 0, 3, 182, 0, 26, 163, 0, 26, 42, 180, 0, 22, 27, 42, 180, 0, 3]
abbrev dktX6_lays_0 : List UInt8 := dkwX6_lays_0 ++ dktX6_lays_1
theorem dksX6_lays_0 : cX6_lays.data.toList.drop 0 = dktX6_lays_0 := by decide +kernel
theorem dksX6_lays_1 : cX6_lays.data.toList.drop 22 = dktX6_lays_1 := dk_seg dksX6_lays_0 22 rfl rfl
theorem dX6_lays_0 : decode cX6_lays 0 = .ok (.iconst 0, 1) := dk_3 (dk_at dksX6_lays_0 0 rfl rfl)
theorem dX6_lays_1 : decode cX6_lays 1 = .ok (.istore_n 1, 1) := dk_60 (dk_at dksX6_lays_0 1 rfl rfl)
theorem dX6_lays_2 : decode cX6_lays 2 = .ok (.iload_n 1, 1) := dk_27 (dk_at dksX6_lays_0 2 rfl rfl)
theorem dX6_lays_3 : decode cX6_lays 3 = .ok (.aload_n 0, 1) := dk_42 (dk_at dksX6_lays_0 3 rfl rfl)
theorem dX6_lays_4 : decode cX6_lays 4 = .ok (.getfield 3, 3) := dk_180 0 3 (dk_at dksX6_lays_0 4 rfl rfl)
theorem dX6_lays_7 : decode cX6_lays 7 = .ok (.invokevirtual 26, 3) := dk_182 0 26 (dk_at dksX6_lays_0 7 rfl rfl)
theorem dX6_lays_10 : decode cX6_lays 10 = .ok (.if_icmp .gt 26, 3) := dk_163 0 26 (dk_at dksX6_lays_0 10 rfl rfl)
theorem dX6_lays_13 : decode cX6_lays 13 = .ok (.aload_n 0, 1) := dk_42 (dk_at dksX6_lays_0 13 rfl rfl)
theorem dX6_lays_14 : decode cX6_lays 14 = .ok (.getfield 22, 3) := dk_180 0 22 (dk_at dksX6_lays_0 14 rfl rfl)
theorem dX6_lays_17 : decode cX6_lays 17 = .ok (.iload_n 1, 1) := dk_27 (dk_at dksX6_lays_0 17 rfl rfl)
theorem dX6_lays_18 : decode cX6_lays 18 = .ok (.aload_n 0, 1) := dk_42 (dk_at dksX6_lays_0 18 rfl rfl)
theorem dX6_lays_19 : decode cX6_lays 19 = .ok (.getfield 3, 3) := dk_180 0 3 (dk_at dksX6_lays_0 19 rfl rfl)
theorem dX6_lays_22 : decode cX6_lays 22 = .ok (.getfield 30, 3) := dk_180 0 30 (dk_at dksX6_lays_1 0 rfl rfl)
theorem dX6_lays_25 : decode cX6_lays 25 = .ok (.iload_n 1, 1) := dk_27 (dk_at dksX6_lays_1 3 rfl rfl)
theorem dX6_lays_26 : decode cX6_lays 26 = .ok (.invokevirtual 34, 3) := dk_182 0 34 (dk_at dksX6_lays_1 4 rfl rfl)
theorem dX6_lays_29 : decode cX6_lays 29 = .ok (.iastore, 1) := dk_79 (dk_at dksX6_lays_1 7 rfl rfl)
theorem dX6_lays_30 : decode cX6_lays 30 = .ok (.iinc 1 1, 3) := dk_132 1 1 (dk_at dksX6_lays_1 8 rfl rfl)
theorem dX6_lays_33 : decode cX6_lays 33 = .ok (.goto (-31), 3) := dk_167 255 225 (dk_at dksX6_lays_1 11 rfl rfl)
theorem dX6_lays_36 : decode cX6_lays 36 = .ok (.return_, 1) := dk_177 (dk_at dksX6_lays_1 14 rfl rfl)
abbrev cX6_can : ByteArray := prog_17_method_3_code
def yX6_can : MethodName := ⟨RX6, "can", "(I)Z"⟩
def dkwX6_can_3 : List UInt8 := [4, 172]
abbrev dktX6_can_3 : List UInt8 := dkwX6_can_3 ++ []
def dkwX6_can_2 : List UInt8 := [27, 28, 184, 0, 42, 153, 0, 13, 42, 28, 182, 0, 46, 154, 0, 5, 3, 172, 132, 2, 1, 167, 255, 224]
abbrev dktX6_can_2 : List UInt8 := dkwX6_can_2 ++ dktX6_can_3
def dkwX6_can_1 : List UInt8 := [167, 0, 4, 3, 84, 132, 2, 1, 167, 255, 227, 3, 61, 28, 42, 180, 0, 3, 182, 0, 39, 162, 0, 27]
abbrev dktX6_can_1 : List UInt8 := dkwX6_can_1 ++ dktX6_can_2
def dkwX6_can_0 : List UInt8 := [3, 61, 28, 42, 180, 0, 3, 182, 0, 26, 163, 0, 24, 42, 180, 0, 15, 28, 28, 154, 0, 7, 4]
abbrev dktX6_can_0 : List UInt8 := dkwX6_can_0 ++ dktX6_can_1
theorem dksX6_can_0 : cX6_can.data.toList.drop 0 = dktX6_can_0 := by decide +kernel
theorem dksX6_can_1 : cX6_can.data.toList.drop 23 = dktX6_can_1 := dk_seg dksX6_can_0 23 rfl rfl
theorem dksX6_can_2 : cX6_can.data.toList.drop 47 = dktX6_can_2 := dk_seg dksX6_can_1 24 rfl rfl
theorem dksX6_can_3 : cX6_can.data.toList.drop 71 = dktX6_can_3 := dk_seg dksX6_can_2 24 rfl rfl
theorem dX6_can_0 : decode cX6_can 0 = .ok (.iconst 0, 1) := dk_3 (dk_at dksX6_can_0 0 rfl rfl)
theorem dX6_can_1 : decode cX6_can 1 = .ok (.istore_n 2, 1) := dk_61 (dk_at dksX6_can_0 1 rfl rfl)
theorem dX6_can_2 : decode cX6_can 2 = .ok (.iload_n 2, 1) := dk_28 (dk_at dksX6_can_0 2 rfl rfl)
theorem dX6_can_3 : decode cX6_can 3 = .ok (.aload_n 0, 1) := dk_42 (dk_at dksX6_can_0 3 rfl rfl)
theorem dX6_can_4 : decode cX6_can 4 = .ok (.getfield 3, 3) := dk_180 0 3 (dk_at dksX6_can_0 4 rfl rfl)
theorem dX6_can_7 : decode cX6_can 7 = .ok (.invokevirtual 26, 3) := dk_182 0 26 (dk_at dksX6_can_0 7 rfl rfl)
theorem dX6_can_10 : decode cX6_can 10 = .ok (.if_icmp .gt 24, 3) := dk_163 0 24 (dk_at dksX6_can_0 10 rfl rfl)
theorem dX6_can_13 : decode cX6_can 13 = .ok (.aload_n 0, 1) := dk_42 (dk_at dksX6_can_0 13 rfl rfl)
theorem dX6_can_14 : decode cX6_can 14 = .ok (.getfield 15, 3) := dk_180 0 15 (dk_at dksX6_can_0 14 rfl rfl)
theorem dX6_can_17 : decode cX6_can 17 = .ok (.iload_n 2, 1) := dk_28 (dk_at dksX6_can_0 17 rfl rfl)
theorem dX6_can_18 : decode cX6_can 18 = .ok (.iload_n 2, 1) := dk_28 (dk_at dksX6_can_0 18 rfl rfl)
theorem dX6_can_19 : decode cX6_can 19 = .ok (.ifCond .ne 7, 3) := dk_154 0 7 (dk_at dksX6_can_0 19 rfl rfl)
theorem dX6_can_22 : decode cX6_can 22 = .ok (.iconst 1, 1) := dk_4 (dk_at dksX6_can_0 22 rfl rfl)
theorem dX6_can_23 : decode cX6_can 23 = .ok (.goto 4, 3) := dk_167 0 4 (dk_at dksX6_can_1 0 rfl rfl)
theorem dX6_can_26 : decode cX6_can 26 = .ok (.iconst 0, 1) := dk_3 (dk_at dksX6_can_1 3 rfl rfl)
theorem dX6_can_27 : decode cX6_can 27 = .ok (.bastore, 1) := dk_84 (dk_at dksX6_can_1 4 rfl rfl)
theorem dX6_can_28 : decode cX6_can 28 = .ok (.iinc 2 1, 3) := dk_132 2 1 (dk_at dksX6_can_1 5 rfl rfl)
theorem dX6_can_31 : decode cX6_can 31 = .ok (.goto (-29), 3) := dk_167 255 227 (dk_at dksX6_can_1 8 rfl rfl)
theorem dX6_can_34 : decode cX6_can 34 = .ok (.iconst 0, 1) := dk_3 (dk_at dksX6_can_1 11 rfl rfl)
theorem dX6_can_35 : decode cX6_can 35 = .ok (.istore_n 2, 1) := dk_61 (dk_at dksX6_can_1 12 rfl rfl)
theorem dX6_can_36 : decode cX6_can 36 = .ok (.iload_n 2, 1) := dk_28 (dk_at dksX6_can_1 13 rfl rfl)
theorem dX6_can_37 : decode cX6_can 37 = .ok (.aload_n 0, 1) := dk_42 (dk_at dksX6_can_1 14 rfl rfl)
theorem dX6_can_38 : decode cX6_can 38 = .ok (.getfield 3, 3) := dk_180 0 3 (dk_at dksX6_can_1 15 rfl rfl)
theorem dX6_can_41 : decode cX6_can 41 = .ok (.invokevirtual 39, 3) := dk_182 0 39 (dk_at dksX6_can_1 18 rfl rfl)
theorem dX6_can_44 : decode cX6_can 44 = .ok (.if_icmp .ge 27, 3) := dk_162 0 27 (dk_at dksX6_can_1 21 rfl rfl)
theorem dX6_can_47 : decode cX6_can 47 = .ok (.iload_n 1, 1) := dk_27 (dk_at dksX6_can_2 0 rfl rfl)
theorem dX6_can_48 : decode cX6_can 48 = .ok (.iload_n 2, 1) := dk_28 (dk_at dksX6_can_2 1 rfl rfl)
theorem dX6_can_49 : decode cX6_can 49 = .ok (.invokestatic 42, 3) := dk_184 0 42 (dk_at dksX6_can_2 2 rfl rfl)
theorem dX6_can_52 : decode cX6_can 52 = .ok (.ifCond .eq 13, 3) := dk_153 0 13 (dk_at dksX6_can_2 5 rfl rfl)
theorem dX6_can_55 : decode cX6_can 55 = .ok (.aload_n 0, 1) := dk_42 (dk_at dksX6_can_2 8 rfl rfl)
theorem dX6_can_56 : decode cX6_can 56 = .ok (.iload_n 2, 1) := dk_28 (dk_at dksX6_can_2 9 rfl rfl)
theorem dX6_can_57 : decode cX6_can 57 = .ok (.invokevirtual 46, 3) := dk_182 0 46 (dk_at dksX6_can_2 10 rfl rfl)
theorem dX6_can_60 : decode cX6_can 60 = .ok (.ifCond .ne 5, 3) := dk_154 0 5 (dk_at dksX6_can_2 13 rfl rfl)
theorem dX6_can_63 : decode cX6_can 63 = .ok (.iconst 0, 1) := dk_3 (dk_at dksX6_can_2 16 rfl rfl)
theorem dX6_can_64 : decode cX6_can 64 = .ok (.ireturn, 1) := dk_172 (dk_at dksX6_can_2 17 rfl rfl)
theorem dX6_can_65 : decode cX6_can 65 = .ok (.iinc 2 1, 3) := dk_132 2 1 (dk_at dksX6_can_2 18 rfl rfl)
theorem dX6_can_68 : decode cX6_can 68 = .ok (.goto (-32), 3) := dk_167 255 224 (dk_at dksX6_can_2 21 rfl rfl)
theorem dX6_can_71 : decode cX6_can 71 = .ok (.iconst 1, 1) := dk_4 (dk_at dksX6_can_3 0 rfl rfl)
theorem dX6_can_72 : decode cX6_can 72 = .ok (.ireturn, 1) := dk_172 (dk_at dksX6_can_3 1 rfl rfl)
abbrev cX6_pays : ByteArray := prog_17_method_4_code
def yX6_pays : MethodName := ⟨RX6, "pays", "(I)Z"⟩
def dkwX6_pays_8 : List UInt8 := [96, 184, 0, 77, 21, 4, 172]
abbrev dktX6_pays_8 : List UInt8 := dkwX6_pays_8 ++ []
def dkwX6_pays_7 : List UInt8 := [132, 5, 1, 167, 255, 171, 42, 180, 0, 19, 3, 42, 180, 0, 15, 3, 42, 180, 0, 3, 182, 0, 26, 4]
abbrev dktX6_pays_7 : List UInt8 := dkwX6_pays_7 ++ dktX6_pays_8
def dkwX6_pays_6 : List UInt8 := [21, 5, 21, 7, 128, 4, 84, 4, 54, 4, 21, 7, 4, 100, 21, 6, 126, 54, 7, 167, 255, 214]
abbrev dktX6_pays_6 : List UInt8 := dkwX6_pays_6 ++ dktX6_pays_7
def dkwX6_pays_5 : List UInt8 := [21, 7, 158, 0, 43, 42, 180, 0, 22, 21, 7, 46, 28, 162, 0, 6, 167, 0, 17, 42, 180, 0, 19]
abbrev dktX6_pays_5 : List UInt8 := dkwX6_pays_5 ++ dktX6_pays_6
def dkwX6_pays_4 : List UInt8 := [180, 0, 15, 21, 5, 51, 154, 0, 6, 167, 0, 60, 29, 21, 5, 2, 130, 126, 54, 6, 21, 6, 54, 7]
abbrev dktX6_pays_4 : List UInt8 := dkwX6_pays_4 ++ dktX6_pays_5
def dkwX6_pays_3 : List UInt8 := [3, 84, 132, 5, 1, 167, 255, 233, 3, 54, 5, 21, 5, 42, 180, 0, 3, 182, 0, 26, 163, 0, 79, 42]
abbrev dktX6_pays_3 : List UInt8 := dkwX6_pays_3 ++ dktX6_pays_4
def dkwX6_pays_2 : List UInt8 := [3, 54, 4, 3, 54, 5, 21, 5, 42, 180, 0, 3, 182, 0, 26, 163, 0, 17, 42, 180, 0, 19, 21, 5]
abbrev dktX6_pays_2 : List UInt8 := dkwX6_pays_2 ++ dktX6_pays_3
def dkwX6_pays_1 : List UInt8 := [180, 0, 3, 180, 0, 30, 27, 182, 0, 71, 42, 180, 0, 3, 180, 0, 30, 180, 0, 74, 2, 130, 126, 62]
abbrev dktX6_pays_1 : List UInt8 := dkwX6_pays_1 ++ dktX6_pays_2
def dkwX6_pays_0 : List UInt8 := [42, 180, 0, 3, 182, 0, 50, 180, 0, 54, 27, 182, 0, 59, 192, 0, 65, 180, 0, 67, 61, 42]
abbrev dktX6_pays_0 : List UInt8 := dkwX6_pays_0 ++ dktX6_pays_1
theorem dksX6_pays_0 : cX6_pays.data.toList.drop 0 = dktX6_pays_0 := by decide +kernel
theorem dksX6_pays_1 : cX6_pays.data.toList.drop 22 = dktX6_pays_1 := dk_seg dksX6_pays_0 22 rfl rfl
theorem dksX6_pays_2 : cX6_pays.data.toList.drop 46 = dktX6_pays_2 := dk_seg dksX6_pays_1 24 rfl rfl
theorem dksX6_pays_3 : cX6_pays.data.toList.drop 70 = dktX6_pays_3 := dk_seg dksX6_pays_2 24 rfl rfl
theorem dksX6_pays_4 : cX6_pays.data.toList.drop 94 = dktX6_pays_4 := dk_seg dksX6_pays_3 24 rfl rfl
theorem dksX6_pays_5 : cX6_pays.data.toList.drop 118 = dktX6_pays_5 := dk_seg dksX6_pays_4 24 rfl rfl
theorem dksX6_pays_6 : cX6_pays.data.toList.drop 141 = dktX6_pays_6 := dk_seg dksX6_pays_5 23 rfl rfl
theorem dksX6_pays_7 : cX6_pays.data.toList.drop 163 = dktX6_pays_7 := dk_seg dksX6_pays_6 22 rfl rfl
theorem dksX6_pays_8 : cX6_pays.data.toList.drop 187 = dktX6_pays_8 := dk_seg dksX6_pays_7 24 rfl rfl
theorem dX6_pays_0 : decode cX6_pays 0 = .ok (.aload_n 0, 1) := dk_42 (dk_at dksX6_pays_0 0 rfl rfl)
theorem dX6_pays_1 : decode cX6_pays 1 = .ok (.getfield 3, 3) := dk_180 0 3 (dk_at dksX6_pays_0 1 rfl rfl)
theorem dX6_pays_4 : decode cX6_pays 4 = .ok (.invokevirtual 50, 3) := dk_182 0 50 (dk_at dksX6_pays_0 4 rfl rfl)
theorem dX6_pays_7 : decode cX6_pays 7 = .ok (.getfield 54, 3) := dk_180 0 54 (dk_at dksX6_pays_0 7 rfl rfl)
theorem dX6_pays_10 : decode cX6_pays 10 = .ok (.iload_n 1, 1) := dk_27 (dk_at dksX6_pays_0 10 rfl rfl)
theorem dX6_pays_11 : decode cX6_pays 11 = .ok (.invokevirtual 59, 3) := dk_182 0 59 (dk_at dksX6_pays_0 11 rfl rfl)
theorem dX6_pays_14 : decode cX6_pays 14 = .ok (.checkcast 65, 3) := dk_192 0 65 (dk_at dksX6_pays_0 14 rfl rfl)
theorem dX6_pays_17 : decode cX6_pays 17 = .ok (.getfield 67, 3) := dk_180 0 67 (dk_at dksX6_pays_0 17 rfl rfl)
theorem dX6_pays_20 : decode cX6_pays 20 = .ok (.istore_n 2, 1) := dk_61 (dk_at dksX6_pays_0 20 rfl rfl)
theorem dX6_pays_21 : decode cX6_pays 21 = .ok (.aload_n 0, 1) := dk_42 (dk_at dksX6_pays_0 21 rfl rfl)
theorem dX6_pays_22 : decode cX6_pays 22 = .ok (.getfield 3, 3) := dk_180 0 3 (dk_at dksX6_pays_1 0 rfl rfl)
theorem dX6_pays_25 : decode cX6_pays 25 = .ok (.getfield 30, 3) := dk_180 0 30 (dk_at dksX6_pays_1 3 rfl rfl)
theorem dX6_pays_28 : decode cX6_pays 28 = .ok (.iload_n 1, 1) := dk_27 (dk_at dksX6_pays_1 6 rfl rfl)
theorem dX6_pays_29 : decode cX6_pays 29 = .ok (.invokevirtual 71, 3) := dk_182 0 71 (dk_at dksX6_pays_1 7 rfl rfl)
theorem dX6_pays_32 : decode cX6_pays 32 = .ok (.aload_n 0, 1) := dk_42 (dk_at dksX6_pays_1 10 rfl rfl)
theorem dX6_pays_33 : decode cX6_pays 33 = .ok (.getfield 3, 3) := dk_180 0 3 (dk_at dksX6_pays_1 11 rfl rfl)
theorem dX6_pays_36 : decode cX6_pays 36 = .ok (.getfield 30, 3) := dk_180 0 30 (dk_at dksX6_pays_1 14 rfl rfl)
theorem dX6_pays_39 : decode cX6_pays 39 = .ok (.getfield 74, 3) := dk_180 0 74 (dk_at dksX6_pays_1 17 rfl rfl)
theorem dX6_pays_42 : decode cX6_pays 42 = .ok (.iconst (-1), 1) := dk_2 (dk_at dksX6_pays_1 20 rfl rfl)
theorem dX6_pays_43 : decode cX6_pays 43 = .ok (.ixor, 1) := dk_130 (dk_at dksX6_pays_1 21 rfl rfl)
theorem dX6_pays_44 : decode cX6_pays 44 = .ok (.iand, 1) := dk_126 (dk_at dksX6_pays_1 22 rfl rfl)
theorem dX6_pays_45 : decode cX6_pays 45 = .ok (.istore_n 3, 1) := dk_62 (dk_at dksX6_pays_1 23 rfl rfl)
theorem dX6_pays_46 : decode cX6_pays 46 = .ok (.iconst 0, 1) := dk_3 (dk_at dksX6_pays_2 0 rfl rfl)
theorem dX6_pays_47 : decode cX6_pays 47 = .ok (.istore 4, 2) := dk_54 4 (dk_at dksX6_pays_2 1 rfl rfl)
theorem dX6_pays_49 : decode cX6_pays 49 = .ok (.iconst 0, 1) := dk_3 (dk_at dksX6_pays_2 3 rfl rfl)
theorem dX6_pays_50 : decode cX6_pays 50 = .ok (.istore 5, 2) := dk_54 5 (dk_at dksX6_pays_2 4 rfl rfl)
theorem dX6_pays_52 : decode cX6_pays 52 = .ok (.iload 5, 2) := dk_21 5 (dk_at dksX6_pays_2 6 rfl rfl)
theorem dX6_pays_54 : decode cX6_pays 54 = .ok (.aload_n 0, 1) := dk_42 (dk_at dksX6_pays_2 8 rfl rfl)
theorem dX6_pays_55 : decode cX6_pays 55 = .ok (.getfield 3, 3) := dk_180 0 3 (dk_at dksX6_pays_2 9 rfl rfl)
theorem dX6_pays_58 : decode cX6_pays 58 = .ok (.invokevirtual 26, 3) := dk_182 0 26 (dk_at dksX6_pays_2 12 rfl rfl)
theorem dX6_pays_61 : decode cX6_pays 61 = .ok (.if_icmp .gt 17, 3) := dk_163 0 17 (dk_at dksX6_pays_2 15 rfl rfl)
theorem dX6_pays_64 : decode cX6_pays 64 = .ok (.aload_n 0, 1) := dk_42 (dk_at dksX6_pays_2 18 rfl rfl)
theorem dX6_pays_65 : decode cX6_pays 65 = .ok (.getfield 19, 3) := dk_180 0 19 (dk_at dksX6_pays_2 19 rfl rfl)
theorem dX6_pays_68 : decode cX6_pays 68 = .ok (.iload 5, 2) := dk_21 5 (dk_at dksX6_pays_2 22 rfl rfl)
theorem dX6_pays_70 : decode cX6_pays 70 = .ok (.iconst 0, 1) := dk_3 (dk_at dksX6_pays_3 0 rfl rfl)
theorem dX6_pays_71 : decode cX6_pays 71 = .ok (.bastore, 1) := dk_84 (dk_at dksX6_pays_3 1 rfl rfl)
theorem dX6_pays_72 : decode cX6_pays 72 = .ok (.iinc 5 1, 3) := dk_132 5 1 (dk_at dksX6_pays_3 2 rfl rfl)
theorem dX6_pays_75 : decode cX6_pays 75 = .ok (.goto (-23), 3) := dk_167 255 233 (dk_at dksX6_pays_3 5 rfl rfl)
theorem dX6_pays_78 : decode cX6_pays 78 = .ok (.iconst 0, 1) := dk_3 (dk_at dksX6_pays_3 8 rfl rfl)
theorem dX6_pays_79 : decode cX6_pays 79 = .ok (.istore 5, 2) := dk_54 5 (dk_at dksX6_pays_3 9 rfl rfl)
theorem dX6_pays_81 : decode cX6_pays 81 = .ok (.iload 5, 2) := dk_21 5 (dk_at dksX6_pays_3 11 rfl rfl)
theorem dX6_pays_83 : decode cX6_pays 83 = .ok (.aload_n 0, 1) := dk_42 (dk_at dksX6_pays_3 13 rfl rfl)
theorem dX6_pays_84 : decode cX6_pays 84 = .ok (.getfield 3, 3) := dk_180 0 3 (dk_at dksX6_pays_3 14 rfl rfl)
theorem dX6_pays_87 : decode cX6_pays 87 = .ok (.invokevirtual 26, 3) := dk_182 0 26 (dk_at dksX6_pays_3 17 rfl rfl)
theorem dX6_pays_90 : decode cX6_pays 90 = .ok (.if_icmp .gt 79, 3) := dk_163 0 79 (dk_at dksX6_pays_3 20 rfl rfl)
theorem dX6_pays_93 : decode cX6_pays 93 = .ok (.aload_n 0, 1) := dk_42 (dk_at dksX6_pays_3 23 rfl rfl)
theorem dX6_pays_94 : decode cX6_pays 94 = .ok (.getfield 15, 3) := dk_180 0 15 (dk_at dksX6_pays_4 0 rfl rfl)
theorem dX6_pays_97 : decode cX6_pays 97 = .ok (.iload 5, 2) := dk_21 5 (dk_at dksX6_pays_4 3 rfl rfl)
theorem dX6_pays_99 : decode cX6_pays 99 = .ok (.baload, 1) := dk_51 (dk_at dksX6_pays_4 5 rfl rfl)
theorem dX6_pays_100 : decode cX6_pays 100 = .ok (.ifCond .ne 6, 3) := dk_154 0 6 (dk_at dksX6_pays_4 6 rfl rfl)
theorem dX6_pays_103 : decode cX6_pays 103 = .ok (.goto 60, 3) := dk_167 0 60 (dk_at dksX6_pays_4 9 rfl rfl)
theorem dX6_pays_106 : decode cX6_pays 106 = .ok (.iload_n 3, 1) := dk_29 (dk_at dksX6_pays_4 12 rfl rfl)
theorem dX6_pays_107 : decode cX6_pays 107 = .ok (.iload 5, 2) := dk_21 5 (dk_at dksX6_pays_4 13 rfl rfl)
theorem dX6_pays_109 : decode cX6_pays 109 = .ok (.iconst (-1), 1) := dk_2 (dk_at dksX6_pays_4 15 rfl rfl)
theorem dX6_pays_110 : decode cX6_pays 110 = .ok (.ixor, 1) := dk_130 (dk_at dksX6_pays_4 16 rfl rfl)
theorem dX6_pays_111 : decode cX6_pays 111 = .ok (.iand, 1) := dk_126 (dk_at dksX6_pays_4 17 rfl rfl)
theorem dX6_pays_112 : decode cX6_pays 112 = .ok (.istore 6, 2) := dk_54 6 (dk_at dksX6_pays_4 18 rfl rfl)
theorem dX6_pays_114 : decode cX6_pays 114 = .ok (.iload 6, 2) := dk_21 6 (dk_at dksX6_pays_4 20 rfl rfl)
theorem dX6_pays_116 : decode cX6_pays 116 = .ok (.istore 7, 2) := dk_54 7 (dk_at dksX6_pays_4 22 rfl rfl)
theorem dX6_pays_118 : decode cX6_pays 118 = .ok (.iload 7, 2) := dk_21 7 (dk_at dksX6_pays_5 0 rfl rfl)
theorem dX6_pays_120 : decode cX6_pays 120 = .ok (.ifCond .le 43, 3) := dk_158 0 43 (dk_at dksX6_pays_5 2 rfl rfl)
theorem dX6_pays_123 : decode cX6_pays 123 = .ok (.aload_n 0, 1) := dk_42 (dk_at dksX6_pays_5 5 rfl rfl)
theorem dX6_pays_124 : decode cX6_pays 124 = .ok (.getfield 22, 3) := dk_180 0 22 (dk_at dksX6_pays_5 6 rfl rfl)
theorem dX6_pays_127 : decode cX6_pays 127 = .ok (.iload 7, 2) := dk_21 7 (dk_at dksX6_pays_5 9 rfl rfl)
theorem dX6_pays_129 : decode cX6_pays 129 = .ok (.iaload, 1) := dk_46 (dk_at dksX6_pays_5 11 rfl rfl)
theorem dX6_pays_130 : decode cX6_pays 130 = .ok (.iload_n 2, 1) := dk_28 (dk_at dksX6_pays_5 12 rfl rfl)
theorem dX6_pays_131 : decode cX6_pays 131 = .ok (.if_icmp .ge 6, 3) := dk_162 0 6 (dk_at dksX6_pays_5 13 rfl rfl)
theorem dX6_pays_134 : decode cX6_pays 134 = .ok (.goto 17, 3) := dk_167 0 17 (dk_at dksX6_pays_5 16 rfl rfl)
theorem dX6_pays_137 : decode cX6_pays 137 = .ok (.aload_n 0, 1) := dk_42 (dk_at dksX6_pays_5 19 rfl rfl)
theorem dX6_pays_138 : decode cX6_pays 138 = .ok (.getfield 19, 3) := dk_180 0 19 (dk_at dksX6_pays_5 20 rfl rfl)
theorem dX6_pays_141 : decode cX6_pays 141 = .ok (.iload 5, 2) := dk_21 5 (dk_at dksX6_pays_6 0 rfl rfl)
theorem dX6_pays_143 : decode cX6_pays 143 = .ok (.iload 7, 2) := dk_21 7 (dk_at dksX6_pays_6 2 rfl rfl)
theorem dX6_pays_145 : decode cX6_pays 145 = .ok (.ior, 1) := dk_128 (dk_at dksX6_pays_6 4 rfl rfl)
theorem dX6_pays_146 : decode cX6_pays 146 = .ok (.iconst 1, 1) := dk_4 (dk_at dksX6_pays_6 5 rfl rfl)
theorem dX6_pays_147 : decode cX6_pays 147 = .ok (.bastore, 1) := dk_84 (dk_at dksX6_pays_6 6 rfl rfl)
theorem dX6_pays_148 : decode cX6_pays 148 = .ok (.iconst 1, 1) := dk_4 (dk_at dksX6_pays_6 7 rfl rfl)
theorem dX6_pays_149 : decode cX6_pays 149 = .ok (.istore 4, 2) := dk_54 4 (dk_at dksX6_pays_6 8 rfl rfl)
theorem dX6_pays_151 : decode cX6_pays 151 = .ok (.iload 7, 2) := dk_21 7 (dk_at dksX6_pays_6 10 rfl rfl)
theorem dX6_pays_153 : decode cX6_pays 153 = .ok (.iconst 1, 1) := dk_4 (dk_at dksX6_pays_6 12 rfl rfl)
theorem dX6_pays_154 : decode cX6_pays 154 = .ok (.isub, 1) := dk_100 (dk_at dksX6_pays_6 13 rfl rfl)
theorem dX6_pays_155 : decode cX6_pays 155 = .ok (.iload 6, 2) := dk_21 6 (dk_at dksX6_pays_6 14 rfl rfl)
theorem dX6_pays_157 : decode cX6_pays 157 = .ok (.iand, 1) := dk_126 (dk_at dksX6_pays_6 16 rfl rfl)
theorem dX6_pays_158 : decode cX6_pays 158 = .ok (.istore 7, 2) := dk_54 7 (dk_at dksX6_pays_6 17 rfl rfl)
theorem dX6_pays_160 : decode cX6_pays 160 = .ok (.goto (-42), 3) := dk_167 255 214 (dk_at dksX6_pays_6 19 rfl rfl)
theorem dX6_pays_163 : decode cX6_pays 163 = .ok (.iinc 5 1, 3) := dk_132 5 1 (dk_at dksX6_pays_7 0 rfl rfl)
theorem dX6_pays_166 : decode cX6_pays 166 = .ok (.goto (-85), 3) := dk_167 255 171 (dk_at dksX6_pays_7 3 rfl rfl)
theorem dX6_pays_169 : decode cX6_pays 169 = .ok (.aload_n 0, 1) := dk_42 (dk_at dksX6_pays_7 6 rfl rfl)
theorem dX6_pays_170 : decode cX6_pays 170 = .ok (.getfield 19, 3) := dk_180 0 19 (dk_at dksX6_pays_7 7 rfl rfl)
theorem dX6_pays_173 : decode cX6_pays 173 = .ok (.iconst 0, 1) := dk_3 (dk_at dksX6_pays_7 10 rfl rfl)
theorem dX6_pays_174 : decode cX6_pays 174 = .ok (.aload_n 0, 1) := dk_42 (dk_at dksX6_pays_7 11 rfl rfl)
theorem dX6_pays_175 : decode cX6_pays 175 = .ok (.getfield 15, 3) := dk_180 0 15 (dk_at dksX6_pays_7 12 rfl rfl)
theorem dX6_pays_178 : decode cX6_pays 178 = .ok (.iconst 0, 1) := dk_3 (dk_at dksX6_pays_7 15 rfl rfl)
theorem dX6_pays_179 : decode cX6_pays 179 = .ok (.aload_n 0, 1) := dk_42 (dk_at dksX6_pays_7 16 rfl rfl)
theorem dX6_pays_180 : decode cX6_pays 180 = .ok (.getfield 3, 3) := dk_180 0 3 (dk_at dksX6_pays_7 17 rfl rfl)
theorem dX6_pays_183 : decode cX6_pays 183 = .ok (.invokevirtual 26, 3) := dk_182 0 26 (dk_at dksX6_pays_7 20 rfl rfl)
theorem dX6_pays_186 : decode cX6_pays 186 = .ok (.iconst 1, 1) := dk_4 (dk_at dksX6_pays_7 23 rfl rfl)
theorem dX6_pays_187 : decode cX6_pays 187 = .ok (.iadd, 1) := dk_96 (dk_at dksX6_pays_8 0 rfl rfl)
theorem dX6_pays_188 : decode cX6_pays 188 = .ok (.invokestatic 77, 3) := dk_184 0 77 (dk_at dksX6_pays_8 1 rfl rfl)
theorem dX6_pays_191 : decode cX6_pays 191 = .ok (.iload 4, 2) := dk_21 4 (dk_at dksX6_pays_8 4 rfl rfl)
theorem dX6_pays_193 : decode cX6_pays 193 = .ok (.ireturn, 1) := dk_172 (dk_at dksX6_pays_8 6 rfl rfl)
theorem q139 : (Jvm.Cond.initialized "PaidSecrets$Payers") ∈ lw_all := lw_g (lw_at lw_m1 11 rfl) rfl
theorem q291 : (Jvm.Cond.fieldLink "PaidSecrets$Payers" (74 : Nat) "PaidSecrets$Talk" "paid" "I") ∈ lw_all := lw_g (lw_at lw_m1 163 rfl) rfl
theorem q374 : (Jvm.Cond.fieldLink "PaidSecrets$Payers" (54 : Nat) "PaidSecrets$Town" "people" "Ljava/util/ArrayList;") ∈ lw_all := lw_g (lw_at lw_m2 6 rfl) rfl
theorem q439 : (Jvm.Cond.instantiable "PaidSecrets$Payers" (4 : Nat)) ∈ lw_all := lw_g (lw_at lw_m2 71 rfl) rfl
theorem q441 : (Jvm.Cond.instanceMethod ({ cls := "PaidSecrets$Payers", name := "<init>", desc := "(LPaidSecrets;)V" } : Jvm.MethodName)) ∈ lw_all := lw_g (lw_at lw_m2 73 rfl) rfl
theorem q442 : (Jvm.Cond.code ({ cls := "PaidSecrets$Payers", name := "<init>", desc := "(LPaidSecrets;)V" } : Jvm.MethodName) prog_17_method_1_code (2 : Nat) (Option.none : Option Jvm.ClassFile.FieldType)) ∈ lw_all := lw_g (lw_at lw_m2 74 rfl) rfl
theorem q443 : (Jvm.Cond.methodLink "PaidSecrets$Payers" (9 : Nat) ({ cls := "java/lang/Object", name := "<init>", desc := "()V" } : Jvm.MethodName)) ∈ lw_all := lw_g (lw_at lw_m2 75 rfl) rfl
theorem q444 : (Jvm.Cond.fieldLink "PaidSecrets$Payers" (15 : Nat) "PaidSecrets$Payers" "now0" "[Z") ∈ lw_all := lw_g (lw_at lw_m2 76 rfl) rfl
theorem q445 : (Jvm.Cond.fieldLink "PaidSecrets$Payers" (19 : Nat) "PaidSecrets$Payers" "next" "[Z") ∈ lw_all := lw_g (lw_at lw_m2 77 rfl) rfl
theorem q446 : (Jvm.Cond.fieldLink "PaidSecrets$Payers" (22 : Nat) "PaidSecrets$Payers" "worths" "[I") ∈ lw_all := lw_g (lw_at lw_m2 78 rfl) rfl
theorem q447 : (Jvm.Cond.fieldLink "PaidSecrets$Payers" (3 : Nat) "PaidSecrets$Payers" "this$0" "LPaidSecrets;") ∈ lw_all := lw_g (lw_at lw_m2 79 rfl) rfl
theorem q448 : (Jvm.Cond.laysFinal "PaidSecrets$Payers" "PaidSecrets$Payers" "now0" "[Z") ∈ lw_all := lw_g (lw_at lw_m2 80 rfl) rfl
theorem q449 : (Jvm.Cond.soleField "PaidSecrets$Payers" "now0") ∈ lw_all := lw_g (lw_at lw_m2 81 rfl) rfl
theorem q450 : (Jvm.Cond.laysFinal "PaidSecrets$Payers" "PaidSecrets$Payers" "next" "[Z") ∈ lw_all := lw_g (lw_at lw_m2 82 rfl) rfl
theorem q451 : (Jvm.Cond.soleField "PaidSecrets$Payers" "next") ∈ lw_all := lw_g (lw_at lw_m2 83 rfl) rfl
theorem q452 : (Jvm.Cond.laysFinal "PaidSecrets$Payers" "PaidSecrets$Payers" "worths" "[I") ∈ lw_all := lw_g (lw_at lw_m2 84 rfl) rfl
theorem q453 : (Jvm.Cond.soleField "PaidSecrets$Payers" "worths") ∈ lw_all := lw_g (lw_at lw_m2 85 rfl) rfl
theorem q454 : (Jvm.Cond.laysFinal "PaidSecrets$Payers" "PaidSecrets$Payers" "this$0" "LPaidSecrets;") ∈ lw_all := lw_g (lw_at lw_m2 86 rfl) rfl
theorem q455 : (Jvm.Cond.soleField "PaidSecrets$Payers" "this$0") ∈ lw_all := lw_g (lw_at lw_m2 87 rfl) rfl
theorem q456 : (Jvm.Cond.superclass "PaidSecrets$Payers" "java/lang/Object") ∈ lw_all := lw_g (lw_at lw_m2 88 rfl) rfl
theorem q538 : (Jvm.Cond.fieldLinkNest "PaidSecrets$Payers" (30 : Nat) "PaidSecrets" "talk" "LPaidSecrets$Talk;" "PaidSecrets") ∈ lw_tbl := lw_at lw_m2 170 rfl
theorem q888 : (Jvm.Cond.selects "PaidSecrets$Payers" ({ cls := "java/lang/Object", name := "getClass", desc := "()Ljava/lang/Class;" } : Jvm.MethodName) ({ cls := "java/lang/Object", name := "getClass", desc := "()Ljava/lang/Class;" } : Jvm.MethodName)) ∈ lw_all := lw_g (lw_at lw_m4 40 rfl) rfl
theorem q970 : (Jvm.Cond.fieldLink "PaidSecrets$Payers" (67 : Nat) "PaidSecrets$Person" "tax" "I") ∈ lw_all := lw_g (lw_at lw_m4 122 rfl) rfl
theorem q1599 : (Jvm.Cond.instanceMethod ({ cls := "PaidSecrets$Payers", name := "lays", desc := "()V" } : Jvm.MethodName)) ∈ lw_all := lw_g (lw_at lw_m7 31 rfl) rfl
theorem q1600 : (Jvm.Cond.selects "PaidSecrets$Payers" ({ cls := "PaidSecrets$Payers", name := "lays", desc := "()V" } : Jvm.MethodName) ({ cls := "PaidSecrets$Payers", name := "lays", desc := "()V" } : Jvm.MethodName)) ∈ lw_all := lw_g (lw_at lw_m7 32 rfl) rfl
theorem q1601 : (Jvm.Cond.code ({ cls := "PaidSecrets$Payers", name := "lays", desc := "()V" } : Jvm.MethodName) prog_17_method_2_code (2 : Nat) (Option.none : Option Jvm.ClassFile.FieldType)) ∈ lw_all := lw_g (lw_at lw_m7 33 rfl) rfl
theorem q1602 : (Jvm.Cond.methodLinkNest "PaidSecrets$Payers" (26 : Nat) ({ cls := "PaidSecrets", name := "every", desc := "()I" } : Jvm.MethodName) "PaidSecrets") ∈ lw_tbl := lw_at lw_m7 34 rfl
theorem q1603 : (Jvm.Cond.methodLink "PaidSecrets$Payers" (34 : Nat) ({ cls := "PaidSecrets$Talk", name := "worths", desc := "(I)I" } : Jvm.MethodName)) ∈ lw_all := lw_g (lw_at lw_m7 35 rfl) rfl
theorem q1606 : (Jvm.Cond.instanceMethod ({ cls := "PaidSecrets$Payers", name := "can", desc := "(I)Z" } : Jvm.MethodName)) ∈ lw_all := lw_g (lw_at lw_m7 38 rfl) rfl
theorem q1607 : (Jvm.Cond.selects "PaidSecrets$Payers" ({ cls := "PaidSecrets$Payers", name := "can", desc := "(I)Z" } : Jvm.MethodName) ({ cls := "PaidSecrets$Payers", name := "can", desc := "(I)Z" } : Jvm.MethodName)) ∈ lw_all := lw_g (lw_at lw_m7 39 rfl) rfl
theorem q1608 : (Jvm.Cond.code ({ cls := "PaidSecrets$Payers", name := "can", desc := "(I)Z" } : Jvm.MethodName) prog_17_method_3_code (3 : Nat) (Option.some Jvm.ClassFile.FieldType.boolean)) ∈ lw_all := lw_g (lw_at lw_m7 40 rfl) rfl
theorem q1609 : (Jvm.Cond.methodLinkNest "PaidSecrets$Payers" (39 : Nat) ({ cls := "PaidSecrets", name := "people", desc := "()I" } : Jvm.MethodName) "PaidSecrets") ∈ lw_tbl := lw_at lw_m7 41 rfl
theorem q1610 : (Jvm.Cond.methodLinkNest "PaidSecrets$Payers" (42 : Nat) ({ cls := "PaidSecrets", name := "has", desc := "(II)Z" } : Jvm.MethodName) "PaidSecrets") ∈ lw_tbl := lw_at lw_m7 42 rfl
theorem q1611 : (Jvm.Cond.methodLink "PaidSecrets$Payers" (46 : Nat) ({ cls := "PaidSecrets$Payers", name := "pays", desc := "(I)Z" } : Jvm.MethodName)) ∈ lw_all := lw_g (lw_at lw_m7 43 rfl) rfl
theorem q1612 : (Jvm.Cond.privateMethod ({ cls := "PaidSecrets$Payers", name := "pays", desc := "(I)Z" } : Jvm.MethodName)) ∈ lw_tbl := lw_at lw_m7 44 rfl
theorem q1613 : (Jvm.Cond.instanceMethod ({ cls := "PaidSecrets$Payers", name := "pays", desc := "(I)Z" } : Jvm.MethodName)) ∈ lw_all := lw_g (lw_at lw_m7 45 rfl) rfl
theorem q1614 : (Jvm.Cond.code ({ cls := "PaidSecrets$Payers", name := "pays", desc := "(I)Z" } : Jvm.MethodName) prog_17_method_4_code (8 : Nat) (Option.some Jvm.ClassFile.FieldType.boolean)) ∈ lw_all := lw_g (lw_at lw_m7 46 rfl) rfl
theorem q1615 : (Jvm.Cond.methodLinkNest "PaidSecrets$Payers" (50 : Nat) ({ cls := "PaidSecrets", name := "now", desc := "()LPaidSecrets$Town;" } : Jvm.MethodName) "PaidSecrets") ∈ lw_tbl := lw_at lw_m7 47 rfl
theorem q1616 : (Jvm.Cond.methodLink "PaidSecrets$Payers" (59 : Nat) ({ cls := "java/util/ArrayList", name := "get", desc := "(I)Ljava/lang/Object;" } : Jvm.MethodName)) ∈ lw_all := lw_g (lw_at lw_m7 48 rfl) rfl
theorem q1617 : (Jvm.Cond.classLink "PaidSecrets$Payers" (65 : Nat) "PaidSecrets$Person") ∈ lw_all := lw_g (lw_at lw_m7 49 rfl) rfl
theorem q1618 : (Jvm.Cond.methodLink "PaidSecrets$Payers" (71 : Nat) ({ cls := "PaidSecrets$Talk", name := "known", desc := "(I)I" } : Jvm.MethodName)) ∈ lw_all := lw_g (lw_at lw_m7 50 rfl) rfl
theorem q1619 : (Jvm.Cond.methodLink "PaidSecrets$Payers" (77 : Nat) ({ cls := "java/lang/System", name := "arraycopy", desc := "(Ljava/lang/Object;ILjava/lang/Object;II)V" } : Jvm.MethodName)) ∈ lw_all := lw_g (lw_at lw_m7 51 rfl) rfl
theorem q2539 : (Jvm.Cond.castable "PaidSecrets$Payers" "java/lang/Object") ∈ lw_tbl := lw_at lw_m11 11 rfl
theorem in_X6 : ∀ w ∈ wsX60, w ∈ lw_all := lw_in wsX60 [448, 450, 452, 454] (by decide +kernel) (by decide +kernel)
/-! PaidSecrets$Plots -/
set_option maxRecDepth 100000
def RX7 : String := "PaidSecrets$Plots"
def TX7 : u_T := fun k => match k with
  | 0 => ("PaidSecrets$Plots", "row", "[I", true)
  | 1 => ("PaidSecrets$Plots", "best", "[I", true)
  | 2 => ("PaidSecrets$Plots", "steps", "[LPaidSecrets$Talk;", true)
  | 3 => ("PaidSecrets$Plots", "most", "I", false)
  | 4 => ("PaidSecrets$Plots", "many", "I", false)
  | 5 => ("PaidSecrets$Plots", "person", "I", false)
  | 6 => ("PaidSecrets$Plots", "other", "I", false)
  | _ => ("PaidSecrets$Plots", "this$0", "LPaidSecrets;", true)
def tyX7 : Nat → FieldType := fun k => match k with
  | 0 => .array .int
  | 1 => .array .int
  | 2 => .array (.object "PaidSecrets$Talk")
  | 3 => .int
  | 4 => .int
  | 5 => .int
  | 6 => .int
  | _ => .object "PaidSecrets"
abbrev wsX70 : List Cond := u_ws RX7 TX7 8
theorem nmX7 : ∀ a, a < 8 → ∀ b, b < 8 → a ≠ b → (TX7 a).2.1 ≠ (TX7 b).2.1 := by decide +kernel
theorem tyX7_ok : ∀ k, k < 8 → parseFieldDescriptor (TX7 k).2.2.1 = some (tyX7 k) := by decide +kernel
abbrev cX7_init : ByteArray := prog_21_method_1_code
def yX7_init : MethodName := ⟨RX7, "<init>", "(LPaidSecrets;)V"⟩
def dkwX7_init_2 : List UInt8 := [181, 0, 25, 177]
abbrev dktX7_init_2 : List UInt8 := dkwX7_init_2 ++ []
def dkwX7_init_1 : List UInt8 := [5, 189, 0, 22, 89, 3, 187, 0, 22, 89, 183, 0, 24, 83, 89, 4, 187, 0, 22, 89, 183, 0, 24, 83]
abbrev dktX7_init_1 : List UInt8 := dkwX7_init_1 ++ dktX7_init_2
def dkwX7_init_0 : List UInt8 := [42, 43, 181, 0, 3, 42, 183, 0, 9, 42, 5, 188, 10, 181, 0, 15, 42, 5, 188, 10, 181, 0, 19, 42]
abbrev dktX7_init_0 : List UInt8 := dkwX7_init_0 ++ dktX7_init_1
theorem dksX7_init_0 : cX7_init.data.toList.drop 0 = dktX7_init_0 := by decide +kernel
theorem dksX7_init_1 : cX7_init.data.toList.drop 24 = dktX7_init_1 := dk_seg dksX7_init_0 24 rfl rfl
theorem dksX7_init_2 : cX7_init.data.toList.drop 48 = dktX7_init_2 := dk_seg dksX7_init_1 24 rfl rfl
theorem dX7_init_0 : decode cX7_init 0 = .ok (.aload_n 0, 1) := dk_42 (dk_at dksX7_init_0 0 rfl rfl)
theorem dX7_init_1 : decode cX7_init 1 = .ok (.aload_n 1, 1) := dk_43 (dk_at dksX7_init_0 1 rfl rfl)
theorem dX7_init_2 : decode cX7_init 2 = .ok (.putfield 3, 3) := dk_181 0 3 (dk_at dksX7_init_0 2 rfl rfl)
theorem dX7_init_5 : decode cX7_init 5 = .ok (.aload_n 0, 1) := dk_42 (dk_at dksX7_init_0 5 rfl rfl)
theorem dX7_init_6 : decode cX7_init 6 = .ok (.invokespecial 9, 3) := dk_183 0 9 (dk_at dksX7_init_0 6 rfl rfl)
theorem dX7_init_9 : decode cX7_init 9 = .ok (.aload_n 0, 1) := dk_42 (dk_at dksX7_init_0 9 rfl rfl)
theorem dX7_init_10 : decode cX7_init 10 = .ok (.iconst 2, 1) := dk_5 (dk_at dksX7_init_0 10 rfl rfl)
theorem dX7_init_11 : decode cX7_init 11 = .ok (.newarray .int, 2) := dk_188_10 (dk_at dksX7_init_0 11 rfl rfl)
theorem dX7_init_13 : decode cX7_init 13 = .ok (.putfield 15, 3) := dk_181 0 15 (dk_at dksX7_init_0 13 rfl rfl)
theorem dX7_init_16 : decode cX7_init 16 = .ok (.aload_n 0, 1) := dk_42 (dk_at dksX7_init_0 16 rfl rfl)
theorem dX7_init_17 : decode cX7_init 17 = .ok (.iconst 2, 1) := dk_5 (dk_at dksX7_init_0 17 rfl rfl)
theorem dX7_init_18 : decode cX7_init 18 = .ok (.newarray .int, 2) := dk_188_10 (dk_at dksX7_init_0 18 rfl rfl)
theorem dX7_init_20 : decode cX7_init 20 = .ok (.putfield 19, 3) := dk_181 0 19 (dk_at dksX7_init_0 20 rfl rfl)
theorem dX7_init_23 : decode cX7_init 23 = .ok (.aload_n 0, 1) := dk_42 (dk_at dksX7_init_0 23 rfl rfl)
theorem dX7_init_24 : decode cX7_init 24 = .ok (.iconst 2, 1) := dk_5 (dk_at dksX7_init_1 0 rfl rfl)
theorem dX7_init_25 : decode cX7_init 25 = .ok (.anewarray 22, 3) := dk_189 0 22 (dk_at dksX7_init_1 1 rfl rfl)
theorem dX7_init_28 : decode cX7_init 28 = .ok (.dup, 1) := dk_89 (dk_at dksX7_init_1 4 rfl rfl)
theorem dX7_init_29 : decode cX7_init 29 = .ok (.iconst 0, 1) := dk_3 (dk_at dksX7_init_1 5 rfl rfl)
theorem dX7_init_30 : decode cX7_init 30 = .ok (.new 22, 3) := dk_187 0 22 (dk_at dksX7_init_1 6 rfl rfl)
theorem dX7_init_33 : decode cX7_init 33 = .ok (.dup, 1) := dk_89 (dk_at dksX7_init_1 9 rfl rfl)
theorem dX7_init_34 : decode cX7_init 34 = .ok (.invokespecial 24, 3) := dk_183 0 24 (dk_at dksX7_init_1 10 rfl rfl)
theorem dX7_init_37 : decode cX7_init 37 = .ok (.aastore, 1) := dk_83 (dk_at dksX7_init_1 13 rfl rfl)
theorem dX7_init_38 : decode cX7_init 38 = .ok (.dup, 1) := dk_89 (dk_at dksX7_init_1 14 rfl rfl)
theorem dX7_init_39 : decode cX7_init 39 = .ok (.iconst 1, 1) := dk_4 (dk_at dksX7_init_1 15 rfl rfl)
theorem dX7_init_40 : decode cX7_init 40 = .ok (.new 22, 3) := dk_187 0 22 (dk_at dksX7_init_1 16 rfl rfl)
theorem dX7_init_43 : decode cX7_init 43 = .ok (.dup, 1) := dk_89 (dk_at dksX7_init_1 19 rfl rfl)
theorem dX7_init_44 : decode cX7_init 44 = .ok (.invokespecial 24, 3) := dk_183 0 24 (dk_at dksX7_init_1 20 rfl rfl)
theorem dX7_init_47 : decode cX7_init 47 = .ok (.aastore, 1) := dk_83 (dk_at dksX7_init_1 23 rfl rfl)
theorem dX7_init_48 : decode cX7_init 48 = .ok (.putfield 25, 3) := dk_181 0 25 (dk_at dksX7_init_2 0 rfl rfl)
theorem dX7_init_51 : decode cX7_init 51 = .ok (.return_, 1) := dk_177 (dk_at dksX7_init_2 3 rfl rfl)
abbrev cX7_finds : ByteArray := prog_21_method_2_code
def yX7_finds : MethodName := ⟨RX7, "finds", "(III)V"⟩
def dkwX7_finds_1 : List UInt8 := [42, 42, 180, 0, 3, 180, 0, 39, 3, 21, 4, 182, 0, 43, 132, 4, 1, 167, 255, 233, 177]
abbrev dktX7_finds_1 : List UInt8 := dkwX7_finds_1 ++ []
def dkwX7_finds_0 : List UInt8 := [42, 27, 181, 0, 29, 42, 28, 181, 0, 33, 42, 2, 181, 0, 36, 3, 54, 4, 21, 4, 29, 163, 0, 23]
abbrev dktX7_finds_0 : List UInt8 := dkwX7_finds_0 ++ dktX7_finds_1
theorem dksX7_finds_0 : cX7_finds.data.toList.drop 0 = dktX7_finds_0 := by decide +kernel
theorem dksX7_finds_1 : cX7_finds.data.toList.drop 24 = dktX7_finds_1 := dk_seg dksX7_finds_0 24 rfl rfl
theorem dX7_finds_0 : decode cX7_finds 0 = .ok (.aload_n 0, 1) := dk_42 (dk_at dksX7_finds_0 0 rfl rfl)
theorem dX7_finds_1 : decode cX7_finds 1 = .ok (.iload_n 1, 1) := dk_27 (dk_at dksX7_finds_0 1 rfl rfl)
theorem dX7_finds_2 : decode cX7_finds 2 = .ok (.putfield 29, 3) := dk_181 0 29 (dk_at dksX7_finds_0 2 rfl rfl)
theorem dX7_finds_5 : decode cX7_finds 5 = .ok (.aload_n 0, 1) := dk_42 (dk_at dksX7_finds_0 5 rfl rfl)
theorem dX7_finds_6 : decode cX7_finds 6 = .ok (.iload_n 2, 1) := dk_28 (dk_at dksX7_finds_0 6 rfl rfl)
theorem dX7_finds_7 : decode cX7_finds 7 = .ok (.putfield 33, 3) := dk_181 0 33 (dk_at dksX7_finds_0 7 rfl rfl)
theorem dX7_finds_10 : decode cX7_finds 10 = .ok (.aload_n 0, 1) := dk_42 (dk_at dksX7_finds_0 10 rfl rfl)
theorem dX7_finds_11 : decode cX7_finds 11 = .ok (.iconst (-1), 1) := dk_2 (dk_at dksX7_finds_0 11 rfl rfl)
theorem dX7_finds_12 : decode cX7_finds 12 = .ok (.putfield 36, 3) := dk_181 0 36 (dk_at dksX7_finds_0 12 rfl rfl)
theorem dX7_finds_15 : decode cX7_finds 15 = .ok (.iconst 0, 1) := dk_3 (dk_at dksX7_finds_0 15 rfl rfl)
theorem dX7_finds_16 : decode cX7_finds 16 = .ok (.istore 4, 2) := dk_54 4 (dk_at dksX7_finds_0 16 rfl rfl)
theorem dX7_finds_18 : decode cX7_finds 18 = .ok (.iload 4, 2) := dk_21 4 (dk_at dksX7_finds_0 18 rfl rfl)
theorem dX7_finds_20 : decode cX7_finds 20 = .ok (.iload_n 3, 1) := dk_29 (dk_at dksX7_finds_0 20 rfl rfl)
theorem dX7_finds_21 : decode cX7_finds 21 = .ok (.if_icmp .gt 23, 3) := dk_163 0 23 (dk_at dksX7_finds_0 21 rfl rfl)
theorem dX7_finds_24 : decode cX7_finds 24 = .ok (.aload_n 0, 1) := dk_42 (dk_at dksX7_finds_1 0 rfl rfl)
theorem dX7_finds_25 : decode cX7_finds 25 = .ok (.aload_n 0, 1) := dk_42 (dk_at dksX7_finds_1 1 rfl rfl)
theorem dX7_finds_26 : decode cX7_finds 26 = .ok (.getfield 3, 3) := dk_180 0 3 (dk_at dksX7_finds_1 2 rfl rfl)
theorem dX7_finds_29 : decode cX7_finds 29 = .ok (.getfield 39, 3) := dk_180 0 39 (dk_at dksX7_finds_1 5 rfl rfl)
theorem dX7_finds_32 : decode cX7_finds 32 = .ok (.iconst 0, 1) := dk_3 (dk_at dksX7_finds_1 8 rfl rfl)
theorem dX7_finds_33 : decode cX7_finds 33 = .ok (.iload 4, 2) := dk_21 4 (dk_at dksX7_finds_1 9 rfl rfl)
theorem dX7_finds_35 : decode cX7_finds 35 = .ok (.invokevirtual 43, 3) := dk_182 0 43 (dk_at dksX7_finds_1 11 rfl rfl)
theorem dX7_finds_38 : decode cX7_finds 38 = .ok (.iinc 4 1, 3) := dk_132 4 1 (dk_at dksX7_finds_1 14 rfl rfl)
theorem dX7_finds_41 : decode cX7_finds 41 = .ok (.goto (-23), 3) := dk_167 255 233 (dk_at dksX7_finds_1 17 rfl rfl)
theorem dX7_finds_44 : decode cX7_finds 44 = .ok (.return_, 1) := dk_177 (dk_at dksX7_finds_1 20 rfl rfl)
abbrev cX7_goes : ByteArray := prog_21_method_3_code
def yX7_goes : MethodName := ⟨RX7, "goes", "(LPaidSecrets$Talk;II)V"⟩
def dkwX7_goes_7 : List UInt8 := [132, 5, 1, 167, 255, 174, 132, 4, 1, 167, 255, 153, 177]
abbrev dktX7_goes_7 : List UInt8 := dkwX7_goes_7 ++ []
def dkwX7_goes_6 : List UInt8 := [42, 180, 0, 15, 28, 16, 10, 21, 4, 104, 21, 5, 96, 79, 42, 25, 6, 28, 4, 96, 29, 182, 0, 43]
abbrev dktX7_goes_6 : List UInt8 := dkwX7_goes_6 ++ dktX7_goes_7
def dkwX7_goes_5 : List UInt8 := [180, 0, 25, 28, 50, 43, 182, 0, 71, 58, 6, 25, 6, 42, 180, 0, 29, 21, 4, 21, 5, 182, 0, 75]
abbrev dktX7_goes_5 : List UInt8 := dkwX7_goes_5 ++ dktX7_goes_6
def dkwX7_goes_4 : List UInt8 := [162, 0, 76, 43, 42, 180, 0, 29, 21, 4, 21, 5, 182, 0, 67, 154, 0, 6, 167, 0, 52, 42]
abbrev dktX7_goes_4 : List UInt8 := dkwX7_goes_4 ++ dktX7_goes_5
def dkwX7_goes_3 : List UInt8 := [21, 4, 42, 180, 0, 3, 182, 0, 60, 162, 0, 97, 3, 54, 5, 21, 5, 42, 180, 0, 3, 182, 0, 64]
abbrev dktX7_goes_3 : List UInt8 := dkwX7_goes_3 ++ dktX7_goes_4
def dkwX7_goes_2 : List UInt8 := [42, 29, 181, 0, 36, 42, 180, 0, 15, 3, 42, 180, 0, 19, 3, 5, 184, 0, 54, 177, 3, 54, 4]
abbrev dktX7_goes_2 : List UInt8 := dkwX7_goes_2 ++ dktX7_goes_3
def dkwX7_goes_1 : List UInt8 := [42, 180, 0, 36, 2, 159, 0, 13, 21, 4, 42, 180, 0, 51, 163, 0, 4, 177, 42, 21, 4, 181, 0, 51]
abbrev dktX7_goes_1 : List UInt8 := dkwX7_goes_1 ++ dktX7_goes_2
def dkwX7_goes_0 : List UInt8 := [28, 29, 160, 0, 66, 43, 42, 180, 0, 29, 182, 0, 47, 43, 42, 180, 0, 33, 182, 0, 47, 100, 54, 4]
abbrev dktX7_goes_0 : List UInt8 := dkwX7_goes_0 ++ dktX7_goes_1
theorem dksX7_goes_0 : cX7_goes.data.toList.drop 0 = dktX7_goes_0 := by decide +kernel
theorem dksX7_goes_1 : cX7_goes.data.toList.drop 24 = dktX7_goes_1 := dk_seg dksX7_goes_0 24 rfl rfl
theorem dksX7_goes_2 : cX7_goes.data.toList.drop 48 = dktX7_goes_2 := dk_seg dksX7_goes_1 24 rfl rfl
theorem dksX7_goes_3 : cX7_goes.data.toList.drop 71 = dktX7_goes_3 := dk_seg dksX7_goes_2 23 rfl rfl
theorem dksX7_goes_4 : cX7_goes.data.toList.drop 95 = dktX7_goes_4 := dk_seg dksX7_goes_3 24 rfl rfl
theorem dksX7_goes_5 : cX7_goes.data.toList.drop 117 = dktX7_goes_5 := dk_seg dksX7_goes_4 22 rfl rfl
theorem dksX7_goes_6 : cX7_goes.data.toList.drop 141 = dktX7_goes_6 := dk_seg dksX7_goes_5 24 rfl rfl
theorem dksX7_goes_7 : cX7_goes.data.toList.drop 165 = dktX7_goes_7 := dk_seg dksX7_goes_6 24 rfl rfl
theorem dX7_goes_0 : decode cX7_goes 0 = .ok (.iload_n 2, 1) := dk_28 (dk_at dksX7_goes_0 0 rfl rfl)
theorem dX7_goes_1 : decode cX7_goes 1 = .ok (.iload_n 3, 1) := dk_29 (dk_at dksX7_goes_0 1 rfl rfl)
theorem dX7_goes_2 : decode cX7_goes 2 = .ok (.if_icmp .ne 66, 3) := dk_160 0 66 (dk_at dksX7_goes_0 2 rfl rfl)
theorem dX7_goes_5 : decode cX7_goes 5 = .ok (.aload_n 1, 1) := dk_43 (dk_at dksX7_goes_0 5 rfl rfl)
theorem dX7_goes_6 : decode cX7_goes 6 = .ok (.aload_n 0, 1) := dk_42 (dk_at dksX7_goes_0 6 rfl rfl)
theorem dX7_goes_7 : decode cX7_goes 7 = .ok (.getfield 29, 3) := dk_180 0 29 (dk_at dksX7_goes_0 7 rfl rfl)
theorem dX7_goes_10 : decode cX7_goes 10 = .ok (.invokevirtual 47, 3) := dk_182 0 47 (dk_at dksX7_goes_0 10 rfl rfl)
theorem dX7_goes_13 : decode cX7_goes 13 = .ok (.aload_n 1, 1) := dk_43 (dk_at dksX7_goes_0 13 rfl rfl)
theorem dX7_goes_14 : decode cX7_goes 14 = .ok (.aload_n 0, 1) := dk_42 (dk_at dksX7_goes_0 14 rfl rfl)
theorem dX7_goes_15 : decode cX7_goes 15 = .ok (.getfield 33, 3) := dk_180 0 33 (dk_at dksX7_goes_0 15 rfl rfl)
theorem dX7_goes_18 : decode cX7_goes 18 = .ok (.invokevirtual 47, 3) := dk_182 0 47 (dk_at dksX7_goes_0 18 rfl rfl)
theorem dX7_goes_21 : decode cX7_goes 21 = .ok (.isub, 1) := dk_100 (dk_at dksX7_goes_0 21 rfl rfl)
theorem dX7_goes_22 : decode cX7_goes 22 = .ok (.istore 4, 2) := dk_54 4 (dk_at dksX7_goes_0 22 rfl rfl)
theorem dX7_goes_24 : decode cX7_goes 24 = .ok (.aload_n 0, 1) := dk_42 (dk_at dksX7_goes_1 0 rfl rfl)
theorem dX7_goes_25 : decode cX7_goes 25 = .ok (.getfield 36, 3) := dk_180 0 36 (dk_at dksX7_goes_1 1 rfl rfl)
theorem dX7_goes_28 : decode cX7_goes 28 = .ok (.iconst (-1), 1) := dk_2 (dk_at dksX7_goes_1 4 rfl rfl)
theorem dX7_goes_29 : decode cX7_goes 29 = .ok (.if_icmp .eq 13, 3) := dk_159 0 13 (dk_at dksX7_goes_1 5 rfl rfl)
theorem dX7_goes_32 : decode cX7_goes 32 = .ok (.iload 4, 2) := dk_21 4 (dk_at dksX7_goes_1 8 rfl rfl)
theorem dX7_goes_34 : decode cX7_goes 34 = .ok (.aload_n 0, 1) := dk_42 (dk_at dksX7_goes_1 10 rfl rfl)
theorem dX7_goes_35 : decode cX7_goes 35 = .ok (.getfield 51, 3) := dk_180 0 51 (dk_at dksX7_goes_1 11 rfl rfl)
theorem dX7_goes_38 : decode cX7_goes 38 = .ok (.if_icmp .gt 4, 3) := dk_163 0 4 (dk_at dksX7_goes_1 14 rfl rfl)
theorem dX7_goes_41 : decode cX7_goes 41 = .ok (.return_, 1) := dk_177 (dk_at dksX7_goes_1 17 rfl rfl)
theorem dX7_goes_42 : decode cX7_goes 42 = .ok (.aload_n 0, 1) := dk_42 (dk_at dksX7_goes_1 18 rfl rfl)
theorem dX7_goes_43 : decode cX7_goes 43 = .ok (.iload 4, 2) := dk_21 4 (dk_at dksX7_goes_1 19 rfl rfl)
theorem dX7_goes_45 : decode cX7_goes 45 = .ok (.putfield 51, 3) := dk_181 0 51 (dk_at dksX7_goes_1 21 rfl rfl)
theorem dX7_goes_48 : decode cX7_goes 48 = .ok (.aload_n 0, 1) := dk_42 (dk_at dksX7_goes_2 0 rfl rfl)
theorem dX7_goes_49 : decode cX7_goes 49 = .ok (.iload_n 3, 1) := dk_29 (dk_at dksX7_goes_2 1 rfl rfl)
theorem dX7_goes_50 : decode cX7_goes 50 = .ok (.putfield 36, 3) := dk_181 0 36 (dk_at dksX7_goes_2 2 rfl rfl)
theorem dX7_goes_53 : decode cX7_goes 53 = .ok (.aload_n 0, 1) := dk_42 (dk_at dksX7_goes_2 5 rfl rfl)
theorem dX7_goes_54 : decode cX7_goes 54 = .ok (.getfield 15, 3) := dk_180 0 15 (dk_at dksX7_goes_2 6 rfl rfl)
theorem dX7_goes_57 : decode cX7_goes 57 = .ok (.iconst 0, 1) := dk_3 (dk_at dksX7_goes_2 9 rfl rfl)
theorem dX7_goes_58 : decode cX7_goes 58 = .ok (.aload_n 0, 1) := dk_42 (dk_at dksX7_goes_2 10 rfl rfl)
theorem dX7_goes_59 : decode cX7_goes 59 = .ok (.getfield 19, 3) := dk_180 0 19 (dk_at dksX7_goes_2 11 rfl rfl)
theorem dX7_goes_62 : decode cX7_goes 62 = .ok (.iconst 0, 1) := dk_3 (dk_at dksX7_goes_2 14 rfl rfl)
theorem dX7_goes_63 : decode cX7_goes 63 = .ok (.iconst 2, 1) := dk_5 (dk_at dksX7_goes_2 15 rfl rfl)
theorem dX7_goes_64 : decode cX7_goes 64 = .ok (.invokestatic 54, 3) := dk_184 0 54 (dk_at dksX7_goes_2 16 rfl rfl)
theorem dX7_goes_67 : decode cX7_goes 67 = .ok (.return_, 1) := dk_177 (dk_at dksX7_goes_2 19 rfl rfl)
theorem dX7_goes_68 : decode cX7_goes 68 = .ok (.iconst 0, 1) := dk_3 (dk_at dksX7_goes_2 20 rfl rfl)
theorem dX7_goes_69 : decode cX7_goes 69 = .ok (.istore 4, 2) := dk_54 4 (dk_at dksX7_goes_2 21 rfl rfl)
theorem dX7_goes_71 : decode cX7_goes 71 = .ok (.iload 4, 2) := dk_21 4 (dk_at dksX7_goes_3 0 rfl rfl)
theorem dX7_goes_73 : decode cX7_goes 73 = .ok (.aload_n 0, 1) := dk_42 (dk_at dksX7_goes_3 2 rfl rfl)
theorem dX7_goes_74 : decode cX7_goes 74 = .ok (.getfield 3, 3) := dk_180 0 3 (dk_at dksX7_goes_3 3 rfl rfl)
theorem dX7_goes_77 : decode cX7_goes 77 = .ok (.invokevirtual 60, 3) := dk_182 0 60 (dk_at dksX7_goes_3 6 rfl rfl)
theorem dX7_goes_80 : decode cX7_goes 80 = .ok (.if_icmp .ge 97, 3) := dk_162 0 97 (dk_at dksX7_goes_3 9 rfl rfl)
theorem dX7_goes_83 : decode cX7_goes 83 = .ok (.iconst 0, 1) := dk_3 (dk_at dksX7_goes_3 12 rfl rfl)
theorem dX7_goes_84 : decode cX7_goes 84 = .ok (.istore 5, 2) := dk_54 5 (dk_at dksX7_goes_3 13 rfl rfl)
theorem dX7_goes_86 : decode cX7_goes 86 = .ok (.iload 5, 2) := dk_21 5 (dk_at dksX7_goes_3 15 rfl rfl)
theorem dX7_goes_88 : decode cX7_goes 88 = .ok (.aload_n 0, 1) := dk_42 (dk_at dksX7_goes_3 17 rfl rfl)
theorem dX7_goes_89 : decode cX7_goes 89 = .ok (.getfield 3, 3) := dk_180 0 3 (dk_at dksX7_goes_3 18 rfl rfl)
theorem dX7_goes_92 : decode cX7_goes 92 = .ok (.invokevirtual 64, 3) := dk_182 0 64 (dk_at dksX7_goes_3 21 rfl rfl)
theorem dX7_goes_95 : decode cX7_goes 95 = .ok (.if_icmp .ge 76, 3) := dk_162 0 76 (dk_at dksX7_goes_4 0 rfl rfl)
theorem dX7_goes_98 : decode cX7_goes 98 = .ok (.aload_n 1, 1) := dk_43 (dk_at dksX7_goes_4 3 rfl rfl)
theorem dX7_goes_99 : decode cX7_goes 99 = .ok (.aload_n 0, 1) := dk_42 (dk_at dksX7_goes_4 4 rfl rfl)
theorem dX7_goes_100 : decode cX7_goes 100 = .ok (.getfield 29, 3) := dk_180 0 29 (dk_at dksX7_goes_4 5 rfl rfl)
theorem dX7_goes_103 : decode cX7_goes 103 = .ok (.iload 4, 2) := dk_21 4 (dk_at dksX7_goes_4 8 rfl rfl)
theorem dX7_goes_105 : decode cX7_goes 105 = .ok (.iload 5, 2) := dk_21 5 (dk_at dksX7_goes_4 10 rfl rfl)
theorem dX7_goes_107 : decode cX7_goes 107 = .ok (.invokevirtual 67, 3) := dk_182 0 67 (dk_at dksX7_goes_4 12 rfl rfl)
theorem dX7_goes_110 : decode cX7_goes 110 = .ok (.ifCond .ne 6, 3) := dk_154 0 6 (dk_at dksX7_goes_4 15 rfl rfl)
theorem dX7_goes_113 : decode cX7_goes 113 = .ok (.goto 52, 3) := dk_167 0 52 (dk_at dksX7_goes_4 18 rfl rfl)
theorem dX7_goes_116 : decode cX7_goes 116 = .ok (.aload_n 0, 1) := dk_42 (dk_at dksX7_goes_4 21 rfl rfl)
theorem dX7_goes_117 : decode cX7_goes 117 = .ok (.getfield 25, 3) := dk_180 0 25 (dk_at dksX7_goes_5 0 rfl rfl)
theorem dX7_goes_120 : decode cX7_goes 120 = .ok (.iload_n 2, 1) := dk_28 (dk_at dksX7_goes_5 3 rfl rfl)
theorem dX7_goes_121 : decode cX7_goes 121 = .ok (.aaload, 1) := dk_50 (dk_at dksX7_goes_5 4 rfl rfl)
theorem dX7_goes_122 : decode cX7_goes 122 = .ok (.aload_n 1, 1) := dk_43 (dk_at dksX7_goes_5 5 rfl rfl)
theorem dX7_goes_123 : decode cX7_goes 123 = .ok (.invokevirtual 71, 3) := dk_182 0 71 (dk_at dksX7_goes_5 6 rfl rfl)
theorem dX7_goes_126 : decode cX7_goes 126 = .ok (.astore 6, 2) := dk_58 6 (dk_at dksX7_goes_5 9 rfl rfl)
theorem dX7_goes_128 : decode cX7_goes 128 = .ok (.aload 6, 2) := dk_25 6 (dk_at dksX7_goes_5 11 rfl rfl)
theorem dX7_goes_130 : decode cX7_goes 130 = .ok (.aload_n 0, 1) := dk_42 (dk_at dksX7_goes_5 13 rfl rfl)
theorem dX7_goes_131 : decode cX7_goes 131 = .ok (.getfield 29, 3) := dk_180 0 29 (dk_at dksX7_goes_5 14 rfl rfl)
theorem dX7_goes_134 : decode cX7_goes 134 = .ok (.iload 4, 2) := dk_21 4 (dk_at dksX7_goes_5 17 rfl rfl)
theorem dX7_goes_136 : decode cX7_goes 136 = .ok (.iload 5, 2) := dk_21 5 (dk_at dksX7_goes_5 19 rfl rfl)
theorem dX7_goes_138 : decode cX7_goes 138 = .ok (.invokevirtual 75, 3) := dk_182 0 75 (dk_at dksX7_goes_5 21 rfl rfl)
theorem dX7_goes_141 : decode cX7_goes 141 = .ok (.aload_n 0, 1) := dk_42 (dk_at dksX7_goes_6 0 rfl rfl)
theorem dX7_goes_142 : decode cX7_goes 142 = .ok (.getfield 15, 3) := dk_180 0 15 (dk_at dksX7_goes_6 1 rfl rfl)
theorem dX7_goes_145 : decode cX7_goes 145 = .ok (.iload_n 2, 1) := dk_28 (dk_at dksX7_goes_6 4 rfl rfl)
theorem dX7_goes_146 : decode cX7_goes 146 = .ok (.bipush 10, 2) := dk_16 10 (dk_at dksX7_goes_6 5 rfl rfl)
theorem dX7_goes_148 : decode cX7_goes 148 = .ok (.iload 4, 2) := dk_21 4 (dk_at dksX7_goes_6 7 rfl rfl)
theorem dX7_goes_150 : decode cX7_goes 150 = .ok (.imul, 1) := dk_104 (dk_at dksX7_goes_6 9 rfl rfl)
theorem dX7_goes_151 : decode cX7_goes 151 = .ok (.iload 5, 2) := dk_21 5 (dk_at dksX7_goes_6 10 rfl rfl)
theorem dX7_goes_153 : decode cX7_goes 153 = .ok (.iadd, 1) := dk_96 (dk_at dksX7_goes_6 12 rfl rfl)
theorem dX7_goes_154 : decode cX7_goes 154 = .ok (.iastore, 1) := dk_79 (dk_at dksX7_goes_6 13 rfl rfl)
theorem dX7_goes_155 : decode cX7_goes 155 = .ok (.aload_n 0, 1) := dk_42 (dk_at dksX7_goes_6 14 rfl rfl)
theorem dX7_goes_156 : decode cX7_goes 156 = .ok (.aload 6, 2) := dk_25 6 (dk_at dksX7_goes_6 15 rfl rfl)
theorem dX7_goes_158 : decode cX7_goes 158 = .ok (.iload_n 2, 1) := dk_28 (dk_at dksX7_goes_6 17 rfl rfl)
theorem dX7_goes_159 : decode cX7_goes 159 = .ok (.iconst 1, 1) := dk_4 (dk_at dksX7_goes_6 18 rfl rfl)
theorem dX7_goes_160 : decode cX7_goes 160 = .ok (.iadd, 1) := dk_96 (dk_at dksX7_goes_6 19 rfl rfl)
theorem dX7_goes_161 : decode cX7_goes 161 = .ok (.iload_n 3, 1) := dk_29 (dk_at dksX7_goes_6 20 rfl rfl)
theorem dX7_goes_162 : decode cX7_goes 162 = .ok (.invokevirtual 43, 3) := dk_182 0 43 (dk_at dksX7_goes_6 21 rfl rfl)
theorem dX7_goes_165 : decode cX7_goes 165 = .ok (.iinc 5 1, 3) := dk_132 5 1 (dk_at dksX7_goes_7 0 rfl rfl)
theorem dX7_goes_168 : decode cX7_goes 168 = .ok (.goto (-82), 3) := dk_167 255 174 (dk_at dksX7_goes_7 3 rfl rfl)
theorem dX7_goes_171 : decode cX7_goes 171 = .ok (.iinc 4 1, 3) := dk_132 4 1 (dk_at dksX7_goes_7 6 rfl rfl)
theorem dX7_goes_174 : decode cX7_goes 174 = .ok (.goto (-103), 3) := dk_167 255 153 (dk_at dksX7_goes_7 9 rfl rfl)
theorem dX7_goes_177 : decode cX7_goes 177 = .ok (.return_, 1) := dk_177 (dk_at dksX7_goes_7 12 rfl rfl)
theorem q140 : (Jvm.Cond.initialized "PaidSecrets$Plots") ∈ lw_all := lw_g (lw_at lw_m1 12 rfl) rfl
theorem q459 : (Jvm.Cond.instantiable "PaidSecrets$Plots" (8 : Nat)) ∈ lw_all := lw_g (lw_at lw_m2 91 rfl) rfl
theorem q461 : (Jvm.Cond.instanceMethod ({ cls := "PaidSecrets$Plots", name := "<init>", desc := "(LPaidSecrets;)V" } : Jvm.MethodName)) ∈ lw_all := lw_g (lw_at lw_m2 93 rfl) rfl
theorem q462 : (Jvm.Cond.code ({ cls := "PaidSecrets$Plots", name := "<init>", desc := "(LPaidSecrets;)V" } : Jvm.MethodName) prog_21_method_1_code (2 : Nat) (Option.none : Option Jvm.ClassFile.FieldType)) ∈ lw_all := lw_g (lw_at lw_m2 94 rfl) rfl
theorem q463 : (Jvm.Cond.methodLink "PaidSecrets$Plots" (9 : Nat) ({ cls := "java/lang/Object", name := "<init>", desc := "()V" } : Jvm.MethodName)) ∈ lw_all := lw_g (lw_at lw_m2 95 rfl) rfl
theorem q464 : (Jvm.Cond.classLink "PaidSecrets$Plots" (22 : Nat) "PaidSecrets$Talk") ∈ lw_all := lw_g (lw_at lw_m2 96 rfl) rfl
theorem q466 : (Jvm.Cond.methodLinkNest "PaidSecrets$Plots" (24 : Nat) ({ cls := "PaidSecrets$Talk", name := "<init>", desc := "()V" } : Jvm.MethodName) "PaidSecrets") ∈ lw_tbl := lw_at lw_m2 98 rfl
theorem q467 : (Jvm.Cond.fieldLink "PaidSecrets$Plots" (15 : Nat) "PaidSecrets$Plots" "row" "[I") ∈ lw_all := lw_g (lw_at lw_m2 99 rfl) rfl
theorem q468 : (Jvm.Cond.fieldLink "PaidSecrets$Plots" (19 : Nat) "PaidSecrets$Plots" "best" "[I") ∈ lw_all := lw_g (lw_at lw_m2 100 rfl) rfl
theorem q470 : (Jvm.Cond.fieldLink "PaidSecrets$Plots" (25 : Nat) "PaidSecrets$Plots" "steps" "[LPaidSecrets$Talk;") ∈ lw_all := lw_g (lw_at lw_m2 102 rfl) rfl
theorem q471 : (Jvm.Cond.fieldLink "PaidSecrets$Plots" (51 : Nat) "PaidSecrets$Plots" "most" "I") ∈ lw_all := lw_g (lw_at lw_m2 103 rfl) rfl
theorem q473 : (Jvm.Cond.fieldLink "PaidSecrets$Plots" (36 : Nat) "PaidSecrets$Plots" "many" "I") ∈ lw_all := lw_g (lw_at lw_m2 105 rfl) rfl
theorem q475 : (Jvm.Cond.fieldLink "PaidSecrets$Plots" (29 : Nat) "PaidSecrets$Plots" "person" "I") ∈ lw_all := lw_g (lw_at lw_m2 107 rfl) rfl
theorem q476 : (Jvm.Cond.fieldLink "PaidSecrets$Plots" (33 : Nat) "PaidSecrets$Plots" "other" "I") ∈ lw_all := lw_g (lw_at lw_m2 108 rfl) rfl
theorem q477 : (Jvm.Cond.fieldLink "PaidSecrets$Plots" (3 : Nat) "PaidSecrets$Plots" "this$0" "LPaidSecrets;") ∈ lw_all := lw_g (lw_at lw_m2 109 rfl) rfl
theorem q478 : (Jvm.Cond.laysFinal "PaidSecrets$Plots" "PaidSecrets$Plots" "row" "[I") ∈ lw_all := lw_g (lw_at lw_m2 110 rfl) rfl
theorem q479 : (Jvm.Cond.soleField "PaidSecrets$Plots" "row") ∈ lw_all := lw_g (lw_at lw_m2 111 rfl) rfl
theorem q480 : (Jvm.Cond.laysFinal "PaidSecrets$Plots" "PaidSecrets$Plots" "best" "[I") ∈ lw_all := lw_g (lw_at lw_m2 112 rfl) rfl
theorem q481 : (Jvm.Cond.soleField "PaidSecrets$Plots" "best") ∈ lw_all := lw_g (lw_at lw_m2 113 rfl) rfl
theorem q482 : (Jvm.Cond.laysFinal "PaidSecrets$Plots" "PaidSecrets$Plots" "steps" "[LPaidSecrets$Talk;") ∈ lw_all := lw_g (lw_at lw_m2 114 rfl) rfl
theorem q483 : (Jvm.Cond.soleField "PaidSecrets$Plots" "steps") ∈ lw_all := lw_g (lw_at lw_m2 115 rfl) rfl
theorem q484 : (Jvm.Cond.lays "PaidSecrets$Plots" "PaidSecrets$Plots" "most" "I") ∈ lw_all := lw_g (lw_at lw_m2 116 rfl) rfl
theorem q485 : (Jvm.Cond.soleField "PaidSecrets$Plots" "most") ∈ lw_all := lw_g (lw_at lw_m2 117 rfl) rfl
theorem q486 : (Jvm.Cond.lays "PaidSecrets$Plots" "PaidSecrets$Plots" "many" "I") ∈ lw_all := lw_g (lw_at lw_m2 118 rfl) rfl
theorem q487 : (Jvm.Cond.soleField "PaidSecrets$Plots" "many") ∈ lw_all := lw_g (lw_at lw_m2 119 rfl) rfl
theorem q488 : (Jvm.Cond.lays "PaidSecrets$Plots" "PaidSecrets$Plots" "person" "I") ∈ lw_all := lw_g (lw_at lw_m2 120 rfl) rfl
theorem q489 : (Jvm.Cond.soleField "PaidSecrets$Plots" "person") ∈ lw_all := lw_g (lw_at lw_m2 121 rfl) rfl
theorem q490 : (Jvm.Cond.lays "PaidSecrets$Plots" "PaidSecrets$Plots" "other" "I") ∈ lw_all := lw_g (lw_at lw_m2 122 rfl) rfl
theorem q491 : (Jvm.Cond.soleField "PaidSecrets$Plots" "other") ∈ lw_all := lw_g (lw_at lw_m2 123 rfl) rfl
theorem q492 : (Jvm.Cond.laysFinal "PaidSecrets$Plots" "PaidSecrets$Plots" "this$0" "LPaidSecrets;") ∈ lw_all := lw_g (lw_at lw_m2 124 rfl) rfl
theorem q493 : (Jvm.Cond.soleField "PaidSecrets$Plots" "this$0") ∈ lw_all := lw_g (lw_at lw_m2 125 rfl) rfl
theorem q494 : (Jvm.Cond.superclass "PaidSecrets$Plots" "java/lang/Object") ∈ lw_all := lw_g (lw_at lw_m2 126 rfl) rfl
theorem q539 : (Jvm.Cond.fieldLinkNest "PaidSecrets$Plots" (39 : Nat) "PaidSecrets" "talk" "LPaidSecrets$Talk;" "PaidSecrets") ∈ lw_tbl := lw_at lw_m2 171 rfl
theorem q892 : (Jvm.Cond.selects "PaidSecrets$Plots" ({ cls := "java/lang/Object", name := "getClass", desc := "()Ljava/lang/Class;" } : Jvm.MethodName) ({ cls := "java/lang/Object", name := "getClass", desc := "()Ljava/lang/Class;" } : Jvm.MethodName)) ∈ lw_all := lw_g (lw_at lw_m4 44 rfl) rfl
theorem q1822 : (Jvm.Cond.instanceMethod ({ cls := "PaidSecrets$Plots", name := "finds", desc := "(III)V" } : Jvm.MethodName)) ∈ lw_all := lw_g (lw_at lw_m8 14 rfl) rfl
theorem q1823 : (Jvm.Cond.selects "PaidSecrets$Plots" ({ cls := "PaidSecrets$Plots", name := "finds", desc := "(III)V" } : Jvm.MethodName) ({ cls := "PaidSecrets$Plots", name := "finds", desc := "(III)V" } : Jvm.MethodName)) ∈ lw_all := lw_g (lw_at lw_m8 15 rfl) rfl
theorem q1824 : (Jvm.Cond.code ({ cls := "PaidSecrets$Plots", name := "finds", desc := "(III)V" } : Jvm.MethodName) prog_21_method_2_code (5 : Nat) (Option.none : Option Jvm.ClassFile.FieldType)) ∈ lw_all := lw_g (lw_at lw_m8 16 rfl) rfl
theorem q1825 : (Jvm.Cond.methodLink "PaidSecrets$Plots" (43 : Nat) ({ cls := "PaidSecrets$Plots", name := "goes", desc := "(LPaidSecrets$Talk;II)V" } : Jvm.MethodName)) ∈ lw_all := lw_g (lw_at lw_m8 17 rfl) rfl
theorem q1826 : (Jvm.Cond.privateMethod ({ cls := "PaidSecrets$Plots", name := "goes", desc := "(LPaidSecrets$Talk;II)V" } : Jvm.MethodName)) ∈ lw_tbl := lw_at lw_m8 18 rfl
theorem q1827 : (Jvm.Cond.instanceMethod ({ cls := "PaidSecrets$Plots", name := "goes", desc := "(LPaidSecrets$Talk;II)V" } : Jvm.MethodName)) ∈ lw_all := lw_g (lw_at lw_m8 19 rfl) rfl
theorem q1828 : (Jvm.Cond.code ({ cls := "PaidSecrets$Plots", name := "goes", desc := "(LPaidSecrets$Talk;II)V" } : Jvm.MethodName) prog_21_method_3_code (7 : Nat) (Option.none : Option Jvm.ClassFile.FieldType)) ∈ lw_all := lw_g (lw_at lw_m8 20 rfl) rfl
theorem q1829 : (Jvm.Cond.methodLink "PaidSecrets$Plots" (47 : Nat) ({ cls := "PaidSecrets$Talk", name := "purse", desc := "(I)I" } : Jvm.MethodName)) ∈ lw_all := lw_g (lw_at lw_m8 21 rfl) rfl
theorem q1830 : (Jvm.Cond.methodLink "PaidSecrets$Plots" (54 : Nat) ({ cls := "java/lang/System", name := "arraycopy", desc := "(Ljava/lang/Object;ILjava/lang/Object;II)V" } : Jvm.MethodName)) ∈ lw_all := lw_g (lw_at lw_m8 22 rfl) rfl
theorem q1831 : (Jvm.Cond.methodLinkNest "PaidSecrets$Plots" (60 : Nat) ({ cls := "PaidSecrets", name := "people", desc := "()I" } : Jvm.MethodName) "PaidSecrets") ∈ lw_tbl := lw_at lw_m8 23 rfl
theorem q1832 : (Jvm.Cond.methodLinkNest "PaidSecrets$Plots" (64 : Nat) ({ cls := "PaidSecrets", name := "secrets", desc := "()I" } : Jvm.MethodName) "PaidSecrets") ∈ lw_tbl := lw_at lw_m8 24 rfl
theorem q1833 : (Jvm.Cond.methodLink "PaidSecrets$Plots" (67 : Nat) ({ cls := "PaidSecrets$Talk", name := "mayTell", desc := "(III)Z" } : Jvm.MethodName)) ∈ lw_all := lw_g (lw_at lw_m8 25 rfl) rfl
theorem q1834 : (Jvm.Cond.methodLink "PaidSecrets$Plots" (71 : Nat) ({ cls := "PaidSecrets$Talk", name := "copies", desc := "(LPaidSecrets$Talk;)LPaidSecrets$Talk;" } : Jvm.MethodName)) ∈ lw_all := lw_g (lw_at lw_m8 26 rfl) rfl
theorem q1835 : (Jvm.Cond.methodLink "PaidSecrets$Plots" (75 : Nat) ({ cls := "PaidSecrets$Talk", name := "tells", desc := "(III)V" } : Jvm.MethodName)) ∈ lw_all := lw_g (lw_at lw_m8 27 rfl) rfl
theorem q2540 : (Jvm.Cond.castable "PaidSecrets$Plots" "java/lang/Object") ∈ lw_tbl := lw_at lw_m11 12 rfl
theorem in_X7 : ∀ w ∈ wsX70, w ∈ lw_all := lw_in wsX70 [478, 480, 482, 484, 486, 488, 490, 492] (by decide +kernel) (by decide +kernel)
/-! PaidSecrets$Nights -/
set_option maxRecDepth 100000
def RX8 : String := "PaidSecrets$Nights"
def TX8 : u_T := fun k => match k with
  | 0 => ("PaidSecrets$Nights", "of", "[I", false)
  | 1 => ("PaidSecrets$Nights", "next", "[I", false)
  | 2 => ("PaidSecrets$Nights", "hears", "[I", true)
  | _ => ("PaidSecrets$Nights", "this$0", "LPaidSecrets;", true)
def tyX8 : Nat → FieldType := fun k => match k with
  | 0 => .array .int
  | 1 => .array .int
  | 2 => .array .int
  | _ => .object "PaidSecrets"
abbrev wsX80 : List Cond := u_ws RX8 TX8 4
theorem nmX8 : ∀ a, a < 4 → ∀ b, b < 4 → a ≠ b → (TX8 a).2.1 ≠ (TX8 b).2.1 := by decide +kernel
theorem tyX8_ok : ∀ k, k < 4 → parseFieldDescriptor (TX8 k).2.2.1 = some (tyX8 k) := by decide +kernel
abbrev cX8_init : ByteArray := prog_14_method_1_code
def yX8_init : MethodName := ⟨RX8, "<init>", "(LPaidSecrets;)V"⟩
def dkwX8_init_1 : List UInt8 := [181, 0, 19, 42, 16, 6, 188, 10, 181, 0, 22, 177]
abbrev dktX8_init_1 : List UInt8 := dkwX8_init_1 ++ []
def dkwX8_init_0 : List UInt8 := [42, 43, 181, 0, 3, 42, 183, 0, 9, 42, 16, 64, 188, 10, 181, 0, 15, 42, 16, 64, 188, 10]
abbrev dktX8_init_0 : List UInt8 := dkwX8_init_0 ++ dktX8_init_1
theorem dksX8_init_0 : cX8_init.data.toList.drop 0 = dktX8_init_0 := by decide +kernel
theorem dksX8_init_1 : cX8_init.data.toList.drop 22 = dktX8_init_1 := dk_seg dksX8_init_0 22 rfl rfl
theorem dX8_init_0 : decode cX8_init 0 = .ok (.aload_n 0, 1) := dk_42 (dk_at dksX8_init_0 0 rfl rfl)
theorem dX8_init_1 : decode cX8_init 1 = .ok (.aload_n 1, 1) := dk_43 (dk_at dksX8_init_0 1 rfl rfl)
theorem dX8_init_2 : decode cX8_init 2 = .ok (.putfield 3, 3) := dk_181 0 3 (dk_at dksX8_init_0 2 rfl rfl)
theorem dX8_init_5 : decode cX8_init 5 = .ok (.aload_n 0, 1) := dk_42 (dk_at dksX8_init_0 5 rfl rfl)
theorem dX8_init_6 : decode cX8_init 6 = .ok (.invokespecial 9, 3) := dk_183 0 9 (dk_at dksX8_init_0 6 rfl rfl)
theorem dX8_init_9 : decode cX8_init 9 = .ok (.aload_n 0, 1) := dk_42 (dk_at dksX8_init_0 9 rfl rfl)
theorem dX8_init_10 : decode cX8_init 10 = .ok (.bipush 64, 2) := dk_16 64 (dk_at dksX8_init_0 10 rfl rfl)
theorem dX8_init_12 : decode cX8_init 12 = .ok (.newarray .int, 2) := dk_188_10 (dk_at dksX8_init_0 12 rfl rfl)
theorem dX8_init_14 : decode cX8_init 14 = .ok (.putfield 15, 3) := dk_181 0 15 (dk_at dksX8_init_0 14 rfl rfl)
theorem dX8_init_17 : decode cX8_init 17 = .ok (.aload_n 0, 1) := dk_42 (dk_at dksX8_init_0 17 rfl rfl)
theorem dX8_init_18 : decode cX8_init 18 = .ok (.bipush 64, 2) := dk_16 64 (dk_at dksX8_init_0 18 rfl rfl)
theorem dX8_init_20 : decode cX8_init 20 = .ok (.newarray .int, 2) := dk_188_10 (dk_at dksX8_init_0 20 rfl rfl)
theorem dX8_init_22 : decode cX8_init 22 = .ok (.putfield 19, 3) := dk_181 0 19 (dk_at dksX8_init_1 0 rfl rfl)
theorem dX8_init_25 : decode cX8_init 25 = .ok (.aload_n 0, 1) := dk_42 (dk_at dksX8_init_1 3 rfl rfl)
theorem dX8_init_26 : decode cX8_init 26 = .ok (.bipush 6, 2) := dk_16 6 (dk_at dksX8_init_1 4 rfl rfl)
theorem dX8_init_28 : decode cX8_init 28 = .ok (.newarray .int, 2) := dk_188_10 (dk_at dksX8_init_1 6 rfl rfl)
theorem dX8_init_30 : decode cX8_init 30 = .ok (.putfield 22, 3) := dk_181 0 22 (dk_at dksX8_init_1 8 rfl rfl)
theorem dX8_init_33 : decode cX8_init 33 = .ok (.return_, 1) := dk_177 (dk_at dksX8_init_1 11 rfl rfl)
abbrev cX8_goes : ByteArray := prog_14_method_2_code
def yX8_goes : MethodName := ⟨RX8, "goes", "(II)V"⟩
def dkwX8_goes_5 : List UInt8 := [42, 42, 180, 0, 19, 181, 0, 15, 42, 25, 4, 181, 0, 19, 132, 3, 1, 167, 255, 165, 177]
abbrev dktX8_goes_5 : List UInt8 := dkwX8_goes_5 ++ []
def dkwX8_goes_4 : List UInt8 := [21, 4, 46, 158, 0, 9, 42, 21, 4, 182, 0, 39, 132, 4, 1, 167, 255, 223, 42, 180, 0, 15, 58, 4]
abbrev dktX8_goes_4 : List UInt8 := dkwX8_goes_4 ++ dktX8_goes_5
def dkwX8_goes_3 : List UInt8 := [167, 255, 238, 3, 54, 4, 21, 4, 4, 42, 180, 0, 3, 182, 0, 35, 120, 162, 0, 25, 42, 180, 0, 15]
abbrev dktX8_goes_3 : List UInt8 := dkwX8_goes_3 ++ dktX8_goes_4
def dkwX8_goes_2 : List UInt8 := [162, 0, 92, 3, 54, 4, 21, 4, 16, 64, 162, 0, 17, 42, 180, 0, 19, 21, 4, 3, 79, 132, 4, 1]
abbrev dktX8_goes_2 : List UInt8 := dkwX8_goes_2 ++ dktX8_goes_3
def dkwX8_goes_1 : List UInt8 := [27, 46, 160, 0, 8, 18, 34, 167, 0, 4, 3, 79, 132, 3, 1, 167, 255, 219, 3, 62, 29, 28]
abbrev dktX8_goes_1 : List UInt8 := dkwX8_goes_1 ++ dktX8_goes_2
def dkwX8_goes_0 : List UInt8 := [3, 62, 29, 16, 64, 162, 0, 37, 42, 180, 0, 15, 29, 29, 42, 180, 0, 3, 180, 0, 25, 180, 0, 29]
abbrev dktX8_goes_0 : List UInt8 := dkwX8_goes_0 ++ dktX8_goes_1
theorem dksX8_goes_0 : cX8_goes.data.toList.drop 0 = dktX8_goes_0 := by decide +kernel
theorem dksX8_goes_1 : cX8_goes.data.toList.drop 24 = dktX8_goes_1 := dk_seg dksX8_goes_0 24 rfl rfl
theorem dksX8_goes_2 : cX8_goes.data.toList.drop 46 = dktX8_goes_2 := dk_seg dksX8_goes_1 22 rfl rfl
theorem dksX8_goes_3 : cX8_goes.data.toList.drop 70 = dktX8_goes_3 := dk_seg dksX8_goes_2 24 rfl rfl
theorem dksX8_goes_4 : cX8_goes.data.toList.drop 94 = dktX8_goes_4 := dk_seg dksX8_goes_3 24 rfl rfl
theorem dksX8_goes_5 : cX8_goes.data.toList.drop 118 = dktX8_goes_5 := dk_seg dksX8_goes_4 24 rfl rfl
theorem dX8_goes_0 : decode cX8_goes 0 = .ok (.iconst 0, 1) := dk_3 (dk_at dksX8_goes_0 0 rfl rfl)
theorem dX8_goes_1 : decode cX8_goes 1 = .ok (.istore_n 3, 1) := dk_62 (dk_at dksX8_goes_0 1 rfl rfl)
theorem dX8_goes_2 : decode cX8_goes 2 = .ok (.iload_n 3, 1) := dk_29 (dk_at dksX8_goes_0 2 rfl rfl)
theorem dX8_goes_3 : decode cX8_goes 3 = .ok (.bipush 64, 2) := dk_16 64 (dk_at dksX8_goes_0 3 rfl rfl)
theorem dX8_goes_5 : decode cX8_goes 5 = .ok (.if_icmp .ge 37, 3) := dk_162 0 37 (dk_at dksX8_goes_0 5 rfl rfl)
theorem dX8_goes_8 : decode cX8_goes 8 = .ok (.aload_n 0, 1) := dk_42 (dk_at dksX8_goes_0 8 rfl rfl)
theorem dX8_goes_9 : decode cX8_goes 9 = .ok (.getfield 15, 3) := dk_180 0 15 (dk_at dksX8_goes_0 9 rfl rfl)
theorem dX8_goes_12 : decode cX8_goes 12 = .ok (.iload_n 3, 1) := dk_29 (dk_at dksX8_goes_0 12 rfl rfl)
theorem dX8_goes_13 : decode cX8_goes 13 = .ok (.iload_n 3, 1) := dk_29 (dk_at dksX8_goes_0 13 rfl rfl)
theorem dX8_goes_14 : decode cX8_goes 14 = .ok (.aload_n 0, 1) := dk_42 (dk_at dksX8_goes_0 14 rfl rfl)
theorem dX8_goes_15 : decode cX8_goes 15 = .ok (.getfield 3, 3) := dk_180 0 3 (dk_at dksX8_goes_0 15 rfl rfl)
theorem dX8_goes_18 : decode cX8_goes 18 = .ok (.getfield 25, 3) := dk_180 0 25 (dk_at dksX8_goes_0 18 rfl rfl)
theorem dX8_goes_21 : decode cX8_goes 21 = .ok (.getfield 29, 3) := dk_180 0 29 (dk_at dksX8_goes_0 21 rfl rfl)
theorem dX8_goes_24 : decode cX8_goes 24 = .ok (.iload_n 1, 1) := dk_27 (dk_at dksX8_goes_1 0 rfl rfl)
theorem dX8_goes_25 : decode cX8_goes 25 = .ok (.iaload, 1) := dk_46 (dk_at dksX8_goes_1 1 rfl rfl)
theorem dX8_goes_26 : decode cX8_goes 26 = .ok (.if_icmp .ne 8, 3) := dk_160 0 8 (dk_at dksX8_goes_1 2 rfl rfl)
theorem dX8_goes_29 : decode cX8_goes 29 = .ok (.ldc 34, 2) := dk_18 34 (dk_at dksX8_goes_1 5 rfl rfl)
theorem dX8_goes_31 : decode cX8_goes 31 = .ok (.goto 4, 3) := dk_167 0 4 (dk_at dksX8_goes_1 7 rfl rfl)
theorem dX8_goes_34 : decode cX8_goes 34 = .ok (.iconst 0, 1) := dk_3 (dk_at dksX8_goes_1 10 rfl rfl)
theorem dX8_goes_35 : decode cX8_goes 35 = .ok (.iastore, 1) := dk_79 (dk_at dksX8_goes_1 11 rfl rfl)
theorem dX8_goes_36 : decode cX8_goes 36 = .ok (.iinc 3 1, 3) := dk_132 3 1 (dk_at dksX8_goes_1 12 rfl rfl)
theorem dX8_goes_39 : decode cX8_goes 39 = .ok (.goto (-37), 3) := dk_167 255 219 (dk_at dksX8_goes_1 15 rfl rfl)
theorem dX8_goes_42 : decode cX8_goes 42 = .ok (.iconst 0, 1) := dk_3 (dk_at dksX8_goes_1 18 rfl rfl)
theorem dX8_goes_43 : decode cX8_goes 43 = .ok (.istore_n 3, 1) := dk_62 (dk_at dksX8_goes_1 19 rfl rfl)
theorem dX8_goes_44 : decode cX8_goes 44 = .ok (.iload_n 3, 1) := dk_29 (dk_at dksX8_goes_1 20 rfl rfl)
theorem dX8_goes_45 : decode cX8_goes 45 = .ok (.iload_n 2, 1) := dk_28 (dk_at dksX8_goes_1 21 rfl rfl)
theorem dX8_goes_46 : decode cX8_goes 46 = .ok (.if_icmp .ge 92, 3) := dk_162 0 92 (dk_at dksX8_goes_2 0 rfl rfl)
theorem dX8_goes_49 : decode cX8_goes 49 = .ok (.iconst 0, 1) := dk_3 (dk_at dksX8_goes_2 3 rfl rfl)
theorem dX8_goes_50 : decode cX8_goes 50 = .ok (.istore 4, 2) := dk_54 4 (dk_at dksX8_goes_2 4 rfl rfl)
theorem dX8_goes_52 : decode cX8_goes 52 = .ok (.iload 4, 2) := dk_21 4 (dk_at dksX8_goes_2 6 rfl rfl)
theorem dX8_goes_54 : decode cX8_goes 54 = .ok (.bipush 64, 2) := dk_16 64 (dk_at dksX8_goes_2 8 rfl rfl)
theorem dX8_goes_56 : decode cX8_goes 56 = .ok (.if_icmp .ge 17, 3) := dk_162 0 17 (dk_at dksX8_goes_2 10 rfl rfl)
theorem dX8_goes_59 : decode cX8_goes 59 = .ok (.aload_n 0, 1) := dk_42 (dk_at dksX8_goes_2 13 rfl rfl)
theorem dX8_goes_60 : decode cX8_goes 60 = .ok (.getfield 19, 3) := dk_180 0 19 (dk_at dksX8_goes_2 14 rfl rfl)
theorem dX8_goes_63 : decode cX8_goes 63 = .ok (.iload 4, 2) := dk_21 4 (dk_at dksX8_goes_2 17 rfl rfl)
theorem dX8_goes_65 : decode cX8_goes 65 = .ok (.iconst 0, 1) := dk_3 (dk_at dksX8_goes_2 19 rfl rfl)
theorem dX8_goes_66 : decode cX8_goes 66 = .ok (.iastore, 1) := dk_79 (dk_at dksX8_goes_2 20 rfl rfl)
theorem dX8_goes_67 : decode cX8_goes 67 = .ok (.iinc 4 1, 3) := dk_132 4 1 (dk_at dksX8_goes_2 21 rfl rfl)
theorem dX8_goes_70 : decode cX8_goes 70 = .ok (.goto (-18), 3) := dk_167 255 238 (dk_at dksX8_goes_3 0 rfl rfl)
theorem dX8_goes_73 : decode cX8_goes 73 = .ok (.iconst 0, 1) := dk_3 (dk_at dksX8_goes_3 3 rfl rfl)
theorem dX8_goes_74 : decode cX8_goes 74 = .ok (.istore 4, 2) := dk_54 4 (dk_at dksX8_goes_3 4 rfl rfl)
theorem dX8_goes_76 : decode cX8_goes 76 = .ok (.iload 4, 2) := dk_21 4 (dk_at dksX8_goes_3 6 rfl rfl)
theorem dX8_goes_78 : decode cX8_goes 78 = .ok (.iconst 1, 1) := dk_4 (dk_at dksX8_goes_3 8 rfl rfl)
theorem dX8_goes_79 : decode cX8_goes 79 = .ok (.aload_n 0, 1) := dk_42 (dk_at dksX8_goes_3 9 rfl rfl)
theorem dX8_goes_80 : decode cX8_goes 80 = .ok (.getfield 3, 3) := dk_180 0 3 (dk_at dksX8_goes_3 10 rfl rfl)
theorem dX8_goes_83 : decode cX8_goes 83 = .ok (.invokevirtual 35, 3) := dk_182 0 35 (dk_at dksX8_goes_3 13 rfl rfl)
theorem dX8_goes_86 : decode cX8_goes 86 = .ok (.ishl, 1) := dk_120 (dk_at dksX8_goes_3 16 rfl rfl)
theorem dX8_goes_87 : decode cX8_goes 87 = .ok (.if_icmp .ge 25, 3) := dk_162 0 25 (dk_at dksX8_goes_3 17 rfl rfl)
theorem dX8_goes_90 : decode cX8_goes 90 = .ok (.aload_n 0, 1) := dk_42 (dk_at dksX8_goes_3 20 rfl rfl)
theorem dX8_goes_91 : decode cX8_goes 91 = .ok (.getfield 15, 3) := dk_180 0 15 (dk_at dksX8_goes_3 21 rfl rfl)
theorem dX8_goes_94 : decode cX8_goes 94 = .ok (.iload 4, 2) := dk_21 4 (dk_at dksX8_goes_4 0 rfl rfl)
theorem dX8_goes_96 : decode cX8_goes 96 = .ok (.iaload, 1) := dk_46 (dk_at dksX8_goes_4 2 rfl rfl)
theorem dX8_goes_97 : decode cX8_goes 97 = .ok (.ifCond .le 9, 3) := dk_158 0 9 (dk_at dksX8_goes_4 3 rfl rfl)
theorem dX8_goes_100 : decode cX8_goes 100 = .ok (.aload_n 0, 1) := dk_42 (dk_at dksX8_goes_4 6 rfl rfl)
theorem dX8_goes_101 : decode cX8_goes 101 = .ok (.iload 4, 2) := dk_21 4 (dk_at dksX8_goes_4 7 rfl rfl)
theorem dX8_goes_103 : decode cX8_goes 103 = .ok (.invokevirtual 39, 3) := dk_182 0 39 (dk_at dksX8_goes_4 9 rfl rfl)
theorem dX8_goes_106 : decode cX8_goes 106 = .ok (.iinc 4 1, 3) := dk_132 4 1 (dk_at dksX8_goes_4 12 rfl rfl)
theorem dX8_goes_109 : decode cX8_goes 109 = .ok (.goto (-33), 3) := dk_167 255 223 (dk_at dksX8_goes_4 15 rfl rfl)
theorem dX8_goes_112 : decode cX8_goes 112 = .ok (.aload_n 0, 1) := dk_42 (dk_at dksX8_goes_4 18 rfl rfl)
theorem dX8_goes_113 : decode cX8_goes 113 = .ok (.getfield 15, 3) := dk_180 0 15 (dk_at dksX8_goes_4 19 rfl rfl)
theorem dX8_goes_116 : decode cX8_goes 116 = .ok (.astore 4, 2) := dk_58 4 (dk_at dksX8_goes_4 22 rfl rfl)
theorem dX8_goes_118 : decode cX8_goes 118 = .ok (.aload_n 0, 1) := dk_42 (dk_at dksX8_goes_5 0 rfl rfl)
theorem dX8_goes_119 : decode cX8_goes 119 = .ok (.aload_n 0, 1) := dk_42 (dk_at dksX8_goes_5 1 rfl rfl)
theorem dX8_goes_120 : decode cX8_goes 120 = .ok (.getfield 19, 3) := dk_180 0 19 (dk_at dksX8_goes_5 2 rfl rfl)
theorem dX8_goes_123 : decode cX8_goes 123 = .ok (.putfield 15, 3) := dk_181 0 15 (dk_at dksX8_goes_5 5 rfl rfl)
theorem dX8_goes_126 : decode cX8_goes 126 = .ok (.aload_n 0, 1) := dk_42 (dk_at dksX8_goes_5 8 rfl rfl)
theorem dX8_goes_127 : decode cX8_goes 127 = .ok (.aload 4, 2) := dk_25 4 (dk_at dksX8_goes_5 9 rfl rfl)
theorem dX8_goes_129 : decode cX8_goes 129 = .ok (.putfield 19, 3) := dk_181 0 19 (dk_at dksX8_goes_5 11 rfl rfl)
theorem dX8_goes_132 : decode cX8_goes 132 = .ok (.iinc 3 1, 3) := dk_132 3 1 (dk_at dksX8_goes_5 14 rfl rfl)
theorem dX8_goes_135 : decode cX8_goes 135 = .ok (.goto (-91), 3) := dk_167 255 165 (dk_at dksX8_goes_5 17 rfl rfl)
theorem dX8_goes_138 : decode cX8_goes 138 = .ok (.return_, 1) := dk_177 (dk_at dksX8_goes_5 20 rfl rfl)
abbrev cX8_spreads : ByteArray := prog_14_method_3_code
def yX8_spreads : MethodName := ⟨RX8, "spreads", "(I)V"⟩
def dkwX8_spreads_4 : List UInt8 := [154, 0, 4, 177, 29, 4, 100, 28, 126, 62, 167, 255, 214]
abbrev dktX8_spreads_4 : List UInt8 := dkwX8_spreads_4 ++ []
def dkwX8_spreads_3 : List UInt8 := [180, 0, 15, 27, 46, 133, 42, 28, 29, 182, 0, 50, 133, 105, 20, 0, 53, 109, 136, 96, 79, 29]
abbrev dktX8_spreads_3 : List UInt8 := dkwX8_spreads_3 ++ dktX8_spreads_4
def dkwX8_spreads_2 : List UInt8 := [182, 0, 47, 79, 132, 3, 1, 167, 255, 222, 28, 62, 42, 180, 0, 19, 27, 29, 128, 92, 46, 42]
abbrev dktX8_spreads_2 : List UInt8 := dkwX8_spreads_2 ++ dktX8_spreads_3
def dkwX8_spreads_1 : List UInt8 := [182, 0, 35, 162, 0, 29, 28, 29, 184, 0, 43, 153, 0, 15, 42, 180, 0, 22, 29, 42, 27, 29]
abbrev dktX8_spreads_1 : List UInt8 := dkwX8_spreads_1 ++ dktX8_spreads_2
def dkwX8_spreads_0 : List UInt8 := [4, 42, 180, 0, 3, 182, 0, 35, 120, 4, 100, 27, 2, 130, 126, 61, 3, 62, 29, 42, 180, 0, 3]
abbrev dktX8_spreads_0 : List UInt8 := dkwX8_spreads_0 ++ dktX8_spreads_1
theorem dksX8_spreads_0 : cX8_spreads.data.toList.drop 0 = dktX8_spreads_0 := by decide +kernel
theorem dksX8_spreads_1 : cX8_spreads.data.toList.drop 23 = dktX8_spreads_1 := dk_seg dksX8_spreads_0 23 rfl rfl
theorem dksX8_spreads_2 : cX8_spreads.data.toList.drop 45 = dktX8_spreads_2 := dk_seg dksX8_spreads_1 22 rfl rfl
theorem dksX8_spreads_3 : cX8_spreads.data.toList.drop 67 = dktX8_spreads_3 := dk_seg dksX8_spreads_2 22 rfl rfl
theorem dksX8_spreads_4 : cX8_spreads.data.toList.drop 89 = dktX8_spreads_4 := dk_seg dksX8_spreads_3 22 rfl rfl
theorem dX8_spreads_0 : decode cX8_spreads 0 = .ok (.iconst 1, 1) := dk_4 (dk_at dksX8_spreads_0 0 rfl rfl)
theorem dX8_spreads_1 : decode cX8_spreads 1 = .ok (.aload_n 0, 1) := dk_42 (dk_at dksX8_spreads_0 1 rfl rfl)
theorem dX8_spreads_2 : decode cX8_spreads 2 = .ok (.getfield 3, 3) := dk_180 0 3 (dk_at dksX8_spreads_0 2 rfl rfl)
theorem dX8_spreads_5 : decode cX8_spreads 5 = .ok (.invokevirtual 35, 3) := dk_182 0 35 (dk_at dksX8_spreads_0 5 rfl rfl)
theorem dX8_spreads_8 : decode cX8_spreads 8 = .ok (.ishl, 1) := dk_120 (dk_at dksX8_spreads_0 8 rfl rfl)
theorem dX8_spreads_9 : decode cX8_spreads 9 = .ok (.iconst 1, 1) := dk_4 (dk_at dksX8_spreads_0 9 rfl rfl)
theorem dX8_spreads_10 : decode cX8_spreads 10 = .ok (.isub, 1) := dk_100 (dk_at dksX8_spreads_0 10 rfl rfl)
theorem dX8_spreads_11 : decode cX8_spreads 11 = .ok (.iload_n 1, 1) := dk_27 (dk_at dksX8_spreads_0 11 rfl rfl)
theorem dX8_spreads_12 : decode cX8_spreads 12 = .ok (.iconst (-1), 1) := dk_2 (dk_at dksX8_spreads_0 12 rfl rfl)
theorem dX8_spreads_13 : decode cX8_spreads 13 = .ok (.ixor, 1) := dk_130 (dk_at dksX8_spreads_0 13 rfl rfl)
theorem dX8_spreads_14 : decode cX8_spreads 14 = .ok (.iand, 1) := dk_126 (dk_at dksX8_spreads_0 14 rfl rfl)
theorem dX8_spreads_15 : decode cX8_spreads 15 = .ok (.istore_n 2, 1) := dk_61 (dk_at dksX8_spreads_0 15 rfl rfl)
theorem dX8_spreads_16 : decode cX8_spreads 16 = .ok (.iconst 0, 1) := dk_3 (dk_at dksX8_spreads_0 16 rfl rfl)
theorem dX8_spreads_17 : decode cX8_spreads 17 = .ok (.istore_n 3, 1) := dk_62 (dk_at dksX8_spreads_0 17 rfl rfl)
theorem dX8_spreads_18 : decode cX8_spreads 18 = .ok (.iload_n 3, 1) := dk_29 (dk_at dksX8_spreads_0 18 rfl rfl)
theorem dX8_spreads_19 : decode cX8_spreads 19 = .ok (.aload_n 0, 1) := dk_42 (dk_at dksX8_spreads_0 19 rfl rfl)
theorem dX8_spreads_20 : decode cX8_spreads 20 = .ok (.getfield 3, 3) := dk_180 0 3 (dk_at dksX8_spreads_0 20 rfl rfl)
theorem dX8_spreads_23 : decode cX8_spreads 23 = .ok (.invokevirtual 35, 3) := dk_182 0 35 (dk_at dksX8_spreads_1 0 rfl rfl)
theorem dX8_spreads_26 : decode cX8_spreads 26 = .ok (.if_icmp .ge 29, 3) := dk_162 0 29 (dk_at dksX8_spreads_1 3 rfl rfl)
theorem dX8_spreads_29 : decode cX8_spreads 29 = .ok (.iload_n 2, 1) := dk_28 (dk_at dksX8_spreads_1 6 rfl rfl)
theorem dX8_spreads_30 : decode cX8_spreads 30 = .ok (.iload_n 3, 1) := dk_29 (dk_at dksX8_spreads_1 7 rfl rfl)
theorem dX8_spreads_31 : decode cX8_spreads 31 = .ok (.invokestatic 43, 3) := dk_184 0 43 (dk_at dksX8_spreads_1 8 rfl rfl)
theorem dX8_spreads_34 : decode cX8_spreads 34 = .ok (.ifCond .eq 15, 3) := dk_153 0 15 (dk_at dksX8_spreads_1 11 rfl rfl)
theorem dX8_spreads_37 : decode cX8_spreads 37 = .ok (.aload_n 0, 1) := dk_42 (dk_at dksX8_spreads_1 14 rfl rfl)
theorem dX8_spreads_38 : decode cX8_spreads 38 = .ok (.getfield 22, 3) := dk_180 0 22 (dk_at dksX8_spreads_1 15 rfl rfl)
theorem dX8_spreads_41 : decode cX8_spreads 41 = .ok (.iload_n 3, 1) := dk_29 (dk_at dksX8_spreads_1 18 rfl rfl)
theorem dX8_spreads_42 : decode cX8_spreads 42 = .ok (.aload_n 0, 1) := dk_42 (dk_at dksX8_spreads_1 19 rfl rfl)
theorem dX8_spreads_43 : decode cX8_spreads 43 = .ok (.iload_n 1, 1) := dk_27 (dk_at dksX8_spreads_1 20 rfl rfl)
theorem dX8_spreads_44 : decode cX8_spreads 44 = .ok (.iload_n 3, 1) := dk_29 (dk_at dksX8_spreads_1 21 rfl rfl)
theorem dX8_spreads_45 : decode cX8_spreads 45 = .ok (.invokevirtual 47, 3) := dk_182 0 47 (dk_at dksX8_spreads_2 0 rfl rfl)
theorem dX8_spreads_48 : decode cX8_spreads 48 = .ok (.iastore, 1) := dk_79 (dk_at dksX8_spreads_2 3 rfl rfl)
theorem dX8_spreads_49 : decode cX8_spreads 49 = .ok (.iinc 3 1, 3) := dk_132 3 1 (dk_at dksX8_spreads_2 4 rfl rfl)
theorem dX8_spreads_52 : decode cX8_spreads 52 = .ok (.goto (-34), 3) := dk_167 255 222 (dk_at dksX8_spreads_2 7 rfl rfl)
theorem dX8_spreads_55 : decode cX8_spreads 55 = .ok (.iload_n 2, 1) := dk_28 (dk_at dksX8_spreads_2 10 rfl rfl)
theorem dX8_spreads_56 : decode cX8_spreads 56 = .ok (.istore_n 3, 1) := dk_62 (dk_at dksX8_spreads_2 11 rfl rfl)
theorem dX8_spreads_57 : decode cX8_spreads 57 = .ok (.aload_n 0, 1) := dk_42 (dk_at dksX8_spreads_2 12 rfl rfl)
theorem dX8_spreads_58 : decode cX8_spreads 58 = .ok (.getfield 19, 3) := dk_180 0 19 (dk_at dksX8_spreads_2 13 rfl rfl)
theorem dX8_spreads_61 : decode cX8_spreads 61 = .ok (.iload_n 1, 1) := dk_27 (dk_at dksX8_spreads_2 16 rfl rfl)
theorem dX8_spreads_62 : decode cX8_spreads 62 = .ok (.iload_n 3, 1) := dk_29 (dk_at dksX8_spreads_2 17 rfl rfl)
theorem dX8_spreads_63 : decode cX8_spreads 63 = .ok (.ior, 1) := dk_128 (dk_at dksX8_spreads_2 18 rfl rfl)
theorem dX8_spreads_64 : decode cX8_spreads 64 = .ok (.dup2, 1) := dk_92 (dk_at dksX8_spreads_2 19 rfl rfl)
theorem dX8_spreads_65 : decode cX8_spreads 65 = .ok (.iaload, 1) := dk_46 (dk_at dksX8_spreads_2 20 rfl rfl)
theorem dX8_spreads_66 : decode cX8_spreads 66 = .ok (.aload_n 0, 1) := dk_42 (dk_at dksX8_spreads_2 21 rfl rfl)
theorem dX8_spreads_67 : decode cX8_spreads 67 = .ok (.getfield 15, 3) := dk_180 0 15 (dk_at dksX8_spreads_3 0 rfl rfl)
theorem dX8_spreads_70 : decode cX8_spreads 70 = .ok (.iload_n 1, 1) := dk_27 (dk_at dksX8_spreads_3 3 rfl rfl)
theorem dX8_spreads_71 : decode cX8_spreads 71 = .ok (.iaload, 1) := dk_46 (dk_at dksX8_spreads_3 4 rfl rfl)
theorem dX8_spreads_72 : decode cX8_spreads 72 = .ok (.i2l, 1) := dk_133 (dk_at dksX8_spreads_3 5 rfl rfl)
theorem dX8_spreads_73 : decode cX8_spreads 73 = .ok (.aload_n 0, 1) := dk_42 (dk_at dksX8_spreads_3 6 rfl rfl)
theorem dX8_spreads_74 : decode cX8_spreads 74 = .ok (.iload_n 2, 1) := dk_28 (dk_at dksX8_spreads_3 7 rfl rfl)
theorem dX8_spreads_75 : decode cX8_spreads 75 = .ok (.iload_n 3, 1) := dk_29 (dk_at dksX8_spreads_3 8 rfl rfl)
theorem dX8_spreads_76 : decode cX8_spreads 76 = .ok (.invokevirtual 50, 3) := dk_182 0 50 (dk_at dksX8_spreads_3 9 rfl rfl)
theorem dX8_spreads_79 : decode cX8_spreads 79 = .ok (.i2l, 1) := dk_133 (dk_at dksX8_spreads_3 12 rfl rfl)
theorem dX8_spreads_80 : decode cX8_spreads 80 = .ok (.lmul, 1) := dk_105 (dk_at dksX8_spreads_3 13 rfl rfl)
theorem dX8_spreads_81 : decode cX8_spreads 81 = .ok (.ldc2_w 53, 3) := dk_20 0 53 (dk_at dksX8_spreads_3 14 rfl rfl)
theorem dX8_spreads_84 : decode cX8_spreads 84 = .ok (.ldiv, 1) := dk_109 (dk_at dksX8_spreads_3 17 rfl rfl)
theorem dX8_spreads_85 : decode cX8_spreads 85 = .ok (.l2i, 1) := dk_136 (dk_at dksX8_spreads_3 18 rfl rfl)
theorem dX8_spreads_86 : decode cX8_spreads 86 = .ok (.iadd, 1) := dk_96 (dk_at dksX8_spreads_3 19 rfl rfl)
theorem dX8_spreads_87 : decode cX8_spreads 87 = .ok (.iastore, 1) := dk_79 (dk_at dksX8_spreads_3 20 rfl rfl)
theorem dX8_spreads_88 : decode cX8_spreads 88 = .ok (.iload_n 3, 1) := dk_29 (dk_at dksX8_spreads_3 21 rfl rfl)
theorem dX8_spreads_89 : decode cX8_spreads 89 = .ok (.ifCond .ne 4, 3) := dk_154 0 4 (dk_at dksX8_spreads_4 0 rfl rfl)
theorem dX8_spreads_92 : decode cX8_spreads 92 = .ok (.return_, 1) := dk_177 (dk_at dksX8_spreads_4 3 rfl rfl)
theorem dX8_spreads_93 : decode cX8_spreads 93 = .ok (.iload_n 3, 1) := dk_29 (dk_at dksX8_spreads_4 4 rfl rfl)
theorem dX8_spreads_94 : decode cX8_spreads 94 = .ok (.iconst 1, 1) := dk_4 (dk_at dksX8_spreads_4 5 rfl rfl)
theorem dX8_spreads_95 : decode cX8_spreads 95 = .ok (.isub, 1) := dk_100 (dk_at dksX8_spreads_4 6 rfl rfl)
theorem dX8_spreads_96 : decode cX8_spreads 96 = .ok (.iload_n 2, 1) := dk_28 (dk_at dksX8_spreads_4 7 rfl rfl)
theorem dX8_spreads_97 : decode cX8_spreads 97 = .ok (.iand, 1) := dk_126 (dk_at dksX8_spreads_4 8 rfl rfl)
theorem dX8_spreads_98 : decode cX8_spreads 98 = .ok (.istore_n 3, 1) := dk_62 (dk_at dksX8_spreads_4 9 rfl rfl)
theorem dX8_spreads_99 : decode cX8_spreads 99 = .ok (.goto (-42), 3) := dk_167 255 214 (dk_at dksX8_spreads_4 10 rfl rfl)
abbrev cX8_hears : ByteArray := prog_14_method_4_code
def yX8_hears : MethodName := ⟨RX8, "hears", "(II)I"⟩
def dkwX8_hears_4 : List UInt8 := [100, 172]
abbrev dktX8_hears_4 : List UInt8 := dkwX8_hears_4 ++ []
def dkwX8_hears_3 : List UInt8 := [2, 159, 0, 14, 29, 16, 10, 21, 5, 100, 104, 16, 10, 108, 62, 132, 4, 1, 167, 255, 172, 18, 34, 29]
abbrev dktX8_hears_3 : List UInt8 := dkwX8_hears_3 ++ dktX8_hears_4
def dkwX8_hears_2 : List UInt8 := [153, 0, 19, 42, 180, 0, 3, 182, 0, 55, 21, 4, 28, 182, 0, 76, 167, 0, 4, 2, 54, 5, 21, 5]
abbrev dktX8_hears_2 : List UInt8 := dkwX8_hears_2 ++ dktX8_hears_3
def dkwX8_hears_1 : List UInt8 := [153, 0, 43, 42, 180, 0, 3, 182, 0, 55, 180, 0, 59, 21, 4, 182, 0, 64, 192, 0, 70, 182, 0, 72]
abbrev dktX8_hears_1 : List UInt8 := dkwX8_hears_1 ++ dktX8_hears_2
def dkwX8_hears_0 : List UInt8 := [18, 34, 62, 3, 54, 4, 21, 4, 42, 180, 0, 3, 182, 0, 35, 162, 0, 78, 27, 21, 4, 184, 0, 43]
abbrev dktX8_hears_0 : List UInt8 := dkwX8_hears_0 ++ dktX8_hears_1
theorem dksX8_hears_0 : cX8_hears.data.toList.drop 0 = dktX8_hears_0 := by decide +kernel
theorem dksX8_hears_1 : cX8_hears.data.toList.drop 24 = dktX8_hears_1 := dk_seg dksX8_hears_0 24 rfl rfl
theorem dksX8_hears_2 : cX8_hears.data.toList.drop 48 = dktX8_hears_2 := dk_seg dksX8_hears_1 24 rfl rfl
theorem dksX8_hears_3 : cX8_hears.data.toList.drop 72 = dktX8_hears_3 := dk_seg dksX8_hears_2 24 rfl rfl
theorem dksX8_hears_4 : cX8_hears.data.toList.drop 96 = dktX8_hears_4 := dk_seg dksX8_hears_3 24 rfl rfl
theorem dX8_hears_0 : decode cX8_hears 0 = .ok (.ldc 34, 2) := dk_18 34 (dk_at dksX8_hears_0 0 rfl rfl)
theorem dX8_hears_2 : decode cX8_hears 2 = .ok (.istore_n 3, 1) := dk_62 (dk_at dksX8_hears_0 2 rfl rfl)
theorem dX8_hears_3 : decode cX8_hears 3 = .ok (.iconst 0, 1) := dk_3 (dk_at dksX8_hears_0 3 rfl rfl)
theorem dX8_hears_4 : decode cX8_hears 4 = .ok (.istore 4, 2) := dk_54 4 (dk_at dksX8_hears_0 4 rfl rfl)
theorem dX8_hears_6 : decode cX8_hears 6 = .ok (.iload 4, 2) := dk_21 4 (dk_at dksX8_hears_0 6 rfl rfl)
theorem dX8_hears_8 : decode cX8_hears 8 = .ok (.aload_n 0, 1) := dk_42 (dk_at dksX8_hears_0 8 rfl rfl)
theorem dX8_hears_9 : decode cX8_hears 9 = .ok (.getfield 3, 3) := dk_180 0 3 (dk_at dksX8_hears_0 9 rfl rfl)
theorem dX8_hears_12 : decode cX8_hears 12 = .ok (.invokevirtual 35, 3) := dk_182 0 35 (dk_at dksX8_hears_0 12 rfl rfl)
theorem dX8_hears_15 : decode cX8_hears 15 = .ok (.if_icmp .ge 78, 3) := dk_162 0 78 (dk_at dksX8_hears_0 15 rfl rfl)
theorem dX8_hears_18 : decode cX8_hears 18 = .ok (.iload_n 1, 1) := dk_27 (dk_at dksX8_hears_0 18 rfl rfl)
theorem dX8_hears_19 : decode cX8_hears 19 = .ok (.iload 4, 2) := dk_21 4 (dk_at dksX8_hears_0 19 rfl rfl)
theorem dX8_hears_21 : decode cX8_hears 21 = .ok (.invokestatic 43, 3) := dk_184 0 43 (dk_at dksX8_hears_0 21 rfl rfl)
theorem dX8_hears_24 : decode cX8_hears 24 = .ok (.ifCond .eq 43, 3) := dk_153 0 43 (dk_at dksX8_hears_1 0 rfl rfl)
theorem dX8_hears_27 : decode cX8_hears 27 = .ok (.aload_n 0, 1) := dk_42 (dk_at dksX8_hears_1 3 rfl rfl)
theorem dX8_hears_28 : decode cX8_hears 28 = .ok (.getfield 3, 3) := dk_180 0 3 (dk_at dksX8_hears_1 4 rfl rfl)
theorem dX8_hears_31 : decode cX8_hears 31 = .ok (.invokevirtual 55, 3) := dk_182 0 55 (dk_at dksX8_hears_1 7 rfl rfl)
theorem dX8_hears_34 : decode cX8_hears 34 = .ok (.getfield 59, 3) := dk_180 0 59 (dk_at dksX8_hears_1 10 rfl rfl)
theorem dX8_hears_37 : decode cX8_hears 37 = .ok (.iload 4, 2) := dk_21 4 (dk_at dksX8_hears_1 13 rfl rfl)
theorem dX8_hears_39 : decode cX8_hears 39 = .ok (.invokevirtual 64, 3) := dk_182 0 64 (dk_at dksX8_hears_1 15 rfl rfl)
theorem dX8_hears_42 : decode cX8_hears 42 = .ok (.checkcast 70, 3) := dk_192 0 70 (dk_at dksX8_hears_1 18 rfl rfl)
theorem dX8_hears_45 : decode cX8_hears 45 = .ok (.invokevirtual 72, 3) := dk_182 0 72 (dk_at dksX8_hears_1 21 rfl rfl)
theorem dX8_hears_48 : decode cX8_hears 48 = .ok (.ifCond .eq 19, 3) := dk_153 0 19 (dk_at dksX8_hears_2 0 rfl rfl)
theorem dX8_hears_51 : decode cX8_hears 51 = .ok (.aload_n 0, 1) := dk_42 (dk_at dksX8_hears_2 3 rfl rfl)
theorem dX8_hears_52 : decode cX8_hears 52 = .ok (.getfield 3, 3) := dk_180 0 3 (dk_at dksX8_hears_2 4 rfl rfl)
theorem dX8_hears_55 : decode cX8_hears 55 = .ok (.invokevirtual 55, 3) := dk_182 0 55 (dk_at dksX8_hears_2 7 rfl rfl)
theorem dX8_hears_58 : decode cX8_hears 58 = .ok (.iload 4, 2) := dk_21 4 (dk_at dksX8_hears_2 10 rfl rfl)
theorem dX8_hears_60 : decode cX8_hears 60 = .ok (.iload_n 2, 1) := dk_28 (dk_at dksX8_hears_2 12 rfl rfl)
theorem dX8_hears_61 : decode cX8_hears 61 = .ok (.invokevirtual 76, 3) := dk_182 0 76 (dk_at dksX8_hears_2 13 rfl rfl)
theorem dX8_hears_64 : decode cX8_hears 64 = .ok (.goto 4, 3) := dk_167 0 4 (dk_at dksX8_hears_2 16 rfl rfl)
theorem dX8_hears_67 : decode cX8_hears 67 = .ok (.iconst (-1), 1) := dk_2 (dk_at dksX8_hears_2 19 rfl rfl)
theorem dX8_hears_68 : decode cX8_hears 68 = .ok (.istore 5, 2) := dk_54 5 (dk_at dksX8_hears_2 20 rfl rfl)
theorem dX8_hears_70 : decode cX8_hears 70 = .ok (.iload 5, 2) := dk_21 5 (dk_at dksX8_hears_2 22 rfl rfl)
theorem dX8_hears_72 : decode cX8_hears 72 = .ok (.iconst (-1), 1) := dk_2 (dk_at dksX8_hears_3 0 rfl rfl)
theorem dX8_hears_73 : decode cX8_hears 73 = .ok (.if_icmp .eq 14, 3) := dk_159 0 14 (dk_at dksX8_hears_3 1 rfl rfl)
theorem dX8_hears_76 : decode cX8_hears 76 = .ok (.iload_n 3, 1) := dk_29 (dk_at dksX8_hears_3 4 rfl rfl)
theorem dX8_hears_77 : decode cX8_hears 77 = .ok (.bipush 10, 2) := dk_16 10 (dk_at dksX8_hears_3 5 rfl rfl)
theorem dX8_hears_79 : decode cX8_hears 79 = .ok (.iload 5, 2) := dk_21 5 (dk_at dksX8_hears_3 7 rfl rfl)
theorem dX8_hears_81 : decode cX8_hears 81 = .ok (.isub, 1) := dk_100 (dk_at dksX8_hears_3 9 rfl rfl)
theorem dX8_hears_82 : decode cX8_hears 82 = .ok (.imul, 1) := dk_104 (dk_at dksX8_hears_3 10 rfl rfl)
theorem dX8_hears_83 : decode cX8_hears 83 = .ok (.bipush 10, 2) := dk_16 10 (dk_at dksX8_hears_3 11 rfl rfl)
theorem dX8_hears_85 : decode cX8_hears 85 = .ok (.idiv, 1) := dk_108 (dk_at dksX8_hears_3 13 rfl rfl)
theorem dX8_hears_86 : decode cX8_hears 86 = .ok (.istore_n 3, 1) := dk_62 (dk_at dksX8_hears_3 14 rfl rfl)
theorem dX8_hears_87 : decode cX8_hears 87 = .ok (.iinc 4 1, 3) := dk_132 4 1 (dk_at dksX8_hears_3 15 rfl rfl)
theorem dX8_hears_90 : decode cX8_hears 90 = .ok (.goto (-84), 3) := dk_167 255 172 (dk_at dksX8_hears_3 18 rfl rfl)
theorem dX8_hears_93 : decode cX8_hears 93 = .ok (.ldc 34, 2) := dk_18 34 (dk_at dksX8_hears_3 21 rfl rfl)
theorem dX8_hears_95 : decode cX8_hears 95 = .ok (.iload_n 3, 1) := dk_29 (dk_at dksX8_hears_3 23 rfl rfl)
theorem dX8_hears_96 : decode cX8_hears 96 = .ok (.isub, 1) := dk_100 (dk_at dksX8_hears_4 0 rfl rfl)
theorem dX8_hears_97 : decode cX8_hears 97 = .ok (.ireturn, 1) := dk_172 (dk_at dksX8_hears_4 1 rfl rfl)
abbrev cX8_chance : ByteArray := prog_14_method_5_code
def yX8_chance : MethodName := ⟨RX8, "chance", "(II)I"⟩
def dkwX8_chance_3 : List UInt8 := [167, 255, 195, 33, 136, 172]
abbrev dktX8_chance_3 : List UInt8 := dkwX8_chance_3 ++ []
def dkwX8_chance_2 : List UInt8 := [167, 0, 13, 18, 34, 42, 180, 0, 22, 21, 5, 46, 100, 133, 105, 20, 0, 53, 109, 66, 132, 5, 1]
abbrev dktX8_chance_2 : List UInt8 := dkwX8_chance_2 ++ dktX8_chance_3
def dkwX8_chance_1 : List UInt8 := [184, 0, 43, 153, 0, 40, 33, 28, 21, 5, 184, 0, 43, 153, 0, 13, 42, 180, 0, 22, 21, 5, 46]
abbrev dktX8_chance_1 : List UInt8 := dkwX8_chance_1 ++ dktX8_chance_2
def dkwX8_chance_0 : List UInt8 := [20, 0, 53, 66, 3, 54, 5, 21, 5, 42, 180, 0, 3, 182, 0, 35, 162, 0, 55, 27, 21, 5]
abbrev dktX8_chance_0 : List UInt8 := dkwX8_chance_0 ++ dktX8_chance_1
theorem dksX8_chance_0 : cX8_chance.data.toList.drop 0 = dktX8_chance_0 := by decide +kernel
theorem dksX8_chance_1 : cX8_chance.data.toList.drop 22 = dktX8_chance_1 := dk_seg dksX8_chance_0 22 rfl rfl
theorem dksX8_chance_2 : cX8_chance.data.toList.drop 45 = dktX8_chance_2 := dk_seg dksX8_chance_1 23 rfl rfl
theorem dksX8_chance_3 : cX8_chance.data.toList.drop 68 = dktX8_chance_3 := dk_seg dksX8_chance_2 23 rfl rfl
theorem dX8_chance_0 : decode cX8_chance 0 = .ok (.ldc2_w 53, 3) := dk_20 0 53 (dk_at dksX8_chance_0 0 rfl rfl)
theorem dX8_chance_3 : decode cX8_chance 3 = .ok (.lstore_n 3, 1) := dk_66 (dk_at dksX8_chance_0 3 rfl rfl)
theorem dX8_chance_4 : decode cX8_chance 4 = .ok (.iconst 0, 1) := dk_3 (dk_at dksX8_chance_0 4 rfl rfl)
theorem dX8_chance_5 : decode cX8_chance 5 = .ok (.istore 5, 2) := dk_54 5 (dk_at dksX8_chance_0 5 rfl rfl)
theorem dX8_chance_7 : decode cX8_chance 7 = .ok (.iload 5, 2) := dk_21 5 (dk_at dksX8_chance_0 7 rfl rfl)
theorem dX8_chance_9 : decode cX8_chance 9 = .ok (.aload_n 0, 1) := dk_42 (dk_at dksX8_chance_0 9 rfl rfl)
theorem dX8_chance_10 : decode cX8_chance 10 = .ok (.getfield 3, 3) := dk_180 0 3 (dk_at dksX8_chance_0 10 rfl rfl)
theorem dX8_chance_13 : decode cX8_chance 13 = .ok (.invokevirtual 35, 3) := dk_182 0 35 (dk_at dksX8_chance_0 13 rfl rfl)
theorem dX8_chance_16 : decode cX8_chance 16 = .ok (.if_icmp .ge 55, 3) := dk_162 0 55 (dk_at dksX8_chance_0 16 rfl rfl)
theorem dX8_chance_19 : decode cX8_chance 19 = .ok (.iload_n 1, 1) := dk_27 (dk_at dksX8_chance_0 19 rfl rfl)
theorem dX8_chance_20 : decode cX8_chance 20 = .ok (.iload 5, 2) := dk_21 5 (dk_at dksX8_chance_0 20 rfl rfl)
theorem dX8_chance_22 : decode cX8_chance 22 = .ok (.invokestatic 43, 3) := dk_184 0 43 (dk_at dksX8_chance_1 0 rfl rfl)
theorem dX8_chance_25 : decode cX8_chance 25 = .ok (.ifCond .eq 40, 3) := dk_153 0 40 (dk_at dksX8_chance_1 3 rfl rfl)
theorem dX8_chance_28 : decode cX8_chance 28 = .ok (.lload_n 3, 1) := dk_33 (dk_at dksX8_chance_1 6 rfl rfl)
theorem dX8_chance_29 : decode cX8_chance 29 = .ok (.iload_n 2, 1) := dk_28 (dk_at dksX8_chance_1 7 rfl rfl)
theorem dX8_chance_30 : decode cX8_chance 30 = .ok (.iload 5, 2) := dk_21 5 (dk_at dksX8_chance_1 8 rfl rfl)
theorem dX8_chance_32 : decode cX8_chance 32 = .ok (.invokestatic 43, 3) := dk_184 0 43 (dk_at dksX8_chance_1 10 rfl rfl)
theorem dX8_chance_35 : decode cX8_chance 35 = .ok (.ifCond .eq 13, 3) := dk_153 0 13 (dk_at dksX8_chance_1 13 rfl rfl)
theorem dX8_chance_38 : decode cX8_chance 38 = .ok (.aload_n 0, 1) := dk_42 (dk_at dksX8_chance_1 16 rfl rfl)
theorem dX8_chance_39 : decode cX8_chance 39 = .ok (.getfield 22, 3) := dk_180 0 22 (dk_at dksX8_chance_1 17 rfl rfl)
theorem dX8_chance_42 : decode cX8_chance 42 = .ok (.iload 5, 2) := dk_21 5 (dk_at dksX8_chance_1 20 rfl rfl)
theorem dX8_chance_44 : decode cX8_chance 44 = .ok (.iaload, 1) := dk_46 (dk_at dksX8_chance_1 22 rfl rfl)
theorem dX8_chance_45 : decode cX8_chance 45 = .ok (.goto 13, 3) := dk_167 0 13 (dk_at dksX8_chance_2 0 rfl rfl)
theorem dX8_chance_48 : decode cX8_chance 48 = .ok (.ldc 34, 2) := dk_18 34 (dk_at dksX8_chance_2 3 rfl rfl)
theorem dX8_chance_50 : decode cX8_chance 50 = .ok (.aload_n 0, 1) := dk_42 (dk_at dksX8_chance_2 5 rfl rfl)
theorem dX8_chance_51 : decode cX8_chance 51 = .ok (.getfield 22, 3) := dk_180 0 22 (dk_at dksX8_chance_2 6 rfl rfl)
theorem dX8_chance_54 : decode cX8_chance 54 = .ok (.iload 5, 2) := dk_21 5 (dk_at dksX8_chance_2 9 rfl rfl)
theorem dX8_chance_56 : decode cX8_chance 56 = .ok (.iaload, 1) := dk_46 (dk_at dksX8_chance_2 11 rfl rfl)
theorem dX8_chance_57 : decode cX8_chance 57 = .ok (.isub, 1) := dk_100 (dk_at dksX8_chance_2 12 rfl rfl)
theorem dX8_chance_58 : decode cX8_chance 58 = .ok (.i2l, 1) := dk_133 (dk_at dksX8_chance_2 13 rfl rfl)
theorem dX8_chance_59 : decode cX8_chance 59 = .ok (.lmul, 1) := dk_105 (dk_at dksX8_chance_2 14 rfl rfl)
theorem dX8_chance_60 : decode cX8_chance 60 = .ok (.ldc2_w 53, 3) := dk_20 0 53 (dk_at dksX8_chance_2 15 rfl rfl)
theorem dX8_chance_63 : decode cX8_chance 63 = .ok (.ldiv, 1) := dk_109 (dk_at dksX8_chance_2 18 rfl rfl)
theorem dX8_chance_64 : decode cX8_chance 64 = .ok (.lstore_n 3, 1) := dk_66 (dk_at dksX8_chance_2 19 rfl rfl)
theorem dX8_chance_65 : decode cX8_chance 65 = .ok (.iinc 5 1, 3) := dk_132 5 1 (dk_at dksX8_chance_2 20 rfl rfl)
theorem dX8_chance_68 : decode cX8_chance 68 = .ok (.goto (-61), 3) := dk_167 255 195 (dk_at dksX8_chance_3 0 rfl rfl)
theorem dX8_chance_71 : decode cX8_chance 71 = .ok (.lload_n 3, 1) := dk_33 (dk_at dksX8_chance_3 3 rfl rfl)
theorem dX8_chance_72 : decode cX8_chance 72 = .ok (.l2i, 1) := dk_136 (dk_at dksX8_chance_3 4 rfl rfl)
theorem dX8_chance_73 : decode cX8_chance 73 = .ok (.ireturn, 1) := dk_172 (dk_at dksX8_chance_3 5 rfl rfl)
theorem q141 : (Jvm.Cond.initialized "PaidSecrets$Nights") ∈ lw_all := lw_g (lw_at lw_m1 13 rfl) rfl
theorem q277 : (Jvm.Cond.fieldLink "PaidSecrets$Nights" (29 : Nat) "PaidSecrets$Talk" "knows" "[I") ∈ lw_all := lw_g (lw_at lw_m1 149 rfl) rfl
theorem q375 : (Jvm.Cond.fieldLink "PaidSecrets$Nights" (59 : Nat) "PaidSecrets$Town" "people" "Ljava/util/ArrayList;") ∈ lw_all := lw_g (lw_at lw_m2 7 rfl) rfl
theorem q496 : (Jvm.Cond.instantiable "PaidSecrets$Nights" (4 : Nat)) ∈ lw_all := lw_g (lw_at lw_m2 128 rfl) rfl
theorem q498 : (Jvm.Cond.instanceMethod ({ cls := "PaidSecrets$Nights", name := "<init>", desc := "(LPaidSecrets;)V" } : Jvm.MethodName)) ∈ lw_all := lw_g (lw_at lw_m2 130 rfl) rfl
theorem q499 : (Jvm.Cond.code ({ cls := "PaidSecrets$Nights", name := "<init>", desc := "(LPaidSecrets;)V" } : Jvm.MethodName) prog_14_method_1_code (2 : Nat) (Option.none : Option Jvm.ClassFile.FieldType)) ∈ lw_all := lw_g (lw_at lw_m2 131 rfl) rfl
theorem q500 : (Jvm.Cond.methodLink "PaidSecrets$Nights" (9 : Nat) ({ cls := "java/lang/Object", name := "<init>", desc := "()V" } : Jvm.MethodName)) ∈ lw_all := lw_g (lw_at lw_m2 132 rfl) rfl
theorem q501 : (Jvm.Cond.fieldLink "PaidSecrets$Nights" (15 : Nat) "PaidSecrets$Nights" "of" "[I") ∈ lw_all := lw_g (lw_at lw_m2 133 rfl) rfl
theorem q503 : (Jvm.Cond.fieldLink "PaidSecrets$Nights" (19 : Nat) "PaidSecrets$Nights" "next" "[I") ∈ lw_all := lw_g (lw_at lw_m2 135 rfl) rfl
theorem q504 : (Jvm.Cond.fieldLink "PaidSecrets$Nights" (22 : Nat) "PaidSecrets$Nights" "hears" "[I") ∈ lw_all := lw_g (lw_at lw_m2 136 rfl) rfl
theorem q505 : (Jvm.Cond.fieldLink "PaidSecrets$Nights" (3 : Nat) "PaidSecrets$Nights" "this$0" "LPaidSecrets;") ∈ lw_all := lw_g (lw_at lw_m2 137 rfl) rfl
theorem q506 : (Jvm.Cond.lays "PaidSecrets$Nights" "PaidSecrets$Nights" "of" "[I") ∈ lw_all := lw_g (lw_at lw_m2 138 rfl) rfl
theorem q507 : (Jvm.Cond.soleField "PaidSecrets$Nights" "of") ∈ lw_all := lw_g (lw_at lw_m2 139 rfl) rfl
theorem q508 : (Jvm.Cond.lays "PaidSecrets$Nights" "PaidSecrets$Nights" "next" "[I") ∈ lw_all := lw_g (lw_at lw_m2 140 rfl) rfl
theorem q509 : (Jvm.Cond.soleField "PaidSecrets$Nights" "next") ∈ lw_all := lw_g (lw_at lw_m2 141 rfl) rfl
theorem q510 : (Jvm.Cond.laysFinal "PaidSecrets$Nights" "PaidSecrets$Nights" "hears" "[I") ∈ lw_all := lw_g (lw_at lw_m2 142 rfl) rfl
theorem q511 : (Jvm.Cond.soleField "PaidSecrets$Nights" "hears") ∈ lw_all := lw_g (lw_at lw_m2 143 rfl) rfl
theorem q512 : (Jvm.Cond.laysFinal "PaidSecrets$Nights" "PaidSecrets$Nights" "this$0" "LPaidSecrets;") ∈ lw_all := lw_g (lw_at lw_m2 144 rfl) rfl
theorem q513 : (Jvm.Cond.soleField "PaidSecrets$Nights" "this$0") ∈ lw_all := lw_g (lw_at lw_m2 145 rfl) rfl
theorem q514 : (Jvm.Cond.superclass "PaidSecrets$Nights" "java/lang/Object") ∈ lw_all := lw_g (lw_at lw_m2 146 rfl) rfl
theorem q537 : (Jvm.Cond.fieldLinkNest "PaidSecrets$Nights" (25 : Nat) "PaidSecrets" "talk" "LPaidSecrets$Talk;" "PaidSecrets") ∈ lw_tbl := lw_at lw_m2 169 rfl
theorem q885 : (Jvm.Cond.selects "PaidSecrets$Nights" ({ cls := "java/lang/Object", name := "getClass", desc := "()Ljava/lang/Class;" } : Jvm.MethodName) ({ cls := "java/lang/Object", name := "getClass", desc := "()Ljava/lang/Class;" } : Jvm.MethodName)) ∈ lw_all := lw_g (lw_at lw_m4 37 rfl) rfl
theorem q1648 : (Jvm.Cond.instanceMethod ({ cls := "PaidSecrets$Nights", name := "goes", desc := "(II)V" } : Jvm.MethodName)) ∈ lw_all := lw_g (lw_at lw_m7 80 rfl) rfl
theorem q1649 : (Jvm.Cond.selects "PaidSecrets$Nights" ({ cls := "PaidSecrets$Nights", name := "goes", desc := "(II)V" } : Jvm.MethodName) ({ cls := "PaidSecrets$Nights", name := "goes", desc := "(II)V" } : Jvm.MethodName)) ∈ lw_all := lw_g (lw_at lw_m7 81 rfl) rfl
theorem q1650 : (Jvm.Cond.code ({ cls := "PaidSecrets$Nights", name := "goes", desc := "(II)V" } : Jvm.MethodName) prog_14_method_2_code (5 : Nat) (Option.none : Option Jvm.ClassFile.FieldType)) ∈ lw_all := lw_g (lw_at lw_m7 82 rfl) rfl
theorem q1651 : (Jvm.Cond.constant "PaidSecrets$Nights" (34 : Nat) (1000000 : Int32)) ∈ lw_all := lw_g (lw_at lw_m7 83 rfl) rfl
theorem q1652 : (Jvm.Cond.methodLinkNest "PaidSecrets$Nights" (35 : Nat) ({ cls := "PaidSecrets", name := "people", desc := "()I" } : Jvm.MethodName) "PaidSecrets") ∈ lw_tbl := lw_at lw_m7 84 rfl
theorem q1653 : (Jvm.Cond.methodLink "PaidSecrets$Nights" (39 : Nat) ({ cls := "PaidSecrets$Nights", name := "spreads", desc := "(I)V" } : Jvm.MethodName)) ∈ lw_all := lw_g (lw_at lw_m7 85 rfl) rfl
theorem q1654 : (Jvm.Cond.privateMethod ({ cls := "PaidSecrets$Nights", name := "spreads", desc := "(I)V" } : Jvm.MethodName)) ∈ lw_tbl := lw_at lw_m7 86 rfl
theorem q1655 : (Jvm.Cond.instanceMethod ({ cls := "PaidSecrets$Nights", name := "spreads", desc := "(I)V" } : Jvm.MethodName)) ∈ lw_all := lw_g (lw_at lw_m7 87 rfl) rfl
theorem q1656 : (Jvm.Cond.code ({ cls := "PaidSecrets$Nights", name := "spreads", desc := "(I)V" } : Jvm.MethodName) prog_14_method_3_code (4 : Nat) (Option.none : Option Jvm.ClassFile.FieldType)) ∈ lw_all := lw_g (lw_at lw_m7 88 rfl) rfl
theorem q1657 : (Jvm.Cond.methodLinkNest "PaidSecrets$Nights" (43 : Nat) ({ cls := "PaidSecrets", name := "has", desc := "(II)Z" } : Jvm.MethodName) "PaidSecrets") ∈ lw_tbl := lw_at lw_m7 89 rfl
theorem q1658 : (Jvm.Cond.methodLink "PaidSecrets$Nights" (47 : Nat) ({ cls := "PaidSecrets$Nights", name := "hears", desc := "(II)I" } : Jvm.MethodName)) ∈ lw_all := lw_g (lw_at lw_m7 90 rfl) rfl
theorem q1659 : (Jvm.Cond.privateMethod ({ cls := "PaidSecrets$Nights", name := "hears", desc := "(II)I" } : Jvm.MethodName)) ∈ lw_tbl := lw_at lw_m7 91 rfl
theorem q1660 : (Jvm.Cond.instanceMethod ({ cls := "PaidSecrets$Nights", name := "hears", desc := "(II)I" } : Jvm.MethodName)) ∈ lw_all := lw_g (lw_at lw_m7 92 rfl) rfl
theorem q1661 : (Jvm.Cond.code ({ cls := "PaidSecrets$Nights", name := "hears", desc := "(II)I" } : Jvm.MethodName) prog_14_method_4_code (6 : Nat) (Option.some Jvm.ClassFile.FieldType.int)) ∈ lw_all := lw_g (lw_at lw_m7 93 rfl) rfl
theorem q1662 : (Jvm.Cond.methodLinkNest "PaidSecrets$Nights" (55 : Nat) ({ cls := "PaidSecrets", name := "now", desc := "()LPaidSecrets$Town;" } : Jvm.MethodName) "PaidSecrets") ∈ lw_tbl := lw_at lw_m7 94 rfl
theorem q1663 : (Jvm.Cond.methodLink "PaidSecrets$Nights" (64 : Nat) ({ cls := "java/util/ArrayList", name := "get", desc := "(I)Ljava/lang/Object;" } : Jvm.MethodName)) ∈ lw_all := lw_g (lw_at lw_m7 95 rfl) rfl
theorem q1664 : (Jvm.Cond.classLink "PaidSecrets$Nights" (70 : Nat) "PaidSecrets$Person") ∈ lw_all := lw_g (lw_at lw_m7 96 rfl) rfl
theorem q1665 : (Jvm.Cond.methodLink "PaidSecrets$Nights" (72 : Nat) ({ cls := "PaidSecrets$Person", name := "tells", desc := "()Z" } : Jvm.MethodName)) ∈ lw_all := lw_g (lw_at lw_m7 97 rfl) rfl
theorem q1666 : (Jvm.Cond.methodLink "PaidSecrets$Nights" (76 : Nat) ({ cls := "PaidSecrets$Town", name := "ear", desc := "(II)I" } : Jvm.MethodName)) ∈ lw_all := lw_g (lw_at lw_m7 98 rfl) rfl
theorem q1667 : (Jvm.Cond.methodLink "PaidSecrets$Nights" (50 : Nat) ({ cls := "PaidSecrets$Nights", name := "chance", desc := "(II)I" } : Jvm.MethodName)) ∈ lw_all := lw_g (lw_at lw_m7 99 rfl) rfl
theorem q1668 : (Jvm.Cond.privateMethod ({ cls := "PaidSecrets$Nights", name := "chance", desc := "(II)I" } : Jvm.MethodName)) ∈ lw_tbl := lw_at lw_m7 100 rfl
theorem q1669 : (Jvm.Cond.instanceMethod ({ cls := "PaidSecrets$Nights", name := "chance", desc := "(II)I" } : Jvm.MethodName)) ∈ lw_all := lw_g (lw_at lw_m7 101 rfl) rfl
theorem q1670 : (Jvm.Cond.code ({ cls := "PaidSecrets$Nights", name := "chance", desc := "(II)I" } : Jvm.MethodName) prog_14_method_5_code (6 : Nat) (Option.some Jvm.ClassFile.FieldType.int)) ∈ lw_all := lw_g (lw_at lw_m7 102 rfl) rfl
theorem q1671 : (Jvm.Cond.constantLong "PaidSecrets$Nights" (53 : Nat) (1000000 : Int64)) ∈ lw_all := lw_g (lw_at lw_m7 103 rfl) rfl
theorem q2541 : (Jvm.Cond.castable "PaidSecrets$Nights" "java/lang/Object") ∈ lw_tbl := lw_at lw_m11 13 rfl
theorem in_X8 : ∀ w ∈ wsX80, w ∈ lw_all := lw_in wsX80 [506, 508, 510, 512] (by decide +kernel) (by decide +kernel)
/-! PaidSecrets$Feast -/
set_option maxRecDepth 100000
def RX9 : String := "PaidSecrets$Feast"
def TX9 : u_T := fun k => match k with
  | 0 => ("PaidSecrets$Feast", "who", "[I", true)
  | 1 => ("PaidSecrets$Feast", "chosen", "[I", true)
  | 2 => ("PaidSecrets$Feast", "many", "I", false)
  | _ => ("PaidSecrets$Feast", "this$0", "LPaidSecrets;", true)
def tyX9 : Nat → FieldType := fun k => match k with
  | 0 => .array .int
  | 1 => .array .int
  | 2 => .int
  | _ => .object "PaidSecrets"
abbrev wsX90 : List Cond := u_ws RX9 TX9 4
theorem nmX9 : ∀ a, a < 4 → ∀ b, b < 4 → a ≠ b → (TX9 a).2.1 ≠ (TX9 b).2.1 := by decide +kernel
theorem tyX9_ok : ∀ k, k < 4 → parseFieldDescriptor (TX9 k).2.2.1 = some (tyX9 k) := by decide +kernel
abbrev cX9_init : ByteArray := prog_7_method_1_code
def yX9_init : MethodName := ⟨RX9, "<init>", "(LPaidSecrets;)V"⟩
def dkwX9_init_0 : List UInt8 := [42, 43, 181, 0, 3, 42, 183, 0, 9, 42, 6, 188, 10, 181, 0, 15, 42, 6, 188, 10, 181, 0, 19, 177]
abbrev dktX9_init_0 : List UInt8 := dkwX9_init_0 ++ []
theorem dksX9_init_0 : cX9_init.data.toList.drop 0 = dktX9_init_0 := by decide +kernel
theorem dX9_init_0 : decode cX9_init 0 = .ok (.aload_n 0, 1) := dk_42 (dk_at dksX9_init_0 0 rfl rfl)
theorem dX9_init_1 : decode cX9_init 1 = .ok (.aload_n 1, 1) := dk_43 (dk_at dksX9_init_0 1 rfl rfl)
theorem dX9_init_2 : decode cX9_init 2 = .ok (.putfield 3, 3) := dk_181 0 3 (dk_at dksX9_init_0 2 rfl rfl)
theorem dX9_init_5 : decode cX9_init 5 = .ok (.aload_n 0, 1) := dk_42 (dk_at dksX9_init_0 5 rfl rfl)
theorem dX9_init_6 : decode cX9_init 6 = .ok (.invokespecial 9, 3) := dk_183 0 9 (dk_at dksX9_init_0 6 rfl rfl)
theorem dX9_init_9 : decode cX9_init 9 = .ok (.aload_n 0, 1) := dk_42 (dk_at dksX9_init_0 9 rfl rfl)
theorem dX9_init_10 : decode cX9_init 10 = .ok (.iconst 3, 1) := dk_6 (dk_at dksX9_init_0 10 rfl rfl)
theorem dX9_init_11 : decode cX9_init 11 = .ok (.newarray .int, 2) := dk_188_10 (dk_at dksX9_init_0 11 rfl rfl)
theorem dX9_init_13 : decode cX9_init 13 = .ok (.putfield 15, 3) := dk_181 0 15 (dk_at dksX9_init_0 13 rfl rfl)
theorem dX9_init_16 : decode cX9_init 16 = .ok (.aload_n 0, 1) := dk_42 (dk_at dksX9_init_0 16 rfl rfl)
theorem dX9_init_17 : decode cX9_init 17 = .ok (.iconst 3, 1) := dk_6 (dk_at dksX9_init_0 17 rfl rfl)
theorem dX9_init_18 : decode cX9_init 18 = .ok (.newarray .int, 2) := dk_188_10 (dk_at dksX9_init_0 18 rfl rfl)
theorem dX9_init_20 : decode cX9_init 20 = .ok (.putfield 19, 3) := dk_181 0 19 (dk_at dksX9_init_0 20 rfl rfl)
theorem dX9_init_23 : decode cX9_init 23 = .ok (.return_, 1) := dk_177 (dk_at dksX9_init_0 23 rfl rfl)
abbrev cX9_lays : ByteArray := prog_7_method_2_code
def yX9_lays : MethodName := ⟨RX9, "lays", "(I)I"⟩
def dkwX9_lays_2 : List UInt8 := [4, 96, 181, 0, 22, 28, 16, 11, 104, 61, 132, 3, 1, 167, 255, 206, 28, 172]
abbrev dktX9_lays_2 : List UInt8 := dkwX9_lays_2 ++ []
def dkwX9_lays_1 : List UInt8 := [184, 0, 30, 154, 0, 6, 167, 0, 28, 42, 180, 0, 15, 42, 180, 0, 22, 29, 79, 42, 89, 180, 0, 22]
abbrev dktX9_lays_1 : List UInt8 := dkwX9_lays_1 ++ dktX9_lays_2
def dkwX9_lays_0 : List UInt8 := [42, 3, 181, 0, 22, 4, 61, 3, 62, 29, 42, 180, 0, 3, 182, 0, 26, 162, 0, 45, 27, 29]
abbrev dktX9_lays_0 : List UInt8 := dkwX9_lays_0 ++ dktX9_lays_1
theorem dksX9_lays_0 : cX9_lays.data.toList.drop 0 = dktX9_lays_0 := by decide +kernel
theorem dksX9_lays_1 : cX9_lays.data.toList.drop 22 = dktX9_lays_1 := dk_seg dksX9_lays_0 22 rfl rfl
theorem dksX9_lays_2 : cX9_lays.data.toList.drop 46 = dktX9_lays_2 := dk_seg dksX9_lays_1 24 rfl rfl
theorem dX9_lays_0 : decode cX9_lays 0 = .ok (.aload_n 0, 1) := dk_42 (dk_at dksX9_lays_0 0 rfl rfl)
theorem dX9_lays_1 : decode cX9_lays 1 = .ok (.iconst 0, 1) := dk_3 (dk_at dksX9_lays_0 1 rfl rfl)
theorem dX9_lays_2 : decode cX9_lays 2 = .ok (.putfield 22, 3) := dk_181 0 22 (dk_at dksX9_lays_0 2 rfl rfl)
theorem dX9_lays_5 : decode cX9_lays 5 = .ok (.iconst 1, 1) := dk_4 (dk_at dksX9_lays_0 5 rfl rfl)
theorem dX9_lays_6 : decode cX9_lays 6 = .ok (.istore_n 2, 1) := dk_61 (dk_at dksX9_lays_0 6 rfl rfl)
theorem dX9_lays_7 : decode cX9_lays 7 = .ok (.iconst 0, 1) := dk_3 (dk_at dksX9_lays_0 7 rfl rfl)
theorem dX9_lays_8 : decode cX9_lays 8 = .ok (.istore_n 3, 1) := dk_62 (dk_at dksX9_lays_0 8 rfl rfl)
theorem dX9_lays_9 : decode cX9_lays 9 = .ok (.iload_n 3, 1) := dk_29 (dk_at dksX9_lays_0 9 rfl rfl)
theorem dX9_lays_10 : decode cX9_lays 10 = .ok (.aload_n 0, 1) := dk_42 (dk_at dksX9_lays_0 10 rfl rfl)
theorem dX9_lays_11 : decode cX9_lays 11 = .ok (.getfield 3, 3) := dk_180 0 3 (dk_at dksX9_lays_0 11 rfl rfl)
theorem dX9_lays_14 : decode cX9_lays 14 = .ok (.invokevirtual 26, 3) := dk_182 0 26 (dk_at dksX9_lays_0 14 rfl rfl)
theorem dX9_lays_17 : decode cX9_lays 17 = .ok (.if_icmp .ge 45, 3) := dk_162 0 45 (dk_at dksX9_lays_0 17 rfl rfl)
theorem dX9_lays_20 : decode cX9_lays 20 = .ok (.iload_n 1, 1) := dk_27 (dk_at dksX9_lays_0 20 rfl rfl)
theorem dX9_lays_21 : decode cX9_lays 21 = .ok (.iload_n 3, 1) := dk_29 (dk_at dksX9_lays_0 21 rfl rfl)
theorem dX9_lays_22 : decode cX9_lays 22 = .ok (.invokestatic 30, 3) := dk_184 0 30 (dk_at dksX9_lays_1 0 rfl rfl)
theorem dX9_lays_25 : decode cX9_lays 25 = .ok (.ifCond .ne 6, 3) := dk_154 0 6 (dk_at dksX9_lays_1 3 rfl rfl)
theorem dX9_lays_28 : decode cX9_lays 28 = .ok (.goto 28, 3) := dk_167 0 28 (dk_at dksX9_lays_1 6 rfl rfl)
theorem dX9_lays_31 : decode cX9_lays 31 = .ok (.aload_n 0, 1) := dk_42 (dk_at dksX9_lays_1 9 rfl rfl)
theorem dX9_lays_32 : decode cX9_lays 32 = .ok (.getfield 15, 3) := dk_180 0 15 (dk_at dksX9_lays_1 10 rfl rfl)
theorem dX9_lays_35 : decode cX9_lays 35 = .ok (.aload_n 0, 1) := dk_42 (dk_at dksX9_lays_1 13 rfl rfl)
theorem dX9_lays_36 : decode cX9_lays 36 = .ok (.getfield 22, 3) := dk_180 0 22 (dk_at dksX9_lays_1 14 rfl rfl)
theorem dX9_lays_39 : decode cX9_lays 39 = .ok (.iload_n 3, 1) := dk_29 (dk_at dksX9_lays_1 17 rfl rfl)
theorem dX9_lays_40 : decode cX9_lays 40 = .ok (.iastore, 1) := dk_79 (dk_at dksX9_lays_1 18 rfl rfl)
theorem dX9_lays_41 : decode cX9_lays 41 = .ok (.aload_n 0, 1) := dk_42 (dk_at dksX9_lays_1 19 rfl rfl)
theorem dX9_lays_42 : decode cX9_lays 42 = .ok (.dup, 1) := dk_89 (dk_at dksX9_lays_1 20 rfl rfl)
theorem dX9_lays_43 : decode cX9_lays 43 = .ok (.getfield 22, 3) := dk_180 0 22 (dk_at dksX9_lays_1 21 rfl rfl)
theorem dX9_lays_46 : decode cX9_lays 46 = .ok (.iconst 1, 1) := dk_4 (dk_at dksX9_lays_2 0 rfl rfl)
theorem dX9_lays_47 : decode cX9_lays 47 = .ok (.iadd, 1) := dk_96 (dk_at dksX9_lays_2 1 rfl rfl)
theorem dX9_lays_48 : decode cX9_lays 48 = .ok (.putfield 22, 3) := dk_181 0 22 (dk_at dksX9_lays_2 2 rfl rfl)
theorem dX9_lays_51 : decode cX9_lays 51 = .ok (.iload_n 2, 1) := dk_28 (dk_at dksX9_lays_2 5 rfl rfl)
theorem dX9_lays_52 : decode cX9_lays 52 = .ok (.bipush 11, 2) := dk_16 11 (dk_at dksX9_lays_2 6 rfl rfl)
theorem dX9_lays_54 : decode cX9_lays 54 = .ok (.imul, 1) := dk_104 (dk_at dksX9_lays_2 8 rfl rfl)
theorem dX9_lays_55 : decode cX9_lays 55 = .ok (.istore_n 2, 1) := dk_61 (dk_at dksX9_lays_2 9 rfl rfl)
theorem dX9_lays_56 : decode cX9_lays 56 = .ok (.iinc 3 1, 3) := dk_132 3 1 (dk_at dksX9_lays_2 10 rfl rfl)
theorem dX9_lays_59 : decode cX9_lays 59 = .ok (.goto (-50), 3) := dk_167 255 206 (dk_at dksX9_lays_2 13 rfl rfl)
theorem dX9_lays_62 : decode cX9_lays 62 = .ok (.iload_n 2, 1) := dk_28 (dk_at dksX9_lays_2 16 rfl rfl)
theorem dX9_lays_63 : decode cX9_lays 63 = .ok (.ireturn, 1) := dk_172 (dk_at dksX9_lays_2 17 rfl rfl)
abbrev cX9_isRest : ByteArray := prog_7_method_6_code
def yX9_isRest : MethodName := ⟨RX9, "isRest", "(I)Z"⟩
def dkwX9_isRest_5 : List UInt8 := [132, 2, 1, 167, 255, 150, 4, 172]
abbrev dktX9_isRest_5 : List UInt8 := dkwX9_isRest_5 ++ []
def dkwX9_isRest_4 : List UInt8 := [54, 5, 132, 6, 1, 167, 255, 198, 42, 180, 0, 19, 28, 29, 79, 21, 5, 153, 0, 5, 3, 172]
abbrev dktX9_isRest_4 : List UInt8 := dkwX9_isRest_4 ++ dktX9_isRest_5
def dkwX9_isRest_3 : List UInt8 := [42, 180, 0, 19, 28, 21, 6, 79, 42, 28, 182, 0, 57, 21, 4, 164, 0, 7, 4, 167, 0, 4, 3]
abbrev dktX9_isRest_3 : List UInt8 := dkwX9_isRest_3 ++ dktX9_isRest_4
def dkwX9_isRest_2 : List UInt8 := [182, 0, 34, 163, 0, 52, 21, 5, 154, 0, 47, 42, 28, 21, 6, 182, 0, 46, 154, 0, 6, 167, 0, 28]
abbrev dktX9_isRest_2 : List UInt8 := dkwX9_isRest_2 ++ dktX9_isRest_3
def dkwX9_isRest_1 : List UInt8 := [28, 46, 62, 42, 28, 182, 0, 57, 54, 4, 3, 54, 5, 3, 54, 6, 21, 6, 42, 180, 0, 3]
abbrev dktX9_isRest_1 : List UInt8 := dkwX9_isRest_1 ++ dktX9_isRest_2
def dkwX9_isRest_0 : List UInt8 := [42, 27, 182, 0, 53, 154, 0, 5, 3, 172, 3, 61, 28, 42, 180, 0, 22, 162, 0, 104, 42, 180, 0, 19]
abbrev dktX9_isRest_0 : List UInt8 := dkwX9_isRest_0 ++ dktX9_isRest_1
theorem dksX9_isRest_0 : cX9_isRest.data.toList.drop 0 = dktX9_isRest_0 := by decide +kernel
theorem dksX9_isRest_1 : cX9_isRest.data.toList.drop 24 = dktX9_isRest_1 := dk_seg dksX9_isRest_0 24 rfl rfl
theorem dksX9_isRest_2 : cX9_isRest.data.toList.drop 46 = dktX9_isRest_2 := dk_seg dksX9_isRest_1 22 rfl rfl
theorem dksX9_isRest_3 : cX9_isRest.data.toList.drop 70 = dktX9_isRest_3 := dk_seg dksX9_isRest_2 24 rfl rfl
theorem dksX9_isRest_4 : cX9_isRest.data.toList.drop 93 = dktX9_isRest_4 := dk_seg dksX9_isRest_3 23 rfl rfl
theorem dksX9_isRest_5 : cX9_isRest.data.toList.drop 115 = dktX9_isRest_5 := dk_seg dksX9_isRest_4 22 rfl rfl
theorem dX9_isRest_0 : decode cX9_isRest 0 = .ok (.aload_n 0, 1) := dk_42 (dk_at dksX9_isRest_0 0 rfl rfl)
theorem dX9_isRest_1 : decode cX9_isRest 1 = .ok (.iload_n 1, 1) := dk_27 (dk_at dksX9_isRest_0 1 rfl rfl)
theorem dX9_isRest_2 : decode cX9_isRest 2 = .ok (.invokevirtual 53, 3) := dk_182 0 53 (dk_at dksX9_isRest_0 2 rfl rfl)
theorem dX9_isRest_5 : decode cX9_isRest 5 = .ok (.ifCond .ne 5, 3) := dk_154 0 5 (dk_at dksX9_isRest_0 5 rfl rfl)
theorem dX9_isRest_8 : decode cX9_isRest 8 = .ok (.iconst 0, 1) := dk_3 (dk_at dksX9_isRest_0 8 rfl rfl)
theorem dX9_isRest_9 : decode cX9_isRest 9 = .ok (.ireturn, 1) := dk_172 (dk_at dksX9_isRest_0 9 rfl rfl)
theorem dX9_isRest_10 : decode cX9_isRest 10 = .ok (.iconst 0, 1) := dk_3 (dk_at dksX9_isRest_0 10 rfl rfl)
theorem dX9_isRest_11 : decode cX9_isRest 11 = .ok (.istore_n 2, 1) := dk_61 (dk_at dksX9_isRest_0 11 rfl rfl)
theorem dX9_isRest_12 : decode cX9_isRest 12 = .ok (.iload_n 2, 1) := dk_28 (dk_at dksX9_isRest_0 12 rfl rfl)
theorem dX9_isRest_13 : decode cX9_isRest 13 = .ok (.aload_n 0, 1) := dk_42 (dk_at dksX9_isRest_0 13 rfl rfl)
theorem dX9_isRest_14 : decode cX9_isRest 14 = .ok (.getfield 22, 3) := dk_180 0 22 (dk_at dksX9_isRest_0 14 rfl rfl)
theorem dX9_isRest_17 : decode cX9_isRest 17 = .ok (.if_icmp .ge 104, 3) := dk_162 0 104 (dk_at dksX9_isRest_0 17 rfl rfl)
theorem dX9_isRest_20 : decode cX9_isRest 20 = .ok (.aload_n 0, 1) := dk_42 (dk_at dksX9_isRest_0 20 rfl rfl)
theorem dX9_isRest_21 : decode cX9_isRest 21 = .ok (.getfield 19, 3) := dk_180 0 19 (dk_at dksX9_isRest_0 21 rfl rfl)
theorem dX9_isRest_24 : decode cX9_isRest 24 = .ok (.iload_n 2, 1) := dk_28 (dk_at dksX9_isRest_1 0 rfl rfl)
theorem dX9_isRest_25 : decode cX9_isRest 25 = .ok (.iaload, 1) := dk_46 (dk_at dksX9_isRest_1 1 rfl rfl)
theorem dX9_isRest_26 : decode cX9_isRest 26 = .ok (.istore_n 3, 1) := dk_62 (dk_at dksX9_isRest_1 2 rfl rfl)
theorem dX9_isRest_27 : decode cX9_isRest 27 = .ok (.aload_n 0, 1) := dk_42 (dk_at dksX9_isRest_1 3 rfl rfl)
theorem dX9_isRest_28 : decode cX9_isRest 28 = .ok (.iload_n 2, 1) := dk_28 (dk_at dksX9_isRest_1 4 rfl rfl)
theorem dX9_isRest_29 : decode cX9_isRest 29 = .ok (.invokevirtual 57, 3) := dk_182 0 57 (dk_at dksX9_isRest_1 5 rfl rfl)
theorem dX9_isRest_32 : decode cX9_isRest 32 = .ok (.istore 4, 2) := dk_54 4 (dk_at dksX9_isRest_1 8 rfl rfl)
theorem dX9_isRest_34 : decode cX9_isRest 34 = .ok (.iconst 0, 1) := dk_3 (dk_at dksX9_isRest_1 10 rfl rfl)
theorem dX9_isRest_35 : decode cX9_isRest 35 = .ok (.istore 5, 2) := dk_54 5 (dk_at dksX9_isRest_1 11 rfl rfl)
theorem dX9_isRest_37 : decode cX9_isRest 37 = .ok (.iconst 0, 1) := dk_3 (dk_at dksX9_isRest_1 13 rfl rfl)
theorem dX9_isRest_38 : decode cX9_isRest 38 = .ok (.istore 6, 2) := dk_54 6 (dk_at dksX9_isRest_1 14 rfl rfl)
theorem dX9_isRest_40 : decode cX9_isRest 40 = .ok (.iload 6, 2) := dk_21 6 (dk_at dksX9_isRest_1 16 rfl rfl)
theorem dX9_isRest_42 : decode cX9_isRest 42 = .ok (.aload_n 0, 1) := dk_42 (dk_at dksX9_isRest_1 18 rfl rfl)
theorem dX9_isRest_43 : decode cX9_isRest 43 = .ok (.getfield 3, 3) := dk_180 0 3 (dk_at dksX9_isRest_1 19 rfl rfl)
theorem dX9_isRest_46 : decode cX9_isRest 46 = .ok (.invokevirtual 34, 3) := dk_182 0 34 (dk_at dksX9_isRest_2 0 rfl rfl)
theorem dX9_isRest_49 : decode cX9_isRest 49 = .ok (.if_icmp .gt 52, 3) := dk_163 0 52 (dk_at dksX9_isRest_2 3 rfl rfl)
theorem dX9_isRest_52 : decode cX9_isRest 52 = .ok (.iload 5, 2) := dk_21 5 (dk_at dksX9_isRest_2 6 rfl rfl)
theorem dX9_isRest_54 : decode cX9_isRest 54 = .ok (.ifCond .ne 47, 3) := dk_154 0 47 (dk_at dksX9_isRest_2 8 rfl rfl)
theorem dX9_isRest_57 : decode cX9_isRest 57 = .ok (.aload_n 0, 1) := dk_42 (dk_at dksX9_isRest_2 11 rfl rfl)
theorem dX9_isRest_58 : decode cX9_isRest 58 = .ok (.iload_n 2, 1) := dk_28 (dk_at dksX9_isRest_2 12 rfl rfl)
theorem dX9_isRest_59 : decode cX9_isRest 59 = .ok (.iload 6, 2) := dk_21 6 (dk_at dksX9_isRest_2 13 rfl rfl)
theorem dX9_isRest_61 : decode cX9_isRest 61 = .ok (.invokevirtual 46, 3) := dk_182 0 46 (dk_at dksX9_isRest_2 15 rfl rfl)
theorem dX9_isRest_64 : decode cX9_isRest 64 = .ok (.ifCond .ne 6, 3) := dk_154 0 6 (dk_at dksX9_isRest_2 18 rfl rfl)
theorem dX9_isRest_67 : decode cX9_isRest 67 = .ok (.goto 28, 3) := dk_167 0 28 (dk_at dksX9_isRest_2 21 rfl rfl)
theorem dX9_isRest_70 : decode cX9_isRest 70 = .ok (.aload_n 0, 1) := dk_42 (dk_at dksX9_isRest_3 0 rfl rfl)
theorem dX9_isRest_71 : decode cX9_isRest 71 = .ok (.getfield 19, 3) := dk_180 0 19 (dk_at dksX9_isRest_3 1 rfl rfl)
theorem dX9_isRest_74 : decode cX9_isRest 74 = .ok (.iload_n 2, 1) := dk_28 (dk_at dksX9_isRest_3 4 rfl rfl)
theorem dX9_isRest_75 : decode cX9_isRest 75 = .ok (.iload 6, 2) := dk_21 6 (dk_at dksX9_isRest_3 5 rfl rfl)
theorem dX9_isRest_77 : decode cX9_isRest 77 = .ok (.iastore, 1) := dk_79 (dk_at dksX9_isRest_3 7 rfl rfl)
theorem dX9_isRest_78 : decode cX9_isRest 78 = .ok (.aload_n 0, 1) := dk_42 (dk_at dksX9_isRest_3 8 rfl rfl)
theorem dX9_isRest_79 : decode cX9_isRest 79 = .ok (.iload_n 2, 1) := dk_28 (dk_at dksX9_isRest_3 9 rfl rfl)
theorem dX9_isRest_80 : decode cX9_isRest 80 = .ok (.invokevirtual 57, 3) := dk_182 0 57 (dk_at dksX9_isRest_3 10 rfl rfl)
theorem dX9_isRest_83 : decode cX9_isRest 83 = .ok (.iload 4, 2) := dk_21 4 (dk_at dksX9_isRest_3 13 rfl rfl)
theorem dX9_isRest_85 : decode cX9_isRest 85 = .ok (.if_icmp .le 7, 3) := dk_164 0 7 (dk_at dksX9_isRest_3 15 rfl rfl)
theorem dX9_isRest_88 : decode cX9_isRest 88 = .ok (.iconst 1, 1) := dk_4 (dk_at dksX9_isRest_3 18 rfl rfl)
theorem dX9_isRest_89 : decode cX9_isRest 89 = .ok (.goto 4, 3) := dk_167 0 4 (dk_at dksX9_isRest_3 19 rfl rfl)
theorem dX9_isRest_92 : decode cX9_isRest 92 = .ok (.iconst 0, 1) := dk_3 (dk_at dksX9_isRest_3 22 rfl rfl)
theorem dX9_isRest_93 : decode cX9_isRest 93 = .ok (.istore 5, 2) := dk_54 5 (dk_at dksX9_isRest_4 0 rfl rfl)
theorem dX9_isRest_95 : decode cX9_isRest 95 = .ok (.iinc 6 1, 3) := dk_132 6 1 (dk_at dksX9_isRest_4 2 rfl rfl)
theorem dX9_isRest_98 : decode cX9_isRest 98 = .ok (.goto (-58), 3) := dk_167 255 198 (dk_at dksX9_isRest_4 5 rfl rfl)
theorem dX9_isRest_101 : decode cX9_isRest 101 = .ok (.aload_n 0, 1) := dk_42 (dk_at dksX9_isRest_4 8 rfl rfl)
theorem dX9_isRest_102 : decode cX9_isRest 102 = .ok (.getfield 19, 3) := dk_180 0 19 (dk_at dksX9_isRest_4 9 rfl rfl)
theorem dX9_isRest_105 : decode cX9_isRest 105 = .ok (.iload_n 2, 1) := dk_28 (dk_at dksX9_isRest_4 12 rfl rfl)
theorem dX9_isRest_106 : decode cX9_isRest 106 = .ok (.iload_n 3, 1) := dk_29 (dk_at dksX9_isRest_4 13 rfl rfl)
theorem dX9_isRest_107 : decode cX9_isRest 107 = .ok (.iastore, 1) := dk_79 (dk_at dksX9_isRest_4 14 rfl rfl)
theorem dX9_isRest_108 : decode cX9_isRest 108 = .ok (.iload 5, 2) := dk_21 5 (dk_at dksX9_isRest_4 15 rfl rfl)
theorem dX9_isRest_110 : decode cX9_isRest 110 = .ok (.ifCond .eq 5, 3) := dk_153 0 5 (dk_at dksX9_isRest_4 17 rfl rfl)
theorem dX9_isRest_113 : decode cX9_isRest 113 = .ok (.iconst 0, 1) := dk_3 (dk_at dksX9_isRest_4 20 rfl rfl)
theorem dX9_isRest_114 : decode cX9_isRest 114 = .ok (.ireturn, 1) := dk_172 (dk_at dksX9_isRest_4 21 rfl rfl)
theorem dX9_isRest_115 : decode cX9_isRest 115 = .ok (.iinc 2 1, 3) := dk_132 2 1 (dk_at dksX9_isRest_5 0 rfl rfl)
theorem dX9_isRest_118 : decode cX9_isRest 118 = .ok (.goto (-106), 3) := dk_167 255 150 (dk_at dksX9_isRest_5 3 rfl rfl)
theorem dX9_isRest_121 : decode cX9_isRest 121 = .ok (.iconst 1, 1) := dk_4 (dk_at dksX9_isRest_5 6 rfl rfl)
theorem dX9_isRest_122 : decode cX9_isRest 122 = .ok (.ireturn, 1) := dk_172 (dk_at dksX9_isRest_5 7 rfl rfl)
abbrev cX9_reads : ByteArray := prog_7_method_4_code
def yX9_reads : MethodName := ⟨RX9, "reads", "(I)Z"⟩
def dkwX9_reads_2 : List UInt8 := [167, 255, 218, 4, 172]
abbrev dktX9_reads_2 : List UInt8 := dkwX9_reads_2 ++ []
def dkwX9_reads_1 : List UInt8 := [16, 11, 108, 61, 42, 29, 42, 180, 0, 19, 29, 46, 182, 0, 46, 154, 0, 5, 3, 172, 132, 3, 255]
abbrev dktX9_reads_1 : List UInt8 := dkwX9_reads_1 ++ dktX9_reads_2
def dkwX9_reads_0 : List UInt8 := [27, 61, 42, 180, 0, 22, 4, 100, 62, 29, 155, 0, 40, 42, 180, 0, 19, 29, 28, 16, 11, 112, 79, 28]
abbrev dktX9_reads_0 : List UInt8 := dkwX9_reads_0 ++ dktX9_reads_1
theorem dksX9_reads_0 : cX9_reads.data.toList.drop 0 = dktX9_reads_0 := by decide +kernel
theorem dksX9_reads_1 : cX9_reads.data.toList.drop 24 = dktX9_reads_1 := dk_seg dksX9_reads_0 24 rfl rfl
theorem dksX9_reads_2 : cX9_reads.data.toList.drop 47 = dktX9_reads_2 := dk_seg dksX9_reads_1 23 rfl rfl
theorem dX9_reads_0 : decode cX9_reads 0 = .ok (.iload_n 1, 1) := dk_27 (dk_at dksX9_reads_0 0 rfl rfl)
theorem dX9_reads_1 : decode cX9_reads 1 = .ok (.istore_n 2, 1) := dk_61 (dk_at dksX9_reads_0 1 rfl rfl)
theorem dX9_reads_2 : decode cX9_reads 2 = .ok (.aload_n 0, 1) := dk_42 (dk_at dksX9_reads_0 2 rfl rfl)
theorem dX9_reads_3 : decode cX9_reads 3 = .ok (.getfield 22, 3) := dk_180 0 22 (dk_at dksX9_reads_0 3 rfl rfl)
theorem dX9_reads_6 : decode cX9_reads 6 = .ok (.iconst 1, 1) := dk_4 (dk_at dksX9_reads_0 6 rfl rfl)
theorem dX9_reads_7 : decode cX9_reads 7 = .ok (.isub, 1) := dk_100 (dk_at dksX9_reads_0 7 rfl rfl)
theorem dX9_reads_8 : decode cX9_reads 8 = .ok (.istore_n 3, 1) := dk_62 (dk_at dksX9_reads_0 8 rfl rfl)
theorem dX9_reads_9 : decode cX9_reads 9 = .ok (.iload_n 3, 1) := dk_29 (dk_at dksX9_reads_0 9 rfl rfl)
theorem dX9_reads_10 : decode cX9_reads 10 = .ok (.ifCond .lt 40, 3) := dk_155 0 40 (dk_at dksX9_reads_0 10 rfl rfl)
theorem dX9_reads_13 : decode cX9_reads 13 = .ok (.aload_n 0, 1) := dk_42 (dk_at dksX9_reads_0 13 rfl rfl)
theorem dX9_reads_14 : decode cX9_reads 14 = .ok (.getfield 19, 3) := dk_180 0 19 (dk_at dksX9_reads_0 14 rfl rfl)
theorem dX9_reads_17 : decode cX9_reads 17 = .ok (.iload_n 3, 1) := dk_29 (dk_at dksX9_reads_0 17 rfl rfl)
theorem dX9_reads_18 : decode cX9_reads 18 = .ok (.iload_n 2, 1) := dk_28 (dk_at dksX9_reads_0 18 rfl rfl)
theorem dX9_reads_19 : decode cX9_reads 19 = .ok (.bipush 11, 2) := dk_16 11 (dk_at dksX9_reads_0 19 rfl rfl)
theorem dX9_reads_21 : decode cX9_reads 21 = .ok (.irem, 1) := dk_112 (dk_at dksX9_reads_0 21 rfl rfl)
theorem dX9_reads_22 : decode cX9_reads 22 = .ok (.iastore, 1) := dk_79 (dk_at dksX9_reads_0 22 rfl rfl)
theorem dX9_reads_23 : decode cX9_reads 23 = .ok (.iload_n 2, 1) := dk_28 (dk_at dksX9_reads_0 23 rfl rfl)
theorem dX9_reads_24 : decode cX9_reads 24 = .ok (.bipush 11, 2) := dk_16 11 (dk_at dksX9_reads_1 0 rfl rfl)
theorem dX9_reads_26 : decode cX9_reads 26 = .ok (.idiv, 1) := dk_108 (dk_at dksX9_reads_1 2 rfl rfl)
theorem dX9_reads_27 : decode cX9_reads 27 = .ok (.istore_n 2, 1) := dk_61 (dk_at dksX9_reads_1 3 rfl rfl)
theorem dX9_reads_28 : decode cX9_reads 28 = .ok (.aload_n 0, 1) := dk_42 (dk_at dksX9_reads_1 4 rfl rfl)
theorem dX9_reads_29 : decode cX9_reads 29 = .ok (.iload_n 3, 1) := dk_29 (dk_at dksX9_reads_1 5 rfl rfl)
theorem dX9_reads_30 : decode cX9_reads 30 = .ok (.aload_n 0, 1) := dk_42 (dk_at dksX9_reads_1 6 rfl rfl)
theorem dX9_reads_31 : decode cX9_reads 31 = .ok (.getfield 19, 3) := dk_180 0 19 (dk_at dksX9_reads_1 7 rfl rfl)
theorem dX9_reads_34 : decode cX9_reads 34 = .ok (.iload_n 3, 1) := dk_29 (dk_at dksX9_reads_1 10 rfl rfl)
theorem dX9_reads_35 : decode cX9_reads 35 = .ok (.iaload, 1) := dk_46 (dk_at dksX9_reads_1 11 rfl rfl)
theorem dX9_reads_36 : decode cX9_reads 36 = .ok (.invokevirtual 46, 3) := dk_182 0 46 (dk_at dksX9_reads_1 12 rfl rfl)
theorem dX9_reads_39 : decode cX9_reads 39 = .ok (.ifCond .ne 5, 3) := dk_154 0 5 (dk_at dksX9_reads_1 15 rfl rfl)
theorem dX9_reads_42 : decode cX9_reads 42 = .ok (.iconst 0, 1) := dk_3 (dk_at dksX9_reads_1 18 rfl rfl)
theorem dX9_reads_43 : decode cX9_reads 43 = .ok (.ireturn, 1) := dk_172 (dk_at dksX9_reads_1 19 rfl rfl)
theorem dX9_reads_44 : decode cX9_reads 44 = .ok (.iinc 3 (-1), 3) := dk_132 3 255 (dk_at dksX9_reads_1 20 rfl rfl)
theorem dX9_reads_47 : decode cX9_reads 47 = .ok (.goto (-38), 3) := dk_167 255 218 (dk_at dksX9_reads_2 0 rfl rfl)
theorem dX9_reads_50 : decode cX9_reads 50 = .ok (.iconst 1, 1) := dk_4 (dk_at dksX9_reads_2 3 rfl rfl)
theorem dX9_reads_51 : decode cX9_reads 51 = .ok (.ireturn, 1) := dk_172 (dk_at dksX9_reads_2 4 rfl rfl)
abbrev cX9_may : ByteArray := prog_7_method_3_code
def yX9_may : MethodName := ⟨RX9, "may", "(II)Z"⟩
def dkwX9_may_2 : List UInt8 := [172]
abbrev dktX9_may_2 : List UInt8 := dkwX9_may_2 ++ []
def dkwX9_may_1 : List UInt8 := [180, 0, 41, 28, 4, 100, 46, 42, 180, 0, 15, 27, 46, 184, 0, 30, 153, 0, 7, 4, 167, 0, 4, 3]
abbrev dktX9_may_1 : List UInt8 := dkwX9_may_1 ++ dktX9_may_2
def dkwX9_may_0 : List UInt8 := [28, 153, 0, 40, 28, 42, 180, 0, 3, 182, 0, 34, 163, 0, 33, 42, 180, 0, 3, 180, 0, 37]
abbrev dktX9_may_0 : List UInt8 := dkwX9_may_0 ++ dktX9_may_1
theorem dksX9_may_0 : cX9_may.data.toList.drop 0 = dktX9_may_0 := by decide +kernel
theorem dksX9_may_1 : cX9_may.data.toList.drop 22 = dktX9_may_1 := dk_seg dksX9_may_0 22 rfl rfl
theorem dksX9_may_2 : cX9_may.data.toList.drop 46 = dktX9_may_2 := dk_seg dksX9_may_1 24 rfl rfl
theorem dX9_may_0 : decode cX9_may 0 = .ok (.iload_n 2, 1) := dk_28 (dk_at dksX9_may_0 0 rfl rfl)
theorem dX9_may_1 : decode cX9_may 1 = .ok (.ifCond .eq 40, 3) := dk_153 0 40 (dk_at dksX9_may_0 1 rfl rfl)
theorem dX9_may_4 : decode cX9_may 4 = .ok (.iload_n 2, 1) := dk_28 (dk_at dksX9_may_0 4 rfl rfl)
theorem dX9_may_5 : decode cX9_may 5 = .ok (.aload_n 0, 1) := dk_42 (dk_at dksX9_may_0 5 rfl rfl)
theorem dX9_may_6 : decode cX9_may 6 = .ok (.getfield 3, 3) := dk_180 0 3 (dk_at dksX9_may_0 6 rfl rfl)
theorem dX9_may_9 : decode cX9_may 9 = .ok (.invokevirtual 34, 3) := dk_182 0 34 (dk_at dksX9_may_0 9 rfl rfl)
theorem dX9_may_12 : decode cX9_may 12 = .ok (.if_icmp .gt 33, 3) := dk_163 0 33 (dk_at dksX9_may_0 12 rfl rfl)
theorem dX9_may_15 : decode cX9_may 15 = .ok (.aload_n 0, 1) := dk_42 (dk_at dksX9_may_0 15 rfl rfl)
theorem dX9_may_16 : decode cX9_may 16 = .ok (.getfield 3, 3) := dk_180 0 3 (dk_at dksX9_may_0 16 rfl rfl)
theorem dX9_may_19 : decode cX9_may 19 = .ok (.getfield 37, 3) := dk_180 0 37 (dk_at dksX9_may_0 19 rfl rfl)
theorem dX9_may_22 : decode cX9_may 22 = .ok (.getfield 41, 3) := dk_180 0 41 (dk_at dksX9_may_1 0 rfl rfl)
theorem dX9_may_25 : decode cX9_may 25 = .ok (.iload_n 2, 1) := dk_28 (dk_at dksX9_may_1 3 rfl rfl)
theorem dX9_may_26 : decode cX9_may 26 = .ok (.iconst 1, 1) := dk_4 (dk_at dksX9_may_1 4 rfl rfl)
theorem dX9_may_27 : decode cX9_may 27 = .ok (.isub, 1) := dk_100 (dk_at dksX9_may_1 5 rfl rfl)
theorem dX9_may_28 : decode cX9_may 28 = .ok (.iaload, 1) := dk_46 (dk_at dksX9_may_1 6 rfl rfl)
theorem dX9_may_29 : decode cX9_may 29 = .ok (.aload_n 0, 1) := dk_42 (dk_at dksX9_may_1 7 rfl rfl)
theorem dX9_may_30 : decode cX9_may 30 = .ok (.getfield 15, 3) := dk_180 0 15 (dk_at dksX9_may_1 8 rfl rfl)
theorem dX9_may_33 : decode cX9_may 33 = .ok (.iload_n 1, 1) := dk_27 (dk_at dksX9_may_1 11 rfl rfl)
theorem dX9_may_34 : decode cX9_may 34 = .ok (.iaload, 1) := dk_46 (dk_at dksX9_may_1 12 rfl rfl)
theorem dX9_may_35 : decode cX9_may 35 = .ok (.invokestatic 30, 3) := dk_184 0 30 (dk_at dksX9_may_1 13 rfl rfl)
theorem dX9_may_38 : decode cX9_may 38 = .ok (.ifCond .eq 7, 3) := dk_153 0 7 (dk_at dksX9_may_1 16 rfl rfl)
theorem dX9_may_41 : decode cX9_may 41 = .ok (.iconst 1, 1) := dk_4 (dk_at dksX9_may_1 19 rfl rfl)
theorem dX9_may_42 : decode cX9_may 42 = .ok (.goto 4, 3) := dk_167 0 4 (dk_at dksX9_may_1 20 rfl rfl)
theorem dX9_may_45 : decode cX9_may 45 = .ok (.iconst 0, 1) := dk_3 (dk_at dksX9_may_1 23 rfl rfl)
theorem dX9_may_46 : decode cX9_may 46 = .ok (.ireturn, 1) := dk_172 (dk_at dksX9_may_2 0 rfl rfl)
abbrev cX9_gets : ByteArray := prog_7_method_5_code
def yX9_gets : MethodName := ⟨RX9, "gets", "(I)I"⟩
def dkwX9_gets_2 : List UInt8 := [180, 0, 3, 180, 0, 37, 42, 180, 0, 19, 27, 46, 4, 100, 182, 0, 49, 28, 108, 4, 100, 172]
abbrev dktX9_gets_2 : List UInt8 := dkwX9_gets_2 ++ []
def dkwX9_gets_1 : List UInt8 := [180, 0, 19, 29, 46, 42, 180, 0, 19, 27, 46, 160, 0, 6, 132, 2, 1, 132, 3, 1, 167, 255, 227, 42]
abbrev dktX9_gets_1 : List UInt8 := dkwX9_gets_1 ++ dktX9_gets_2
def dkwX9_gets_0 : List UInt8 := [42, 180, 0, 19, 27, 46, 154, 0, 5, 3, 172, 3, 61, 3, 62, 29, 42, 180, 0, 22, 162, 0, 27, 42]
abbrev dktX9_gets_0 : List UInt8 := dkwX9_gets_0 ++ dktX9_gets_1
theorem dksX9_gets_0 : cX9_gets.data.toList.drop 0 = dktX9_gets_0 := by decide +kernel
theorem dksX9_gets_1 : cX9_gets.data.toList.drop 24 = dktX9_gets_1 := dk_seg dksX9_gets_0 24 rfl rfl
theorem dksX9_gets_2 : cX9_gets.data.toList.drop 48 = dktX9_gets_2 := dk_seg dksX9_gets_1 24 rfl rfl
theorem dX9_gets_0 : decode cX9_gets 0 = .ok (.aload_n 0, 1) := dk_42 (dk_at dksX9_gets_0 0 rfl rfl)
theorem dX9_gets_1 : decode cX9_gets 1 = .ok (.getfield 19, 3) := dk_180 0 19 (dk_at dksX9_gets_0 1 rfl rfl)
theorem dX9_gets_4 : decode cX9_gets 4 = .ok (.iload_n 1, 1) := dk_27 (dk_at dksX9_gets_0 4 rfl rfl)
theorem dX9_gets_5 : decode cX9_gets 5 = .ok (.iaload, 1) := dk_46 (dk_at dksX9_gets_0 5 rfl rfl)
theorem dX9_gets_6 : decode cX9_gets 6 = .ok (.ifCond .ne 5, 3) := dk_154 0 5 (dk_at dksX9_gets_0 6 rfl rfl)
theorem dX9_gets_9 : decode cX9_gets 9 = .ok (.iconst 0, 1) := dk_3 (dk_at dksX9_gets_0 9 rfl rfl)
theorem dX9_gets_10 : decode cX9_gets 10 = .ok (.ireturn, 1) := dk_172 (dk_at dksX9_gets_0 10 rfl rfl)
theorem dX9_gets_11 : decode cX9_gets 11 = .ok (.iconst 0, 1) := dk_3 (dk_at dksX9_gets_0 11 rfl rfl)
theorem dX9_gets_12 : decode cX9_gets 12 = .ok (.istore_n 2, 1) := dk_61 (dk_at dksX9_gets_0 12 rfl rfl)
theorem dX9_gets_13 : decode cX9_gets 13 = .ok (.iconst 0, 1) := dk_3 (dk_at dksX9_gets_0 13 rfl rfl)
theorem dX9_gets_14 : decode cX9_gets 14 = .ok (.istore_n 3, 1) := dk_62 (dk_at dksX9_gets_0 14 rfl rfl)
theorem dX9_gets_15 : decode cX9_gets 15 = .ok (.iload_n 3, 1) := dk_29 (dk_at dksX9_gets_0 15 rfl rfl)
theorem dX9_gets_16 : decode cX9_gets 16 = .ok (.aload_n 0, 1) := dk_42 (dk_at dksX9_gets_0 16 rfl rfl)
theorem dX9_gets_17 : decode cX9_gets 17 = .ok (.getfield 22, 3) := dk_180 0 22 (dk_at dksX9_gets_0 17 rfl rfl)
theorem dX9_gets_20 : decode cX9_gets 20 = .ok (.if_icmp .ge 27, 3) := dk_162 0 27 (dk_at dksX9_gets_0 20 rfl rfl)
theorem dX9_gets_23 : decode cX9_gets 23 = .ok (.aload_n 0, 1) := dk_42 (dk_at dksX9_gets_0 23 rfl rfl)
theorem dX9_gets_24 : decode cX9_gets 24 = .ok (.getfield 19, 3) := dk_180 0 19 (dk_at dksX9_gets_1 0 rfl rfl)
theorem dX9_gets_27 : decode cX9_gets 27 = .ok (.iload_n 3, 1) := dk_29 (dk_at dksX9_gets_1 3 rfl rfl)
theorem dX9_gets_28 : decode cX9_gets 28 = .ok (.iaload, 1) := dk_46 (dk_at dksX9_gets_1 4 rfl rfl)
theorem dX9_gets_29 : decode cX9_gets 29 = .ok (.aload_n 0, 1) := dk_42 (dk_at dksX9_gets_1 5 rfl rfl)
theorem dX9_gets_30 : decode cX9_gets 30 = .ok (.getfield 19, 3) := dk_180 0 19 (dk_at dksX9_gets_1 6 rfl rfl)
theorem dX9_gets_33 : decode cX9_gets 33 = .ok (.iload_n 1, 1) := dk_27 (dk_at dksX9_gets_1 9 rfl rfl)
theorem dX9_gets_34 : decode cX9_gets 34 = .ok (.iaload, 1) := dk_46 (dk_at dksX9_gets_1 10 rfl rfl)
theorem dX9_gets_35 : decode cX9_gets 35 = .ok (.if_icmp .ne 6, 3) := dk_160 0 6 (dk_at dksX9_gets_1 11 rfl rfl)
theorem dX9_gets_38 : decode cX9_gets 38 = .ok (.iinc 2 1, 3) := dk_132 2 1 (dk_at dksX9_gets_1 14 rfl rfl)
theorem dX9_gets_41 : decode cX9_gets 41 = .ok (.iinc 3 1, 3) := dk_132 3 1 (dk_at dksX9_gets_1 17 rfl rfl)
theorem dX9_gets_44 : decode cX9_gets 44 = .ok (.goto (-29), 3) := dk_167 255 227 (dk_at dksX9_gets_1 20 rfl rfl)
theorem dX9_gets_47 : decode cX9_gets 47 = .ok (.aload_n 0, 1) := dk_42 (dk_at dksX9_gets_1 23 rfl rfl)
theorem dX9_gets_48 : decode cX9_gets 48 = .ok (.getfield 3, 3) := dk_180 0 3 (dk_at dksX9_gets_2 0 rfl rfl)
theorem dX9_gets_51 : decode cX9_gets 51 = .ok (.getfield 37, 3) := dk_180 0 37 (dk_at dksX9_gets_2 3 rfl rfl)
theorem dX9_gets_54 : decode cX9_gets 54 = .ok (.aload_n 0, 1) := dk_42 (dk_at dksX9_gets_2 6 rfl rfl)
theorem dX9_gets_55 : decode cX9_gets 55 = .ok (.getfield 19, 3) := dk_180 0 19 (dk_at dksX9_gets_2 7 rfl rfl)
theorem dX9_gets_58 : decode cX9_gets 58 = .ok (.iload_n 1, 1) := dk_27 (dk_at dksX9_gets_2 10 rfl rfl)
theorem dX9_gets_59 : decode cX9_gets 59 = .ok (.iaload, 1) := dk_46 (dk_at dksX9_gets_2 11 rfl rfl)
theorem dX9_gets_60 : decode cX9_gets 60 = .ok (.iconst 1, 1) := dk_4 (dk_at dksX9_gets_2 12 rfl rfl)
theorem dX9_gets_61 : decode cX9_gets 61 = .ok (.isub, 1) := dk_100 (dk_at dksX9_gets_2 13 rfl rfl)
theorem dX9_gets_62 : decode cX9_gets 62 = .ok (.invokevirtual 49, 3) := dk_182 0 49 (dk_at dksX9_gets_2 14 rfl rfl)
theorem dX9_gets_65 : decode cX9_gets 65 = .ok (.iload_n 2, 1) := dk_28 (dk_at dksX9_gets_2 17 rfl rfl)
theorem dX9_gets_66 : decode cX9_gets 66 = .ok (.idiv, 1) := dk_108 (dk_at dksX9_gets_2 18 rfl rfl)
theorem dX9_gets_67 : decode cX9_gets 67 = .ok (.iconst 1, 1) := dk_4 (dk_at dksX9_gets_2 19 rfl rfl)
theorem dX9_gets_68 : decode cX9_gets 68 = .ok (.isub, 1) := dk_100 (dk_at dksX9_gets_2 20 rfl rfl)
theorem dX9_gets_69 : decode cX9_gets 69 = .ok (.ireturn, 1) := dk_172 (dk_at dksX9_gets_2 21 rfl rfl)
theorem q142 : (Jvm.Cond.initialized "PaidSecrets$Feast") ∈ lw_all := lw_g (lw_at lw_m1 14 rfl) rfl
theorem q278 : (Jvm.Cond.fieldLink "PaidSecrets$Feast" (41 : Nat) "PaidSecrets$Talk" "knows" "[I") ∈ lw_all := lw_g (lw_at lw_m1 150 rfl) rfl
theorem q516 : (Jvm.Cond.instantiable "PaidSecrets$Feast" (4 : Nat)) ∈ lw_all := lw_g (lw_at lw_m2 148 rfl) rfl
theorem q518 : (Jvm.Cond.instanceMethod ({ cls := "PaidSecrets$Feast", name := "<init>", desc := "(LPaidSecrets;)V" } : Jvm.MethodName)) ∈ lw_all := lw_g (lw_at lw_m2 150 rfl) rfl
theorem q519 : (Jvm.Cond.code ({ cls := "PaidSecrets$Feast", name := "<init>", desc := "(LPaidSecrets;)V" } : Jvm.MethodName) prog_7_method_1_code (2 : Nat) (Option.none : Option Jvm.ClassFile.FieldType)) ∈ lw_all := lw_g (lw_at lw_m2 151 rfl) rfl
theorem q520 : (Jvm.Cond.methodLink "PaidSecrets$Feast" (9 : Nat) ({ cls := "java/lang/Object", name := "<init>", desc := "()V" } : Jvm.MethodName)) ∈ lw_all := lw_g (lw_at lw_m2 152 rfl) rfl
theorem q521 : (Jvm.Cond.fieldLink "PaidSecrets$Feast" (15 : Nat) "PaidSecrets$Feast" "who" "[I") ∈ lw_all := lw_g (lw_at lw_m2 153 rfl) rfl
theorem q522 : (Jvm.Cond.fieldLink "PaidSecrets$Feast" (19 : Nat) "PaidSecrets$Feast" "chosen" "[I") ∈ lw_all := lw_g (lw_at lw_m2 154 rfl) rfl
theorem q523 : (Jvm.Cond.fieldLink "PaidSecrets$Feast" (22 : Nat) "PaidSecrets$Feast" "many" "I") ∈ lw_all := lw_g (lw_at lw_m2 155 rfl) rfl
theorem q524 : (Jvm.Cond.fieldLink "PaidSecrets$Feast" (3 : Nat) "PaidSecrets$Feast" "this$0" "LPaidSecrets;") ∈ lw_all := lw_g (lw_at lw_m2 156 rfl) rfl
theorem q525 : (Jvm.Cond.laysFinal "PaidSecrets$Feast" "PaidSecrets$Feast" "who" "[I") ∈ lw_all := lw_g (lw_at lw_m2 157 rfl) rfl
theorem q526 : (Jvm.Cond.soleField "PaidSecrets$Feast" "who") ∈ lw_all := lw_g (lw_at lw_m2 158 rfl) rfl
theorem q527 : (Jvm.Cond.laysFinal "PaidSecrets$Feast" "PaidSecrets$Feast" "chosen" "[I") ∈ lw_all := lw_g (lw_at lw_m2 159 rfl) rfl
theorem q528 : (Jvm.Cond.soleField "PaidSecrets$Feast" "chosen") ∈ lw_all := lw_g (lw_at lw_m2 160 rfl) rfl
theorem q529 : (Jvm.Cond.lays "PaidSecrets$Feast" "PaidSecrets$Feast" "many" "I") ∈ lw_all := lw_g (lw_at lw_m2 161 rfl) rfl
theorem q530 : (Jvm.Cond.soleField "PaidSecrets$Feast" "many") ∈ lw_all := lw_g (lw_at lw_m2 162 rfl) rfl
theorem q531 : (Jvm.Cond.laysFinal "PaidSecrets$Feast" "PaidSecrets$Feast" "this$0" "LPaidSecrets;") ∈ lw_all := lw_g (lw_at lw_m2 163 rfl) rfl
theorem q532 : (Jvm.Cond.soleField "PaidSecrets$Feast" "this$0") ∈ lw_all := lw_g (lw_at lw_m2 164 rfl) rfl
theorem q533 : (Jvm.Cond.superclass "PaidSecrets$Feast" "java/lang/Object") ∈ lw_all := lw_g (lw_at lw_m2 165 rfl) rfl
theorem q540 : (Jvm.Cond.fieldLinkNest "PaidSecrets$Feast" (37 : Nat) "PaidSecrets" "talk" "LPaidSecrets$Talk;" "PaidSecrets") ∈ lw_tbl := lw_at lw_m2 172 rfl
theorem q880 : (Jvm.Cond.selects "PaidSecrets$Feast" ({ cls := "java/lang/Object", name := "getClass", desc := "()Ljava/lang/Class;" } : Jvm.MethodName) ({ cls := "java/lang/Object", name := "getClass", desc := "()Ljava/lang/Class;" } : Jvm.MethodName)) ∈ lw_all := lw_g (lw_at lw_m4 32 rfl) rfl
theorem q1692 : (Jvm.Cond.instanceMethod ({ cls := "PaidSecrets$Feast", name := "lays", desc := "(I)I" } : Jvm.MethodName)) ∈ lw_all := lw_g (lw_at lw_m7 124 rfl) rfl
theorem q1693 : (Jvm.Cond.selects "PaidSecrets$Feast" ({ cls := "PaidSecrets$Feast", name := "lays", desc := "(I)I" } : Jvm.MethodName) ({ cls := "PaidSecrets$Feast", name := "lays", desc := "(I)I" } : Jvm.MethodName)) ∈ lw_all := lw_g (lw_at lw_m7 125 rfl) rfl
theorem q1694 : (Jvm.Cond.code ({ cls := "PaidSecrets$Feast", name := "lays", desc := "(I)I" } : Jvm.MethodName) prog_7_method_2_code (4 : Nat) (Option.some Jvm.ClassFile.FieldType.int)) ∈ lw_all := lw_g (lw_at lw_m7 126 rfl) rfl
theorem q1695 : (Jvm.Cond.methodLinkNest "PaidSecrets$Feast" (26 : Nat) ({ cls := "PaidSecrets", name := "people", desc := "()I" } : Jvm.MethodName) "PaidSecrets") ∈ lw_tbl := lw_at lw_m7 127 rfl
theorem q1696 : (Jvm.Cond.methodLinkNest "PaidSecrets$Feast" (30 : Nat) ({ cls := "PaidSecrets", name := "has", desc := "(II)Z" } : Jvm.MethodName) "PaidSecrets") ∈ lw_tbl := lw_at lw_m7 128 rfl
theorem q1698 : (Jvm.Cond.instanceMethod ({ cls := "PaidSecrets$Feast", name := "isRest", desc := "(I)Z" } : Jvm.MethodName)) ∈ lw_all := lw_g (lw_at lw_m7 130 rfl) rfl
theorem q1699 : (Jvm.Cond.selects "PaidSecrets$Feast" ({ cls := "PaidSecrets$Feast", name := "isRest", desc := "(I)Z" } : Jvm.MethodName) ({ cls := "PaidSecrets$Feast", name := "isRest", desc := "(I)Z" } : Jvm.MethodName)) ∈ lw_all := lw_g (lw_at lw_m7 131 rfl) rfl
theorem q1700 : (Jvm.Cond.code ({ cls := "PaidSecrets$Feast", name := "isRest", desc := "(I)Z" } : Jvm.MethodName) prog_7_method_6_code (7 : Nat) (Option.some Jvm.ClassFile.FieldType.boolean)) ∈ lw_all := lw_g (lw_at lw_m7 132 rfl) rfl
theorem q1701 : (Jvm.Cond.methodLink "PaidSecrets$Feast" (53 : Nat) ({ cls := "PaidSecrets$Feast", name := "reads", desc := "(I)Z" } : Jvm.MethodName)) ∈ lw_all := lw_g (lw_at lw_m7 133 rfl) rfl
theorem q1702 : (Jvm.Cond.privateMethod ({ cls := "PaidSecrets$Feast", name := "reads", desc := "(I)Z" } : Jvm.MethodName)) ∈ lw_tbl := lw_at lw_m7 134 rfl
theorem q1703 : (Jvm.Cond.instanceMethod ({ cls := "PaidSecrets$Feast", name := "reads", desc := "(I)Z" } : Jvm.MethodName)) ∈ lw_all := lw_g (lw_at lw_m7 135 rfl) rfl
theorem q1704 : (Jvm.Cond.code ({ cls := "PaidSecrets$Feast", name := "reads", desc := "(I)Z" } : Jvm.MethodName) prog_7_method_4_code (4 : Nat) (Option.some Jvm.ClassFile.FieldType.boolean)) ∈ lw_all := lw_g (lw_at lw_m7 136 rfl) rfl
theorem q1705 : (Jvm.Cond.methodLink "PaidSecrets$Feast" (46 : Nat) ({ cls := "PaidSecrets$Feast", name := "may", desc := "(II)Z" } : Jvm.MethodName)) ∈ lw_all := lw_g (lw_at lw_m7 137 rfl) rfl
theorem q1706 : (Jvm.Cond.privateMethod ({ cls := "PaidSecrets$Feast", name := "may", desc := "(II)Z" } : Jvm.MethodName)) ∈ lw_tbl := lw_at lw_m7 138 rfl
theorem q1707 : (Jvm.Cond.instanceMethod ({ cls := "PaidSecrets$Feast", name := "may", desc := "(II)Z" } : Jvm.MethodName)) ∈ lw_all := lw_g (lw_at lw_m7 139 rfl) rfl
theorem q1708 : (Jvm.Cond.code ({ cls := "PaidSecrets$Feast", name := "may", desc := "(II)Z" } : Jvm.MethodName) prog_7_method_3_code (3 : Nat) (Option.some Jvm.ClassFile.FieldType.boolean)) ∈ lw_all := lw_g (lw_at lw_m7 140 rfl) rfl
theorem q1709 : (Jvm.Cond.methodLinkNest "PaidSecrets$Feast" (34 : Nat) ({ cls := "PaidSecrets", name := "secrets", desc := "()I" } : Jvm.MethodName) "PaidSecrets") ∈ lw_tbl := lw_at lw_m7 141 rfl
theorem q1710 : (Jvm.Cond.methodLink "PaidSecrets$Feast" (57 : Nat) ({ cls := "PaidSecrets$Feast", name := "gets", desc := "(I)I" } : Jvm.MethodName)) ∈ lw_all := lw_g (lw_at lw_m7 142 rfl) rfl
theorem q1711 : (Jvm.Cond.privateMethod ({ cls := "PaidSecrets$Feast", name := "gets", desc := "(I)I" } : Jvm.MethodName)) ∈ lw_tbl := lw_at lw_m7 143 rfl
theorem q1712 : (Jvm.Cond.instanceMethod ({ cls := "PaidSecrets$Feast", name := "gets", desc := "(I)I" } : Jvm.MethodName)) ∈ lw_all := lw_g (lw_at lw_m7 144 rfl) rfl
theorem q1713 : (Jvm.Cond.code ({ cls := "PaidSecrets$Feast", name := "gets", desc := "(I)I" } : Jvm.MethodName) prog_7_method_5_code (4 : Nat) (Option.some Jvm.ClassFile.FieldType.int)) ∈ lw_all := lw_g (lw_at lw_m7 145 rfl) rfl
theorem q1714 : (Jvm.Cond.methodLink "PaidSecrets$Feast" (49 : Nat) ({ cls := "PaidSecrets$Talk", name := "worth", desc := "(I)I" } : Jvm.MethodName)) ∈ lw_all := lw_g (lw_at lw_m7 146 rfl) rfl
theorem q2542 : (Jvm.Cond.castable "PaidSecrets$Feast" "java/lang/Object") ∈ lw_tbl := lw_at lw_m11 14 rfl
theorem in_X9 : ∀ w ∈ wsX90, w ∈ lw_all := lw_in wsX90 [525, 527, 529, 531] (by decide +kernel) (by decide +kernel)
