set_option maxRecDepth 100000
/-! PaidSecrets -/
set_option maxRecDepth 100000
def RX1 : String := "PaidSecrets"
def TX1 : u_T := fun k => match k with
  | 0 => ("PaidSecrets", "reader", "LPaidSecrets$Reader;", true)
  | 1 => ("PaidSecrets", "talk", "LPaidSecrets$Talk;", false)
  | 2 => ("PaidSecrets", "trial", "LPaidSecrets$Talk;", true)
  | 3 => ("PaidSecrets", "gossip", "Ljava/util/ArrayList;", false)
  | 4 => ("PaidSecrets", "seen", "Ljava/util/ArrayList;", false)
  | 5 => ("PaidSecrets", "behind", "Ljava/util/ArrayList;", true)
  | 6 => ("PaidSecrets", "payers", "LPaidSecrets$Payers;", true)
  | 7 => ("PaidSecrets", "plots", "LPaidSecrets$Plots;", true)
  | 8 => ("PaidSecrets", "gossips", "LPaidSecrets$Nights;", true)
  | 9 => ("PaidSecrets", "feast", "LPaidSecrets$Feast;", true)
  | 10 => ("PaidSecrets", "g", "J", false)
  | _ => ("PaidSecrets", "marks", "[LPaidSecrets$Mark;", true)
def tyX1 : Nat → FieldType := fun k => match k with
  | 0 => .object "PaidSecrets$Reader"
  | 1 => .object "PaidSecrets$Talk"
  | 2 => .object "PaidSecrets$Talk"
  | 3 => .object "java/util/ArrayList"
  | 4 => .object "java/util/ArrayList"
  | 5 => .object "java/util/ArrayList"
  | 6 => .object "PaidSecrets$Payers"
  | 7 => .object "PaidSecrets$Plots"
  | 8 => .object "PaidSecrets$Nights"
  | 9 => .object "PaidSecrets$Feast"
  | 10 => .long
  | _ => .array (.object "PaidSecrets$Mark")
abbrev wsX10 : List Cond := u_ws RX1 TX1 12
theorem nmX1 : ∀ a, a < 12 → ∀ b, b < 12 → a ≠ b → (TX1 a).2.1 ≠ (TX1 b).2.1 := by decide +kernel
theorem tyX1_ok : ∀ k, k < 12 → parseFieldDescriptor (TX1 k).2.2.1 = some (tyX1 k) := by decide +kernel
abbrev cX1_init : ByteArray := prog_1_method_5_code
def yX1_init : MethodName := ⟨RX1, "<init>", "()V"⟩
def dkwX1_init_5 : List UInt8 := [187, 0, 86, 89, 42, 183, 0, 88, 181, 0, 89, 42, 7, 189, 0, 93, 181, 0, 95, 177]
abbrev dktX1_init_5 : List UInt8 := dkwX1_init_5 ++ []
def dkwX1_init_4 : List UInt8 := [187, 0, 72, 89, 42, 183, 0, 74, 181, 0, 75, 42, 187, 0, 79, 89, 42, 183, 0, 81, 181, 0, 82, 42]
abbrev dktX1_init_4 : List UInt8 := dkwX1_init_4 ++ dktX1_init_5
def dkwX1_init_3 : List UInt8 := [42, 187, 0, 47, 89, 183, 0, 59, 181, 0, 60, 42, 187, 0, 63, 89, 42, 183, 0, 65, 181, 0, 68, 42]
abbrev dktX1_init_3 : List UInt8 := dkwX1_init_3 ++ dktX1_init_4
def dkwX1_init_2 : List UInt8 := [42, 187, 0, 47, 89, 5, 183, 0, 49, 181, 0, 52, 42, 187, 0, 47, 89, 5, 183, 0, 49, 181, 0, 56]
abbrev dktX1_init_2 : List UInt8 := dkwX1_init_2 ++ dktX1_init_3
def dkwX1_init_1 : List UInt8 := [187, 0, 33, 89, 183, 0, 35, 182, 0, 36, 181, 0, 40, 42, 187, 0, 30, 89, 183, 0, 32, 181, 0, 44]
abbrev dktX1_init_1 : List UInt8 := dkwX1_init_1 ++ dktX1_init_2
def dkwX1_init_0 : List UInt8 := [42, 183, 0, 16, 42, 187, 0, 21, 89, 183, 0, 23, 181, 0, 24, 42, 187, 0, 30, 89, 183, 0, 32]
abbrev dktX1_init_0 : List UInt8 := dkwX1_init_0 ++ dktX1_init_1
theorem dksX1_init_0 : cX1_init.data.toList.drop 0 = dktX1_init_0 := by decide +kernel
theorem dksX1_init_1 : cX1_init.data.toList.drop 23 = dktX1_init_1 := dk_seg dksX1_init_0 23 rfl rfl
theorem dksX1_init_2 : cX1_init.data.toList.drop 47 = dktX1_init_2 := dk_seg dksX1_init_1 24 rfl rfl
theorem dksX1_init_3 : cX1_init.data.toList.drop 71 = dktX1_init_3 := dk_seg dksX1_init_2 24 rfl rfl
theorem dksX1_init_4 : cX1_init.data.toList.drop 95 = dktX1_init_4 := dk_seg dksX1_init_3 24 rfl rfl
theorem dksX1_init_5 : cX1_init.data.toList.drop 119 = dktX1_init_5 := dk_seg dksX1_init_4 24 rfl rfl
theorem dX1_init_0 : decode cX1_init 0 = .ok (.aload_n 0, 1) := dk_42 (dk_at dksX1_init_0 0 rfl rfl)
theorem dX1_init_1 : decode cX1_init 1 = .ok (.invokespecial 16, 3) := dk_183 0 16 (dk_at dksX1_init_0 1 rfl rfl)
theorem dX1_init_4 : decode cX1_init 4 = .ok (.aload_n 0, 1) := dk_42 (dk_at dksX1_init_0 4 rfl rfl)
theorem dX1_init_5 : decode cX1_init 5 = .ok (.new 21, 3) := dk_187 0 21 (dk_at dksX1_init_0 5 rfl rfl)
theorem dX1_init_8 : decode cX1_init 8 = .ok (.dup, 1) := dk_89 (dk_at dksX1_init_0 8 rfl rfl)
theorem dX1_init_9 : decode cX1_init 9 = .ok (.invokespecial 23, 3) := dk_183 0 23 (dk_at dksX1_init_0 9 rfl rfl)
theorem dX1_init_12 : decode cX1_init 12 = .ok (.putfield 24, 3) := dk_181 0 24 (dk_at dksX1_init_0 12 rfl rfl)
theorem dX1_init_15 : decode cX1_init 15 = .ok (.aload_n 0, 1) := dk_42 (dk_at dksX1_init_0 15 rfl rfl)
theorem dX1_init_16 : decode cX1_init 16 = .ok (.new 30, 3) := dk_187 0 30 (dk_at dksX1_init_0 16 rfl rfl)
theorem dX1_init_19 : decode cX1_init 19 = .ok (.dup, 1) := dk_89 (dk_at dksX1_init_0 19 rfl rfl)
theorem dX1_init_20 : decode cX1_init 20 = .ok (.invokespecial 32, 3) := dk_183 0 32 (dk_at dksX1_init_0 20 rfl rfl)
theorem dX1_init_23 : decode cX1_init 23 = .ok (.new 33, 3) := dk_187 0 33 (dk_at dksX1_init_1 0 rfl rfl)
theorem dX1_init_26 : decode cX1_init 26 = .ok (.dup, 1) := dk_89 (dk_at dksX1_init_1 3 rfl rfl)
theorem dX1_init_27 : decode cX1_init 27 = .ok (.invokespecial 35, 3) := dk_183 0 35 (dk_at dksX1_init_1 4 rfl rfl)
theorem dX1_init_30 : decode cX1_init 30 = .ok (.invokevirtual 36, 3) := dk_182 0 36 (dk_at dksX1_init_1 7 rfl rfl)
theorem dX1_init_33 : decode cX1_init 33 = .ok (.putfield 40, 3) := dk_181 0 40 (dk_at dksX1_init_1 10 rfl rfl)
theorem dX1_init_36 : decode cX1_init 36 = .ok (.aload_n 0, 1) := dk_42 (dk_at dksX1_init_1 13 rfl rfl)
theorem dX1_init_37 : decode cX1_init 37 = .ok (.new 30, 3) := dk_187 0 30 (dk_at dksX1_init_1 14 rfl rfl)
theorem dX1_init_40 : decode cX1_init 40 = .ok (.dup, 1) := dk_89 (dk_at dksX1_init_1 17 rfl rfl)
theorem dX1_init_41 : decode cX1_init 41 = .ok (.invokespecial 32, 3) := dk_183 0 32 (dk_at dksX1_init_1 18 rfl rfl)
theorem dX1_init_44 : decode cX1_init 44 = .ok (.putfield 44, 3) := dk_181 0 44 (dk_at dksX1_init_1 21 rfl rfl)
theorem dX1_init_47 : decode cX1_init 47 = .ok (.aload_n 0, 1) := dk_42 (dk_at dksX1_init_2 0 rfl rfl)
theorem dX1_init_48 : decode cX1_init 48 = .ok (.new 47, 3) := dk_187 0 47 (dk_at dksX1_init_2 1 rfl rfl)
theorem dX1_init_51 : decode cX1_init 51 = .ok (.dup, 1) := dk_89 (dk_at dksX1_init_2 4 rfl rfl)
theorem dX1_init_52 : decode cX1_init 52 = .ok (.iconst 2, 1) := dk_5 (dk_at dksX1_init_2 5 rfl rfl)
theorem dX1_init_53 : decode cX1_init 53 = .ok (.invokespecial 49, 3) := dk_183 0 49 (dk_at dksX1_init_2 6 rfl rfl)
theorem dX1_init_56 : decode cX1_init 56 = .ok (.putfield 52, 3) := dk_181 0 52 (dk_at dksX1_init_2 9 rfl rfl)
theorem dX1_init_59 : decode cX1_init 59 = .ok (.aload_n 0, 1) := dk_42 (dk_at dksX1_init_2 12 rfl rfl)
theorem dX1_init_60 : decode cX1_init 60 = .ok (.new 47, 3) := dk_187 0 47 (dk_at dksX1_init_2 13 rfl rfl)
theorem dX1_init_63 : decode cX1_init 63 = .ok (.dup, 1) := dk_89 (dk_at dksX1_init_2 16 rfl rfl)
theorem dX1_init_64 : decode cX1_init 64 = .ok (.iconst 2, 1) := dk_5 (dk_at dksX1_init_2 17 rfl rfl)
theorem dX1_init_65 : decode cX1_init 65 = .ok (.invokespecial 49, 3) := dk_183 0 49 (dk_at dksX1_init_2 18 rfl rfl)
theorem dX1_init_68 : decode cX1_init 68 = .ok (.putfield 56, 3) := dk_181 0 56 (dk_at dksX1_init_2 21 rfl rfl)
theorem dX1_init_71 : decode cX1_init 71 = .ok (.aload_n 0, 1) := dk_42 (dk_at dksX1_init_3 0 rfl rfl)
theorem dX1_init_72 : decode cX1_init 72 = .ok (.new 47, 3) := dk_187 0 47 (dk_at dksX1_init_3 1 rfl rfl)
theorem dX1_init_75 : decode cX1_init 75 = .ok (.dup, 1) := dk_89 (dk_at dksX1_init_3 4 rfl rfl)
theorem dX1_init_76 : decode cX1_init 76 = .ok (.invokespecial 59, 3) := dk_183 0 59 (dk_at dksX1_init_3 5 rfl rfl)
theorem dX1_init_79 : decode cX1_init 79 = .ok (.putfield 60, 3) := dk_181 0 60 (dk_at dksX1_init_3 8 rfl rfl)
theorem dX1_init_82 : decode cX1_init 82 = .ok (.aload_n 0, 1) := dk_42 (dk_at dksX1_init_3 11 rfl rfl)
theorem dX1_init_83 : decode cX1_init 83 = .ok (.new 63, 3) := dk_187 0 63 (dk_at dksX1_init_3 12 rfl rfl)
theorem dX1_init_86 : decode cX1_init 86 = .ok (.dup, 1) := dk_89 (dk_at dksX1_init_3 15 rfl rfl)
theorem dX1_init_87 : decode cX1_init 87 = .ok (.aload_n 0, 1) := dk_42 (dk_at dksX1_init_3 16 rfl rfl)
theorem dX1_init_88 : decode cX1_init 88 = .ok (.invokespecial 65, 3) := dk_183 0 65 (dk_at dksX1_init_3 17 rfl rfl)
theorem dX1_init_91 : decode cX1_init 91 = .ok (.putfield 68, 3) := dk_181 0 68 (dk_at dksX1_init_3 20 rfl rfl)
theorem dX1_init_94 : decode cX1_init 94 = .ok (.aload_n 0, 1) := dk_42 (dk_at dksX1_init_3 23 rfl rfl)
theorem dX1_init_95 : decode cX1_init 95 = .ok (.new 72, 3) := dk_187 0 72 (dk_at dksX1_init_4 0 rfl rfl)
theorem dX1_init_98 : decode cX1_init 98 = .ok (.dup, 1) := dk_89 (dk_at dksX1_init_4 3 rfl rfl)
theorem dX1_init_99 : decode cX1_init 99 = .ok (.aload_n 0, 1) := dk_42 (dk_at dksX1_init_4 4 rfl rfl)
theorem dX1_init_100 : decode cX1_init 100 = .ok (.invokespecial 74, 3) := dk_183 0 74 (dk_at dksX1_init_4 5 rfl rfl)
theorem dX1_init_103 : decode cX1_init 103 = .ok (.putfield 75, 3) := dk_181 0 75 (dk_at dksX1_init_4 8 rfl rfl)
theorem dX1_init_106 : decode cX1_init 106 = .ok (.aload_n 0, 1) := dk_42 (dk_at dksX1_init_4 11 rfl rfl)
theorem dX1_init_107 : decode cX1_init 107 = .ok (.new 79, 3) := dk_187 0 79 (dk_at dksX1_init_4 12 rfl rfl)
theorem dX1_init_110 : decode cX1_init 110 = .ok (.dup, 1) := dk_89 (dk_at dksX1_init_4 15 rfl rfl)
theorem dX1_init_111 : decode cX1_init 111 = .ok (.aload_n 0, 1) := dk_42 (dk_at dksX1_init_4 16 rfl rfl)
theorem dX1_init_112 : decode cX1_init 112 = .ok (.invokespecial 81, 3) := dk_183 0 81 (dk_at dksX1_init_4 17 rfl rfl)
theorem dX1_init_115 : decode cX1_init 115 = .ok (.putfield 82, 3) := dk_181 0 82 (dk_at dksX1_init_4 20 rfl rfl)
theorem dX1_init_118 : decode cX1_init 118 = .ok (.aload_n 0, 1) := dk_42 (dk_at dksX1_init_4 23 rfl rfl)
theorem dX1_init_119 : decode cX1_init 119 = .ok (.new 86, 3) := dk_187 0 86 (dk_at dksX1_init_5 0 rfl rfl)
theorem dX1_init_122 : decode cX1_init 122 = .ok (.dup, 1) := dk_89 (dk_at dksX1_init_5 3 rfl rfl)
theorem dX1_init_123 : decode cX1_init 123 = .ok (.aload_n 0, 1) := dk_42 (dk_at dksX1_init_5 4 rfl rfl)
theorem dX1_init_124 : decode cX1_init 124 = .ok (.invokespecial 88, 3) := dk_183 0 88 (dk_at dksX1_init_5 5 rfl rfl)
theorem dX1_init_127 : decode cX1_init 127 = .ok (.putfield 89, 3) := dk_181 0 89 (dk_at dksX1_init_5 8 rfl rfl)
theorem dX1_init_130 : decode cX1_init 130 = .ok (.aload_n 0, 1) := dk_42 (dk_at dksX1_init_5 11 rfl rfl)
theorem dX1_init_131 : decode cX1_init 131 = .ok (.iconst 4, 1) := dk_7 (dk_at dksX1_init_5 12 rfl rfl)
theorem dX1_init_132 : decode cX1_init 132 = .ok (.anewarray 93, 3) := dk_189 0 93 (dk_at dksX1_init_5 13 rfl rfl)
theorem dX1_init_135 : decode cX1_init 135 = .ok (.putfield 95, 3) := dk_181 0 95 (dk_at dksX1_init_5 16 rfl rfl)
theorem dX1_init_138 : decode cX1_init 138 = .ok (.return_, 1) := dk_177 (dk_at dksX1_init_5 19 rfl rfl)
abbrev cX1_feed : ByteArray := prog_1_method_6_code
def yX1_feed : MethodName := ⟨RX1, "feed", "(JJJ)I"⟩
def dkwX1_feed_1 : List UInt8 := [182, 0, 99, 42, 180, 0, 24, 180, 0, 103, 172]
abbrev dktX1_feed_1 : List UInt8 := dkwX1_feed_1 ++ []
def dkwX1_feed_0 : List UInt8 := [42, 180, 0, 24, 31, 182, 0, 99, 42, 180, 0, 24, 33, 182, 0, 99, 42, 180, 0, 24, 22, 5]
abbrev dktX1_feed_0 : List UInt8 := dkwX1_feed_0 ++ dktX1_feed_1
theorem dksX1_feed_0 : cX1_feed.data.toList.drop 0 = dktX1_feed_0 := by decide +kernel
theorem dksX1_feed_1 : cX1_feed.data.toList.drop 22 = dktX1_feed_1 := dk_seg dksX1_feed_0 22 rfl rfl
theorem dX1_feed_0 : decode cX1_feed 0 = .ok (.aload_n 0, 1) := dk_42 (dk_at dksX1_feed_0 0 rfl rfl)
theorem dX1_feed_1 : decode cX1_feed 1 = .ok (.getfield 24, 3) := dk_180 0 24 (dk_at dksX1_feed_0 1 rfl rfl)
theorem dX1_feed_4 : decode cX1_feed 4 = .ok (.lload_n 1, 1) := dk_31 (dk_at dksX1_feed_0 4 rfl rfl)
theorem dX1_feed_5 : decode cX1_feed 5 = .ok (.invokevirtual 99, 3) := dk_182 0 99 (dk_at dksX1_feed_0 5 rfl rfl)
theorem dX1_feed_8 : decode cX1_feed 8 = .ok (.aload_n 0, 1) := dk_42 (dk_at dksX1_feed_0 8 rfl rfl)
theorem dX1_feed_9 : decode cX1_feed 9 = .ok (.getfield 24, 3) := dk_180 0 24 (dk_at dksX1_feed_0 9 rfl rfl)
theorem dX1_feed_12 : decode cX1_feed 12 = .ok (.lload_n 3, 1) := dk_33 (dk_at dksX1_feed_0 12 rfl rfl)
theorem dX1_feed_13 : decode cX1_feed 13 = .ok (.invokevirtual 99, 3) := dk_182 0 99 (dk_at dksX1_feed_0 13 rfl rfl)
theorem dX1_feed_16 : decode cX1_feed 16 = .ok (.aload_n 0, 1) := dk_42 (dk_at dksX1_feed_0 16 rfl rfl)
theorem dX1_feed_17 : decode cX1_feed 17 = .ok (.getfield 24, 3) := dk_180 0 24 (dk_at dksX1_feed_0 17 rfl rfl)
theorem dX1_feed_20 : decode cX1_feed 20 = .ok (.lload 5, 2) := dk_22 5 (dk_at dksX1_feed_0 20 rfl rfl)
theorem dX1_feed_22 : decode cX1_feed 22 = .ok (.invokevirtual 99, 3) := dk_182 0 99 (dk_at dksX1_feed_1 0 rfl rfl)
theorem dX1_feed_25 : decode cX1_feed 25 = .ok (.aload_n 0, 1) := dk_42 (dk_at dksX1_feed_1 3 rfl rfl)
theorem dX1_feed_26 : decode cX1_feed 26 = .ok (.getfield 24, 3) := dk_180 0 24 (dk_at dksX1_feed_1 4 rfl rfl)
theorem dX1_feed_29 : decode cX1_feed 29 = .ok (.getfield 103, 3) := dk_180 0 103 (dk_at dksX1_feed_1 7 rfl rfl)
theorem dX1_feed_32 : decode cX1_feed 32 = .ok (.ireturn, 1) := dk_172 (dk_at dksX1_feed_1 10 rfl rfl)
abbrev cX1_within : ByteArray := prog_1_method_1_code
def yX1_within : MethodName := ⟨RX1, "within", "(III)Z"⟩
def dkwX1_within_0 : List UInt8 := [26, 27, 161, 0, 12, 26, 28, 163, 0, 7, 4, 167, 0, 4, 3, 172]
abbrev dktX1_within_0 : List UInt8 := dkwX1_within_0 ++ []
theorem dksX1_within_0 : cX1_within.data.toList.drop 0 = dktX1_within_0 := by decide +kernel
theorem dX1_within_0 : decode cX1_within 0 = .ok (.iload_n 0, 1) := dk_26 (dk_at dksX1_within_0 0 rfl rfl)
theorem dX1_within_1 : decode cX1_within 1 = .ok (.iload_n 1, 1) := dk_27 (dk_at dksX1_within_0 1 rfl rfl)
theorem dX1_within_2 : decode cX1_within 2 = .ok (.if_icmp .lt 12, 3) := dk_161 0 12 (dk_at dksX1_within_0 2 rfl rfl)
theorem dX1_within_5 : decode cX1_within 5 = .ok (.iload_n 0, 1) := dk_26 (dk_at dksX1_within_0 5 rfl rfl)
theorem dX1_within_6 : decode cX1_within 6 = .ok (.iload_n 2, 1) := dk_28 (dk_at dksX1_within_0 6 rfl rfl)
theorem dX1_within_7 : decode cX1_within 7 = .ok (.if_icmp .gt 7, 3) := dk_163 0 7 (dk_at dksX1_within_0 7 rfl rfl)
theorem dX1_within_10 : decode cX1_within 10 = .ok (.iconst 1, 1) := dk_4 (dk_at dksX1_within_0 10 rfl rfl)
theorem dX1_within_11 : decode cX1_within 11 = .ok (.goto 4, 3) := dk_167 0 4 (dk_at dksX1_within_0 11 rfl rfl)
theorem dX1_within_14 : decode cX1_within 14 = .ok (.iconst 0, 1) := dk_3 (dk_at dksX1_within_0 14 rfl rfl)
theorem dX1_within_15 : decode cX1_within 15 = .ok (.ireturn, 1) := dk_172 (dk_at dksX1_within_0 15 rfl rfl)
abbrev cX1_town : ByteArray := prog_1_method_7_code
def yX1_town : MethodName := ⟨RX1, "town", "()I"⟩
def dkwX1_town_3 : List UInt8 := [167, 255, 241, 3, 172, 76, 43, 180, 0, 116, 172]
abbrev dktX1_town_3 : List UInt8 := dkwX1_town_3 ++ []
def dkwX1_town_2 : List UInt8 := [180, 0, 60, 182, 0, 111, 3, 60, 27, 7, 162, 0, 16, 42, 180, 0, 95, 27, 1, 83, 132, 1, 1]
abbrev dktX1_town_2 : List UInt8 := dkwX1_town_2 ++ dktX1_town_3
def dkwX1_town_1 : List UInt8 := [187, 0, 47, 89, 5, 183, 0, 49, 181, 0, 52, 42, 187, 0, 47, 89, 5, 183, 0, 49, 181, 0, 56, 42]
abbrev dktX1_town_1 : List UInt8 := dkwX1_town_1 ++ dktX1_town_2
def dkwX1_town_0 : List UInt8 := [42, 187, 0, 30, 89, 183, 0, 32, 42, 180, 0, 24, 182, 0, 107, 182, 0, 36, 181, 0, 40, 42]
abbrev dktX1_town_0 : List UInt8 := dkwX1_town_0 ++ dktX1_town_1
theorem dksX1_town_0 : cX1_town.data.toList.drop 0 = dktX1_town_0 := by decide +kernel
theorem dksX1_town_1 : cX1_town.data.toList.drop 22 = dktX1_town_1 := dk_seg dksX1_town_0 22 rfl rfl
theorem dksX1_town_2 : cX1_town.data.toList.drop 46 = dktX1_town_2 := dk_seg dksX1_town_1 24 rfl rfl
theorem dksX1_town_3 : cX1_town.data.toList.drop 69 = dktX1_town_3 := dk_seg dksX1_town_2 23 rfl rfl
theorem dX1_town_0 : decode cX1_town 0 = .ok (.aload_n 0, 1) := dk_42 (dk_at dksX1_town_0 0 rfl rfl)
theorem dX1_town_1 : decode cX1_town 1 = .ok (.new 30, 3) := dk_187 0 30 (dk_at dksX1_town_0 1 rfl rfl)
theorem dX1_town_4 : decode cX1_town 4 = .ok (.dup, 1) := dk_89 (dk_at dksX1_town_0 4 rfl rfl)
theorem dX1_town_5 : decode cX1_town 5 = .ok (.invokespecial 32, 3) := dk_183 0 32 (dk_at dksX1_town_0 5 rfl rfl)
theorem dX1_town_8 : decode cX1_town 8 = .ok (.aload_n 0, 1) := dk_42 (dk_at dksX1_town_0 8 rfl rfl)
theorem dX1_town_9 : decode cX1_town 9 = .ok (.getfield 24, 3) := dk_180 0 24 (dk_at dksX1_town_0 9 rfl rfl)
theorem dX1_town_12 : decode cX1_town 12 = .ok (.invokevirtual 107, 3) := dk_182 0 107 (dk_at dksX1_town_0 12 rfl rfl)
theorem dX1_town_15 : decode cX1_town 15 = .ok (.invokevirtual 36, 3) := dk_182 0 36 (dk_at dksX1_town_0 15 rfl rfl)
theorem dX1_town_18 : decode cX1_town 18 = .ok (.putfield 40, 3) := dk_181 0 40 (dk_at dksX1_town_0 18 rfl rfl)
theorem dX1_town_21 : decode cX1_town 21 = .ok (.aload_n 0, 1) := dk_42 (dk_at dksX1_town_0 21 rfl rfl)
theorem dX1_town_22 : decode cX1_town 22 = .ok (.new 47, 3) := dk_187 0 47 (dk_at dksX1_town_1 0 rfl rfl)
theorem dX1_town_25 : decode cX1_town 25 = .ok (.dup, 1) := dk_89 (dk_at dksX1_town_1 3 rfl rfl)
theorem dX1_town_26 : decode cX1_town 26 = .ok (.iconst 2, 1) := dk_5 (dk_at dksX1_town_1 4 rfl rfl)
theorem dX1_town_27 : decode cX1_town 27 = .ok (.invokespecial 49, 3) := dk_183 0 49 (dk_at dksX1_town_1 5 rfl rfl)
theorem dX1_town_30 : decode cX1_town 30 = .ok (.putfield 52, 3) := dk_181 0 52 (dk_at dksX1_town_1 8 rfl rfl)
theorem dX1_town_33 : decode cX1_town 33 = .ok (.aload_n 0, 1) := dk_42 (dk_at dksX1_town_1 11 rfl rfl)
theorem dX1_town_34 : decode cX1_town 34 = .ok (.new 47, 3) := dk_187 0 47 (dk_at dksX1_town_1 12 rfl rfl)
theorem dX1_town_37 : decode cX1_town 37 = .ok (.dup, 1) := dk_89 (dk_at dksX1_town_1 15 rfl rfl)
theorem dX1_town_38 : decode cX1_town 38 = .ok (.iconst 2, 1) := dk_5 (dk_at dksX1_town_1 16 rfl rfl)
theorem dX1_town_39 : decode cX1_town 39 = .ok (.invokespecial 49, 3) := dk_183 0 49 (dk_at dksX1_town_1 17 rfl rfl)
theorem dX1_town_42 : decode cX1_town 42 = .ok (.putfield 56, 3) := dk_181 0 56 (dk_at dksX1_town_1 20 rfl rfl)
theorem dX1_town_45 : decode cX1_town 45 = .ok (.aload_n 0, 1) := dk_42 (dk_at dksX1_town_1 23 rfl rfl)
theorem dX1_town_46 : decode cX1_town 46 = .ok (.getfield 60, 3) := dk_180 0 60 (dk_at dksX1_town_2 0 rfl rfl)
theorem dX1_town_49 : decode cX1_town 49 = .ok (.invokevirtual 111, 3) := dk_182 0 111 (dk_at dksX1_town_2 3 rfl rfl)
theorem dX1_town_52 : decode cX1_town 52 = .ok (.iconst 0, 1) := dk_3 (dk_at dksX1_town_2 6 rfl rfl)
theorem dX1_town_53 : decode cX1_town 53 = .ok (.istore_n 1, 1) := dk_60 (dk_at dksX1_town_2 7 rfl rfl)
theorem dX1_town_54 : decode cX1_town 54 = .ok (.iload_n 1, 1) := dk_27 (dk_at dksX1_town_2 8 rfl rfl)
theorem dX1_town_55 : decode cX1_town 55 = .ok (.iconst 4, 1) := dk_7 (dk_at dksX1_town_2 9 rfl rfl)
theorem dX1_town_56 : decode cX1_town 56 = .ok (.if_icmp .ge 16, 3) := dk_162 0 16 (dk_at dksX1_town_2 10 rfl rfl)
theorem dX1_town_59 : decode cX1_town 59 = .ok (.aload_n 0, 1) := dk_42 (dk_at dksX1_town_2 13 rfl rfl)
theorem dX1_town_60 : decode cX1_town 60 = .ok (.getfield 95, 3) := dk_180 0 95 (dk_at dksX1_town_2 14 rfl rfl)
theorem dX1_town_63 : decode cX1_town 63 = .ok (.iload_n 1, 1) := dk_27 (dk_at dksX1_town_2 17 rfl rfl)
theorem dX1_town_64 : decode cX1_town 64 = .ok (.aconst_null, 1) := dk_1 (dk_at dksX1_town_2 18 rfl rfl)
theorem dX1_town_65 : decode cX1_town 65 = .ok (.aastore, 1) := dk_83 (dk_at dksX1_town_2 19 rfl rfl)
theorem dX1_town_66 : decode cX1_town 66 = .ok (.iinc 1 1, 3) := dk_132 1 1 (dk_at dksX1_town_2 20 rfl rfl)
theorem dX1_town_69 : decode cX1_town 69 = .ok (.goto (-15), 3) := dk_167 255 241 (dk_at dksX1_town_3 0 rfl rfl)
theorem dX1_town_72 : decode cX1_town 72 = .ok (.iconst 0, 1) := dk_3 (dk_at dksX1_town_3 3 rfl rfl)
theorem dX1_town_73 : decode cX1_town 73 = .ok (.ireturn, 1) := dk_172 (dk_at dksX1_town_3 4 rfl rfl)
theorem dX1_town_74 : decode cX1_town 74 = .ok (.astore_n 1, 1) := dk_76 (dk_at dksX1_town_3 5 rfl rfl)
theorem dX1_town_75 : decode cX1_town 75 = .ok (.aload_n 1, 1) := dk_43 (dk_at dksX1_town_3 6 rfl rfl)
theorem dX1_town_76 : decode cX1_town 76 = .ok (.getfield 116, 3) := dk_180 0 116 (dk_at dksX1_town_3 7 rfl rfl)
theorem dX1_town_79 : decode cX1_town 79 = .ok (.ireturn, 1) := dk_172 (dk_at dksX1_town_3 10 rfl rfl)
abbrev cX1_made : ByteArray := prog_1_method_4_code
def yX1_made : MethodName := ⟨RX1, "made", "(III)LPaidSecrets$Person;"⟩
def dkwX1_made_3 : List UInt8 := [27, 28, 183, 0, 12, 176, 187, 0, 13, 89, 27, 28, 183, 0, 15, 176]
abbrev dktX1_made_3 : List UInt8 := dkwX1_made_3 ++ []
def dkwX1_made_2 : List UInt8 := [187, 0, 1, 89, 27, 28, 183, 0, 3, 176, 187, 0, 7, 89, 27, 28, 183, 0, 9, 176, 187, 0, 10, 89]
abbrev dktX1_made_2 : List UInt8 := dkwX1_made_2 ++ dktX1_made_3
def dkwX1_made_1 : List UInt8 := [170, 0, 0, 0, 0, 0, 57, 0, 0, 0, 1, 0, 0, 0, 3, 0, 0, 0, 27, 0, 0, 0, 37, 0, 0, 0, 47]
abbrev dktX1_made_1 : List UInt8 := dkwX1_made_1 ++ dktX1_made_2
def dkwX1_made_0 : List UInt8 := [26]
abbrev dktX1_made_0 : List UInt8 := dkwX1_made_0 ++ dktX1_made_1
theorem dksX1_made_0 : cX1_made.data.toList.drop 0 = dktX1_made_0 := by decide +kernel
theorem dksX1_made_1 : cX1_made.data.toList.drop 1 = dktX1_made_1 := dk_seg dksX1_made_0 1 rfl rfl
theorem dksX1_made_2 : cX1_made.data.toList.drop 28 = dktX1_made_2 := dk_seg dksX1_made_1 27 rfl rfl
theorem dksX1_made_3 : cX1_made.data.toList.drop 52 = dktX1_made_3 := dk_seg dksX1_made_2 24 rfl rfl
theorem dX1_made_0 : decode cX1_made 0 = .ok (.iload_n 0, 1) := dk_26 (dk_at dksX1_made_0 0 rfl rfl)
theorem dX1_made_1 : decode cX1_made 1 = .ok (.tableswitch 57 1 3 #[27, 37, 47], 27) := by decide +kernel
theorem dX1_made_28 : decode cX1_made 28 = .ok (.new 1, 3) := dk_187 0 1 (dk_at dksX1_made_2 0 rfl rfl)
theorem dX1_made_31 : decode cX1_made 31 = .ok (.dup, 1) := dk_89 (dk_at dksX1_made_2 3 rfl rfl)
theorem dX1_made_32 : decode cX1_made 32 = .ok (.iload_n 1, 1) := dk_27 (dk_at dksX1_made_2 4 rfl rfl)
theorem dX1_made_33 : decode cX1_made 33 = .ok (.iload_n 2, 1) := dk_28 (dk_at dksX1_made_2 5 rfl rfl)
theorem dX1_made_34 : decode cX1_made 34 = .ok (.invokespecial 3, 3) := dk_183 0 3 (dk_at dksX1_made_2 6 rfl rfl)
theorem dX1_made_37 : decode cX1_made 37 = .ok (.areturn, 1) := dk_176 (dk_at dksX1_made_2 9 rfl rfl)
theorem dX1_made_38 : decode cX1_made 38 = .ok (.new 7, 3) := dk_187 0 7 (dk_at dksX1_made_2 10 rfl rfl)
theorem dX1_made_41 : decode cX1_made 41 = .ok (.dup, 1) := dk_89 (dk_at dksX1_made_2 13 rfl rfl)
theorem dX1_made_42 : decode cX1_made 42 = .ok (.iload_n 1, 1) := dk_27 (dk_at dksX1_made_2 14 rfl rfl)
theorem dX1_made_43 : decode cX1_made 43 = .ok (.iload_n 2, 1) := dk_28 (dk_at dksX1_made_2 15 rfl rfl)
theorem dX1_made_44 : decode cX1_made 44 = .ok (.invokespecial 9, 3) := dk_183 0 9 (dk_at dksX1_made_2 16 rfl rfl)
theorem dX1_made_47 : decode cX1_made 47 = .ok (.areturn, 1) := dk_176 (dk_at dksX1_made_2 19 rfl rfl)
theorem dX1_made_48 : decode cX1_made 48 = .ok (.new 10, 3) := dk_187 0 10 (dk_at dksX1_made_2 20 rfl rfl)
theorem dX1_made_51 : decode cX1_made 51 = .ok (.dup, 1) := dk_89 (dk_at dksX1_made_2 23 rfl rfl)
theorem dX1_made_52 : decode cX1_made 52 = .ok (.iload_n 1, 1) := dk_27 (dk_at dksX1_made_3 0 rfl rfl)
theorem dX1_made_53 : decode cX1_made 53 = .ok (.iload_n 2, 1) := dk_28 (dk_at dksX1_made_3 1 rfl rfl)
theorem dX1_made_54 : decode cX1_made 54 = .ok (.invokespecial 12, 3) := dk_183 0 12 (dk_at dksX1_made_3 2 rfl rfl)
theorem dX1_made_57 : decode cX1_made 57 = .ok (.areturn, 1) := dk_176 (dk_at dksX1_made_3 5 rfl rfl)
theorem dX1_made_58 : decode cX1_made 58 = .ok (.new 13, 3) := dk_187 0 13 (dk_at dksX1_made_3 6 rfl rfl)
theorem dX1_made_61 : decode cX1_made 61 = .ok (.dup, 1) := dk_89 (dk_at dksX1_made_3 9 rfl rfl)
theorem dX1_made_62 : decode cX1_made 62 = .ok (.iload_n 1, 1) := dk_27 (dk_at dksX1_made_3 10 rfl rfl)
theorem dX1_made_63 : decode cX1_made 63 = .ok (.iload_n 2, 1) := dk_28 (dk_at dksX1_made_3 11 rfl rfl)
theorem dX1_made_64 : decode cX1_made 64 = .ok (.invokespecial 15, 3) := dk_183 0 15 (dk_at dksX1_made_3 12 rfl rfl)
theorem dX1_made_67 : decode cX1_made 67 = .ok (.areturn, 1) := dk_176 (dk_at dksX1_made_3 15 rfl rfl)
abbrev cX1_has : ByteArray := prog_1_method_2_code
def yX1_has : MethodName := ⟨RX1, "has", "(II)Z"⟩
def dkwX1_has_0 : List UInt8 := [26, 27, 122, 4, 126, 4, 160, 0, 7, 4, 167, 0, 4, 3, 172]
abbrev dktX1_has_0 : List UInt8 := dkwX1_has_0 ++ []
theorem dksX1_has_0 : cX1_has.data.toList.drop 0 = dktX1_has_0 := by decide +kernel
theorem dX1_has_0 : decode cX1_has 0 = .ok (.iload_n 0, 1) := dk_26 (dk_at dksX1_has_0 0 rfl rfl)
theorem dX1_has_1 : decode cX1_has 1 = .ok (.iload_n 1, 1) := dk_27 (dk_at dksX1_has_0 1 rfl rfl)
theorem dX1_has_2 : decode cX1_has 2 = .ok (.ishr, 1) := dk_122 (dk_at dksX1_has_0 2 rfl rfl)
theorem dX1_has_3 : decode cX1_has 3 = .ok (.iconst 1, 1) := dk_4 (dk_at dksX1_has_0 3 rfl rfl)
theorem dX1_has_4 : decode cX1_has 4 = .ok (.iand, 1) := dk_126 (dk_at dksX1_has_0 4 rfl rfl)
theorem dX1_has_5 : decode cX1_has 5 = .ok (.iconst 1, 1) := dk_4 (dk_at dksX1_has_0 5 rfl rfl)
theorem dX1_has_6 : decode cX1_has 6 = .ok (.if_icmp .ne 7, 3) := dk_160 0 7 (dk_at dksX1_has_0 6 rfl rfl)
theorem dX1_has_9 : decode cX1_has 9 = .ok (.iconst 1, 1) := dk_4 (dk_at dksX1_has_0 9 rfl rfl)
theorem dX1_has_10 : decode cX1_has 10 = .ok (.goto 4, 3) := dk_167 0 4 (dk_at dksX1_has_0 10 rfl rfl)
theorem dX1_has_13 : decode cX1_has 13 = .ok (.iconst 0, 1) := dk_3 (dk_at dksX1_has_0 13 rfl rfl)
theorem dX1_has_14 : decode cX1_has 14 = .ok (.ireturn, 1) := dk_172 (dk_at dksX1_has_0 14 rfl rfl)
abbrev cX1_gossip : ByteArray := prog_1_method_8_code
def yX1_gossip : MethodName := ⟨RX1, "gossip", "()I"⟩
def dkwX1_gossip_0 : List UInt8 := [42, 42, 180, 0, 24, 42, 182, 0, 119, 182, 0, 122, 181, 0, 52, 3, 172, 76, 43, 180, 0, 116, 172]
abbrev dktX1_gossip_0 : List UInt8 := dkwX1_gossip_0 ++ []
theorem dksX1_gossip_0 : cX1_gossip.data.toList.drop 0 = dktX1_gossip_0 := by decide +kernel
theorem dX1_gossip_0 : decode cX1_gossip 0 = .ok (.aload_n 0, 1) := dk_42 (dk_at dksX1_gossip_0 0 rfl rfl)
theorem dX1_gossip_1 : decode cX1_gossip 1 = .ok (.aload_n 0, 1) := dk_42 (dk_at dksX1_gossip_0 1 rfl rfl)
theorem dX1_gossip_2 : decode cX1_gossip 2 = .ok (.getfield 24, 3) := dk_180 0 24 (dk_at dksX1_gossip_0 2 rfl rfl)
theorem dX1_gossip_5 : decode cX1_gossip 5 = .ok (.aload_n 0, 1) := dk_42 (dk_at dksX1_gossip_0 5 rfl rfl)
theorem dX1_gossip_6 : decode cX1_gossip 6 = .ok (.invokevirtual 119, 3) := dk_182 0 119 (dk_at dksX1_gossip_0 6 rfl rfl)
theorem dX1_gossip_9 : decode cX1_gossip 9 = .ok (.invokevirtual 122, 3) := dk_182 0 122 (dk_at dksX1_gossip_0 9 rfl rfl)
theorem dX1_gossip_12 : decode cX1_gossip 12 = .ok (.putfield 52, 3) := dk_181 0 52 (dk_at dksX1_gossip_0 12 rfl rfl)
theorem dX1_gossip_15 : decode cX1_gossip 15 = .ok (.iconst 0, 1) := dk_3 (dk_at dksX1_gossip_0 15 rfl rfl)
theorem dX1_gossip_16 : decode cX1_gossip 16 = .ok (.ireturn, 1) := dk_172 (dk_at dksX1_gossip_0 16 rfl rfl)
theorem dX1_gossip_17 : decode cX1_gossip 17 = .ok (.astore_n 1, 1) := dk_76 (dk_at dksX1_gossip_0 17 rfl rfl)
theorem dX1_gossip_18 : decode cX1_gossip 18 = .ok (.aload_n 1, 1) := dk_43 (dk_at dksX1_gossip_0 18 rfl rfl)
theorem dX1_gossip_19 : decode cX1_gossip 19 = .ok (.getfield 116, 3) := dk_180 0 116 (dk_at dksX1_gossip_0 19 rfl rfl)
theorem dX1_gossip_22 : decode cX1_gossip 22 = .ok (.ireturn, 1) := dk_172 (dk_at dksX1_gossip_0 22 rfl rfl)
abbrev cX1_now : ByteArray := prog_1_method_9_code
def yX1_now : MethodName := ⟨RX1, "now", "()LPaidSecrets$Town;"⟩
def dkwX1_now_0 : List UInt8 := [42, 180, 0, 40, 180, 0, 125, 176]
abbrev dktX1_now_0 : List UInt8 := dkwX1_now_0 ++ []
theorem dksX1_now_0 : cX1_now.data.toList.drop 0 = dktX1_now_0 := by decide +kernel
theorem dX1_now_0 : decode cX1_now 0 = .ok (.aload_n 0, 1) := dk_42 (dk_at dksX1_now_0 0 rfl rfl)
theorem dX1_now_1 : decode cX1_now 1 = .ok (.getfield 40, 3) := dk_180 0 40 (dk_at dksX1_now_0 1 rfl rfl)
theorem dX1_now_4 : decode cX1_now 4 = .ok (.getfield 125, 3) := dk_180 0 125 (dk_at dksX1_now_0 4 rfl rfl)
theorem dX1_now_7 : decode cX1_now 7 = .ok (.areturn, 1) := dk_176 (dk_at dksX1_now_0 7 rfl rfl)
abbrev cX1_secret : ByteArray := prog_1_method_16_code
def yX1_secret : MethodName := ⟨RX1, "secret", "(II)I"⟩
def dkwX1_secret_7 : List UInt8 := [184, 0, 176, 153, 0, 7, 4, 167, 0, 4, 3, 172, 45, 180, 0, 219, 172, 2, 172]
abbrev dktX1_secret_7 : List UInt8 := dkwX1_secret_7 ++ []
def dkwX1_secret_6 : List UInt8 := [180, 0, 213, 27, 184, 0, 176, 153, 0, 7, 4, 167, 0, 4, 3, 172, 42, 180, 0, 40, 180, 0, 216, 27]
abbrev dktX1_secret_6 : List UInt8 := dkwX1_secret_6 ++ dktX1_secret_7
def dkwX1_secret_5 : List UInt8 := [180, 0, 204, 27, 46, 182, 0, 207, 172, 42, 180, 0, 40, 27, 182, 0, 210, 172, 42, 180, 0, 40]
abbrev dktX1_secret_5 : List UInt8 := dkwX1_secret_5 ++ dktX1_secret_6
def dkwX1_secret_4 : List UInt8 := [180, 0, 201, 172, 42, 180, 0, 40, 180, 0, 204, 27, 46, 172, 42, 182, 0, 119, 42, 180, 0, 40]
abbrev dktX1_secret_4 : List UInt8 := dkwX1_secret_4 ++ dktX1_secret_5
def dkwX1_secret_3 : List UInt8 := [45, 180, 0, 191, 153, 0, 7, 4, 167, 0, 4, 3, 172, 45, 180, 0, 195, 172, 45, 180, 0, 198, 172, 45]
abbrev dktX1_secret_3 : List UInt8 := dkwX1_secret_3 ++ dktX1_secret_4
def dkwX1_secret_2 : List UInt8 := [170, 0, 0, 0, 0, 163, 0, 0, 0, 0, 0, 0, 0, 9, 0, 0, 0, 54, 0, 0, 0, 67, 0, 0, 0, 72, 0, 0, 0, 77, 0, 0, 0, 82, 0, 0, 0, 92, 0, 0, 0, 109, 0, 0, 0, 118, 0, 0, 0, 138, 0, 0, 0, 158]
abbrev dktX1_secret_2 : List UInt8 := dkwX1_secret_2 ++ dktX1_secret_3
def dkwX1_secret_1 : List UInt8 := [78, 28]
abbrev dktX1_secret_1 : List UInt8 := dkwX1_secret_1 ++ dktX1_secret_2
def dkwX1_secret_0 : List UInt8 := [42, 27, 182, 0, 186, 154, 0, 5, 2, 172, 42, 182, 0, 119, 180, 0, 135, 27, 182, 0, 153, 192, 0, 189]
abbrev dktX1_secret_0 : List UInt8 := dkwX1_secret_0 ++ dktX1_secret_1
theorem dksX1_secret_0 : cX1_secret.data.toList.drop 0 = dktX1_secret_0 := by decide +kernel
theorem dksX1_secret_1 : cX1_secret.data.toList.drop 24 = dktX1_secret_1 := dk_seg dksX1_secret_0 24 rfl rfl
theorem dksX1_secret_2 : cX1_secret.data.toList.drop 26 = dktX1_secret_2 := dk_seg dksX1_secret_1 2 rfl rfl
theorem dksX1_secret_3 : cX1_secret.data.toList.drop 80 = dktX1_secret_3 := dk_seg dksX1_secret_2 54 rfl rfl
theorem dksX1_secret_4 : cX1_secret.data.toList.drop 104 = dktX1_secret_4 := dk_seg dksX1_secret_3 24 rfl rfl
theorem dksX1_secret_5 : cX1_secret.data.toList.drop 126 = dktX1_secret_5 := dk_seg dksX1_secret_4 22 rfl rfl
theorem dksX1_secret_6 : cX1_secret.data.toList.drop 148 = dktX1_secret_6 := dk_seg dksX1_secret_5 22 rfl rfl
theorem dksX1_secret_7 : cX1_secret.data.toList.drop 172 = dktX1_secret_7 := dk_seg dksX1_secret_6 24 rfl rfl
theorem dX1_secret_0 : decode cX1_secret 0 = .ok (.aload_n 0, 1) := dk_42 (dk_at dksX1_secret_0 0 rfl rfl)
theorem dX1_secret_1 : decode cX1_secret 1 = .ok (.iload_n 1, 1) := dk_27 (dk_at dksX1_secret_0 1 rfl rfl)
theorem dX1_secret_2 : decode cX1_secret 2 = .ok (.invokevirtual 186, 3) := dk_182 0 186 (dk_at dksX1_secret_0 2 rfl rfl)
theorem dX1_secret_5 : decode cX1_secret 5 = .ok (.ifCond .ne 5, 3) := dk_154 0 5 (dk_at dksX1_secret_0 5 rfl rfl)
theorem dX1_secret_8 : decode cX1_secret 8 = .ok (.iconst (-1), 1) := dk_2 (dk_at dksX1_secret_0 8 rfl rfl)
theorem dX1_secret_9 : decode cX1_secret 9 = .ok (.ireturn, 1) := dk_172 (dk_at dksX1_secret_0 9 rfl rfl)
theorem dX1_secret_10 : decode cX1_secret 10 = .ok (.aload_n 0, 1) := dk_42 (dk_at dksX1_secret_0 10 rfl rfl)
theorem dX1_secret_11 : decode cX1_secret 11 = .ok (.invokevirtual 119, 3) := dk_182 0 119 (dk_at dksX1_secret_0 11 rfl rfl)
theorem dX1_secret_14 : decode cX1_secret 14 = .ok (.getfield 135, 3) := dk_180 0 135 (dk_at dksX1_secret_0 14 rfl rfl)
theorem dX1_secret_17 : decode cX1_secret 17 = .ok (.iload_n 1, 1) := dk_27 (dk_at dksX1_secret_0 17 rfl rfl)
theorem dX1_secret_18 : decode cX1_secret 18 = .ok (.invokevirtual 153, 3) := dk_182 0 153 (dk_at dksX1_secret_0 18 rfl rfl)
theorem dX1_secret_21 : decode cX1_secret 21 = .ok (.checkcast 189, 3) := dk_192 0 189 (dk_at dksX1_secret_0 21 rfl rfl)
theorem dX1_secret_24 : decode cX1_secret 24 = .ok (.astore_n 3, 1) := dk_78 (dk_at dksX1_secret_1 0 rfl rfl)
theorem dX1_secret_25 : decode cX1_secret 25 = .ok (.iload_n 2, 1) := dk_28 (dk_at dksX1_secret_1 1 rfl rfl)
theorem dX1_secret_26 : decode cX1_secret 26 = .ok (.tableswitch 163 0 9 #[54, 67, 72, 77, 82, 92, 109, 118, 138, 158], 54) := by decide +kernel
theorem dX1_secret_80 : decode cX1_secret 80 = .ok (.aload_n 3, 1) := dk_45 (dk_at dksX1_secret_3 0 rfl rfl)
theorem dX1_secret_81 : decode cX1_secret 81 = .ok (.getfield 191, 3) := dk_180 0 191 (dk_at dksX1_secret_3 1 rfl rfl)
theorem dX1_secret_84 : decode cX1_secret 84 = .ok (.ifCond .eq 7, 3) := dk_153 0 7 (dk_at dksX1_secret_3 4 rfl rfl)
theorem dX1_secret_87 : decode cX1_secret 87 = .ok (.iconst 1, 1) := dk_4 (dk_at dksX1_secret_3 7 rfl rfl)
theorem dX1_secret_88 : decode cX1_secret 88 = .ok (.goto 4, 3) := dk_167 0 4 (dk_at dksX1_secret_3 8 rfl rfl)
theorem dX1_secret_91 : decode cX1_secret 91 = .ok (.iconst 0, 1) := dk_3 (dk_at dksX1_secret_3 11 rfl rfl)
theorem dX1_secret_92 : decode cX1_secret 92 = .ok (.ireturn, 1) := dk_172 (dk_at dksX1_secret_3 12 rfl rfl)
theorem dX1_secret_93 : decode cX1_secret 93 = .ok (.aload_n 3, 1) := dk_45 (dk_at dksX1_secret_3 13 rfl rfl)
theorem dX1_secret_94 : decode cX1_secret 94 = .ok (.getfield 195, 3) := dk_180 0 195 (dk_at dksX1_secret_3 14 rfl rfl)
theorem dX1_secret_97 : decode cX1_secret 97 = .ok (.ireturn, 1) := dk_172 (dk_at dksX1_secret_3 17 rfl rfl)
theorem dX1_secret_98 : decode cX1_secret 98 = .ok (.aload_n 3, 1) := dk_45 (dk_at dksX1_secret_3 18 rfl rfl)
theorem dX1_secret_99 : decode cX1_secret 99 = .ok (.getfield 198, 3) := dk_180 0 198 (dk_at dksX1_secret_3 19 rfl rfl)
theorem dX1_secret_102 : decode cX1_secret 102 = .ok (.ireturn, 1) := dk_172 (dk_at dksX1_secret_3 22 rfl rfl)
theorem dX1_secret_103 : decode cX1_secret 103 = .ok (.aload_n 3, 1) := dk_45 (dk_at dksX1_secret_3 23 rfl rfl)
theorem dX1_secret_104 : decode cX1_secret 104 = .ok (.getfield 201, 3) := dk_180 0 201 (dk_at dksX1_secret_4 0 rfl rfl)
theorem dX1_secret_107 : decode cX1_secret 107 = .ok (.ireturn, 1) := dk_172 (dk_at dksX1_secret_4 3 rfl rfl)
theorem dX1_secret_108 : decode cX1_secret 108 = .ok (.aload_n 0, 1) := dk_42 (dk_at dksX1_secret_4 4 rfl rfl)
theorem dX1_secret_109 : decode cX1_secret 109 = .ok (.getfield 40, 3) := dk_180 0 40 (dk_at dksX1_secret_4 5 rfl rfl)
theorem dX1_secret_112 : decode cX1_secret 112 = .ok (.getfield 204, 3) := dk_180 0 204 (dk_at dksX1_secret_4 8 rfl rfl)
theorem dX1_secret_115 : decode cX1_secret 115 = .ok (.iload_n 1, 1) := dk_27 (dk_at dksX1_secret_4 11 rfl rfl)
theorem dX1_secret_116 : decode cX1_secret 116 = .ok (.iaload, 1) := dk_46 (dk_at dksX1_secret_4 12 rfl rfl)
theorem dX1_secret_117 : decode cX1_secret 117 = .ok (.ireturn, 1) := dk_172 (dk_at dksX1_secret_4 13 rfl rfl)
theorem dX1_secret_118 : decode cX1_secret 118 = .ok (.aload_n 0, 1) := dk_42 (dk_at dksX1_secret_4 14 rfl rfl)
theorem dX1_secret_119 : decode cX1_secret 119 = .ok (.invokevirtual 119, 3) := dk_182 0 119 (dk_at dksX1_secret_4 15 rfl rfl)
theorem dX1_secret_122 : decode cX1_secret 122 = .ok (.aload_n 0, 1) := dk_42 (dk_at dksX1_secret_4 18 rfl rfl)
theorem dX1_secret_123 : decode cX1_secret 123 = .ok (.getfield 40, 3) := dk_180 0 40 (dk_at dksX1_secret_4 19 rfl rfl)
theorem dX1_secret_126 : decode cX1_secret 126 = .ok (.getfield 204, 3) := dk_180 0 204 (dk_at dksX1_secret_5 0 rfl rfl)
theorem dX1_secret_129 : decode cX1_secret 129 = .ok (.iload_n 1, 1) := dk_27 (dk_at dksX1_secret_5 3 rfl rfl)
theorem dX1_secret_130 : decode cX1_secret 130 = .ok (.iaload, 1) := dk_46 (dk_at dksX1_secret_5 4 rfl rfl)
theorem dX1_secret_131 : decode cX1_secret 131 = .ok (.invokevirtual 207, 3) := dk_182 0 207 (dk_at dksX1_secret_5 5 rfl rfl)
theorem dX1_secret_134 : decode cX1_secret 134 = .ok (.ireturn, 1) := dk_172 (dk_at dksX1_secret_5 8 rfl rfl)
theorem dX1_secret_135 : decode cX1_secret 135 = .ok (.aload_n 0, 1) := dk_42 (dk_at dksX1_secret_5 9 rfl rfl)
theorem dX1_secret_136 : decode cX1_secret 136 = .ok (.getfield 40, 3) := dk_180 0 40 (dk_at dksX1_secret_5 10 rfl rfl)
theorem dX1_secret_139 : decode cX1_secret 139 = .ok (.iload_n 1, 1) := dk_27 (dk_at dksX1_secret_5 13 rfl rfl)
theorem dX1_secret_140 : decode cX1_secret 140 = .ok (.invokevirtual 210, 3) := dk_182 0 210 (dk_at dksX1_secret_5 14 rfl rfl)
theorem dX1_secret_143 : decode cX1_secret 143 = .ok (.ireturn, 1) := dk_172 (dk_at dksX1_secret_5 17 rfl rfl)
theorem dX1_secret_144 : decode cX1_secret 144 = .ok (.aload_n 0, 1) := dk_42 (dk_at dksX1_secret_5 18 rfl rfl)
theorem dX1_secret_145 : decode cX1_secret 145 = .ok (.getfield 40, 3) := dk_180 0 40 (dk_at dksX1_secret_5 19 rfl rfl)
theorem dX1_secret_148 : decode cX1_secret 148 = .ok (.getfield 213, 3) := dk_180 0 213 (dk_at dksX1_secret_6 0 rfl rfl)
theorem dX1_secret_151 : decode cX1_secret 151 = .ok (.iload_n 1, 1) := dk_27 (dk_at dksX1_secret_6 3 rfl rfl)
theorem dX1_secret_152 : decode cX1_secret 152 = .ok (.invokestatic 176, 3) := dk_184 0 176 (dk_at dksX1_secret_6 4 rfl rfl)
theorem dX1_secret_155 : decode cX1_secret 155 = .ok (.ifCond .eq 7, 3) := dk_153 0 7 (dk_at dksX1_secret_6 7 rfl rfl)
theorem dX1_secret_158 : decode cX1_secret 158 = .ok (.iconst 1, 1) := dk_4 (dk_at dksX1_secret_6 10 rfl rfl)
theorem dX1_secret_159 : decode cX1_secret 159 = .ok (.goto 4, 3) := dk_167 0 4 (dk_at dksX1_secret_6 11 rfl rfl)
theorem dX1_secret_162 : decode cX1_secret 162 = .ok (.iconst 0, 1) := dk_3 (dk_at dksX1_secret_6 14 rfl rfl)
theorem dX1_secret_163 : decode cX1_secret 163 = .ok (.ireturn, 1) := dk_172 (dk_at dksX1_secret_6 15 rfl rfl)
theorem dX1_secret_164 : decode cX1_secret 164 = .ok (.aload_n 0, 1) := dk_42 (dk_at dksX1_secret_6 16 rfl rfl)
theorem dX1_secret_165 : decode cX1_secret 165 = .ok (.getfield 40, 3) := dk_180 0 40 (dk_at dksX1_secret_6 17 rfl rfl)
theorem dX1_secret_168 : decode cX1_secret 168 = .ok (.getfield 216, 3) := dk_180 0 216 (dk_at dksX1_secret_6 20 rfl rfl)
theorem dX1_secret_171 : decode cX1_secret 171 = .ok (.iload_n 1, 1) := dk_27 (dk_at dksX1_secret_6 23 rfl rfl)
theorem dX1_secret_172 : decode cX1_secret 172 = .ok (.invokestatic 176, 3) := dk_184 0 176 (dk_at dksX1_secret_7 0 rfl rfl)
theorem dX1_secret_175 : decode cX1_secret 175 = .ok (.ifCond .eq 7, 3) := dk_153 0 7 (dk_at dksX1_secret_7 3 rfl rfl)
theorem dX1_secret_178 : decode cX1_secret 178 = .ok (.iconst 1, 1) := dk_4 (dk_at dksX1_secret_7 6 rfl rfl)
theorem dX1_secret_179 : decode cX1_secret 179 = .ok (.goto 4, 3) := dk_167 0 4 (dk_at dksX1_secret_7 7 rfl rfl)
theorem dX1_secret_182 : decode cX1_secret 182 = .ok (.iconst 0, 1) := dk_3 (dk_at dksX1_secret_7 10 rfl rfl)
theorem dX1_secret_183 : decode cX1_secret 183 = .ok (.ireturn, 1) := dk_172 (dk_at dksX1_secret_7 11 rfl rfl)
theorem dX1_secret_184 : decode cX1_secret 184 = .ok (.aload_n 3, 1) := dk_45 (dk_at dksX1_secret_7 12 rfl rfl)
theorem dX1_secret_185 : decode cX1_secret 185 = .ok (.getfield 219, 3) := dk_180 0 219 (dk_at dksX1_secret_7 13 rfl rfl)
theorem dX1_secret_188 : decode cX1_secret 188 = .ok (.ireturn, 1) := dk_172 (dk_at dksX1_secret_7 16 rfl rfl)
theorem dX1_secret_189 : decode cX1_secret 189 = .ok (.iconst (-1), 1) := dk_2 (dk_at dksX1_secret_7 17 rfl rfl)
theorem dX1_secret_190 : decode cX1_secret 190 = .ok (.ireturn, 1) := dk_172 (dk_at dksX1_secret_7 18 rfl rfl)
abbrev cX1_isSecret : ByteArray := prog_1_method_13_code
def yX1_isSecret : MethodName := ⟨RX1, "isSecret", "(I)Z"⟩
def dkwX1_isSecret_0 : List UInt8 := [27, 3, 42, 182, 0, 144, 4, 100, 184, 0, 140, 172]
abbrev dktX1_isSecret_0 : List UInt8 := dkwX1_isSecret_0 ++ []
theorem dksX1_isSecret_0 : cX1_isSecret.data.toList.drop 0 = dktX1_isSecret_0 := by decide +kernel
theorem dX1_isSecret_0 : decode cX1_isSecret 0 = .ok (.iload_n 1, 1) := dk_27 (dk_at dksX1_isSecret_0 0 rfl rfl)
theorem dX1_isSecret_1 : decode cX1_isSecret 1 = .ok (.iconst 0, 1) := dk_3 (dk_at dksX1_isSecret_0 1 rfl rfl)
theorem dX1_isSecret_2 : decode cX1_isSecret 2 = .ok (.aload_n 0, 1) := dk_42 (dk_at dksX1_isSecret_0 2 rfl rfl)
theorem dX1_isSecret_3 : decode cX1_isSecret 3 = .ok (.invokevirtual 144, 3) := dk_182 0 144 (dk_at dksX1_isSecret_0 3 rfl rfl)
theorem dX1_isSecret_6 : decode cX1_isSecret 6 = .ok (.iconst 1, 1) := dk_4 (dk_at dksX1_isSecret_0 6 rfl rfl)
theorem dX1_isSecret_7 : decode cX1_isSecret 7 = .ok (.isub, 1) := dk_100 (dk_at dksX1_isSecret_0 7 rfl rfl)
theorem dX1_isSecret_8 : decode cX1_isSecret 8 = .ok (.invokestatic 140, 3) := dk_184 0 140 (dk_at dksX1_isSecret_0 8 rfl rfl)
theorem dX1_isSecret_11 : decode cX1_isSecret 11 = .ok (.ireturn, 1) := dk_172 (dk_at dksX1_isSecret_0 11 rfl rfl)
abbrev cX1_secrets : ByteArray := prog_1_method_11_code
def yX1_secrets : MethodName := ⟨RX1, "secrets", "()I"⟩
def dkwX1_secrets_0 : List UInt8 := [42, 182, 0, 119, 180, 0, 135, 182, 0, 131, 172]
abbrev dktX1_secrets_0 : List UInt8 := dkwX1_secrets_0 ++ []
theorem dksX1_secrets_0 : cX1_secrets.data.toList.drop 0 = dktX1_secrets_0 := by decide +kernel
theorem dX1_secrets_0 : decode cX1_secrets 0 = .ok (.aload_n 0, 1) := dk_42 (dk_at dksX1_secrets_0 0 rfl rfl)
theorem dX1_secrets_1 : decode cX1_secrets 1 = .ok (.invokevirtual 119, 3) := dk_182 0 119 (dk_at dksX1_secrets_0 1 rfl rfl)
theorem dX1_secrets_4 : decode cX1_secrets 4 = .ok (.getfield 135, 3) := dk_180 0 135 (dk_at dksX1_secrets_0 4 rfl rfl)
theorem dX1_secrets_7 : decode cX1_secrets 7 = .ok (.invokevirtual 131, 3) := dk_182 0 131 (dk_at dksX1_secrets_0 7 rfl rfl)
theorem dX1_secrets_10 : decode cX1_secrets 10 = .ok (.ireturn, 1) := dk_172 (dk_at dksX1_secrets_0 10 rfl rfl)
abbrev cX1_aware : ByteArray := prog_1_method_17_code
def yX1_aware : MethodName := ⟨RX1, "aware", "(III)I"⟩
def dkwX1_aware_2 : List UInt8 := [153, 0, 7, 4, 167, 0, 8, 3, 167, 0, 4, 2, 172]
abbrev dktX1_aware_2 : List UInt8 := dkwX1_aware_2 ++ []
def dkwX1_aware_1 : List UInt8 := [182, 0, 186, 153, 0, 32, 42, 180, 0, 40, 180, 0, 222, 16, 6, 27, 104, 28, 96, 46, 29, 184, 0, 176]
abbrev dktX1_aware_1 : List UInt8 := dkwX1_aware_1 ++ dktX1_aware_2
def dkwX1_aware_0 : List UInt8 := [42, 27, 182, 0, 146, 153, 0, 53, 42, 28, 182, 0, 146, 153, 0, 45, 27, 28, 159, 0, 40, 42, 29]
abbrev dktX1_aware_0 : List UInt8 := dkwX1_aware_0 ++ dktX1_aware_1
theorem dksX1_aware_0 : cX1_aware.data.toList.drop 0 = dktX1_aware_0 := by decide +kernel
theorem dksX1_aware_1 : cX1_aware.data.toList.drop 23 = dktX1_aware_1 := dk_seg dksX1_aware_0 23 rfl rfl
theorem dksX1_aware_2 : cX1_aware.data.toList.drop 47 = dktX1_aware_2 := dk_seg dksX1_aware_1 24 rfl rfl
theorem dX1_aware_0 : decode cX1_aware 0 = .ok (.aload_n 0, 1) := dk_42 (dk_at dksX1_aware_0 0 rfl rfl)
theorem dX1_aware_1 : decode cX1_aware 1 = .ok (.iload_n 1, 1) := dk_27 (dk_at dksX1_aware_0 1 rfl rfl)
theorem dX1_aware_2 : decode cX1_aware 2 = .ok (.invokevirtual 146, 3) := dk_182 0 146 (dk_at dksX1_aware_0 2 rfl rfl)
theorem dX1_aware_5 : decode cX1_aware 5 = .ok (.ifCond .eq 53, 3) := dk_153 0 53 (dk_at dksX1_aware_0 5 rfl rfl)
theorem dX1_aware_8 : decode cX1_aware 8 = .ok (.aload_n 0, 1) := dk_42 (dk_at dksX1_aware_0 8 rfl rfl)
theorem dX1_aware_9 : decode cX1_aware 9 = .ok (.iload_n 2, 1) := dk_28 (dk_at dksX1_aware_0 9 rfl rfl)
theorem dX1_aware_10 : decode cX1_aware 10 = .ok (.invokevirtual 146, 3) := dk_182 0 146 (dk_at dksX1_aware_0 10 rfl rfl)
theorem dX1_aware_13 : decode cX1_aware 13 = .ok (.ifCond .eq 45, 3) := dk_153 0 45 (dk_at dksX1_aware_0 13 rfl rfl)
theorem dX1_aware_16 : decode cX1_aware 16 = .ok (.iload_n 1, 1) := dk_27 (dk_at dksX1_aware_0 16 rfl rfl)
theorem dX1_aware_17 : decode cX1_aware 17 = .ok (.iload_n 2, 1) := dk_28 (dk_at dksX1_aware_0 17 rfl rfl)
theorem dX1_aware_18 : decode cX1_aware 18 = .ok (.if_icmp .eq 40, 3) := dk_159 0 40 (dk_at dksX1_aware_0 18 rfl rfl)
theorem dX1_aware_21 : decode cX1_aware 21 = .ok (.aload_n 0, 1) := dk_42 (dk_at dksX1_aware_0 21 rfl rfl)
theorem dX1_aware_22 : decode cX1_aware 22 = .ok (.iload_n 3, 1) := dk_29 (dk_at dksX1_aware_0 22 rfl rfl)
theorem dX1_aware_23 : decode cX1_aware 23 = .ok (.invokevirtual 186, 3) := dk_182 0 186 (dk_at dksX1_aware_1 0 rfl rfl)
theorem dX1_aware_26 : decode cX1_aware 26 = .ok (.ifCond .eq 32, 3) := dk_153 0 32 (dk_at dksX1_aware_1 3 rfl rfl)
theorem dX1_aware_29 : decode cX1_aware 29 = .ok (.aload_n 0, 1) := dk_42 (dk_at dksX1_aware_1 6 rfl rfl)
theorem dX1_aware_30 : decode cX1_aware 30 = .ok (.getfield 40, 3) := dk_180 0 40 (dk_at dksX1_aware_1 7 rfl rfl)
theorem dX1_aware_33 : decode cX1_aware 33 = .ok (.getfield 222, 3) := dk_180 0 222 (dk_at dksX1_aware_1 10 rfl rfl)
theorem dX1_aware_36 : decode cX1_aware 36 = .ok (.bipush 6, 2) := dk_16 6 (dk_at dksX1_aware_1 13 rfl rfl)
theorem dX1_aware_38 : decode cX1_aware 38 = .ok (.iload_n 1, 1) := dk_27 (dk_at dksX1_aware_1 15 rfl rfl)
theorem dX1_aware_39 : decode cX1_aware 39 = .ok (.imul, 1) := dk_104 (dk_at dksX1_aware_1 16 rfl rfl)
theorem dX1_aware_40 : decode cX1_aware 40 = .ok (.iload_n 2, 1) := dk_28 (dk_at dksX1_aware_1 17 rfl rfl)
theorem dX1_aware_41 : decode cX1_aware 41 = .ok (.iadd, 1) := dk_96 (dk_at dksX1_aware_1 18 rfl rfl)
theorem dX1_aware_42 : decode cX1_aware 42 = .ok (.iaload, 1) := dk_46 (dk_at dksX1_aware_1 19 rfl rfl)
theorem dX1_aware_43 : decode cX1_aware 43 = .ok (.iload_n 3, 1) := dk_29 (dk_at dksX1_aware_1 20 rfl rfl)
theorem dX1_aware_44 : decode cX1_aware 44 = .ok (.invokestatic 176, 3) := dk_184 0 176 (dk_at dksX1_aware_1 21 rfl rfl)
theorem dX1_aware_47 : decode cX1_aware 47 = .ok (.ifCond .eq 7, 3) := dk_153 0 7 (dk_at dksX1_aware_2 0 rfl rfl)
theorem dX1_aware_50 : decode cX1_aware 50 = .ok (.iconst 1, 1) := dk_4 (dk_at dksX1_aware_2 3 rfl rfl)
theorem dX1_aware_51 : decode cX1_aware 51 = .ok (.goto 8, 3) := dk_167 0 8 (dk_at dksX1_aware_2 4 rfl rfl)
theorem dX1_aware_54 : decode cX1_aware 54 = .ok (.iconst 0, 1) := dk_3 (dk_at dksX1_aware_2 7 rfl rfl)
theorem dX1_aware_55 : decode cX1_aware 55 = .ok (.goto 4, 3) := dk_167 0 4 (dk_at dksX1_aware_2 8 rfl rfl)
theorem dX1_aware_58 : decode cX1_aware 58 = .ok (.iconst (-1), 1) := dk_2 (dk_at dksX1_aware_2 11 rfl rfl)
theorem dX1_aware_59 : decode cX1_aware 59 = .ok (.ireturn, 1) := dk_172 (dk_at dksX1_aware_2 12 rfl rfl)
abbrev cX1_isPerson : ByteArray := prog_1_method_12_code
def yX1_isPerson : MethodName := ⟨RX1, "isPerson", "(I)Z"⟩
def dkwX1_isPerson_0 : List UInt8 := [27, 3, 42, 182, 0, 138, 4, 100, 184, 0, 140, 172]
abbrev dktX1_isPerson_0 : List UInt8 := dkwX1_isPerson_0 ++ []
theorem dksX1_isPerson_0 : cX1_isPerson.data.toList.drop 0 = dktX1_isPerson_0 := by decide +kernel
theorem dX1_isPerson_0 : decode cX1_isPerson 0 = .ok (.iload_n 1, 1) := dk_27 (dk_at dksX1_isPerson_0 0 rfl rfl)
theorem dX1_isPerson_1 : decode cX1_isPerson 1 = .ok (.iconst 0, 1) := dk_3 (dk_at dksX1_isPerson_0 1 rfl rfl)
theorem dX1_isPerson_2 : decode cX1_isPerson 2 = .ok (.aload_n 0, 1) := dk_42 (dk_at dksX1_isPerson_0 2 rfl rfl)
theorem dX1_isPerson_3 : decode cX1_isPerson 3 = .ok (.invokevirtual 138, 3) := dk_182 0 138 (dk_at dksX1_isPerson_0 3 rfl rfl)
theorem dX1_isPerson_6 : decode cX1_isPerson 6 = .ok (.iconst 1, 1) := dk_4 (dk_at dksX1_isPerson_0 6 rfl rfl)
theorem dX1_isPerson_7 : decode cX1_isPerson 7 = .ok (.isub, 1) := dk_100 (dk_at dksX1_isPerson_0 7 rfl rfl)
theorem dX1_isPerson_8 : decode cX1_isPerson 8 = .ok (.invokestatic 140, 3) := dk_184 0 140 (dk_at dksX1_isPerson_0 8 rfl rfl)
theorem dX1_isPerson_11 : decode cX1_isPerson 11 = .ok (.ireturn, 1) := dk_172 (dk_at dksX1_isPerson_0 11 rfl rfl)
abbrev cX1_people : ByteArray := prog_1_method_10_code
def yX1_people : MethodName := ⟨RX1, "people", "()I"⟩
def dkwX1_people_0 : List UInt8 := [42, 182, 0, 119, 180, 0, 128, 182, 0, 131, 172]
abbrev dktX1_people_0 : List UInt8 := dkwX1_people_0 ++ []
theorem dksX1_people_0 : cX1_people.data.toList.drop 0 = dktX1_people_0 := by decide +kernel
theorem dX1_people_0 : decode cX1_people 0 = .ok (.aload_n 0, 1) := dk_42 (dk_at dksX1_people_0 0 rfl rfl)
theorem dX1_people_1 : decode cX1_people 1 = .ok (.invokevirtual 119, 3) := dk_182 0 119 (dk_at dksX1_people_0 1 rfl rfl)
theorem dX1_people_4 : decode cX1_people 4 = .ok (.getfield 128, 3) := dk_180 0 128 (dk_at dksX1_people_0 4 rfl rfl)
theorem dX1_people_7 : decode cX1_people 7 = .ok (.invokevirtual 131, 3) := dk_182 0 131 (dk_at dksX1_people_0 7 rfl rfl)
theorem dX1_people_10 : decode cX1_people 10 = .ok (.ireturn, 1) := dk_172 (dk_at dksX1_people_0 10 rfl rfl)
abbrev cX1_ear : ByteArray := prog_1_method_18_code
def yX1_ear : MethodName := ⟨RX1, "ear", "(II)I"⟩
def dkwX1_ear_1 : List UInt8 := [182, 0, 225, 167, 0, 4, 2, 172]
abbrev dktX1_ear_1 : List UInt8 := dkwX1_ear_1 ++ []
def dkwX1_ear_0 : List UInt8 := [42, 27, 182, 0, 146, 153, 0, 23, 42, 28, 182, 0, 146, 153, 0, 15, 42, 182, 0, 119, 27, 28]
abbrev dktX1_ear_0 : List UInt8 := dkwX1_ear_0 ++ dktX1_ear_1
theorem dksX1_ear_0 : cX1_ear.data.toList.drop 0 = dktX1_ear_0 := by decide +kernel
theorem dksX1_ear_1 : cX1_ear.data.toList.drop 22 = dktX1_ear_1 := dk_seg dksX1_ear_0 22 rfl rfl
theorem dX1_ear_0 : decode cX1_ear 0 = .ok (.aload_n 0, 1) := dk_42 (dk_at dksX1_ear_0 0 rfl rfl)
theorem dX1_ear_1 : decode cX1_ear 1 = .ok (.iload_n 1, 1) := dk_27 (dk_at dksX1_ear_0 1 rfl rfl)
theorem dX1_ear_2 : decode cX1_ear 2 = .ok (.invokevirtual 146, 3) := dk_182 0 146 (dk_at dksX1_ear_0 2 rfl rfl)
theorem dX1_ear_5 : decode cX1_ear 5 = .ok (.ifCond .eq 23, 3) := dk_153 0 23 (dk_at dksX1_ear_0 5 rfl rfl)
theorem dX1_ear_8 : decode cX1_ear 8 = .ok (.aload_n 0, 1) := dk_42 (dk_at dksX1_ear_0 8 rfl rfl)
theorem dX1_ear_9 : decode cX1_ear 9 = .ok (.iload_n 2, 1) := dk_28 (dk_at dksX1_ear_0 9 rfl rfl)
theorem dX1_ear_10 : decode cX1_ear 10 = .ok (.invokevirtual 146, 3) := dk_182 0 146 (dk_at dksX1_ear_0 10 rfl rfl)
theorem dX1_ear_13 : decode cX1_ear 13 = .ok (.ifCond .eq 15, 3) := dk_153 0 15 (dk_at dksX1_ear_0 13 rfl rfl)
theorem dX1_ear_16 : decode cX1_ear 16 = .ok (.aload_n 0, 1) := dk_42 (dk_at dksX1_ear_0 16 rfl rfl)
theorem dX1_ear_17 : decode cX1_ear 17 = .ok (.invokevirtual 119, 3) := dk_182 0 119 (dk_at dksX1_ear_0 17 rfl rfl)
theorem dX1_ear_20 : decode cX1_ear 20 = .ok (.iload_n 1, 1) := dk_27 (dk_at dksX1_ear_0 20 rfl rfl)
theorem dX1_ear_21 : decode cX1_ear 21 = .ok (.iload_n 2, 1) := dk_28 (dk_at dksX1_ear_0 21 rfl rfl)
theorem dX1_ear_22 : decode cX1_ear 22 = .ok (.invokevirtual 225, 3) := dk_182 0 225 (dk_at dksX1_ear_1 0 rfl rfl)
theorem dX1_ear_25 : decode cX1_ear 25 = .ok (.goto 4, 3) := dk_167 0 4 (dk_at dksX1_ear_1 3 rfl rfl)
theorem dX1_ear_28 : decode cX1_ear 28 = .ok (.iconst (-1), 1) := dk_2 (dk_at dksX1_ear_1 6 rfl rfl)
theorem dX1_ear_29 : decode cX1_ear 29 = .ok (.ireturn, 1) := dk_172 (dk_at dksX1_ear_1 7 rfl rfl)
abbrev cX1_tell : ByteArray := prog_1_method_20_code
def yX1_tell : MethodName := ⟨RX1, "tell", "(III)I"⟩
def dkwX1_tell_2 : List UInt8 := [28, 29, 182, 0, 246, 42, 180, 0, 40, 29, 182, 0, 210, 172]
abbrev dktX1_tell_2 : List UInt8 := dkwX1_tell_2 ++ []
def dkwX1_tell_1 : List UInt8 := [42, 180, 0, 40, 27, 28, 29, 182, 0, 240, 154, 0, 5, 2, 172, 42, 182, 0, 243, 42, 180, 0, 40, 27]
abbrev dktX1_tell_1 : List UInt8 := dkwX1_tell_1 ++ dktX1_tell_2
def dkwX1_tell_0 : List UInt8 := [42, 27, 182, 0, 146, 153, 0, 32, 42, 28, 182, 0, 146, 153, 0, 24, 42, 29, 182, 0, 186, 153, 0, 16]
abbrev dktX1_tell_0 : List UInt8 := dkwX1_tell_0 ++ dktX1_tell_1
theorem dksX1_tell_0 : cX1_tell.data.toList.drop 0 = dktX1_tell_0 := by decide +kernel
theorem dksX1_tell_1 : cX1_tell.data.toList.drop 24 = dktX1_tell_1 := dk_seg dksX1_tell_0 24 rfl rfl
theorem dksX1_tell_2 : cX1_tell.data.toList.drop 48 = dktX1_tell_2 := dk_seg dksX1_tell_1 24 rfl rfl
theorem dX1_tell_0 : decode cX1_tell 0 = .ok (.aload_n 0, 1) := dk_42 (dk_at dksX1_tell_0 0 rfl rfl)
theorem dX1_tell_1 : decode cX1_tell 1 = .ok (.iload_n 1, 1) := dk_27 (dk_at dksX1_tell_0 1 rfl rfl)
theorem dX1_tell_2 : decode cX1_tell 2 = .ok (.invokevirtual 146, 3) := dk_182 0 146 (dk_at dksX1_tell_0 2 rfl rfl)
theorem dX1_tell_5 : decode cX1_tell 5 = .ok (.ifCond .eq 32, 3) := dk_153 0 32 (dk_at dksX1_tell_0 5 rfl rfl)
theorem dX1_tell_8 : decode cX1_tell 8 = .ok (.aload_n 0, 1) := dk_42 (dk_at dksX1_tell_0 8 rfl rfl)
theorem dX1_tell_9 : decode cX1_tell 9 = .ok (.iload_n 2, 1) := dk_28 (dk_at dksX1_tell_0 9 rfl rfl)
theorem dX1_tell_10 : decode cX1_tell 10 = .ok (.invokevirtual 146, 3) := dk_182 0 146 (dk_at dksX1_tell_0 10 rfl rfl)
theorem dX1_tell_13 : decode cX1_tell 13 = .ok (.ifCond .eq 24, 3) := dk_153 0 24 (dk_at dksX1_tell_0 13 rfl rfl)
theorem dX1_tell_16 : decode cX1_tell 16 = .ok (.aload_n 0, 1) := dk_42 (dk_at dksX1_tell_0 16 rfl rfl)
theorem dX1_tell_17 : decode cX1_tell 17 = .ok (.iload_n 3, 1) := dk_29 (dk_at dksX1_tell_0 17 rfl rfl)
theorem dX1_tell_18 : decode cX1_tell 18 = .ok (.invokevirtual 186, 3) := dk_182 0 186 (dk_at dksX1_tell_0 18 rfl rfl)
theorem dX1_tell_21 : decode cX1_tell 21 = .ok (.ifCond .eq 16, 3) := dk_153 0 16 (dk_at dksX1_tell_0 21 rfl rfl)
theorem dX1_tell_24 : decode cX1_tell 24 = .ok (.aload_n 0, 1) := dk_42 (dk_at dksX1_tell_1 0 rfl rfl)
theorem dX1_tell_25 : decode cX1_tell 25 = .ok (.getfield 40, 3) := dk_180 0 40 (dk_at dksX1_tell_1 1 rfl rfl)
theorem dX1_tell_28 : decode cX1_tell 28 = .ok (.iload_n 1, 1) := dk_27 (dk_at dksX1_tell_1 4 rfl rfl)
theorem dX1_tell_29 : decode cX1_tell 29 = .ok (.iload_n 2, 1) := dk_28 (dk_at dksX1_tell_1 5 rfl rfl)
theorem dX1_tell_30 : decode cX1_tell 30 = .ok (.iload_n 3, 1) := dk_29 (dk_at dksX1_tell_1 6 rfl rfl)
theorem dX1_tell_31 : decode cX1_tell 31 = .ok (.invokevirtual 240, 3) := dk_182 0 240 (dk_at dksX1_tell_1 7 rfl rfl)
theorem dX1_tell_34 : decode cX1_tell 34 = .ok (.ifCond .ne 5, 3) := dk_154 0 5 (dk_at dksX1_tell_1 10 rfl rfl)
theorem dX1_tell_37 : decode cX1_tell 37 = .ok (.iconst (-1), 1) := dk_2 (dk_at dksX1_tell_1 13 rfl rfl)
theorem dX1_tell_38 : decode cX1_tell 38 = .ok (.ireturn, 1) := dk_172 (dk_at dksX1_tell_1 14 rfl rfl)
theorem dX1_tell_39 : decode cX1_tell 39 = .ok (.aload_n 0, 1) := dk_42 (dk_at dksX1_tell_1 15 rfl rfl)
theorem dX1_tell_40 : decode cX1_tell 40 = .ok (.invokevirtual 243, 3) := dk_182 0 243 (dk_at dksX1_tell_1 16 rfl rfl)
theorem dX1_tell_43 : decode cX1_tell 43 = .ok (.aload_n 0, 1) := dk_42 (dk_at dksX1_tell_1 19 rfl rfl)
theorem dX1_tell_44 : decode cX1_tell 44 = .ok (.getfield 40, 3) := dk_180 0 40 (dk_at dksX1_tell_1 20 rfl rfl)
theorem dX1_tell_47 : decode cX1_tell 47 = .ok (.iload_n 1, 1) := dk_27 (dk_at dksX1_tell_1 23 rfl rfl)
theorem dX1_tell_48 : decode cX1_tell 48 = .ok (.iload_n 2, 1) := dk_28 (dk_at dksX1_tell_2 0 rfl rfl)
theorem dX1_tell_49 : decode cX1_tell 49 = .ok (.iload_n 3, 1) := dk_29 (dk_at dksX1_tell_2 1 rfl rfl)
theorem dX1_tell_50 : decode cX1_tell 50 = .ok (.invokevirtual 246, 3) := dk_182 0 246 (dk_at dksX1_tell_2 2 rfl rfl)
theorem dX1_tell_53 : decode cX1_tell 53 = .ok (.aload_n 0, 1) := dk_42 (dk_at dksX1_tell_2 5 rfl rfl)
theorem dX1_tell_54 : decode cX1_tell 54 = .ok (.getfield 40, 3) := dk_180 0 40 (dk_at dksX1_tell_2 6 rfl rfl)
theorem dX1_tell_57 : decode cX1_tell 57 = .ok (.iload_n 3, 1) := dk_29 (dk_at dksX1_tell_2 9 rfl rfl)
theorem dX1_tell_58 : decode cX1_tell 58 = .ok (.invokevirtual 210, 3) := dk_182 0 210 (dk_at dksX1_tell_2 10 rfl rfl)
theorem dX1_tell_61 : decode cX1_tell 61 = .ok (.ireturn, 1) := dk_172 (dk_at dksX1_tell_2 13 rfl rfl)
abbrev cX1_keeps : ByteArray := prog_1_method_19_code
def yX1_keeps : MethodName := ⟨RX1, "keeps", "()V"⟩
def dkwX1_keeps_1 : List UInt8 := [180, 0, 60, 42, 180, 0, 40, 182, 0, 232, 182, 0, 236, 87, 177]
abbrev dktX1_keeps_1 : List UInt8 := dkwX1_keeps_1 ++ []
def dkwX1_keeps_0 : List UInt8 := [42, 180, 0, 60, 182, 0, 131, 16, 16, 160, 0, 12, 42, 180, 0, 60, 3, 182, 0, 229, 87, 42]
abbrev dktX1_keeps_0 : List UInt8 := dkwX1_keeps_0 ++ dktX1_keeps_1
theorem dksX1_keeps_0 : cX1_keeps.data.toList.drop 0 = dktX1_keeps_0 := by decide +kernel
theorem dksX1_keeps_1 : cX1_keeps.data.toList.drop 22 = dktX1_keeps_1 := dk_seg dksX1_keeps_0 22 rfl rfl
theorem dX1_keeps_0 : decode cX1_keeps 0 = .ok (.aload_n 0, 1) := dk_42 (dk_at dksX1_keeps_0 0 rfl rfl)
theorem dX1_keeps_1 : decode cX1_keeps 1 = .ok (.getfield 60, 3) := dk_180 0 60 (dk_at dksX1_keeps_0 1 rfl rfl)
theorem dX1_keeps_4 : decode cX1_keeps 4 = .ok (.invokevirtual 131, 3) := dk_182 0 131 (dk_at dksX1_keeps_0 4 rfl rfl)
theorem dX1_keeps_7 : decode cX1_keeps 7 = .ok (.bipush 16, 2) := dk_16 16 (dk_at dksX1_keeps_0 7 rfl rfl)
theorem dX1_keeps_9 : decode cX1_keeps 9 = .ok (.if_icmp .ne 12, 3) := dk_160 0 12 (dk_at dksX1_keeps_0 9 rfl rfl)
theorem dX1_keeps_12 : decode cX1_keeps 12 = .ok (.aload_n 0, 1) := dk_42 (dk_at dksX1_keeps_0 12 rfl rfl)
theorem dX1_keeps_13 : decode cX1_keeps 13 = .ok (.getfield 60, 3) := dk_180 0 60 (dk_at dksX1_keeps_0 13 rfl rfl)
theorem dX1_keeps_16 : decode cX1_keeps 16 = .ok (.iconst 0, 1) := dk_3 (dk_at dksX1_keeps_0 16 rfl rfl)
theorem dX1_keeps_17 : decode cX1_keeps 17 = .ok (.invokevirtual 229, 3) := dk_182 0 229 (dk_at dksX1_keeps_0 17 rfl rfl)
theorem dX1_keeps_20 : decode cX1_keeps 20 = .ok (.pop, 1) := dk_87 (dk_at dksX1_keeps_0 20 rfl rfl)
theorem dX1_keeps_21 : decode cX1_keeps 21 = .ok (.aload_n 0, 1) := dk_42 (dk_at dksX1_keeps_0 21 rfl rfl)
theorem dX1_keeps_22 : decode cX1_keeps 22 = .ok (.getfield 60, 3) := dk_180 0 60 (dk_at dksX1_keeps_1 0 rfl rfl)
theorem dX1_keeps_25 : decode cX1_keeps 25 = .ok (.aload_n 0, 1) := dk_42 (dk_at dksX1_keeps_1 3 rfl rfl)
theorem dX1_keeps_26 : decode cX1_keeps 26 = .ok (.getfield 40, 3) := dk_180 0 40 (dk_at dksX1_keeps_1 4 rfl rfl)
theorem dX1_keeps_29 : decode cX1_keeps 29 = .ok (.invokevirtual 232, 3) := dk_182 0 232 (dk_at dksX1_keeps_1 7 rfl rfl)
theorem dX1_keeps_32 : decode cX1_keeps 32 = .ok (.invokevirtual 236, 3) := dk_182 0 236 (dk_at dksX1_keeps_1 10 rfl rfl)
theorem dX1_keeps_35 : decode cX1_keeps 35 = .ok (.pop, 1) := dk_87 (dk_at dksX1_keeps_1 13 rfl rfl)
theorem dX1_keeps_36 : decode cX1_keeps 36 = .ok (.return_, 1) := dk_177 (dk_at dksX1_keeps_1 14 rfl rfl)
abbrev cX1_pay : ByteArray := prog_1_method_21_code
def yX1_pay : MethodName := ⟨RX1, "pay", "(II)I"⟩
def dkwX1_pay_2 : List UInt8 := [180, 0, 40, 28, 182, 1, 3, 172]
abbrev dktX1_pay_2 : List UInt8 := dkwX1_pay_2 ++ []
def dkwX1_pay_1 : List UInt8 := [27, 28, 182, 0, 253, 154, 0, 5, 2, 172, 42, 182, 0, 243, 42, 180, 0, 40, 27, 28, 182, 1, 0, 42]
abbrev dktX1_pay_1 : List UInt8 := dkwX1_pay_1 ++ dktX1_pay_2
def dkwX1_pay_0 : List UInt8 := [42, 27, 182, 0, 146, 153, 0, 27, 28, 3, 42, 182, 0, 250, 184, 0, 140, 153, 0, 15, 42, 180, 0, 40]
abbrev dktX1_pay_0 : List UInt8 := dkwX1_pay_0 ++ dktX1_pay_1
theorem dksX1_pay_0 : cX1_pay.data.toList.drop 0 = dktX1_pay_0 := by decide +kernel
theorem dksX1_pay_1 : cX1_pay.data.toList.drop 24 = dktX1_pay_1 := dk_seg dksX1_pay_0 24 rfl rfl
theorem dksX1_pay_2 : cX1_pay.data.toList.drop 48 = dktX1_pay_2 := dk_seg dksX1_pay_1 24 rfl rfl
theorem dX1_pay_0 : decode cX1_pay 0 = .ok (.aload_n 0, 1) := dk_42 (dk_at dksX1_pay_0 0 rfl rfl)
theorem dX1_pay_1 : decode cX1_pay 1 = .ok (.iload_n 1, 1) := dk_27 (dk_at dksX1_pay_0 1 rfl rfl)
theorem dX1_pay_2 : decode cX1_pay 2 = .ok (.invokevirtual 146, 3) := dk_182 0 146 (dk_at dksX1_pay_0 2 rfl rfl)
theorem dX1_pay_5 : decode cX1_pay 5 = .ok (.ifCond .eq 27, 3) := dk_153 0 27 (dk_at dksX1_pay_0 5 rfl rfl)
theorem dX1_pay_8 : decode cX1_pay 8 = .ok (.iload_n 2, 1) := dk_28 (dk_at dksX1_pay_0 8 rfl rfl)
theorem dX1_pay_9 : decode cX1_pay 9 = .ok (.iconst 0, 1) := dk_3 (dk_at dksX1_pay_0 9 rfl rfl)
theorem dX1_pay_10 : decode cX1_pay 10 = .ok (.aload_n 0, 1) := dk_42 (dk_at dksX1_pay_0 10 rfl rfl)
theorem dX1_pay_11 : decode cX1_pay 11 = .ok (.invokevirtual 250, 3) := dk_182 0 250 (dk_at dksX1_pay_0 11 rfl rfl)
theorem dX1_pay_14 : decode cX1_pay 14 = .ok (.invokestatic 140, 3) := dk_184 0 140 (dk_at dksX1_pay_0 14 rfl rfl)
theorem dX1_pay_17 : decode cX1_pay 17 = .ok (.ifCond .eq 15, 3) := dk_153 0 15 (dk_at dksX1_pay_0 17 rfl rfl)
theorem dX1_pay_20 : decode cX1_pay 20 = .ok (.aload_n 0, 1) := dk_42 (dk_at dksX1_pay_0 20 rfl rfl)
theorem dX1_pay_21 : decode cX1_pay 21 = .ok (.getfield 40, 3) := dk_180 0 40 (dk_at dksX1_pay_0 21 rfl rfl)
theorem dX1_pay_24 : decode cX1_pay 24 = .ok (.iload_n 1, 1) := dk_27 (dk_at dksX1_pay_1 0 rfl rfl)
theorem dX1_pay_25 : decode cX1_pay 25 = .ok (.iload_n 2, 1) := dk_28 (dk_at dksX1_pay_1 1 rfl rfl)
theorem dX1_pay_26 : decode cX1_pay 26 = .ok (.invokevirtual 253, 3) := dk_182 0 253 (dk_at dksX1_pay_1 2 rfl rfl)
theorem dX1_pay_29 : decode cX1_pay 29 = .ok (.ifCond .ne 5, 3) := dk_154 0 5 (dk_at dksX1_pay_1 5 rfl rfl)
theorem dX1_pay_32 : decode cX1_pay 32 = .ok (.iconst (-1), 1) := dk_2 (dk_at dksX1_pay_1 8 rfl rfl)
theorem dX1_pay_33 : decode cX1_pay 33 = .ok (.ireturn, 1) := dk_172 (dk_at dksX1_pay_1 9 rfl rfl)
theorem dX1_pay_34 : decode cX1_pay 34 = .ok (.aload_n 0, 1) := dk_42 (dk_at dksX1_pay_1 10 rfl rfl)
theorem dX1_pay_35 : decode cX1_pay 35 = .ok (.invokevirtual 243, 3) := dk_182 0 243 (dk_at dksX1_pay_1 11 rfl rfl)
theorem dX1_pay_38 : decode cX1_pay 38 = .ok (.aload_n 0, 1) := dk_42 (dk_at dksX1_pay_1 14 rfl rfl)
theorem dX1_pay_39 : decode cX1_pay 39 = .ok (.getfield 40, 3) := dk_180 0 40 (dk_at dksX1_pay_1 15 rfl rfl)
theorem dX1_pay_42 : decode cX1_pay 42 = .ok (.iload_n 1, 1) := dk_27 (dk_at dksX1_pay_1 18 rfl rfl)
theorem dX1_pay_43 : decode cX1_pay 43 = .ok (.iload_n 2, 1) := dk_28 (dk_at dksX1_pay_1 19 rfl rfl)
theorem dX1_pay_44 : decode cX1_pay 44 = .ok (.invokevirtual 256, 3) := dk_182 1 0 (dk_at dksX1_pay_1 20 rfl rfl)
theorem dX1_pay_47 : decode cX1_pay 47 = .ok (.aload_n 0, 1) := dk_42 (dk_at dksX1_pay_1 23 rfl rfl)
theorem dX1_pay_48 : decode cX1_pay 48 = .ok (.getfield 40, 3) := dk_180 0 40 (dk_at dksX1_pay_2 0 rfl rfl)
theorem dX1_pay_51 : decode cX1_pay 51 = .ok (.iload_n 2, 1) := dk_28 (dk_at dksX1_pay_2 3 rfl rfl)
theorem dX1_pay_52 : decode cX1_pay 52 = .ok (.invokevirtual 259, 3) := dk_182 1 3 (dk_at dksX1_pay_2 4 rfl rfl)
theorem dX1_pay_55 : decode cX1_pay 55 = .ok (.ireturn, 1) := dk_172 (dk_at dksX1_pay_2 7 rfl rfl)
abbrev cX1_every : ByteArray := prog_1_method_14_code
def yX1_every : MethodName := ⟨RX1, "every", "()I"⟩
def dkwX1_every_0 : List UInt8 := [4, 42, 182, 0, 144, 120, 4, 100, 172]
abbrev dktX1_every_0 : List UInt8 := dkwX1_every_0 ++ []
theorem dksX1_every_0 : cX1_every.data.toList.drop 0 = dktX1_every_0 := by decide +kernel
theorem dX1_every_0 : decode cX1_every 0 = .ok (.iconst 1, 1) := dk_4 (dk_at dksX1_every_0 0 rfl rfl)
theorem dX1_every_1 : decode cX1_every 1 = .ok (.aload_n 0, 1) := dk_42 (dk_at dksX1_every_0 1 rfl rfl)
theorem dX1_every_2 : decode cX1_every 2 = .ok (.invokevirtual 144, 3) := dk_182 0 144 (dk_at dksX1_every_0 2 rfl rfl)
theorem dX1_every_5 : decode cX1_every 5 = .ok (.ishl, 1) := dk_120 (dk_at dksX1_every_0 5 rfl rfl)
theorem dX1_every_6 : decode cX1_every 6 = .ok (.iconst 1, 1) := dk_4 (dk_at dksX1_every_0 6 rfl rfl)
theorem dX1_every_7 : decode cX1_every 7 = .ok (.isub, 1) := dk_100 (dk_at dksX1_every_0 7 rfl rfl)
theorem dX1_every_8 : decode cX1_every 8 = .ok (.ireturn, 1) := dk_172 (dk_at dksX1_every_0 8 rfl rfl)
abbrev cX1_rise : ByteArray := prog_1_method_22_code
def yX1_rise : MethodName := ⟨RX1, "rise", "(I)I"⟩
def dkwX1_rise_1 : List UInt8 := [42, 182, 0, 243, 42, 180, 0, 40, 27, 182, 1, 6, 87, 42, 180, 0, 40, 180, 0, 160, 27, 46, 172]
abbrev dktX1_rise_1 : List UInt8 := dkwX1_rise_1 ++ []
def dkwX1_rise_0 : List UInt8 := [42, 27, 182, 0, 146, 153, 0, 17, 42, 180, 0, 40, 180, 0, 160, 27, 46, 16, 9, 160, 0, 5, 2, 172]
abbrev dktX1_rise_0 : List UInt8 := dkwX1_rise_0 ++ dktX1_rise_1
theorem dksX1_rise_0 : cX1_rise.data.toList.drop 0 = dktX1_rise_0 := by decide +kernel
theorem dksX1_rise_1 : cX1_rise.data.toList.drop 24 = dktX1_rise_1 := dk_seg dksX1_rise_0 24 rfl rfl
theorem dX1_rise_0 : decode cX1_rise 0 = .ok (.aload_n 0, 1) := dk_42 (dk_at dksX1_rise_0 0 rfl rfl)
theorem dX1_rise_1 : decode cX1_rise 1 = .ok (.iload_n 1, 1) := dk_27 (dk_at dksX1_rise_0 1 rfl rfl)
theorem dX1_rise_2 : decode cX1_rise 2 = .ok (.invokevirtual 146, 3) := dk_182 0 146 (dk_at dksX1_rise_0 2 rfl rfl)
theorem dX1_rise_5 : decode cX1_rise 5 = .ok (.ifCond .eq 17, 3) := dk_153 0 17 (dk_at dksX1_rise_0 5 rfl rfl)
theorem dX1_rise_8 : decode cX1_rise 8 = .ok (.aload_n 0, 1) := dk_42 (dk_at dksX1_rise_0 8 rfl rfl)
theorem dX1_rise_9 : decode cX1_rise 9 = .ok (.getfield 40, 3) := dk_180 0 40 (dk_at dksX1_rise_0 9 rfl rfl)
theorem dX1_rise_12 : decode cX1_rise 12 = .ok (.getfield 160, 3) := dk_180 0 160 (dk_at dksX1_rise_0 12 rfl rfl)
theorem dX1_rise_15 : decode cX1_rise 15 = .ok (.iload_n 1, 1) := dk_27 (dk_at dksX1_rise_0 15 rfl rfl)
theorem dX1_rise_16 : decode cX1_rise 16 = .ok (.iaload, 1) := dk_46 (dk_at dksX1_rise_0 16 rfl rfl)
theorem dX1_rise_17 : decode cX1_rise 17 = .ok (.bipush 9, 2) := dk_16 9 (dk_at dksX1_rise_0 17 rfl rfl)
theorem dX1_rise_19 : decode cX1_rise 19 = .ok (.if_icmp .ne 5, 3) := dk_160 0 5 (dk_at dksX1_rise_0 19 rfl rfl)
theorem dX1_rise_22 : decode cX1_rise 22 = .ok (.iconst (-1), 1) := dk_2 (dk_at dksX1_rise_0 22 rfl rfl)
theorem dX1_rise_23 : decode cX1_rise 23 = .ok (.ireturn, 1) := dk_172 (dk_at dksX1_rise_0 23 rfl rfl)
theorem dX1_rise_24 : decode cX1_rise 24 = .ok (.aload_n 0, 1) := dk_42 (dk_at dksX1_rise_1 0 rfl rfl)
theorem dX1_rise_25 : decode cX1_rise 25 = .ok (.invokevirtual 243, 3) := dk_182 0 243 (dk_at dksX1_rise_1 1 rfl rfl)
theorem dX1_rise_28 : decode cX1_rise 28 = .ok (.aload_n 0, 1) := dk_42 (dk_at dksX1_rise_1 4 rfl rfl)
theorem dX1_rise_29 : decode cX1_rise 29 = .ok (.getfield 40, 3) := dk_180 0 40 (dk_at dksX1_rise_1 5 rfl rfl)
theorem dX1_rise_32 : decode cX1_rise 32 = .ok (.iload_n 1, 1) := dk_27 (dk_at dksX1_rise_1 8 rfl rfl)
theorem dX1_rise_33 : decode cX1_rise 33 = .ok (.invokevirtual 262, 3) := dk_182 1 6 (dk_at dksX1_rise_1 9 rfl rfl)
theorem dX1_rise_36 : decode cX1_rise 36 = .ok (.pop, 1) := dk_87 (dk_at dksX1_rise_1 12 rfl rfl)
theorem dX1_rise_37 : decode cX1_rise 37 = .ok (.aload_n 0, 1) := dk_42 (dk_at dksX1_rise_1 13 rfl rfl)
theorem dX1_rise_38 : decode cX1_rise 38 = .ok (.getfield 40, 3) := dk_180 0 40 (dk_at dksX1_rise_1 14 rfl rfl)
theorem dX1_rise_41 : decode cX1_rise 41 = .ok (.getfield 160, 3) := dk_180 0 160 (dk_at dksX1_rise_1 17 rfl rfl)
theorem dX1_rise_44 : decode cX1_rise 44 = .ok (.iload_n 1, 1) := dk_27 (dk_at dksX1_rise_1 20 rfl rfl)
theorem dX1_rise_45 : decode cX1_rise 45 = .ok (.iaload, 1) := dk_46 (dk_at dksX1_rise_1 21 rfl rfl)
theorem dX1_rise_46 : decode cX1_rise 46 = .ok (.ireturn, 1) := dk_172 (dk_at dksX1_rise_1 22 rfl rfl)
abbrev cX1_quarter : ByteArray := prog_1_method_23_code
def yX1_quarter : MethodName := ⟨RX1, "quarter", "()I"⟩
def dkwX1_quarter_0 : List UInt8 := [42, 182, 0, 243, 42, 180, 0, 40, 182, 1, 9, 172]
abbrev dktX1_quarter_0 : List UInt8 := dkwX1_quarter_0 ++ []
theorem dksX1_quarter_0 : cX1_quarter.data.toList.drop 0 = dktX1_quarter_0 := by decide +kernel
theorem dX1_quarter_0 : decode cX1_quarter 0 = .ok (.aload_n 0, 1) := dk_42 (dk_at dksX1_quarter_0 0 rfl rfl)
theorem dX1_quarter_1 : decode cX1_quarter 1 = .ok (.invokevirtual 243, 3) := dk_182 0 243 (dk_at dksX1_quarter_0 1 rfl rfl)
theorem dX1_quarter_4 : decode cX1_quarter 4 = .ok (.aload_n 0, 1) := dk_42 (dk_at dksX1_quarter_0 4 rfl rfl)
theorem dX1_quarter_5 : decode cX1_quarter 5 = .ok (.getfield 40, 3) := dk_180 0 40 (dk_at dksX1_quarter_0 5 rfl rfl)
theorem dX1_quarter_8 : decode cX1_quarter 8 = .ok (.invokevirtual 265, 3) := dk_182 1 9 (dk_at dksX1_quarter_0 8 rfl rfl)
theorem dX1_quarter_11 : decode cX1_quarter 11 = .ok (.ireturn, 1) := dk_172 (dk_at dksX1_quarter_0 11 rfl rfl)
abbrev cX1_lend : ByteArray := prog_1_method_24_code
def yX1_lend : MethodName := ⟨RX1, "lend", "(III)I"⟩
def dkwX1_lend_3 : List UInt8 := [180, 0, 60, 25, 4, 182, 0, 236, 87, 42, 180, 0, 40, 29, 182, 0, 210, 172]
abbrev dktX1_lend_3 : List UInt8 := dkwX1_lend_3 ++ []
def dkwX1_lend_2 : List UInt8 := [2, 172, 42, 180, 0, 60, 182, 0, 131, 16, 16, 160, 0, 12, 42, 180, 0, 60, 3, 182, 0, 229, 87, 42]
abbrev dktX1_lend_2 : List UInt8 := dkwX1_lend_2 ++ dktX1_lend_3
def dkwX1_lend_1 : List UInt8 := [2, 172, 42, 180, 0, 40, 182, 0, 232, 58, 4, 42, 180, 0, 40, 27, 28, 29, 182, 1, 12, 154, 0, 5]
abbrev dktX1_lend_1 : List UInt8 := dkwX1_lend_1 ++ dktX1_lend_2
def dkwX1_lend_0 : List UInt8 := [42, 27, 182, 0, 146, 153, 0, 19, 42, 28, 182, 0, 146, 153, 0, 11, 42, 29, 182, 0, 186, 154, 0, 5]
abbrev dktX1_lend_0 : List UInt8 := dkwX1_lend_0 ++ dktX1_lend_1
theorem dksX1_lend_0 : cX1_lend.data.toList.drop 0 = dktX1_lend_0 := by decide +kernel
theorem dksX1_lend_1 : cX1_lend.data.toList.drop 24 = dktX1_lend_1 := dk_seg dksX1_lend_0 24 rfl rfl
theorem dksX1_lend_2 : cX1_lend.data.toList.drop 48 = dktX1_lend_2 := dk_seg dksX1_lend_1 24 rfl rfl
theorem dksX1_lend_3 : cX1_lend.data.toList.drop 72 = dktX1_lend_3 := dk_seg dksX1_lend_2 24 rfl rfl
theorem dX1_lend_0 : decode cX1_lend 0 = .ok (.aload_n 0, 1) := dk_42 (dk_at dksX1_lend_0 0 rfl rfl)
theorem dX1_lend_1 : decode cX1_lend 1 = .ok (.iload_n 1, 1) := dk_27 (dk_at dksX1_lend_0 1 rfl rfl)
theorem dX1_lend_2 : decode cX1_lend 2 = .ok (.invokevirtual 146, 3) := dk_182 0 146 (dk_at dksX1_lend_0 2 rfl rfl)
theorem dX1_lend_5 : decode cX1_lend 5 = .ok (.ifCond .eq 19, 3) := dk_153 0 19 (dk_at dksX1_lend_0 5 rfl rfl)
theorem dX1_lend_8 : decode cX1_lend 8 = .ok (.aload_n 0, 1) := dk_42 (dk_at dksX1_lend_0 8 rfl rfl)
theorem dX1_lend_9 : decode cX1_lend 9 = .ok (.iload_n 2, 1) := dk_28 (dk_at dksX1_lend_0 9 rfl rfl)
theorem dX1_lend_10 : decode cX1_lend 10 = .ok (.invokevirtual 146, 3) := dk_182 0 146 (dk_at dksX1_lend_0 10 rfl rfl)
theorem dX1_lend_13 : decode cX1_lend 13 = .ok (.ifCond .eq 11, 3) := dk_153 0 11 (dk_at dksX1_lend_0 13 rfl rfl)
theorem dX1_lend_16 : decode cX1_lend 16 = .ok (.aload_n 0, 1) := dk_42 (dk_at dksX1_lend_0 16 rfl rfl)
theorem dX1_lend_17 : decode cX1_lend 17 = .ok (.iload_n 3, 1) := dk_29 (dk_at dksX1_lend_0 17 rfl rfl)
theorem dX1_lend_18 : decode cX1_lend 18 = .ok (.invokevirtual 186, 3) := dk_182 0 186 (dk_at dksX1_lend_0 18 rfl rfl)
theorem dX1_lend_21 : decode cX1_lend 21 = .ok (.ifCond .ne 5, 3) := dk_154 0 5 (dk_at dksX1_lend_0 21 rfl rfl)
theorem dX1_lend_24 : decode cX1_lend 24 = .ok (.iconst (-1), 1) := dk_2 (dk_at dksX1_lend_1 0 rfl rfl)
theorem dX1_lend_25 : decode cX1_lend 25 = .ok (.ireturn, 1) := dk_172 (dk_at dksX1_lend_1 1 rfl rfl)
theorem dX1_lend_26 : decode cX1_lend 26 = .ok (.aload_n 0, 1) := dk_42 (dk_at dksX1_lend_1 2 rfl rfl)
theorem dX1_lend_27 : decode cX1_lend 27 = .ok (.getfield 40, 3) := dk_180 0 40 (dk_at dksX1_lend_1 3 rfl rfl)
theorem dX1_lend_30 : decode cX1_lend 30 = .ok (.invokevirtual 232, 3) := dk_182 0 232 (dk_at dksX1_lend_1 6 rfl rfl)
theorem dX1_lend_33 : decode cX1_lend 33 = .ok (.astore 4, 2) := dk_58 4 (dk_at dksX1_lend_1 9 rfl rfl)
theorem dX1_lend_35 : decode cX1_lend 35 = .ok (.aload_n 0, 1) := dk_42 (dk_at dksX1_lend_1 11 rfl rfl)
theorem dX1_lend_36 : decode cX1_lend 36 = .ok (.getfield 40, 3) := dk_180 0 40 (dk_at dksX1_lend_1 12 rfl rfl)
theorem dX1_lend_39 : decode cX1_lend 39 = .ok (.iload_n 1, 1) := dk_27 (dk_at dksX1_lend_1 15 rfl rfl)
theorem dX1_lend_40 : decode cX1_lend 40 = .ok (.iload_n 2, 1) := dk_28 (dk_at dksX1_lend_1 16 rfl rfl)
theorem dX1_lend_41 : decode cX1_lend 41 = .ok (.iload_n 3, 1) := dk_29 (dk_at dksX1_lend_1 17 rfl rfl)
theorem dX1_lend_42 : decode cX1_lend 42 = .ok (.invokevirtual 268, 3) := dk_182 1 12 (dk_at dksX1_lend_1 18 rfl rfl)
theorem dX1_lend_45 : decode cX1_lend 45 = .ok (.ifCond .ne 5, 3) := dk_154 0 5 (dk_at dksX1_lend_1 21 rfl rfl)
theorem dX1_lend_48 : decode cX1_lend 48 = .ok (.iconst (-1), 1) := dk_2 (dk_at dksX1_lend_2 0 rfl rfl)
theorem dX1_lend_49 : decode cX1_lend 49 = .ok (.ireturn, 1) := dk_172 (dk_at dksX1_lend_2 1 rfl rfl)
theorem dX1_lend_50 : decode cX1_lend 50 = .ok (.aload_n 0, 1) := dk_42 (dk_at dksX1_lend_2 2 rfl rfl)
theorem dX1_lend_51 : decode cX1_lend 51 = .ok (.getfield 60, 3) := dk_180 0 60 (dk_at dksX1_lend_2 3 rfl rfl)
theorem dX1_lend_54 : decode cX1_lend 54 = .ok (.invokevirtual 131, 3) := dk_182 0 131 (dk_at dksX1_lend_2 6 rfl rfl)
theorem dX1_lend_57 : decode cX1_lend 57 = .ok (.bipush 16, 2) := dk_16 16 (dk_at dksX1_lend_2 9 rfl rfl)
theorem dX1_lend_59 : decode cX1_lend 59 = .ok (.if_icmp .ne 12, 3) := dk_160 0 12 (dk_at dksX1_lend_2 11 rfl rfl)
theorem dX1_lend_62 : decode cX1_lend 62 = .ok (.aload_n 0, 1) := dk_42 (dk_at dksX1_lend_2 14 rfl rfl)
theorem dX1_lend_63 : decode cX1_lend 63 = .ok (.getfield 60, 3) := dk_180 0 60 (dk_at dksX1_lend_2 15 rfl rfl)
theorem dX1_lend_66 : decode cX1_lend 66 = .ok (.iconst 0, 1) := dk_3 (dk_at dksX1_lend_2 18 rfl rfl)
theorem dX1_lend_67 : decode cX1_lend 67 = .ok (.invokevirtual 229, 3) := dk_182 0 229 (dk_at dksX1_lend_2 19 rfl rfl)
theorem dX1_lend_70 : decode cX1_lend 70 = .ok (.pop, 1) := dk_87 (dk_at dksX1_lend_2 22 rfl rfl)
theorem dX1_lend_71 : decode cX1_lend 71 = .ok (.aload_n 0, 1) := dk_42 (dk_at dksX1_lend_2 23 rfl rfl)
theorem dX1_lend_72 : decode cX1_lend 72 = .ok (.getfield 60, 3) := dk_180 0 60 (dk_at dksX1_lend_3 0 rfl rfl)
theorem dX1_lend_75 : decode cX1_lend 75 = .ok (.aload 4, 2) := dk_25 4 (dk_at dksX1_lend_3 3 rfl rfl)
theorem dX1_lend_77 : decode cX1_lend 77 = .ok (.invokevirtual 236, 3) := dk_182 0 236 (dk_at dksX1_lend_3 5 rfl rfl)
theorem dX1_lend_80 : decode cX1_lend 80 = .ok (.pop, 1) := dk_87 (dk_at dksX1_lend_3 8 rfl rfl)
theorem dX1_lend_81 : decode cX1_lend 81 = .ok (.aload_n 0, 1) := dk_42 (dk_at dksX1_lend_3 9 rfl rfl)
theorem dX1_lend_82 : decode cX1_lend 82 = .ok (.getfield 40, 3) := dk_180 0 40 (dk_at dksX1_lend_3 10 rfl rfl)
theorem dX1_lend_85 : decode cX1_lend 85 = .ok (.iload_n 3, 1) := dk_29 (dk_at dksX1_lend_3 13 rfl rfl)
theorem dX1_lend_86 : decode cX1_lend 86 = .ok (.invokevirtual 210, 3) := dk_182 0 210 (dk_at dksX1_lend_3 14 rfl rfl)
theorem dX1_lend_89 : decode cX1_lend 89 = .ok (.ireturn, 1) := dk_172 (dk_at dksX1_lend_3 17 rfl rfl)
abbrev cX1_undo : ByteArray := prog_1_method_25_code
def yX1_undo : MethodName := ⟨RX1, "undo", "()Z"⟩
def dkwX1_undo_1 : List UInt8 := [4, 100, 182, 0, 229, 192, 0, 30, 181, 0, 40, 4, 172]
abbrev dktX1_undo_1 : List UInt8 := dkwX1_undo_1 ++ []
def dkwX1_undo_0 : List UInt8 := [42, 180, 0, 60, 182, 1, 15, 153, 0, 5, 3, 172, 42, 42, 180, 0, 60, 42, 180, 0, 60, 182, 0, 131]
abbrev dktX1_undo_0 : List UInt8 := dkwX1_undo_0 ++ dktX1_undo_1
theorem dksX1_undo_0 : cX1_undo.data.toList.drop 0 = dktX1_undo_0 := by decide +kernel
theorem dksX1_undo_1 : cX1_undo.data.toList.drop 24 = dktX1_undo_1 := dk_seg dksX1_undo_0 24 rfl rfl
theorem dX1_undo_0 : decode cX1_undo 0 = .ok (.aload_n 0, 1) := dk_42 (dk_at dksX1_undo_0 0 rfl rfl)
theorem dX1_undo_1 : decode cX1_undo 1 = .ok (.getfield 60, 3) := dk_180 0 60 (dk_at dksX1_undo_0 1 rfl rfl)
theorem dX1_undo_4 : decode cX1_undo 4 = .ok (.invokevirtual 271, 3) := dk_182 1 15 (dk_at dksX1_undo_0 4 rfl rfl)
theorem dX1_undo_7 : decode cX1_undo 7 = .ok (.ifCond .eq 5, 3) := dk_153 0 5 (dk_at dksX1_undo_0 7 rfl rfl)
theorem dX1_undo_10 : decode cX1_undo 10 = .ok (.iconst 0, 1) := dk_3 (dk_at dksX1_undo_0 10 rfl rfl)
theorem dX1_undo_11 : decode cX1_undo 11 = .ok (.ireturn, 1) := dk_172 (dk_at dksX1_undo_0 11 rfl rfl)
theorem dX1_undo_12 : decode cX1_undo 12 = .ok (.aload_n 0, 1) := dk_42 (dk_at dksX1_undo_0 12 rfl rfl)
theorem dX1_undo_13 : decode cX1_undo 13 = .ok (.aload_n 0, 1) := dk_42 (dk_at dksX1_undo_0 13 rfl rfl)
theorem dX1_undo_14 : decode cX1_undo 14 = .ok (.getfield 60, 3) := dk_180 0 60 (dk_at dksX1_undo_0 14 rfl rfl)
theorem dX1_undo_17 : decode cX1_undo 17 = .ok (.aload_n 0, 1) := dk_42 (dk_at dksX1_undo_0 17 rfl rfl)
theorem dX1_undo_18 : decode cX1_undo 18 = .ok (.getfield 60, 3) := dk_180 0 60 (dk_at dksX1_undo_0 18 rfl rfl)
theorem dX1_undo_21 : decode cX1_undo 21 = .ok (.invokevirtual 131, 3) := dk_182 0 131 (dk_at dksX1_undo_0 21 rfl rfl)
theorem dX1_undo_24 : decode cX1_undo 24 = .ok (.iconst 1, 1) := dk_4 (dk_at dksX1_undo_1 0 rfl rfl)
theorem dX1_undo_25 : decode cX1_undo 25 = .ok (.isub, 1) := dk_100 (dk_at dksX1_undo_1 1 rfl rfl)
theorem dX1_undo_26 : decode cX1_undo 26 = .ok (.invokevirtual 229, 3) := dk_182 0 229 (dk_at dksX1_undo_1 2 rfl rfl)
theorem dX1_undo_29 : decode cX1_undo 29 = .ok (.checkcast 30, 3) := dk_192 0 30 (dk_at dksX1_undo_1 5 rfl rfl)
theorem dX1_undo_32 : decode cX1_undo 32 = .ok (.putfield 40, 3) := dk_181 0 40 (dk_at dksX1_undo_1 8 rfl rfl)
theorem dX1_undo_35 : decode cX1_undo 35 = .ok (.iconst 1, 1) := dk_4 (dk_at dksX1_undo_1 11 rfl rfl)
theorem dX1_undo_36 : decode cX1_undo 36 = .ok (.ireturn, 1) := dk_172 (dk_at dksX1_undo_1 12 rfl rfl)
abbrev cX1_judged : ByteArray := prog_1_method_26_code
def yX1_judged : MethodName := ⟨RX1, "judged", "(I)I"⟩
def dkwX1_judged_4 : List UInt8 := [167, 0, 10, 42, 180, 0, 44, 182, 1, 28, 172]
abbrev dktX1_judged_4 : List UInt8 := dkwX1_judged_4 ++ []
def dkwX1_judged_3 : List UInt8 := [167, 255, 214, 27, 154, 0, 7, 28, 167, 0, 25, 27, 4, 160, 0, 13, 42, 180, 0, 44, 182, 1, 25]
abbrev dktX1_judged_3 : List UInt8 := dkwX1_judged_3 ++ dktX1_judged_4
def dkwX1_judged_2 : List UInt8 := [192, 1, 19, 42, 180, 0, 44, 182, 1, 21, 154, 0, 10, 28, 2, 160, 0, 5, 29, 61, 132, 3, 1]
abbrev dktX1_judged_2 : List UInt8 := dkwX1_judged_2 ++ dktX1_judged_3
def dkwX1_judged_1 : List UInt8 := [2, 61, 3, 62, 29, 42, 180, 0, 52, 182, 0, 131, 162, 0, 37, 42, 180, 0, 52, 29, 182, 0, 153]
abbrev dktX1_judged_1 : List UInt8 := dkwX1_judged_1 ++ dktX1_judged_2
def dkwX1_judged_0 : List UInt8 := [27, 3, 5, 184, 0, 140, 154, 0, 6, 16, 254, 172, 42, 180, 0, 44, 42, 182, 0, 119, 182, 0, 36, 87]
abbrev dktX1_judged_0 : List UInt8 := dkwX1_judged_0 ++ dktX1_judged_1
theorem dksX1_judged_0 : cX1_judged.data.toList.drop 0 = dktX1_judged_0 := by decide +kernel
theorem dksX1_judged_1 : cX1_judged.data.toList.drop 24 = dktX1_judged_1 := dk_seg dksX1_judged_0 24 rfl rfl
theorem dksX1_judged_2 : cX1_judged.data.toList.drop 47 = dktX1_judged_2 := dk_seg dksX1_judged_1 23 rfl rfl
theorem dksX1_judged_3 : cX1_judged.data.toList.drop 70 = dktX1_judged_3 := dk_seg dksX1_judged_2 23 rfl rfl
theorem dksX1_judged_4 : cX1_judged.data.toList.drop 93 = dktX1_judged_4 := dk_seg dksX1_judged_3 23 rfl rfl
theorem dX1_judged_0 : decode cX1_judged 0 = .ok (.iload_n 1, 1) := dk_27 (dk_at dksX1_judged_0 0 rfl rfl)
theorem dX1_judged_1 : decode cX1_judged 1 = .ok (.iconst 0, 1) := dk_3 (dk_at dksX1_judged_0 1 rfl rfl)
theorem dX1_judged_2 : decode cX1_judged 2 = .ok (.iconst 2, 1) := dk_5 (dk_at dksX1_judged_0 2 rfl rfl)
theorem dX1_judged_3 : decode cX1_judged 3 = .ok (.invokestatic 140, 3) := dk_184 0 140 (dk_at dksX1_judged_0 3 rfl rfl)
theorem dX1_judged_6 : decode cX1_judged 6 = .ok (.ifCond .ne 6, 3) := dk_154 0 6 (dk_at dksX1_judged_0 6 rfl rfl)
theorem dX1_judged_9 : decode cX1_judged 9 = .ok (.bipush (-2), 2) := dk_16 254 (dk_at dksX1_judged_0 9 rfl rfl)
theorem dX1_judged_11 : decode cX1_judged 11 = .ok (.ireturn, 1) := dk_172 (dk_at dksX1_judged_0 11 rfl rfl)
theorem dX1_judged_12 : decode cX1_judged 12 = .ok (.aload_n 0, 1) := dk_42 (dk_at dksX1_judged_0 12 rfl rfl)
theorem dX1_judged_13 : decode cX1_judged 13 = .ok (.getfield 44, 3) := dk_180 0 44 (dk_at dksX1_judged_0 13 rfl rfl)
theorem dX1_judged_16 : decode cX1_judged 16 = .ok (.aload_n 0, 1) := dk_42 (dk_at dksX1_judged_0 16 rfl rfl)
theorem dX1_judged_17 : decode cX1_judged 17 = .ok (.invokevirtual 119, 3) := dk_182 0 119 (dk_at dksX1_judged_0 17 rfl rfl)
theorem dX1_judged_20 : decode cX1_judged 20 = .ok (.invokevirtual 36, 3) := dk_182 0 36 (dk_at dksX1_judged_0 20 rfl rfl)
theorem dX1_judged_23 : decode cX1_judged 23 = .ok (.pop, 1) := dk_87 (dk_at dksX1_judged_0 23 rfl rfl)
theorem dX1_judged_24 : decode cX1_judged 24 = .ok (.iconst (-1), 1) := dk_2 (dk_at dksX1_judged_1 0 rfl rfl)
theorem dX1_judged_25 : decode cX1_judged 25 = .ok (.istore_n 2, 1) := dk_61 (dk_at dksX1_judged_1 1 rfl rfl)
theorem dX1_judged_26 : decode cX1_judged 26 = .ok (.iconst 0, 1) := dk_3 (dk_at dksX1_judged_1 2 rfl rfl)
theorem dX1_judged_27 : decode cX1_judged 27 = .ok (.istore_n 3, 1) := dk_62 (dk_at dksX1_judged_1 3 rfl rfl)
theorem dX1_judged_28 : decode cX1_judged 28 = .ok (.iload_n 3, 1) := dk_29 (dk_at dksX1_judged_1 4 rfl rfl)
theorem dX1_judged_29 : decode cX1_judged 29 = .ok (.aload_n 0, 1) := dk_42 (dk_at dksX1_judged_1 5 rfl rfl)
theorem dX1_judged_30 : decode cX1_judged 30 = .ok (.getfield 52, 3) := dk_180 0 52 (dk_at dksX1_judged_1 6 rfl rfl)
theorem dX1_judged_33 : decode cX1_judged 33 = .ok (.invokevirtual 131, 3) := dk_182 0 131 (dk_at dksX1_judged_1 9 rfl rfl)
theorem dX1_judged_36 : decode cX1_judged 36 = .ok (.if_icmp .ge 37, 3) := dk_162 0 37 (dk_at dksX1_judged_1 12 rfl rfl)
theorem dX1_judged_39 : decode cX1_judged 39 = .ok (.aload_n 0, 1) := dk_42 (dk_at dksX1_judged_1 15 rfl rfl)
theorem dX1_judged_40 : decode cX1_judged 40 = .ok (.getfield 52, 3) := dk_180 0 52 (dk_at dksX1_judged_1 16 rfl rfl)
theorem dX1_judged_43 : decode cX1_judged 43 = .ok (.iload_n 3, 1) := dk_29 (dk_at dksX1_judged_1 19 rfl rfl)
theorem dX1_judged_44 : decode cX1_judged 44 = .ok (.invokevirtual 153, 3) := dk_182 0 153 (dk_at dksX1_judged_1 20 rfl rfl)
theorem dX1_judged_47 : decode cX1_judged 47 = .ok (.checkcast 275, 3) := dk_192 1 19 (dk_at dksX1_judged_2 0 rfl rfl)
theorem dX1_judged_50 : decode cX1_judged 50 = .ok (.aload_n 0, 1) := dk_42 (dk_at dksX1_judged_2 3 rfl rfl)
theorem dX1_judged_51 : decode cX1_judged 51 = .ok (.getfield 44, 3) := dk_180 0 44 (dk_at dksX1_judged_2 4 rfl rfl)
theorem dX1_judged_54 : decode cX1_judged 54 = .ok (.invokevirtual 277, 3) := dk_182 1 21 (dk_at dksX1_judged_2 7 rfl rfl)
theorem dX1_judged_57 : decode cX1_judged 57 = .ok (.ifCond .ne 10, 3) := dk_154 0 10 (dk_at dksX1_judged_2 10 rfl rfl)
theorem dX1_judged_60 : decode cX1_judged 60 = .ok (.iload_n 2, 1) := dk_28 (dk_at dksX1_judged_2 13 rfl rfl)
theorem dX1_judged_61 : decode cX1_judged 61 = .ok (.iconst (-1), 1) := dk_2 (dk_at dksX1_judged_2 14 rfl rfl)
theorem dX1_judged_62 : decode cX1_judged 62 = .ok (.if_icmp .ne 5, 3) := dk_160 0 5 (dk_at dksX1_judged_2 15 rfl rfl)
theorem dX1_judged_65 : decode cX1_judged 65 = .ok (.iload_n 3, 1) := dk_29 (dk_at dksX1_judged_2 18 rfl rfl)
theorem dX1_judged_66 : decode cX1_judged 66 = .ok (.istore_n 2, 1) := dk_61 (dk_at dksX1_judged_2 19 rfl rfl)
theorem dX1_judged_67 : decode cX1_judged 67 = .ok (.iinc 3 1, 3) := dk_132 3 1 (dk_at dksX1_judged_2 20 rfl rfl)
theorem dX1_judged_70 : decode cX1_judged 70 = .ok (.goto (-42), 3) := dk_167 255 214 (dk_at dksX1_judged_3 0 rfl rfl)
theorem dX1_judged_73 : decode cX1_judged 73 = .ok (.iload_n 1, 1) := dk_27 (dk_at dksX1_judged_3 3 rfl rfl)
theorem dX1_judged_74 : decode cX1_judged 74 = .ok (.ifCond .ne 7, 3) := dk_154 0 7 (dk_at dksX1_judged_3 4 rfl rfl)
theorem dX1_judged_77 : decode cX1_judged 77 = .ok (.iload_n 2, 1) := dk_28 (dk_at dksX1_judged_3 7 rfl rfl)
theorem dX1_judged_78 : decode cX1_judged 78 = .ok (.goto 25, 3) := dk_167 0 25 (dk_at dksX1_judged_3 8 rfl rfl)
theorem dX1_judged_81 : decode cX1_judged 81 = .ok (.iload_n 1, 1) := dk_27 (dk_at dksX1_judged_3 11 rfl rfl)
theorem dX1_judged_82 : decode cX1_judged 82 = .ok (.iconst 1, 1) := dk_4 (dk_at dksX1_judged_3 12 rfl rfl)
theorem dX1_judged_83 : decode cX1_judged 83 = .ok (.if_icmp .ne 13, 3) := dk_160 0 13 (dk_at dksX1_judged_3 13 rfl rfl)
theorem dX1_judged_86 : decode cX1_judged 86 = .ok (.aload_n 0, 1) := dk_42 (dk_at dksX1_judged_3 16 rfl rfl)
theorem dX1_judged_87 : decode cX1_judged 87 = .ok (.getfield 44, 3) := dk_180 0 44 (dk_at dksX1_judged_3 17 rfl rfl)
theorem dX1_judged_90 : decode cX1_judged 90 = .ok (.invokevirtual 281, 3) := dk_182 1 25 (dk_at dksX1_judged_3 20 rfl rfl)
theorem dX1_judged_93 : decode cX1_judged 93 = .ok (.goto 10, 3) := dk_167 0 10 (dk_at dksX1_judged_4 0 rfl rfl)
theorem dX1_judged_96 : decode cX1_judged 96 = .ok (.aload_n 0, 1) := dk_42 (dk_at dksX1_judged_4 3 rfl rfl)
theorem dX1_judged_97 : decode cX1_judged 97 = .ok (.getfield 44, 3) := dk_180 0 44 (dk_at dksX1_judged_4 4 rfl rfl)
theorem dX1_judged_100 : decode cX1_judged 100 = .ok (.invokevirtual 284, 3) := dk_182 1 28 (dk_at dksX1_judged_4 7 rfl rfl)
theorem dX1_judged_103 : decode cX1_judged 103 = .ok (.ireturn, 1) := dk_172 (dk_at dksX1_judged_4 10 rfl rfl)
abbrev cX1_least : ByteArray := prog_1_method_27_code
def yX1_least : MethodName := ⟨RX1, "least", "(I)I"⟩
def dkwX1_least_0 : List UInt8 := [42, 27, 182, 0, 146, 153, 0, 14, 42, 180, 0, 40, 27, 182, 1, 31, 167, 0, 4, 2, 172]
abbrev dktX1_least_0 : List UInt8 := dkwX1_least_0 ++ []
theorem dksX1_least_0 : cX1_least.data.toList.drop 0 = dktX1_least_0 := by decide +kernel
theorem dX1_least_0 : decode cX1_least 0 = .ok (.aload_n 0, 1) := dk_42 (dk_at dksX1_least_0 0 rfl rfl)
theorem dX1_least_1 : decode cX1_least 1 = .ok (.iload_n 1, 1) := dk_27 (dk_at dksX1_least_0 1 rfl rfl)
theorem dX1_least_2 : decode cX1_least 2 = .ok (.invokevirtual 146, 3) := dk_182 0 146 (dk_at dksX1_least_0 2 rfl rfl)
theorem dX1_least_5 : decode cX1_least 5 = .ok (.ifCond .eq 14, 3) := dk_153 0 14 (dk_at dksX1_least_0 5 rfl rfl)
theorem dX1_least_8 : decode cX1_least 8 = .ok (.aload_n 0, 1) := dk_42 (dk_at dksX1_least_0 8 rfl rfl)
theorem dX1_least_9 : decode cX1_least 9 = .ok (.getfield 40, 3) := dk_180 0 40 (dk_at dksX1_least_0 9 rfl rfl)
theorem dX1_least_12 : decode cX1_least 12 = .ok (.iload_n 1, 1) := dk_27 (dk_at dksX1_least_0 12 rfl rfl)
theorem dX1_least_13 : decode cX1_least 13 = .ok (.invokevirtual 287, 3) := dk_182 1 31 (dk_at dksX1_least_0 13 rfl rfl)
theorem dX1_least_16 : decode cX1_least 16 = .ok (.goto 4, 3) := dk_167 0 4 (dk_at dksX1_least_0 16 rfl rfl)
theorem dX1_least_19 : decode cX1_least 19 = .ok (.iconst (-1), 1) := dk_2 (dk_at dksX1_least_0 19 rfl rfl)
theorem dX1_least_20 : decode cX1_least 20 = .ok (.ireturn, 1) := dk_172 (dk_at dksX1_least_0 20 rfl rfl)
abbrev cX1_bits : ByteArray := prog_1_method_3_code
def yX1_bits : MethodName := ⟨RX1, "bits", "(I)I"⟩
def dkwX1_bits_0 : List UInt8 := [3, 60, 26, 61, 28, 153, 0, 15, 132, 1, 1, 28, 28, 4, 100, 126, 61, 167, 255, 243, 27, 172]
abbrev dktX1_bits_0 : List UInt8 := dkwX1_bits_0 ++ []
theorem dksX1_bits_0 : cX1_bits.data.toList.drop 0 = dktX1_bits_0 := by decide +kernel
theorem dX1_bits_0 : decode cX1_bits 0 = .ok (.iconst 0, 1) := dk_3 (dk_at dksX1_bits_0 0 rfl rfl)
theorem dX1_bits_1 : decode cX1_bits 1 = .ok (.istore_n 1, 1) := dk_60 (dk_at dksX1_bits_0 1 rfl rfl)
theorem dX1_bits_2 : decode cX1_bits 2 = .ok (.iload_n 0, 1) := dk_26 (dk_at dksX1_bits_0 2 rfl rfl)
theorem dX1_bits_3 : decode cX1_bits 3 = .ok (.istore_n 2, 1) := dk_61 (dk_at dksX1_bits_0 3 rfl rfl)
theorem dX1_bits_4 : decode cX1_bits 4 = .ok (.iload_n 2, 1) := dk_28 (dk_at dksX1_bits_0 4 rfl rfl)
theorem dX1_bits_5 : decode cX1_bits 5 = .ok (.ifCond .eq 15, 3) := dk_153 0 15 (dk_at dksX1_bits_0 5 rfl rfl)
theorem dX1_bits_8 : decode cX1_bits 8 = .ok (.iinc 1 1, 3) := dk_132 1 1 (dk_at dksX1_bits_0 8 rfl rfl)
theorem dX1_bits_11 : decode cX1_bits 11 = .ok (.iload_n 2, 1) := dk_28 (dk_at dksX1_bits_0 11 rfl rfl)
theorem dX1_bits_12 : decode cX1_bits 12 = .ok (.iload_n 2, 1) := dk_28 (dk_at dksX1_bits_0 12 rfl rfl)
theorem dX1_bits_13 : decode cX1_bits 13 = .ok (.iconst 1, 1) := dk_4 (dk_at dksX1_bits_0 13 rfl rfl)
theorem dX1_bits_14 : decode cX1_bits 14 = .ok (.isub, 1) := dk_100 (dk_at dksX1_bits_0 14 rfl rfl)
theorem dX1_bits_15 : decode cX1_bits 15 = .ok (.iand, 1) := dk_126 (dk_at dksX1_bits_0 15 rfl rfl)
theorem dX1_bits_16 : decode cX1_bits 16 = .ok (.istore_n 2, 1) := dk_61 (dk_at dksX1_bits_0 16 rfl rfl)
theorem dX1_bits_17 : decode cX1_bits 17 = .ok (.goto (-13), 3) := dk_167 255 243 (dk_at dksX1_bits_0 17 rfl rfl)
theorem dX1_bits_20 : decode cX1_bits 20 = .ok (.iload_n 1, 1) := dk_27 (dk_at dksX1_bits_0 20 rfl rfl)
theorem dX1_bits_21 : decode cX1_bits 21 = .ok (.ireturn, 1) := dk_172 (dk_at dksX1_bits_0 21 rfl rfl)
abbrev cX1_payers : ByteArray := prog_1_method_28_code
def yX1_payers : MethodName := ⟨RX1, "payers", "()I"⟩
def dkwX1_payers_4 : List UInt8 := [164, 0, 16, 42, 180, 0, 68, 29, 182, 1, 40, 153, 0, 5, 29, 61, 132, 3, 1, 167, 255, 211, 28, 172]
abbrev dktX1_payers_4 : List UInt8 := dkwX1_payers_4 ++ []
def dkwX1_payers_3 : List UInt8 := [42, 182, 0, 138, 120, 162, 0, 41, 29, 27, 2, 130, 126, 154, 0, 27, 29, 184, 1, 37, 28, 184, 1, 37]
abbrev dktX1_payers_3 : List UInt8 := dkwX1_payers_3 ++ dktX1_payers_4
def dkwX1_payers_2 : List UInt8 := [4, 28, 120, 128, 60, 132, 2, 1, 167, 255, 205, 42, 180, 0, 68, 182, 1, 34, 3, 61, 4, 62, 29, 4]
abbrev dktX1_payers_2 : List UInt8 := dkwX1_payers_2 ++ dktX1_payers_3
def dkwX1_payers_1 : List UInt8 := [154, 0, 29, 42, 182, 0, 119, 180, 0, 128, 28, 182, 0, 153, 192, 0, 13, 180, 0, 164, 158, 0, 9, 27]
abbrev dktX1_payers_1 : List UInt8 := dkwX1_payers_1 ++ dktX1_payers_2
def dkwX1_payers_0 : List UInt8 := [3, 60, 3, 61, 28, 42, 182, 0, 138, 162, 0, 49, 42, 180, 0, 40, 180, 0, 174, 28, 184, 0, 176]
abbrev dktX1_payers_0 : List UInt8 := dkwX1_payers_0 ++ dktX1_payers_1
theorem dksX1_payers_0 : cX1_payers.data.toList.drop 0 = dktX1_payers_0 := by decide +kernel
theorem dksX1_payers_1 : cX1_payers.data.toList.drop 23 = dktX1_payers_1 := dk_seg dksX1_payers_0 23 rfl rfl
theorem dksX1_payers_2 : cX1_payers.data.toList.drop 47 = dktX1_payers_2 := dk_seg dksX1_payers_1 24 rfl rfl
theorem dksX1_payers_3 : cX1_payers.data.toList.drop 71 = dktX1_payers_3 := dk_seg dksX1_payers_2 24 rfl rfl
theorem dksX1_payers_4 : cX1_payers.data.toList.drop 95 = dktX1_payers_4 := dk_seg dksX1_payers_3 24 rfl rfl
theorem dX1_payers_0 : decode cX1_payers 0 = .ok (.iconst 0, 1) := dk_3 (dk_at dksX1_payers_0 0 rfl rfl)
theorem dX1_payers_1 : decode cX1_payers 1 = .ok (.istore_n 1, 1) := dk_60 (dk_at dksX1_payers_0 1 rfl rfl)
theorem dX1_payers_2 : decode cX1_payers 2 = .ok (.iconst 0, 1) := dk_3 (dk_at dksX1_payers_0 2 rfl rfl)
theorem dX1_payers_3 : decode cX1_payers 3 = .ok (.istore_n 2, 1) := dk_61 (dk_at dksX1_payers_0 3 rfl rfl)
theorem dX1_payers_4 : decode cX1_payers 4 = .ok (.iload_n 2, 1) := dk_28 (dk_at dksX1_payers_0 4 rfl rfl)
theorem dX1_payers_5 : decode cX1_payers 5 = .ok (.aload_n 0, 1) := dk_42 (dk_at dksX1_payers_0 5 rfl rfl)
theorem dX1_payers_6 : decode cX1_payers 6 = .ok (.invokevirtual 138, 3) := dk_182 0 138 (dk_at dksX1_payers_0 6 rfl rfl)
theorem dX1_payers_9 : decode cX1_payers 9 = .ok (.if_icmp .ge 49, 3) := dk_162 0 49 (dk_at dksX1_payers_0 9 rfl rfl)
theorem dX1_payers_12 : decode cX1_payers 12 = .ok (.aload_n 0, 1) := dk_42 (dk_at dksX1_payers_0 12 rfl rfl)
theorem dX1_payers_13 : decode cX1_payers 13 = .ok (.getfield 40, 3) := dk_180 0 40 (dk_at dksX1_payers_0 13 rfl rfl)
theorem dX1_payers_16 : decode cX1_payers 16 = .ok (.getfield 174, 3) := dk_180 0 174 (dk_at dksX1_payers_0 16 rfl rfl)
theorem dX1_payers_19 : decode cX1_payers 19 = .ok (.iload_n 2, 1) := dk_28 (dk_at dksX1_payers_0 19 rfl rfl)
theorem dX1_payers_20 : decode cX1_payers 20 = .ok (.invokestatic 176, 3) := dk_184 0 176 (dk_at dksX1_payers_0 20 rfl rfl)
theorem dX1_payers_23 : decode cX1_payers 23 = .ok (.ifCond .ne 29, 3) := dk_154 0 29 (dk_at dksX1_payers_1 0 rfl rfl)
theorem dX1_payers_26 : decode cX1_payers 26 = .ok (.aload_n 0, 1) := dk_42 (dk_at dksX1_payers_1 3 rfl rfl)
theorem dX1_payers_27 : decode cX1_payers 27 = .ok (.invokevirtual 119, 3) := dk_182 0 119 (dk_at dksX1_payers_1 4 rfl rfl)
theorem dX1_payers_30 : decode cX1_payers 30 = .ok (.getfield 128, 3) := dk_180 0 128 (dk_at dksX1_payers_1 7 rfl rfl)
theorem dX1_payers_33 : decode cX1_payers 33 = .ok (.iload_n 2, 1) := dk_28 (dk_at dksX1_payers_1 10 rfl rfl)
theorem dX1_payers_34 : decode cX1_payers 34 = .ok (.invokevirtual 153, 3) := dk_182 0 153 (dk_at dksX1_payers_1 11 rfl rfl)
theorem dX1_payers_37 : decode cX1_payers 37 = .ok (.checkcast 13, 3) := dk_192 0 13 (dk_at dksX1_payers_1 14 rfl rfl)
theorem dX1_payers_40 : decode cX1_payers 40 = .ok (.getfield 164, 3) := dk_180 0 164 (dk_at dksX1_payers_1 17 rfl rfl)
theorem dX1_payers_43 : decode cX1_payers 43 = .ok (.ifCond .le 9, 3) := dk_158 0 9 (dk_at dksX1_payers_1 20 rfl rfl)
theorem dX1_payers_46 : decode cX1_payers 46 = .ok (.iload_n 1, 1) := dk_27 (dk_at dksX1_payers_1 23 rfl rfl)
theorem dX1_payers_47 : decode cX1_payers 47 = .ok (.iconst 1, 1) := dk_4 (dk_at dksX1_payers_2 0 rfl rfl)
theorem dX1_payers_48 : decode cX1_payers 48 = .ok (.iload_n 2, 1) := dk_28 (dk_at dksX1_payers_2 1 rfl rfl)
theorem dX1_payers_49 : decode cX1_payers 49 = .ok (.ishl, 1) := dk_120 (dk_at dksX1_payers_2 2 rfl rfl)
theorem dX1_payers_50 : decode cX1_payers 50 = .ok (.ior, 1) := dk_128 (dk_at dksX1_payers_2 3 rfl rfl)
theorem dX1_payers_51 : decode cX1_payers 51 = .ok (.istore_n 1, 1) := dk_60 (dk_at dksX1_payers_2 4 rfl rfl)
theorem dX1_payers_52 : decode cX1_payers 52 = .ok (.iinc 2 1, 3) := dk_132 2 1 (dk_at dksX1_payers_2 5 rfl rfl)
theorem dX1_payers_55 : decode cX1_payers 55 = .ok (.goto (-51), 3) := dk_167 255 205 (dk_at dksX1_payers_2 8 rfl rfl)
theorem dX1_payers_58 : decode cX1_payers 58 = .ok (.aload_n 0, 1) := dk_42 (dk_at dksX1_payers_2 11 rfl rfl)
theorem dX1_payers_59 : decode cX1_payers 59 = .ok (.getfield 68, 3) := dk_180 0 68 (dk_at dksX1_payers_2 12 rfl rfl)
theorem dX1_payers_62 : decode cX1_payers 62 = .ok (.invokevirtual 290, 3) := dk_182 1 34 (dk_at dksX1_payers_2 15 rfl rfl)
theorem dX1_payers_65 : decode cX1_payers 65 = .ok (.iconst 0, 1) := dk_3 (dk_at dksX1_payers_2 18 rfl rfl)
theorem dX1_payers_66 : decode cX1_payers 66 = .ok (.istore_n 2, 1) := dk_61 (dk_at dksX1_payers_2 19 rfl rfl)
theorem dX1_payers_67 : decode cX1_payers 67 = .ok (.iconst 1, 1) := dk_4 (dk_at dksX1_payers_2 20 rfl rfl)
theorem dX1_payers_68 : decode cX1_payers 68 = .ok (.istore_n 3, 1) := dk_62 (dk_at dksX1_payers_2 21 rfl rfl)
theorem dX1_payers_69 : decode cX1_payers 69 = .ok (.iload_n 3, 1) := dk_29 (dk_at dksX1_payers_2 22 rfl rfl)
theorem dX1_payers_70 : decode cX1_payers 70 = .ok (.iconst 1, 1) := dk_4 (dk_at dksX1_payers_2 23 rfl rfl)
theorem dX1_payers_71 : decode cX1_payers 71 = .ok (.aload_n 0, 1) := dk_42 (dk_at dksX1_payers_3 0 rfl rfl)
theorem dX1_payers_72 : decode cX1_payers 72 = .ok (.invokevirtual 138, 3) := dk_182 0 138 (dk_at dksX1_payers_3 1 rfl rfl)
theorem dX1_payers_75 : decode cX1_payers 75 = .ok (.ishl, 1) := dk_120 (dk_at dksX1_payers_3 4 rfl rfl)
theorem dX1_payers_76 : decode cX1_payers 76 = .ok (.if_icmp .ge 41, 3) := dk_162 0 41 (dk_at dksX1_payers_3 5 rfl rfl)
theorem dX1_payers_79 : decode cX1_payers 79 = .ok (.iload_n 3, 1) := dk_29 (dk_at dksX1_payers_3 8 rfl rfl)
theorem dX1_payers_80 : decode cX1_payers 80 = .ok (.iload_n 1, 1) := dk_27 (dk_at dksX1_payers_3 9 rfl rfl)
theorem dX1_payers_81 : decode cX1_payers 81 = .ok (.iconst (-1), 1) := dk_2 (dk_at dksX1_payers_3 10 rfl rfl)
theorem dX1_payers_82 : decode cX1_payers 82 = .ok (.ixor, 1) := dk_130 (dk_at dksX1_payers_3 11 rfl rfl)
theorem dX1_payers_83 : decode cX1_payers 83 = .ok (.iand, 1) := dk_126 (dk_at dksX1_payers_3 12 rfl rfl)
theorem dX1_payers_84 : decode cX1_payers 84 = .ok (.ifCond .ne 27, 3) := dk_154 0 27 (dk_at dksX1_payers_3 13 rfl rfl)
theorem dX1_payers_87 : decode cX1_payers 87 = .ok (.iload_n 3, 1) := dk_29 (dk_at dksX1_payers_3 16 rfl rfl)
theorem dX1_payers_88 : decode cX1_payers 88 = .ok (.invokestatic 293, 3) := dk_184 1 37 (dk_at dksX1_payers_3 17 rfl rfl)
theorem dX1_payers_91 : decode cX1_payers 91 = .ok (.iload_n 2, 1) := dk_28 (dk_at dksX1_payers_3 20 rfl rfl)
theorem dX1_payers_92 : decode cX1_payers 92 = .ok (.invokestatic 293, 3) := dk_184 1 37 (dk_at dksX1_payers_3 21 rfl rfl)
theorem dX1_payers_95 : decode cX1_payers 95 = .ok (.if_icmp .le 16, 3) := dk_164 0 16 (dk_at dksX1_payers_4 0 rfl rfl)
theorem dX1_payers_98 : decode cX1_payers 98 = .ok (.aload_n 0, 1) := dk_42 (dk_at dksX1_payers_4 3 rfl rfl)
theorem dX1_payers_99 : decode cX1_payers 99 = .ok (.getfield 68, 3) := dk_180 0 68 (dk_at dksX1_payers_4 4 rfl rfl)
theorem dX1_payers_102 : decode cX1_payers 102 = .ok (.iload_n 3, 1) := dk_29 (dk_at dksX1_payers_4 7 rfl rfl)
theorem dX1_payers_103 : decode cX1_payers 103 = .ok (.invokevirtual 296, 3) := dk_182 1 40 (dk_at dksX1_payers_4 8 rfl rfl)
theorem dX1_payers_106 : decode cX1_payers 106 = .ok (.ifCond .eq 5, 3) := dk_153 0 5 (dk_at dksX1_payers_4 11 rfl rfl)
theorem dX1_payers_109 : decode cX1_payers 109 = .ok (.iload_n 3, 1) := dk_29 (dk_at dksX1_payers_4 14 rfl rfl)
theorem dX1_payers_110 : decode cX1_payers 110 = .ok (.istore_n 2, 1) := dk_61 (dk_at dksX1_payers_4 15 rfl rfl)
theorem dX1_payers_111 : decode cX1_payers 111 = .ok (.iinc 3 1, 3) := dk_132 3 1 (dk_at dksX1_payers_4 16 rfl rfl)
theorem dX1_payers_114 : decode cX1_payers 114 = .ok (.goto (-45), 3) := dk_167 255 211 (dk_at dksX1_payers_4 19 rfl rfl)
theorem dX1_payers_117 : decode cX1_payers 117 = .ok (.iload_n 2, 1) := dk_28 (dk_at dksX1_payers_4 22 rfl rfl)
theorem dX1_payers_118 : decode cX1_payers 118 = .ok (.ireturn, 1) := dk_172 (dk_at dksX1_payers_4 23 rfl rfl)
abbrev cX1_see : ByteArray := prog_1_method_30_code
def yX1_see : MethodName := ⟨RX1, "see", "(IZ)Z"⟩
def dkwX1_see_1 : List UInt8 := [180, 0, 56, 28, 153, 0, 10, 27, 16, 10, 96, 167, 0, 4, 27, 184, 1, 55, 182, 0, 236, 87, 4, 172]
abbrev dktX1_see_1 : List UInt8 := dkwX1_see_1 ++ []
def dkwX1_see_0 : List UInt8 := [42, 27, 182, 0, 186, 153, 0, 15, 42, 180, 0, 56, 182, 0, 131, 16, 10, 160, 0, 5, 3, 172, 42]
abbrev dktX1_see_0 : List UInt8 := dkwX1_see_0 ++ dktX1_see_1
theorem dksX1_see_0 : cX1_see.data.toList.drop 0 = dktX1_see_0 := by decide +kernel
theorem dksX1_see_1 : cX1_see.data.toList.drop 23 = dktX1_see_1 := dk_seg dksX1_see_0 23 rfl rfl
theorem dX1_see_0 : decode cX1_see 0 = .ok (.aload_n 0, 1) := dk_42 (dk_at dksX1_see_0 0 rfl rfl)
theorem dX1_see_1 : decode cX1_see 1 = .ok (.iload_n 1, 1) := dk_27 (dk_at dksX1_see_0 1 rfl rfl)
theorem dX1_see_2 : decode cX1_see 2 = .ok (.invokevirtual 186, 3) := dk_182 0 186 (dk_at dksX1_see_0 2 rfl rfl)
theorem dX1_see_5 : decode cX1_see 5 = .ok (.ifCond .eq 15, 3) := dk_153 0 15 (dk_at dksX1_see_0 5 rfl rfl)
theorem dX1_see_8 : decode cX1_see 8 = .ok (.aload_n 0, 1) := dk_42 (dk_at dksX1_see_0 8 rfl rfl)
theorem dX1_see_9 : decode cX1_see 9 = .ok (.getfield 56, 3) := dk_180 0 56 (dk_at dksX1_see_0 9 rfl rfl)
theorem dX1_see_12 : decode cX1_see 12 = .ok (.invokevirtual 131, 3) := dk_182 0 131 (dk_at dksX1_see_0 12 rfl rfl)
theorem dX1_see_15 : decode cX1_see 15 = .ok (.bipush 10, 2) := dk_16 10 (dk_at dksX1_see_0 15 rfl rfl)
theorem dX1_see_17 : decode cX1_see 17 = .ok (.if_icmp .ne 5, 3) := dk_160 0 5 (dk_at dksX1_see_0 17 rfl rfl)
theorem dX1_see_20 : decode cX1_see 20 = .ok (.iconst 0, 1) := dk_3 (dk_at dksX1_see_0 20 rfl rfl)
theorem dX1_see_21 : decode cX1_see 21 = .ok (.ireturn, 1) := dk_172 (dk_at dksX1_see_0 21 rfl rfl)
theorem dX1_see_22 : decode cX1_see 22 = .ok (.aload_n 0, 1) := dk_42 (dk_at dksX1_see_0 22 rfl rfl)
theorem dX1_see_23 : decode cX1_see 23 = .ok (.getfield 56, 3) := dk_180 0 56 (dk_at dksX1_see_1 0 rfl rfl)
theorem dX1_see_26 : decode cX1_see 26 = .ok (.iload_n 2, 1) := dk_28 (dk_at dksX1_see_1 3 rfl rfl)
theorem dX1_see_27 : decode cX1_see 27 = .ok (.ifCond .eq 10, 3) := dk_153 0 10 (dk_at dksX1_see_1 4 rfl rfl)
theorem dX1_see_30 : decode cX1_see 30 = .ok (.iload_n 1, 1) := dk_27 (dk_at dksX1_see_1 7 rfl rfl)
theorem dX1_see_31 : decode cX1_see 31 = .ok (.bipush 10, 2) := dk_16 10 (dk_at dksX1_see_1 8 rfl rfl)
theorem dX1_see_33 : decode cX1_see 33 = .ok (.iadd, 1) := dk_96 (dk_at dksX1_see_1 10 rfl rfl)
theorem dX1_see_34 : decode cX1_see 34 = .ok (.goto 4, 3) := dk_167 0 4 (dk_at dksX1_see_1 11 rfl rfl)
theorem dX1_see_37 : decode cX1_see 37 = .ok (.iload_n 1, 1) := dk_27 (dk_at dksX1_see_1 14 rfl rfl)
theorem dX1_see_38 : decode cX1_see 38 = .ok (.invokestatic 311, 3) := dk_184 1 55 (dk_at dksX1_see_1 15 rfl rfl)
theorem dX1_see_41 : decode cX1_see 41 = .ok (.invokevirtual 236, 3) := dk_182 0 236 (dk_at dksX1_see_1 18 rfl rfl)
theorem dX1_see_44 : decode cX1_see 44 = .ok (.pop, 1) := dk_87 (dk_at dksX1_see_1 21 rfl rfl)
theorem dX1_see_45 : decode cX1_see 45 = .ok (.iconst 1, 1) := dk_4 (dk_at dksX1_see_1 22 rfl rfl)
theorem dX1_see_46 : decode cX1_see 46 = .ok (.ireturn, 1) := dk_172 (dk_at dksX1_see_1 23 rfl rfl)
abbrev cX1_leaks : ByteArray := prog_1_method_32_code
def yX1_leaks : MethodName := ⟨RX1, "leaks", "(I)I"⟩
def dkwX1_leaks_5 : List UInt8 := [160, 0, 7, 29, 167, 0, 15, 27, 5, 160, 0, 8, 21, 4, 167, 0, 5, 21, 5, 172]
abbrev dktX1_leaks_5 : List UInt8 := dkwX1_leaks_5 ++ []
def dkwX1_leaks_4 : List UInt8 := [132, 6, 1, 167, 255, 192, 27, 154, 0, 7, 28, 167, 0, 32, 28, 154, 0, 7, 2, 167, 0, 24, 27, 4]
abbrev dktX1_leaks_4 : List UInt8 := dkwX1_leaks_4 ++ dktX1_leaks_5
def dkwX1_leaks_3 : List UInt8 := [21, 5, 2, 159, 0, 16, 21, 6, 184, 1, 37, 21, 5, 184, 1, 37, 162, 0, 7, 21, 6, 54, 5]
abbrev dktX1_leaks_3 : List UInt8 := dkwX1_leaks_3 ++ dktX1_leaks_4
def dkwX1_leaks_2 : List UInt8 := [182, 1, 64, 154, 0, 6, 167, 0, 41, 132, 2, 1, 29, 21, 6, 126, 62, 21, 4, 21, 6, 128, 54, 4]
abbrev dktX1_leaks_2 : List UInt8 := dkwX1_leaks_2 ++ dktX1_leaks_3
def dkwX1_leaks_1 : List UInt8 := [54, 4, 2, 54, 5, 3, 54, 6, 21, 6, 4, 42, 182, 0, 138, 120, 162, 0, 59, 42, 21, 6]
abbrev dktX1_leaks_1 : List UInt8 := dkwX1_leaks_1 ++ dktX1_leaks_2
def dkwX1_leaks_0 : List UInt8 := [27, 3, 6, 184, 0, 140, 154, 0, 5, 2, 172, 3, 61, 4, 42, 182, 0, 138, 120, 4, 100, 62, 3]
abbrev dktX1_leaks_0 : List UInt8 := dkwX1_leaks_0 ++ dktX1_leaks_1
theorem dksX1_leaks_0 : cX1_leaks.data.toList.drop 0 = dktX1_leaks_0 := by decide +kernel
theorem dksX1_leaks_1 : cX1_leaks.data.toList.drop 23 = dktX1_leaks_1 := dk_seg dksX1_leaks_0 23 rfl rfl
theorem dksX1_leaks_2 : cX1_leaks.data.toList.drop 45 = dktX1_leaks_2 := dk_seg dksX1_leaks_1 22 rfl rfl
theorem dksX1_leaks_3 : cX1_leaks.data.toList.drop 69 = dktX1_leaks_3 := dk_seg dksX1_leaks_2 24 rfl rfl
theorem dksX1_leaks_4 : cX1_leaks.data.toList.drop 92 = dktX1_leaks_4 := dk_seg dksX1_leaks_3 23 rfl rfl
theorem dksX1_leaks_5 : cX1_leaks.data.toList.drop 116 = dktX1_leaks_5 := dk_seg dksX1_leaks_4 24 rfl rfl
theorem dX1_leaks_0 : decode cX1_leaks 0 = .ok (.iload_n 1, 1) := dk_27 (dk_at dksX1_leaks_0 0 rfl rfl)
theorem dX1_leaks_1 : decode cX1_leaks 1 = .ok (.iconst 0, 1) := dk_3 (dk_at dksX1_leaks_0 1 rfl rfl)
theorem dX1_leaks_2 : decode cX1_leaks 2 = .ok (.iconst 3, 1) := dk_6 (dk_at dksX1_leaks_0 2 rfl rfl)
theorem dX1_leaks_3 : decode cX1_leaks 3 = .ok (.invokestatic 140, 3) := dk_184 0 140 (dk_at dksX1_leaks_0 3 rfl rfl)
theorem dX1_leaks_6 : decode cX1_leaks 6 = .ok (.ifCond .ne 5, 3) := dk_154 0 5 (dk_at dksX1_leaks_0 6 rfl rfl)
theorem dX1_leaks_9 : decode cX1_leaks 9 = .ok (.iconst (-1), 1) := dk_2 (dk_at dksX1_leaks_0 9 rfl rfl)
theorem dX1_leaks_10 : decode cX1_leaks 10 = .ok (.ireturn, 1) := dk_172 (dk_at dksX1_leaks_0 10 rfl rfl)
theorem dX1_leaks_11 : decode cX1_leaks 11 = .ok (.iconst 0, 1) := dk_3 (dk_at dksX1_leaks_0 11 rfl rfl)
theorem dX1_leaks_12 : decode cX1_leaks 12 = .ok (.istore_n 2, 1) := dk_61 (dk_at dksX1_leaks_0 12 rfl rfl)
theorem dX1_leaks_13 : decode cX1_leaks 13 = .ok (.iconst 1, 1) := dk_4 (dk_at dksX1_leaks_0 13 rfl rfl)
theorem dX1_leaks_14 : decode cX1_leaks 14 = .ok (.aload_n 0, 1) := dk_42 (dk_at dksX1_leaks_0 14 rfl rfl)
theorem dX1_leaks_15 : decode cX1_leaks 15 = .ok (.invokevirtual 138, 3) := dk_182 0 138 (dk_at dksX1_leaks_0 15 rfl rfl)
theorem dX1_leaks_18 : decode cX1_leaks 18 = .ok (.ishl, 1) := dk_120 (dk_at dksX1_leaks_0 18 rfl rfl)
theorem dX1_leaks_19 : decode cX1_leaks 19 = .ok (.iconst 1, 1) := dk_4 (dk_at dksX1_leaks_0 19 rfl rfl)
theorem dX1_leaks_20 : decode cX1_leaks 20 = .ok (.isub, 1) := dk_100 (dk_at dksX1_leaks_0 20 rfl rfl)
theorem dX1_leaks_21 : decode cX1_leaks 21 = .ok (.istore_n 3, 1) := dk_62 (dk_at dksX1_leaks_0 21 rfl rfl)
theorem dX1_leaks_22 : decode cX1_leaks 22 = .ok (.iconst 0, 1) := dk_3 (dk_at dksX1_leaks_0 22 rfl rfl)
theorem dX1_leaks_23 : decode cX1_leaks 23 = .ok (.istore 4, 2) := dk_54 4 (dk_at dksX1_leaks_1 0 rfl rfl)
theorem dX1_leaks_25 : decode cX1_leaks 25 = .ok (.iconst (-1), 1) := dk_2 (dk_at dksX1_leaks_1 2 rfl rfl)
theorem dX1_leaks_26 : decode cX1_leaks 26 = .ok (.istore 5, 2) := dk_54 5 (dk_at dksX1_leaks_1 3 rfl rfl)
theorem dX1_leaks_28 : decode cX1_leaks 28 = .ok (.iconst 0, 1) := dk_3 (dk_at dksX1_leaks_1 5 rfl rfl)
theorem dX1_leaks_29 : decode cX1_leaks 29 = .ok (.istore 6, 2) := dk_54 6 (dk_at dksX1_leaks_1 6 rfl rfl)
theorem dX1_leaks_31 : decode cX1_leaks 31 = .ok (.iload 6, 2) := dk_21 6 (dk_at dksX1_leaks_1 8 rfl rfl)
theorem dX1_leaks_33 : decode cX1_leaks 33 = .ok (.iconst 1, 1) := dk_4 (dk_at dksX1_leaks_1 10 rfl rfl)
theorem dX1_leaks_34 : decode cX1_leaks 34 = .ok (.aload_n 0, 1) := dk_42 (dk_at dksX1_leaks_1 11 rfl rfl)
theorem dX1_leaks_35 : decode cX1_leaks 35 = .ok (.invokevirtual 138, 3) := dk_182 0 138 (dk_at dksX1_leaks_1 12 rfl rfl)
theorem dX1_leaks_38 : decode cX1_leaks 38 = .ok (.ishl, 1) := dk_120 (dk_at dksX1_leaks_1 15 rfl rfl)
theorem dX1_leaks_39 : decode cX1_leaks 39 = .ok (.if_icmp .ge 59, 3) := dk_162 0 59 (dk_at dksX1_leaks_1 16 rfl rfl)
theorem dX1_leaks_42 : decode cX1_leaks 42 = .ok (.aload_n 0, 1) := dk_42 (dk_at dksX1_leaks_1 19 rfl rfl)
theorem dX1_leaks_43 : decode cX1_leaks 43 = .ok (.iload 6, 2) := dk_21 6 (dk_at dksX1_leaks_1 20 rfl rfl)
theorem dX1_leaks_45 : decode cX1_leaks 45 = .ok (.invokevirtual 320, 3) := dk_182 1 64 (dk_at dksX1_leaks_2 0 rfl rfl)
theorem dX1_leaks_48 : decode cX1_leaks 48 = .ok (.ifCond .ne 6, 3) := dk_154 0 6 (dk_at dksX1_leaks_2 3 rfl rfl)
theorem dX1_leaks_51 : decode cX1_leaks 51 = .ok (.goto 41, 3) := dk_167 0 41 (dk_at dksX1_leaks_2 6 rfl rfl)
theorem dX1_leaks_54 : decode cX1_leaks 54 = .ok (.iinc 2 1, 3) := dk_132 2 1 (dk_at dksX1_leaks_2 9 rfl rfl)
theorem dX1_leaks_57 : decode cX1_leaks 57 = .ok (.iload_n 3, 1) := dk_29 (dk_at dksX1_leaks_2 12 rfl rfl)
theorem dX1_leaks_58 : decode cX1_leaks 58 = .ok (.iload 6, 2) := dk_21 6 (dk_at dksX1_leaks_2 13 rfl rfl)
theorem dX1_leaks_60 : decode cX1_leaks 60 = .ok (.iand, 1) := dk_126 (dk_at dksX1_leaks_2 15 rfl rfl)
theorem dX1_leaks_61 : decode cX1_leaks 61 = .ok (.istore_n 3, 1) := dk_62 (dk_at dksX1_leaks_2 16 rfl rfl)
theorem dX1_leaks_62 : decode cX1_leaks 62 = .ok (.iload 4, 2) := dk_21 4 (dk_at dksX1_leaks_2 17 rfl rfl)
theorem dX1_leaks_64 : decode cX1_leaks 64 = .ok (.iload 6, 2) := dk_21 6 (dk_at dksX1_leaks_2 19 rfl rfl)
theorem dX1_leaks_66 : decode cX1_leaks 66 = .ok (.ior, 1) := dk_128 (dk_at dksX1_leaks_2 21 rfl rfl)
theorem dX1_leaks_67 : decode cX1_leaks 67 = .ok (.istore 4, 2) := dk_54 4 (dk_at dksX1_leaks_2 22 rfl rfl)
theorem dX1_leaks_69 : decode cX1_leaks 69 = .ok (.iload 5, 2) := dk_21 5 (dk_at dksX1_leaks_3 0 rfl rfl)
theorem dX1_leaks_71 : decode cX1_leaks 71 = .ok (.iconst (-1), 1) := dk_2 (dk_at dksX1_leaks_3 2 rfl rfl)
theorem dX1_leaks_72 : decode cX1_leaks 72 = .ok (.if_icmp .eq 16, 3) := dk_159 0 16 (dk_at dksX1_leaks_3 3 rfl rfl)
theorem dX1_leaks_75 : decode cX1_leaks 75 = .ok (.iload 6, 2) := dk_21 6 (dk_at dksX1_leaks_3 6 rfl rfl)
theorem dX1_leaks_77 : decode cX1_leaks 77 = .ok (.invokestatic 293, 3) := dk_184 1 37 (dk_at dksX1_leaks_3 8 rfl rfl)
theorem dX1_leaks_80 : decode cX1_leaks 80 = .ok (.iload 5, 2) := dk_21 5 (dk_at dksX1_leaks_3 11 rfl rfl)
theorem dX1_leaks_82 : decode cX1_leaks 82 = .ok (.invokestatic 293, 3) := dk_184 1 37 (dk_at dksX1_leaks_3 13 rfl rfl)
theorem dX1_leaks_85 : decode cX1_leaks 85 = .ok (.if_icmp .ge 7, 3) := dk_162 0 7 (dk_at dksX1_leaks_3 16 rfl rfl)
theorem dX1_leaks_88 : decode cX1_leaks 88 = .ok (.iload 6, 2) := dk_21 6 (dk_at dksX1_leaks_3 19 rfl rfl)
theorem dX1_leaks_90 : decode cX1_leaks 90 = .ok (.istore 5, 2) := dk_54 5 (dk_at dksX1_leaks_3 21 rfl rfl)
theorem dX1_leaks_92 : decode cX1_leaks 92 = .ok (.iinc 6 1, 3) := dk_132 6 1 (dk_at dksX1_leaks_4 0 rfl rfl)
theorem dX1_leaks_95 : decode cX1_leaks 95 = .ok (.goto (-64), 3) := dk_167 255 192 (dk_at dksX1_leaks_4 3 rfl rfl)
theorem dX1_leaks_98 : decode cX1_leaks 98 = .ok (.iload_n 1, 1) := dk_27 (dk_at dksX1_leaks_4 6 rfl rfl)
theorem dX1_leaks_99 : decode cX1_leaks 99 = .ok (.ifCond .ne 7, 3) := dk_154 0 7 (dk_at dksX1_leaks_4 7 rfl rfl)
theorem dX1_leaks_102 : decode cX1_leaks 102 = .ok (.iload_n 2, 1) := dk_28 (dk_at dksX1_leaks_4 10 rfl rfl)
theorem dX1_leaks_103 : decode cX1_leaks 103 = .ok (.goto 32, 3) := dk_167 0 32 (dk_at dksX1_leaks_4 11 rfl rfl)
theorem dX1_leaks_106 : decode cX1_leaks 106 = .ok (.iload_n 2, 1) := dk_28 (dk_at dksX1_leaks_4 14 rfl rfl)
theorem dX1_leaks_107 : decode cX1_leaks 107 = .ok (.ifCond .ne 7, 3) := dk_154 0 7 (dk_at dksX1_leaks_4 15 rfl rfl)
theorem dX1_leaks_110 : decode cX1_leaks 110 = .ok (.iconst (-1), 1) := dk_2 (dk_at dksX1_leaks_4 18 rfl rfl)
theorem dX1_leaks_111 : decode cX1_leaks 111 = .ok (.goto 24, 3) := dk_167 0 24 (dk_at dksX1_leaks_4 19 rfl rfl)
theorem dX1_leaks_114 : decode cX1_leaks 114 = .ok (.iload_n 1, 1) := dk_27 (dk_at dksX1_leaks_4 22 rfl rfl)
theorem dX1_leaks_115 : decode cX1_leaks 115 = .ok (.iconst 1, 1) := dk_4 (dk_at dksX1_leaks_4 23 rfl rfl)
theorem dX1_leaks_116 : decode cX1_leaks 116 = .ok (.if_icmp .ne 7, 3) := dk_160 0 7 (dk_at dksX1_leaks_5 0 rfl rfl)
theorem dX1_leaks_119 : decode cX1_leaks 119 = .ok (.iload_n 3, 1) := dk_29 (dk_at dksX1_leaks_5 3 rfl rfl)
theorem dX1_leaks_120 : decode cX1_leaks 120 = .ok (.goto 15, 3) := dk_167 0 15 (dk_at dksX1_leaks_5 4 rfl rfl)
theorem dX1_leaks_123 : decode cX1_leaks 123 = .ok (.iload_n 1, 1) := dk_27 (dk_at dksX1_leaks_5 7 rfl rfl)
theorem dX1_leaks_124 : decode cX1_leaks 124 = .ok (.iconst 2, 1) := dk_5 (dk_at dksX1_leaks_5 8 rfl rfl)
theorem dX1_leaks_125 : decode cX1_leaks 125 = .ok (.if_icmp .ne 8, 3) := dk_160 0 8 (dk_at dksX1_leaks_5 9 rfl rfl)
theorem dX1_leaks_128 : decode cX1_leaks 128 = .ok (.iload 4, 2) := dk_21 4 (dk_at dksX1_leaks_5 12 rfl rfl)
theorem dX1_leaks_130 : decode cX1_leaks 130 = .ok (.goto 5, 3) := dk_167 0 5 (dk_at dksX1_leaks_5 14 rfl rfl)
theorem dX1_leaks_133 : decode cX1_leaks 133 = .ok (.iload 5, 2) := dk_21 5 (dk_at dksX1_leaks_5 17 rfl rfl)
theorem dX1_leaks_135 : decode cX1_leaks 135 = .ok (.ireturn, 1) := dk_172 (dk_at dksX1_leaks_5 19 rfl rfl)
abbrev cX1_isAsSeen : ByteArray := prog_1_method_31_code
def yX1_isAsSeen : MethodName := ⟨RX1, "isAsSeen", "(I)Z"⟩
def dkwX1_isAsSeen_3 : List UInt8 := [159, 0, 5, 3, 172, 132, 2, 1, 167, 255, 178, 4, 172]
abbrev dktX1_isAsSeen_3 : List UInt8 := dkwX1_isAsSeen_3 ++ []
def dkwX1_isAsSeen_2 : List UInt8 := [42, 180, 0, 56, 28, 182, 0, 153, 192, 1, 56, 182, 1, 61, 16, 10, 161, 0, 7, 4, 167, 0, 4, 3]
abbrev dktX1_isAsSeen_2 : List UInt8 := dkwX1_isAsSeen_2 ++ dktX1_isAsSeen_3
def dkwX1_isAsSeen_1 : List UInt8 := [28, 182, 0, 153, 192, 1, 56, 182, 1, 61, 16, 10, 112, 46, 27, 126, 153, 0, 7, 4, 167, 0, 4, 3]
abbrev dktX1_isAsSeen_1 : List UInt8 := dkwX1_isAsSeen_1 ++ dktX1_isAsSeen_2
def dkwX1_isAsSeen_0 : List UInt8 := [3, 61, 28, 42, 180, 0, 56, 182, 0, 131, 162, 0, 73, 42, 180, 0, 40, 180, 0, 204, 42, 180, 0, 56]
abbrev dktX1_isAsSeen_0 : List UInt8 := dkwX1_isAsSeen_0 ++ dktX1_isAsSeen_1
theorem dksX1_isAsSeen_0 : cX1_isAsSeen.data.toList.drop 0 = dktX1_isAsSeen_0 := by decide +kernel
theorem dksX1_isAsSeen_1 : cX1_isAsSeen.data.toList.drop 24 = dktX1_isAsSeen_1 := dk_seg dksX1_isAsSeen_0 24 rfl rfl
theorem dksX1_isAsSeen_2 : cX1_isAsSeen.data.toList.drop 48 = dktX1_isAsSeen_2 := dk_seg dksX1_isAsSeen_1 24 rfl rfl
theorem dksX1_isAsSeen_3 : cX1_isAsSeen.data.toList.drop 72 = dktX1_isAsSeen_3 := dk_seg dksX1_isAsSeen_2 24 rfl rfl
theorem dX1_isAsSeen_0 : decode cX1_isAsSeen 0 = .ok (.iconst 0, 1) := dk_3 (dk_at dksX1_isAsSeen_0 0 rfl rfl)
theorem dX1_isAsSeen_1 : decode cX1_isAsSeen 1 = .ok (.istore_n 2, 1) := dk_61 (dk_at dksX1_isAsSeen_0 1 rfl rfl)
theorem dX1_isAsSeen_2 : decode cX1_isAsSeen 2 = .ok (.iload_n 2, 1) := dk_28 (dk_at dksX1_isAsSeen_0 2 rfl rfl)
theorem dX1_isAsSeen_3 : decode cX1_isAsSeen 3 = .ok (.aload_n 0, 1) := dk_42 (dk_at dksX1_isAsSeen_0 3 rfl rfl)
theorem dX1_isAsSeen_4 : decode cX1_isAsSeen 4 = .ok (.getfield 56, 3) := dk_180 0 56 (dk_at dksX1_isAsSeen_0 4 rfl rfl)
theorem dX1_isAsSeen_7 : decode cX1_isAsSeen 7 = .ok (.invokevirtual 131, 3) := dk_182 0 131 (dk_at dksX1_isAsSeen_0 7 rfl rfl)
theorem dX1_isAsSeen_10 : decode cX1_isAsSeen 10 = .ok (.if_icmp .ge 73, 3) := dk_162 0 73 (dk_at dksX1_isAsSeen_0 10 rfl rfl)
theorem dX1_isAsSeen_13 : decode cX1_isAsSeen 13 = .ok (.aload_n 0, 1) := dk_42 (dk_at dksX1_isAsSeen_0 13 rfl rfl)
theorem dX1_isAsSeen_14 : decode cX1_isAsSeen 14 = .ok (.getfield 40, 3) := dk_180 0 40 (dk_at dksX1_isAsSeen_0 14 rfl rfl)
theorem dX1_isAsSeen_17 : decode cX1_isAsSeen 17 = .ok (.getfield 204, 3) := dk_180 0 204 (dk_at dksX1_isAsSeen_0 17 rfl rfl)
theorem dX1_isAsSeen_20 : decode cX1_isAsSeen 20 = .ok (.aload_n 0, 1) := dk_42 (dk_at dksX1_isAsSeen_0 20 rfl rfl)
theorem dX1_isAsSeen_21 : decode cX1_isAsSeen 21 = .ok (.getfield 56, 3) := dk_180 0 56 (dk_at dksX1_isAsSeen_0 21 rfl rfl)
theorem dX1_isAsSeen_24 : decode cX1_isAsSeen 24 = .ok (.iload_n 2, 1) := dk_28 (dk_at dksX1_isAsSeen_1 0 rfl rfl)
theorem dX1_isAsSeen_25 : decode cX1_isAsSeen 25 = .ok (.invokevirtual 153, 3) := dk_182 0 153 (dk_at dksX1_isAsSeen_1 1 rfl rfl)
theorem dX1_isAsSeen_28 : decode cX1_isAsSeen 28 = .ok (.checkcast 312, 3) := dk_192 1 56 (dk_at dksX1_isAsSeen_1 4 rfl rfl)
theorem dX1_isAsSeen_31 : decode cX1_isAsSeen 31 = .ok (.invokevirtual 317, 3) := dk_182 1 61 (dk_at dksX1_isAsSeen_1 7 rfl rfl)
theorem dX1_isAsSeen_34 : decode cX1_isAsSeen 34 = .ok (.bipush 10, 2) := dk_16 10 (dk_at dksX1_isAsSeen_1 10 rfl rfl)
theorem dX1_isAsSeen_36 : decode cX1_isAsSeen 36 = .ok (.irem, 1) := dk_112 (dk_at dksX1_isAsSeen_1 12 rfl rfl)
theorem dX1_isAsSeen_37 : decode cX1_isAsSeen 37 = .ok (.iaload, 1) := dk_46 (dk_at dksX1_isAsSeen_1 13 rfl rfl)
theorem dX1_isAsSeen_38 : decode cX1_isAsSeen 38 = .ok (.iload_n 1, 1) := dk_27 (dk_at dksX1_isAsSeen_1 14 rfl rfl)
theorem dX1_isAsSeen_39 : decode cX1_isAsSeen 39 = .ok (.iand, 1) := dk_126 (dk_at dksX1_isAsSeen_1 15 rfl rfl)
theorem dX1_isAsSeen_40 : decode cX1_isAsSeen 40 = .ok (.ifCond .eq 7, 3) := dk_153 0 7 (dk_at dksX1_isAsSeen_1 16 rfl rfl)
theorem dX1_isAsSeen_43 : decode cX1_isAsSeen 43 = .ok (.iconst 1, 1) := dk_4 (dk_at dksX1_isAsSeen_1 19 rfl rfl)
theorem dX1_isAsSeen_44 : decode cX1_isAsSeen 44 = .ok (.goto 4, 3) := dk_167 0 4 (dk_at dksX1_isAsSeen_1 20 rfl rfl)
theorem dX1_isAsSeen_47 : decode cX1_isAsSeen 47 = .ok (.iconst 0, 1) := dk_3 (dk_at dksX1_isAsSeen_1 23 rfl rfl)
theorem dX1_isAsSeen_48 : decode cX1_isAsSeen 48 = .ok (.aload_n 0, 1) := dk_42 (dk_at dksX1_isAsSeen_2 0 rfl rfl)
theorem dX1_isAsSeen_49 : decode cX1_isAsSeen 49 = .ok (.getfield 56, 3) := dk_180 0 56 (dk_at dksX1_isAsSeen_2 1 rfl rfl)
theorem dX1_isAsSeen_52 : decode cX1_isAsSeen 52 = .ok (.iload_n 2, 1) := dk_28 (dk_at dksX1_isAsSeen_2 4 rfl rfl)
theorem dX1_isAsSeen_53 : decode cX1_isAsSeen 53 = .ok (.invokevirtual 153, 3) := dk_182 0 153 (dk_at dksX1_isAsSeen_2 5 rfl rfl)
theorem dX1_isAsSeen_56 : decode cX1_isAsSeen 56 = .ok (.checkcast 312, 3) := dk_192 1 56 (dk_at dksX1_isAsSeen_2 8 rfl rfl)
theorem dX1_isAsSeen_59 : decode cX1_isAsSeen 59 = .ok (.invokevirtual 317, 3) := dk_182 1 61 (dk_at dksX1_isAsSeen_2 11 rfl rfl)
theorem dX1_isAsSeen_62 : decode cX1_isAsSeen 62 = .ok (.bipush 10, 2) := dk_16 10 (dk_at dksX1_isAsSeen_2 14 rfl rfl)
theorem dX1_isAsSeen_64 : decode cX1_isAsSeen 64 = .ok (.if_icmp .lt 7, 3) := dk_161 0 7 (dk_at dksX1_isAsSeen_2 16 rfl rfl)
theorem dX1_isAsSeen_67 : decode cX1_isAsSeen 67 = .ok (.iconst 1, 1) := dk_4 (dk_at dksX1_isAsSeen_2 19 rfl rfl)
theorem dX1_isAsSeen_68 : decode cX1_isAsSeen 68 = .ok (.goto 4, 3) := dk_167 0 4 (dk_at dksX1_isAsSeen_2 20 rfl rfl)
theorem dX1_isAsSeen_71 : decode cX1_isAsSeen 71 = .ok (.iconst 0, 1) := dk_3 (dk_at dksX1_isAsSeen_2 23 rfl rfl)
theorem dX1_isAsSeen_72 : decode cX1_isAsSeen 72 = .ok (.if_icmp .eq 5, 3) := dk_159 0 5 (dk_at dksX1_isAsSeen_3 0 rfl rfl)
theorem dX1_isAsSeen_75 : decode cX1_isAsSeen 75 = .ok (.iconst 0, 1) := dk_3 (dk_at dksX1_isAsSeen_3 3 rfl rfl)
theorem dX1_isAsSeen_76 : decode cX1_isAsSeen 76 = .ok (.ireturn, 1) := dk_172 (dk_at dksX1_isAsSeen_3 4 rfl rfl)
theorem dX1_isAsSeen_77 : decode cX1_isAsSeen 77 = .ok (.iinc 2 1, 3) := dk_132 2 1 (dk_at dksX1_isAsSeen_3 5 rfl rfl)
theorem dX1_isAsSeen_80 : decode cX1_isAsSeen 80 = .ok (.goto (-78), 3) := dk_167 255 178 (dk_at dksX1_isAsSeen_3 8 rfl rfl)
theorem dX1_isAsSeen_83 : decode cX1_isAsSeen 83 = .ok (.iconst 1, 1) := dk_4 (dk_at dksX1_isAsSeen_3 11 rfl rfl)
theorem dX1_isAsSeen_84 : decode cX1_isAsSeen 84 = .ok (.ireturn, 1) := dk_172 (dk_at dksX1_isAsSeen_3 12 rfl rfl)
abbrev cX1_lies : ByteArray := prog_1_method_34_code
def yX1_lies : MethodName := ⟨RX1, "lies", "(I)I"⟩
def dkwX1_lies_5 : List UInt8 := [167, 0, 23, 27, 4, 160, 0, 7, 28, 167, 0, 14, 27, 5, 160, 0, 7, 29, 167, 0, 5, 21, 4, 172]
abbrev dktX1_lies_5 : List UInt8 := dkwX1_lies_5 ++ []
def dkwX1_lies_4 : List UInt8 := [132, 3, 1, 21, 4, 21, 5, 126, 54, 4, 132, 5, 1, 167, 255, 170, 27, 154, 0, 10, 28, 184, 1, 37]
abbrev dktX1_lies_4 : List UInt8 := dkwX1_lies_4 ++ dktX1_lies_5
def dkwX1_lies_3 : List UInt8 := [21, 5, 184, 1, 37, 28, 184, 1, 37, 162, 0, 14, 21, 5, 61, 3, 62, 42, 182, 0, 250, 54, 4]
abbrev dktX1_lies_3 : List UInt8 := dkwX1_lies_3 ++ dktX1_lies_4
def dkwX1_lies_2 : List UInt8 := [42, 182, 0, 250, 21, 5, 2, 130, 126, 182, 1, 67, 154, 0, 6, 167, 0, 41, 28, 2, 159, 0, 15]
abbrev dktX1_lies_2 : List UInt8 := dkwX1_lies_2 ++ dktX1_lies_3
def dkwX1_lies_1 : List UInt8 := [182, 0, 250, 163, 0, 83, 28, 2, 159, 0, 15, 21, 5, 184, 1, 37, 28, 184, 1, 37, 163, 0, 60, 42]
abbrev dktX1_lies_1 : List UInt8 := dkwX1_lies_1 ++ dktX1_lies_2
def dkwX1_lies_0 : List UInt8 := [27, 3, 6, 184, 0, 140, 154, 0, 5, 2, 172, 2, 61, 3, 62, 3, 54, 4, 3, 54, 5, 21, 5, 42]
abbrev dktX1_lies_0 : List UInt8 := dkwX1_lies_0 ++ dktX1_lies_1
theorem dksX1_lies_0 : cX1_lies.data.toList.drop 0 = dktX1_lies_0 := by decide +kernel
theorem dksX1_lies_1 : cX1_lies.data.toList.drop 24 = dktX1_lies_1 := dk_seg dksX1_lies_0 24 rfl rfl
theorem dksX1_lies_2 : cX1_lies.data.toList.drop 48 = dktX1_lies_2 := dk_seg dksX1_lies_1 24 rfl rfl
theorem dksX1_lies_3 : cX1_lies.data.toList.drop 71 = dktX1_lies_3 := dk_seg dksX1_lies_2 23 rfl rfl
theorem dksX1_lies_4 : cX1_lies.data.toList.drop 94 = dktX1_lies_4 := dk_seg dksX1_lies_3 23 rfl rfl
theorem dksX1_lies_5 : cX1_lies.data.toList.drop 118 = dktX1_lies_5 := dk_seg dksX1_lies_4 24 rfl rfl
theorem dX1_lies_0 : decode cX1_lies 0 = .ok (.iload_n 1, 1) := dk_27 (dk_at dksX1_lies_0 0 rfl rfl)
theorem dX1_lies_1 : decode cX1_lies 1 = .ok (.iconst 0, 1) := dk_3 (dk_at dksX1_lies_0 1 rfl rfl)
theorem dX1_lies_2 : decode cX1_lies 2 = .ok (.iconst 3, 1) := dk_6 (dk_at dksX1_lies_0 2 rfl rfl)
theorem dX1_lies_3 : decode cX1_lies 3 = .ok (.invokestatic 140, 3) := dk_184 0 140 (dk_at dksX1_lies_0 3 rfl rfl)
theorem dX1_lies_6 : decode cX1_lies 6 = .ok (.ifCond .ne 5, 3) := dk_154 0 5 (dk_at dksX1_lies_0 6 rfl rfl)
theorem dX1_lies_9 : decode cX1_lies 9 = .ok (.iconst (-1), 1) := dk_2 (dk_at dksX1_lies_0 9 rfl rfl)
theorem dX1_lies_10 : decode cX1_lies 10 = .ok (.ireturn, 1) := dk_172 (dk_at dksX1_lies_0 10 rfl rfl)
theorem dX1_lies_11 : decode cX1_lies 11 = .ok (.iconst (-1), 1) := dk_2 (dk_at dksX1_lies_0 11 rfl rfl)
theorem dX1_lies_12 : decode cX1_lies 12 = .ok (.istore_n 2, 1) := dk_61 (dk_at dksX1_lies_0 12 rfl rfl)
theorem dX1_lies_13 : decode cX1_lies 13 = .ok (.iconst 0, 1) := dk_3 (dk_at dksX1_lies_0 13 rfl rfl)
theorem dX1_lies_14 : decode cX1_lies 14 = .ok (.istore_n 3, 1) := dk_62 (dk_at dksX1_lies_0 14 rfl rfl)
theorem dX1_lies_15 : decode cX1_lies 15 = .ok (.iconst 0, 1) := dk_3 (dk_at dksX1_lies_0 15 rfl rfl)
theorem dX1_lies_16 : decode cX1_lies 16 = .ok (.istore 4, 2) := dk_54 4 (dk_at dksX1_lies_0 16 rfl rfl)
theorem dX1_lies_18 : decode cX1_lies 18 = .ok (.iconst 0, 1) := dk_3 (dk_at dksX1_lies_0 18 rfl rfl)
theorem dX1_lies_19 : decode cX1_lies 19 = .ok (.istore 5, 2) := dk_54 5 (dk_at dksX1_lies_0 19 rfl rfl)
theorem dX1_lies_21 : decode cX1_lies 21 = .ok (.iload 5, 2) := dk_21 5 (dk_at dksX1_lies_0 21 rfl rfl)
theorem dX1_lies_23 : decode cX1_lies 23 = .ok (.aload_n 0, 1) := dk_42 (dk_at dksX1_lies_0 23 rfl rfl)
theorem dX1_lies_24 : decode cX1_lies 24 = .ok (.invokevirtual 250, 3) := dk_182 0 250 (dk_at dksX1_lies_1 0 rfl rfl)
theorem dX1_lies_27 : decode cX1_lies 27 = .ok (.if_icmp .gt 83, 3) := dk_163 0 83 (dk_at dksX1_lies_1 3 rfl rfl)
theorem dX1_lies_30 : decode cX1_lies 30 = .ok (.iload_n 2, 1) := dk_28 (dk_at dksX1_lies_1 6 rfl rfl)
theorem dX1_lies_31 : decode cX1_lies 31 = .ok (.iconst (-1), 1) := dk_2 (dk_at dksX1_lies_1 7 rfl rfl)
theorem dX1_lies_32 : decode cX1_lies 32 = .ok (.if_icmp .eq 15, 3) := dk_159 0 15 (dk_at dksX1_lies_1 8 rfl rfl)
theorem dX1_lies_35 : decode cX1_lies 35 = .ok (.iload 5, 2) := dk_21 5 (dk_at dksX1_lies_1 11 rfl rfl)
theorem dX1_lies_37 : decode cX1_lies 37 = .ok (.invokestatic 293, 3) := dk_184 1 37 (dk_at dksX1_lies_1 13 rfl rfl)
theorem dX1_lies_40 : decode cX1_lies 40 = .ok (.iload_n 2, 1) := dk_28 (dk_at dksX1_lies_1 16 rfl rfl)
theorem dX1_lies_41 : decode cX1_lies 41 = .ok (.invokestatic 293, 3) := dk_184 1 37 (dk_at dksX1_lies_1 17 rfl rfl)
theorem dX1_lies_44 : decode cX1_lies 44 = .ok (.if_icmp .gt 60, 3) := dk_163 0 60 (dk_at dksX1_lies_1 20 rfl rfl)
theorem dX1_lies_47 : decode cX1_lies 47 = .ok (.aload_n 0, 1) := dk_42 (dk_at dksX1_lies_1 23 rfl rfl)
theorem dX1_lies_48 : decode cX1_lies 48 = .ok (.aload_n 0, 1) := dk_42 (dk_at dksX1_lies_2 0 rfl rfl)
theorem dX1_lies_49 : decode cX1_lies 49 = .ok (.invokevirtual 250, 3) := dk_182 0 250 (dk_at dksX1_lies_2 1 rfl rfl)
theorem dX1_lies_52 : decode cX1_lies 52 = .ok (.iload 5, 2) := dk_21 5 (dk_at dksX1_lies_2 4 rfl rfl)
theorem dX1_lies_54 : decode cX1_lies 54 = .ok (.iconst (-1), 1) := dk_2 (dk_at dksX1_lies_2 6 rfl rfl)
theorem dX1_lies_55 : decode cX1_lies 55 = .ok (.ixor, 1) := dk_130 (dk_at dksX1_lies_2 7 rfl rfl)
theorem dX1_lies_56 : decode cX1_lies 56 = .ok (.iand, 1) := dk_126 (dk_at dksX1_lies_2 8 rfl rfl)
theorem dX1_lies_57 : decode cX1_lies 57 = .ok (.invokevirtual 323, 3) := dk_182 1 67 (dk_at dksX1_lies_2 9 rfl rfl)
theorem dX1_lies_60 : decode cX1_lies 60 = .ok (.ifCond .ne 6, 3) := dk_154 0 6 (dk_at dksX1_lies_2 12 rfl rfl)
theorem dX1_lies_63 : decode cX1_lies 63 = .ok (.goto 41, 3) := dk_167 0 41 (dk_at dksX1_lies_2 15 rfl rfl)
theorem dX1_lies_66 : decode cX1_lies 66 = .ok (.iload_n 2, 1) := dk_28 (dk_at dksX1_lies_2 18 rfl rfl)
theorem dX1_lies_67 : decode cX1_lies 67 = .ok (.iconst (-1), 1) := dk_2 (dk_at dksX1_lies_2 19 rfl rfl)
theorem dX1_lies_68 : decode cX1_lies 68 = .ok (.if_icmp .eq 15, 3) := dk_159 0 15 (dk_at dksX1_lies_2 20 rfl rfl)
theorem dX1_lies_71 : decode cX1_lies 71 = .ok (.iload 5, 2) := dk_21 5 (dk_at dksX1_lies_3 0 rfl rfl)
theorem dX1_lies_73 : decode cX1_lies 73 = .ok (.invokestatic 293, 3) := dk_184 1 37 (dk_at dksX1_lies_3 2 rfl rfl)
theorem dX1_lies_76 : decode cX1_lies 76 = .ok (.iload_n 2, 1) := dk_28 (dk_at dksX1_lies_3 5 rfl rfl)
theorem dX1_lies_77 : decode cX1_lies 77 = .ok (.invokestatic 293, 3) := dk_184 1 37 (dk_at dksX1_lies_3 6 rfl rfl)
theorem dX1_lies_80 : decode cX1_lies 80 = .ok (.if_icmp .ge 14, 3) := dk_162 0 14 (dk_at dksX1_lies_3 9 rfl rfl)
theorem dX1_lies_83 : decode cX1_lies 83 = .ok (.iload 5, 2) := dk_21 5 (dk_at dksX1_lies_3 12 rfl rfl)
theorem dX1_lies_85 : decode cX1_lies 85 = .ok (.istore_n 2, 1) := dk_61 (dk_at dksX1_lies_3 14 rfl rfl)
theorem dX1_lies_86 : decode cX1_lies 86 = .ok (.iconst 0, 1) := dk_3 (dk_at dksX1_lies_3 15 rfl rfl)
theorem dX1_lies_87 : decode cX1_lies 87 = .ok (.istore_n 3, 1) := dk_62 (dk_at dksX1_lies_3 16 rfl rfl)
theorem dX1_lies_88 : decode cX1_lies 88 = .ok (.aload_n 0, 1) := dk_42 (dk_at dksX1_lies_3 17 rfl rfl)
theorem dX1_lies_89 : decode cX1_lies 89 = .ok (.invokevirtual 250, 3) := dk_182 0 250 (dk_at dksX1_lies_3 18 rfl rfl)
theorem dX1_lies_92 : decode cX1_lies 92 = .ok (.istore 4, 2) := dk_54 4 (dk_at dksX1_lies_3 21 rfl rfl)
theorem dX1_lies_94 : decode cX1_lies 94 = .ok (.iinc 3 1, 3) := dk_132 3 1 (dk_at dksX1_lies_4 0 rfl rfl)
theorem dX1_lies_97 : decode cX1_lies 97 = .ok (.iload 4, 2) := dk_21 4 (dk_at dksX1_lies_4 3 rfl rfl)
theorem dX1_lies_99 : decode cX1_lies 99 = .ok (.iload 5, 2) := dk_21 5 (dk_at dksX1_lies_4 5 rfl rfl)
theorem dX1_lies_101 : decode cX1_lies 101 = .ok (.iand, 1) := dk_126 (dk_at dksX1_lies_4 7 rfl rfl)
theorem dX1_lies_102 : decode cX1_lies 102 = .ok (.istore 4, 2) := dk_54 4 (dk_at dksX1_lies_4 8 rfl rfl)
theorem dX1_lies_104 : decode cX1_lies 104 = .ok (.iinc 5 1, 3) := dk_132 5 1 (dk_at dksX1_lies_4 10 rfl rfl)
theorem dX1_lies_107 : decode cX1_lies 107 = .ok (.goto (-86), 3) := dk_167 255 170 (dk_at dksX1_lies_4 13 rfl rfl)
theorem dX1_lies_110 : decode cX1_lies 110 = .ok (.iload_n 1, 1) := dk_27 (dk_at dksX1_lies_4 16 rfl rfl)
theorem dX1_lies_111 : decode cX1_lies 111 = .ok (.ifCond .ne 10, 3) := dk_154 0 10 (dk_at dksX1_lies_4 17 rfl rfl)
theorem dX1_lies_114 : decode cX1_lies 114 = .ok (.iload_n 2, 1) := dk_28 (dk_at dksX1_lies_4 20 rfl rfl)
theorem dX1_lies_115 : decode cX1_lies 115 = .ok (.invokestatic 293, 3) := dk_184 1 37 (dk_at dksX1_lies_4 21 rfl rfl)
theorem dX1_lies_118 : decode cX1_lies 118 = .ok (.goto 23, 3) := dk_167 0 23 (dk_at dksX1_lies_5 0 rfl rfl)
theorem dX1_lies_121 : decode cX1_lies 121 = .ok (.iload_n 1, 1) := dk_27 (dk_at dksX1_lies_5 3 rfl rfl)
theorem dX1_lies_122 : decode cX1_lies 122 = .ok (.iconst 1, 1) := dk_4 (dk_at dksX1_lies_5 4 rfl rfl)
theorem dX1_lies_123 : decode cX1_lies 123 = .ok (.if_icmp .ne 7, 3) := dk_160 0 7 (dk_at dksX1_lies_5 5 rfl rfl)
theorem dX1_lies_126 : decode cX1_lies 126 = .ok (.iload_n 2, 1) := dk_28 (dk_at dksX1_lies_5 8 rfl rfl)
theorem dX1_lies_127 : decode cX1_lies 127 = .ok (.goto 14, 3) := dk_167 0 14 (dk_at dksX1_lies_5 9 rfl rfl)
theorem dX1_lies_130 : decode cX1_lies 130 = .ok (.iload_n 1, 1) := dk_27 (dk_at dksX1_lies_5 12 rfl rfl)
theorem dX1_lies_131 : decode cX1_lies 131 = .ok (.iconst 2, 1) := dk_5 (dk_at dksX1_lies_5 13 rfl rfl)
theorem dX1_lies_132 : decode cX1_lies 132 = .ok (.if_icmp .ne 7, 3) := dk_160 0 7 (dk_at dksX1_lies_5 14 rfl rfl)
theorem dX1_lies_135 : decode cX1_lies 135 = .ok (.iload_n 3, 1) := dk_29 (dk_at dksX1_lies_5 17 rfl rfl)
theorem dX1_lies_136 : decode cX1_lies 136 = .ok (.goto 5, 3) := dk_167 0 5 (dk_at dksX1_lies_5 18 rfl rfl)
theorem dX1_lies_139 : decode cX1_lies 139 = .ok (.iload 4, 2) := dk_21 4 (dk_at dksX1_lies_5 21 rfl rfl)
theorem dX1_lies_141 : decode cX1_lies 141 = .ok (.ireturn, 1) := dk_172 (dk_at dksX1_lies_5 23 rfl rfl)
abbrev cX1_areTrue : ByteArray := prog_1_method_33_code
def yX1_areTrue : MethodName := ⟨RX1, "areTrue", "(I)Z"⟩
def dkwX1_areTrue_2 : List UInt8 := [167, 255, 213, 4, 172]
abbrev dktX1_areTrue_2 : List UInt8 := dkwX1_areTrue_2 ++ []
def dkwX1_areTrue_1 : List UInt8 := [180, 0, 135, 28, 182, 0, 153, 192, 0, 189, 180, 0, 219, 27, 126, 153, 0, 5, 3, 172, 132, 2, 1]
abbrev dktX1_areTrue_1 : List UInt8 := dkwX1_areTrue_1 ++ dktX1_areTrue_2
def dkwX1_areTrue_0 : List UInt8 := [3, 61, 28, 42, 182, 0, 144, 162, 0, 41, 27, 28, 184, 0, 176, 153, 0, 27, 42, 182, 0, 119]
abbrev dktX1_areTrue_0 : List UInt8 := dkwX1_areTrue_0 ++ dktX1_areTrue_1
theorem dksX1_areTrue_0 : cX1_areTrue.data.toList.drop 0 = dktX1_areTrue_0 := by decide +kernel
theorem dksX1_areTrue_1 : cX1_areTrue.data.toList.drop 22 = dktX1_areTrue_1 := dk_seg dksX1_areTrue_0 22 rfl rfl
theorem dksX1_areTrue_2 : cX1_areTrue.data.toList.drop 45 = dktX1_areTrue_2 := dk_seg dksX1_areTrue_1 23 rfl rfl
theorem dX1_areTrue_0 : decode cX1_areTrue 0 = .ok (.iconst 0, 1) := dk_3 (dk_at dksX1_areTrue_0 0 rfl rfl)
theorem dX1_areTrue_1 : decode cX1_areTrue 1 = .ok (.istore_n 2, 1) := dk_61 (dk_at dksX1_areTrue_0 1 rfl rfl)
theorem dX1_areTrue_2 : decode cX1_areTrue 2 = .ok (.iload_n 2, 1) := dk_28 (dk_at dksX1_areTrue_0 2 rfl rfl)
theorem dX1_areTrue_3 : decode cX1_areTrue 3 = .ok (.aload_n 0, 1) := dk_42 (dk_at dksX1_areTrue_0 3 rfl rfl)
theorem dX1_areTrue_4 : decode cX1_areTrue 4 = .ok (.invokevirtual 144, 3) := dk_182 0 144 (dk_at dksX1_areTrue_0 4 rfl rfl)
theorem dX1_areTrue_7 : decode cX1_areTrue 7 = .ok (.if_icmp .ge 41, 3) := dk_162 0 41 (dk_at dksX1_areTrue_0 7 rfl rfl)
theorem dX1_areTrue_10 : decode cX1_areTrue 10 = .ok (.iload_n 1, 1) := dk_27 (dk_at dksX1_areTrue_0 10 rfl rfl)
theorem dX1_areTrue_11 : decode cX1_areTrue 11 = .ok (.iload_n 2, 1) := dk_28 (dk_at dksX1_areTrue_0 11 rfl rfl)
theorem dX1_areTrue_12 : decode cX1_areTrue 12 = .ok (.invokestatic 176, 3) := dk_184 0 176 (dk_at dksX1_areTrue_0 12 rfl rfl)
theorem dX1_areTrue_15 : decode cX1_areTrue 15 = .ok (.ifCond .eq 27, 3) := dk_153 0 27 (dk_at dksX1_areTrue_0 15 rfl rfl)
theorem dX1_areTrue_18 : decode cX1_areTrue 18 = .ok (.aload_n 0, 1) := dk_42 (dk_at dksX1_areTrue_0 18 rfl rfl)
theorem dX1_areTrue_19 : decode cX1_areTrue 19 = .ok (.invokevirtual 119, 3) := dk_182 0 119 (dk_at dksX1_areTrue_0 19 rfl rfl)
theorem dX1_areTrue_22 : decode cX1_areTrue 22 = .ok (.getfield 135, 3) := dk_180 0 135 (dk_at dksX1_areTrue_1 0 rfl rfl)
theorem dX1_areTrue_25 : decode cX1_areTrue 25 = .ok (.iload_n 2, 1) := dk_28 (dk_at dksX1_areTrue_1 3 rfl rfl)
theorem dX1_areTrue_26 : decode cX1_areTrue 26 = .ok (.invokevirtual 153, 3) := dk_182 0 153 (dk_at dksX1_areTrue_1 4 rfl rfl)
theorem dX1_areTrue_29 : decode cX1_areTrue 29 = .ok (.checkcast 189, 3) := dk_192 0 189 (dk_at dksX1_areTrue_1 7 rfl rfl)
theorem dX1_areTrue_32 : decode cX1_areTrue 32 = .ok (.getfield 219, 3) := dk_180 0 219 (dk_at dksX1_areTrue_1 10 rfl rfl)
theorem dX1_areTrue_35 : decode cX1_areTrue 35 = .ok (.iload_n 1, 1) := dk_27 (dk_at dksX1_areTrue_1 13 rfl rfl)
theorem dX1_areTrue_36 : decode cX1_areTrue 36 = .ok (.iand, 1) := dk_126 (dk_at dksX1_areTrue_1 14 rfl rfl)
theorem dX1_areTrue_37 : decode cX1_areTrue 37 = .ok (.ifCond .eq 5, 3) := dk_153 0 5 (dk_at dksX1_areTrue_1 15 rfl rfl)
theorem dX1_areTrue_40 : decode cX1_areTrue 40 = .ok (.iconst 0, 1) := dk_3 (dk_at dksX1_areTrue_1 18 rfl rfl)
theorem dX1_areTrue_41 : decode cX1_areTrue 41 = .ok (.ireturn, 1) := dk_172 (dk_at dksX1_areTrue_1 19 rfl rfl)
theorem dX1_areTrue_42 : decode cX1_areTrue 42 = .ok (.iinc 2 1, 3) := dk_132 2 1 (dk_at dksX1_areTrue_1 20 rfl rfl)
theorem dX1_areTrue_45 : decode cX1_areTrue 45 = .ok (.goto (-43), 3) := dk_167 255 213 (dk_at dksX1_areTrue_2 0 rfl rfl)
theorem dX1_areTrue_48 : decode cX1_areTrue 48 = .ok (.iconst 1, 1) := dk_4 (dk_at dksX1_areTrue_2 3 rfl rfl)
theorem dX1_areTrue_49 : decode cX1_areTrue 49 = .ok (.ireturn, 1) := dk_172 (dk_at dksX1_areTrue_2 4 rfl rfl)
abbrev cX1_mean : ByteArray := prog_1_method_35_code
def yX1_mean : MethodName := ⟨RX1, "mean", "(II)I"⟩
def dkwX1_mean_3 : List UInt8 := [180, 1, 73, 21, 5, 46, 133, 105, 97, 66, 132, 5, 1, 167, 255, 207, 33, 20, 1, 78, 109, 136, 172]
abbrev dktX1_mean_3 : List UInt8 := dkwX1_mean_3 ++ []
def dkwX1_mean_2 : List UInt8 := [21, 5, 46, 158, 0, 29, 33, 42, 180, 0, 40, 27, 21, 5, 182, 1, 75, 133, 42, 180, 0, 82]
abbrev dktX1_mean_2 : List UInt8 := dkwX1_mean_2 ++ dktX1_mean_3
def dkwX1_mean_1 : List UInt8 := [27, 28, 182, 1, 70, 9, 66, 3, 54, 5, 21, 5, 16, 64, 162, 0, 48, 42, 180, 0, 82, 180, 1, 73]
abbrev dktX1_mean_1 : List UInt8 := dkwX1_mean_1 ++ dktX1_mean_2
def dkwX1_mean_0 : List UInt8 := [42, 27, 182, 0, 186, 153, 0, 13, 28, 3, 16, 30, 184, 0, 140, 154, 0, 5, 2, 172, 42, 180, 0, 82]
abbrev dktX1_mean_0 : List UInt8 := dkwX1_mean_0 ++ dktX1_mean_1
theorem dksX1_mean_0 : cX1_mean.data.toList.drop 0 = dktX1_mean_0 := by decide +kernel
theorem dksX1_mean_1 : cX1_mean.data.toList.drop 24 = dktX1_mean_1 := dk_seg dksX1_mean_0 24 rfl rfl
theorem dksX1_mean_2 : cX1_mean.data.toList.drop 48 = dktX1_mean_2 := dk_seg dksX1_mean_1 24 rfl rfl
theorem dksX1_mean_3 : cX1_mean.data.toList.drop 70 = dktX1_mean_3 := dk_seg dksX1_mean_2 22 rfl rfl
theorem dX1_mean_0 : decode cX1_mean 0 = .ok (.aload_n 0, 1) := dk_42 (dk_at dksX1_mean_0 0 rfl rfl)
theorem dX1_mean_1 : decode cX1_mean 1 = .ok (.iload_n 1, 1) := dk_27 (dk_at dksX1_mean_0 1 rfl rfl)
theorem dX1_mean_2 : decode cX1_mean 2 = .ok (.invokevirtual 186, 3) := dk_182 0 186 (dk_at dksX1_mean_0 2 rfl rfl)
theorem dX1_mean_5 : decode cX1_mean 5 = .ok (.ifCond .eq 13, 3) := dk_153 0 13 (dk_at dksX1_mean_0 5 rfl rfl)
theorem dX1_mean_8 : decode cX1_mean 8 = .ok (.iload_n 2, 1) := dk_28 (dk_at dksX1_mean_0 8 rfl rfl)
theorem dX1_mean_9 : decode cX1_mean 9 = .ok (.iconst 0, 1) := dk_3 (dk_at dksX1_mean_0 9 rfl rfl)
theorem dX1_mean_10 : decode cX1_mean 10 = .ok (.bipush 30, 2) := dk_16 30 (dk_at dksX1_mean_0 10 rfl rfl)
theorem dX1_mean_12 : decode cX1_mean 12 = .ok (.invokestatic 140, 3) := dk_184 0 140 (dk_at dksX1_mean_0 12 rfl rfl)
theorem dX1_mean_15 : decode cX1_mean 15 = .ok (.ifCond .ne 5, 3) := dk_154 0 5 (dk_at dksX1_mean_0 15 rfl rfl)
theorem dX1_mean_18 : decode cX1_mean 18 = .ok (.iconst (-1), 1) := dk_2 (dk_at dksX1_mean_0 18 rfl rfl)
theorem dX1_mean_19 : decode cX1_mean 19 = .ok (.ireturn, 1) := dk_172 (dk_at dksX1_mean_0 19 rfl rfl)
theorem dX1_mean_20 : decode cX1_mean 20 = .ok (.aload_n 0, 1) := dk_42 (dk_at dksX1_mean_0 20 rfl rfl)
theorem dX1_mean_21 : decode cX1_mean 21 = .ok (.getfield 82, 3) := dk_180 0 82 (dk_at dksX1_mean_0 21 rfl rfl)
theorem dX1_mean_24 : decode cX1_mean 24 = .ok (.iload_n 1, 1) := dk_27 (dk_at dksX1_mean_1 0 rfl rfl)
theorem dX1_mean_25 : decode cX1_mean 25 = .ok (.iload_n 2, 1) := dk_28 (dk_at dksX1_mean_1 1 rfl rfl)
theorem dX1_mean_26 : decode cX1_mean 26 = .ok (.invokevirtual 326, 3) := dk_182 1 70 (dk_at dksX1_mean_1 2 rfl rfl)
theorem dX1_mean_29 : decode cX1_mean 29 = .ok (.lconst 0, 1) := dk_9 (dk_at dksX1_mean_1 5 rfl rfl)
theorem dX1_mean_30 : decode cX1_mean 30 = .ok (.lstore_n 3, 1) := dk_66 (dk_at dksX1_mean_1 6 rfl rfl)
theorem dX1_mean_31 : decode cX1_mean 31 = .ok (.iconst 0, 1) := dk_3 (dk_at dksX1_mean_1 7 rfl rfl)
theorem dX1_mean_32 : decode cX1_mean 32 = .ok (.istore 5, 2) := dk_54 5 (dk_at dksX1_mean_1 8 rfl rfl)
theorem dX1_mean_34 : decode cX1_mean 34 = .ok (.iload 5, 2) := dk_21 5 (dk_at dksX1_mean_1 10 rfl rfl)
theorem dX1_mean_36 : decode cX1_mean 36 = .ok (.bipush 64, 2) := dk_16 64 (dk_at dksX1_mean_1 12 rfl rfl)
theorem dX1_mean_38 : decode cX1_mean 38 = .ok (.if_icmp .ge 48, 3) := dk_162 0 48 (dk_at dksX1_mean_1 14 rfl rfl)
theorem dX1_mean_41 : decode cX1_mean 41 = .ok (.aload_n 0, 1) := dk_42 (dk_at dksX1_mean_1 17 rfl rfl)
theorem dX1_mean_42 : decode cX1_mean 42 = .ok (.getfield 82, 3) := dk_180 0 82 (dk_at dksX1_mean_1 18 rfl rfl)
theorem dX1_mean_45 : decode cX1_mean 45 = .ok (.getfield 329, 3) := dk_180 1 73 (dk_at dksX1_mean_1 21 rfl rfl)
theorem dX1_mean_48 : decode cX1_mean 48 = .ok (.iload 5, 2) := dk_21 5 (dk_at dksX1_mean_2 0 rfl rfl)
theorem dX1_mean_50 : decode cX1_mean 50 = .ok (.iaload, 1) := dk_46 (dk_at dksX1_mean_2 2 rfl rfl)
theorem dX1_mean_51 : decode cX1_mean 51 = .ok (.ifCond .le 29, 3) := dk_158 0 29 (dk_at dksX1_mean_2 3 rfl rfl)
theorem dX1_mean_54 : decode cX1_mean 54 = .ok (.lload_n 3, 1) := dk_33 (dk_at dksX1_mean_2 6 rfl rfl)
theorem dX1_mean_55 : decode cX1_mean 55 = .ok (.aload_n 0, 1) := dk_42 (dk_at dksX1_mean_2 7 rfl rfl)
theorem dX1_mean_56 : decode cX1_mean 56 = .ok (.getfield 40, 3) := dk_180 0 40 (dk_at dksX1_mean_2 8 rfl rfl)
theorem dX1_mean_59 : decode cX1_mean 59 = .ok (.iload_n 1, 1) := dk_27 (dk_at dksX1_mean_2 11 rfl rfl)
theorem dX1_mean_60 : decode cX1_mean 60 = .ok (.iload 5, 2) := dk_21 5 (dk_at dksX1_mean_2 12 rfl rfl)
theorem dX1_mean_62 : decode cX1_mean 62 = .ok (.invokevirtual 331, 3) := dk_182 1 75 (dk_at dksX1_mean_2 14 rfl rfl)
theorem dX1_mean_65 : decode cX1_mean 65 = .ok (.i2l, 1) := dk_133 (dk_at dksX1_mean_2 17 rfl rfl)
theorem dX1_mean_66 : decode cX1_mean 66 = .ok (.aload_n 0, 1) := dk_42 (dk_at dksX1_mean_2 18 rfl rfl)
theorem dX1_mean_67 : decode cX1_mean 67 = .ok (.getfield 82, 3) := dk_180 0 82 (dk_at dksX1_mean_2 19 rfl rfl)
theorem dX1_mean_70 : decode cX1_mean 70 = .ok (.getfield 329, 3) := dk_180 1 73 (dk_at dksX1_mean_3 0 rfl rfl)
theorem dX1_mean_73 : decode cX1_mean 73 = .ok (.iload 5, 2) := dk_21 5 (dk_at dksX1_mean_3 3 rfl rfl)
theorem dX1_mean_75 : decode cX1_mean 75 = .ok (.iaload, 1) := dk_46 (dk_at dksX1_mean_3 5 rfl rfl)
theorem dX1_mean_76 : decode cX1_mean 76 = .ok (.i2l, 1) := dk_133 (dk_at dksX1_mean_3 6 rfl rfl)
theorem dX1_mean_77 : decode cX1_mean 77 = .ok (.lmul, 1) := dk_105 (dk_at dksX1_mean_3 7 rfl rfl)
theorem dX1_mean_78 : decode cX1_mean 78 = .ok (.ladd, 1) := dk_97 (dk_at dksX1_mean_3 8 rfl rfl)
theorem dX1_mean_79 : decode cX1_mean 79 = .ok (.lstore_n 3, 1) := dk_66 (dk_at dksX1_mean_3 9 rfl rfl)
theorem dX1_mean_80 : decode cX1_mean 80 = .ok (.iinc 5 1, 3) := dk_132 5 1 (dk_at dksX1_mean_3 10 rfl rfl)
theorem dX1_mean_83 : decode cX1_mean 83 = .ok (.goto (-49), 3) := dk_167 255 207 (dk_at dksX1_mean_3 13 rfl rfl)
theorem dX1_mean_86 : decode cX1_mean 86 = .ok (.lload_n 3, 1) := dk_33 (dk_at dksX1_mean_3 16 rfl rfl)
theorem dX1_mean_87 : decode cX1_mean 87 = .ok (.ldc2_w 334, 3) := dk_20 1 78 (dk_at dksX1_mean_3 17 rfl rfl)
theorem dX1_mean_90 : decode cX1_mean 90 = .ok (.ldiv, 1) := dk_109 (dk_at dksX1_mean_3 20 rfl rfl)
theorem dX1_mean_91 : decode cX1_mean 91 = .ok (.l2i, 1) := dk_136 (dk_at dksX1_mean_3 21 rfl rfl)
theorem dX1_mean_92 : decode cX1_mean 92 = .ok (.ireturn, 1) := dk_172 (dk_at dksX1_mean_3 22 rfl rfl)
abbrev cX1_holds : ByteArray := prog_1_method_36_code
def yX1_holds : MethodName := ⟨RX1, "holds", "(II)I"⟩
def dkwX1_holds_4 : List UInt8 := [180, 1, 73, 21, 5, 46, 96, 54, 4, 132, 5, 1, 167, 255, 204, 21, 4, 172]
abbrev dktX1_holds_4 : List UInt8 := dkwX1_holds_4 ++ []
def dkwX1_holds_3 : List UInt8 := [158, 0, 32, 42, 180, 0, 40, 27, 21, 5, 182, 1, 75, 29, 161, 0, 18, 21, 4, 42, 180, 0, 82]
abbrev dktX1_holds_3 : List UInt8 := dkwX1_holds_3 ++ dktX1_holds_4
def dkwX1_holds_2 : List UInt8 := [54, 4, 3, 54, 5, 21, 5, 16, 64, 162, 0, 51, 42, 180, 0, 82, 180, 1, 73, 21, 5, 46]
abbrev dktX1_holds_2 : List UInt8 := dkwX1_holds_2 ++ dktX1_holds_3
def dkwX1_holds_1 : List UInt8 := [27, 28, 182, 1, 70, 42, 180, 0, 40, 27, 42, 180, 0, 40, 180, 0, 204, 27, 46, 182, 1, 75, 62, 3]
abbrev dktX1_holds_1 : List UInt8 := dkwX1_holds_1 ++ dktX1_holds_2
def dkwX1_holds_0 : List UInt8 := [42, 27, 182, 0, 186, 153, 0, 13, 28, 3, 16, 30, 184, 0, 140, 154, 0, 5, 2, 172, 42, 180, 0, 82]
abbrev dktX1_holds_0 : List UInt8 := dkwX1_holds_0 ++ dktX1_holds_1
theorem dksX1_holds_0 : cX1_holds.data.toList.drop 0 = dktX1_holds_0 := by decide +kernel
theorem dksX1_holds_1 : cX1_holds.data.toList.drop 24 = dktX1_holds_1 := dk_seg dksX1_holds_0 24 rfl rfl
theorem dksX1_holds_2 : cX1_holds.data.toList.drop 48 = dktX1_holds_2 := dk_seg dksX1_holds_1 24 rfl rfl
theorem dksX1_holds_3 : cX1_holds.data.toList.drop 70 = dktX1_holds_3 := dk_seg dksX1_holds_2 22 rfl rfl
theorem dksX1_holds_4 : cX1_holds.data.toList.drop 93 = dktX1_holds_4 := dk_seg dksX1_holds_3 23 rfl rfl
theorem dX1_holds_0 : decode cX1_holds 0 = .ok (.aload_n 0, 1) := dk_42 (dk_at dksX1_holds_0 0 rfl rfl)
theorem dX1_holds_1 : decode cX1_holds 1 = .ok (.iload_n 1, 1) := dk_27 (dk_at dksX1_holds_0 1 rfl rfl)
theorem dX1_holds_2 : decode cX1_holds 2 = .ok (.invokevirtual 186, 3) := dk_182 0 186 (dk_at dksX1_holds_0 2 rfl rfl)
theorem dX1_holds_5 : decode cX1_holds 5 = .ok (.ifCond .eq 13, 3) := dk_153 0 13 (dk_at dksX1_holds_0 5 rfl rfl)
theorem dX1_holds_8 : decode cX1_holds 8 = .ok (.iload_n 2, 1) := dk_28 (dk_at dksX1_holds_0 8 rfl rfl)
theorem dX1_holds_9 : decode cX1_holds 9 = .ok (.iconst 0, 1) := dk_3 (dk_at dksX1_holds_0 9 rfl rfl)
theorem dX1_holds_10 : decode cX1_holds 10 = .ok (.bipush 30, 2) := dk_16 30 (dk_at dksX1_holds_0 10 rfl rfl)
theorem dX1_holds_12 : decode cX1_holds 12 = .ok (.invokestatic 140, 3) := dk_184 0 140 (dk_at dksX1_holds_0 12 rfl rfl)
theorem dX1_holds_15 : decode cX1_holds 15 = .ok (.ifCond .ne 5, 3) := dk_154 0 5 (dk_at dksX1_holds_0 15 rfl rfl)
theorem dX1_holds_18 : decode cX1_holds 18 = .ok (.iconst (-1), 1) := dk_2 (dk_at dksX1_holds_0 18 rfl rfl)
theorem dX1_holds_19 : decode cX1_holds 19 = .ok (.ireturn, 1) := dk_172 (dk_at dksX1_holds_0 19 rfl rfl)
theorem dX1_holds_20 : decode cX1_holds 20 = .ok (.aload_n 0, 1) := dk_42 (dk_at dksX1_holds_0 20 rfl rfl)
theorem dX1_holds_21 : decode cX1_holds 21 = .ok (.getfield 82, 3) := dk_180 0 82 (dk_at dksX1_holds_0 21 rfl rfl)
theorem dX1_holds_24 : decode cX1_holds 24 = .ok (.iload_n 1, 1) := dk_27 (dk_at dksX1_holds_1 0 rfl rfl)
theorem dX1_holds_25 : decode cX1_holds 25 = .ok (.iload_n 2, 1) := dk_28 (dk_at dksX1_holds_1 1 rfl rfl)
theorem dX1_holds_26 : decode cX1_holds 26 = .ok (.invokevirtual 326, 3) := dk_182 1 70 (dk_at dksX1_holds_1 2 rfl rfl)
theorem dX1_holds_29 : decode cX1_holds 29 = .ok (.aload_n 0, 1) := dk_42 (dk_at dksX1_holds_1 5 rfl rfl)
theorem dX1_holds_30 : decode cX1_holds 30 = .ok (.getfield 40, 3) := dk_180 0 40 (dk_at dksX1_holds_1 6 rfl rfl)
theorem dX1_holds_33 : decode cX1_holds 33 = .ok (.iload_n 1, 1) := dk_27 (dk_at dksX1_holds_1 9 rfl rfl)
theorem dX1_holds_34 : decode cX1_holds 34 = .ok (.aload_n 0, 1) := dk_42 (dk_at dksX1_holds_1 10 rfl rfl)
theorem dX1_holds_35 : decode cX1_holds 35 = .ok (.getfield 40, 3) := dk_180 0 40 (dk_at dksX1_holds_1 11 rfl rfl)
theorem dX1_holds_38 : decode cX1_holds 38 = .ok (.getfield 204, 3) := dk_180 0 204 (dk_at dksX1_holds_1 14 rfl rfl)
theorem dX1_holds_41 : decode cX1_holds 41 = .ok (.iload_n 1, 1) := dk_27 (dk_at dksX1_holds_1 17 rfl rfl)
theorem dX1_holds_42 : decode cX1_holds 42 = .ok (.iaload, 1) := dk_46 (dk_at dksX1_holds_1 18 rfl rfl)
theorem dX1_holds_43 : decode cX1_holds 43 = .ok (.invokevirtual 331, 3) := dk_182 1 75 (dk_at dksX1_holds_1 19 rfl rfl)
theorem dX1_holds_46 : decode cX1_holds 46 = .ok (.istore_n 3, 1) := dk_62 (dk_at dksX1_holds_1 22 rfl rfl)
theorem dX1_holds_47 : decode cX1_holds 47 = .ok (.iconst 0, 1) := dk_3 (dk_at dksX1_holds_1 23 rfl rfl)
theorem dX1_holds_48 : decode cX1_holds 48 = .ok (.istore 4, 2) := dk_54 4 (dk_at dksX1_holds_2 0 rfl rfl)
theorem dX1_holds_50 : decode cX1_holds 50 = .ok (.iconst 0, 1) := dk_3 (dk_at dksX1_holds_2 2 rfl rfl)
theorem dX1_holds_51 : decode cX1_holds 51 = .ok (.istore 5, 2) := dk_54 5 (dk_at dksX1_holds_2 3 rfl rfl)
theorem dX1_holds_53 : decode cX1_holds 53 = .ok (.iload 5, 2) := dk_21 5 (dk_at dksX1_holds_2 5 rfl rfl)
theorem dX1_holds_55 : decode cX1_holds 55 = .ok (.bipush 64, 2) := dk_16 64 (dk_at dksX1_holds_2 7 rfl rfl)
theorem dX1_holds_57 : decode cX1_holds 57 = .ok (.if_icmp .ge 51, 3) := dk_162 0 51 (dk_at dksX1_holds_2 9 rfl rfl)
theorem dX1_holds_60 : decode cX1_holds 60 = .ok (.aload_n 0, 1) := dk_42 (dk_at dksX1_holds_2 12 rfl rfl)
theorem dX1_holds_61 : decode cX1_holds 61 = .ok (.getfield 82, 3) := dk_180 0 82 (dk_at dksX1_holds_2 13 rfl rfl)
theorem dX1_holds_64 : decode cX1_holds 64 = .ok (.getfield 329, 3) := dk_180 1 73 (dk_at dksX1_holds_2 16 rfl rfl)
theorem dX1_holds_67 : decode cX1_holds 67 = .ok (.iload 5, 2) := dk_21 5 (dk_at dksX1_holds_2 19 rfl rfl)
theorem dX1_holds_69 : decode cX1_holds 69 = .ok (.iaload, 1) := dk_46 (dk_at dksX1_holds_2 21 rfl rfl)
theorem dX1_holds_70 : decode cX1_holds 70 = .ok (.ifCond .le 32, 3) := dk_158 0 32 (dk_at dksX1_holds_3 0 rfl rfl)
theorem dX1_holds_73 : decode cX1_holds 73 = .ok (.aload_n 0, 1) := dk_42 (dk_at dksX1_holds_3 3 rfl rfl)
theorem dX1_holds_74 : decode cX1_holds 74 = .ok (.getfield 40, 3) := dk_180 0 40 (dk_at dksX1_holds_3 4 rfl rfl)
theorem dX1_holds_77 : decode cX1_holds 77 = .ok (.iload_n 1, 1) := dk_27 (dk_at dksX1_holds_3 7 rfl rfl)
theorem dX1_holds_78 : decode cX1_holds 78 = .ok (.iload 5, 2) := dk_21 5 (dk_at dksX1_holds_3 8 rfl rfl)
theorem dX1_holds_80 : decode cX1_holds 80 = .ok (.invokevirtual 331, 3) := dk_182 1 75 (dk_at dksX1_holds_3 10 rfl rfl)
theorem dX1_holds_83 : decode cX1_holds 83 = .ok (.iload_n 3, 1) := dk_29 (dk_at dksX1_holds_3 13 rfl rfl)
theorem dX1_holds_84 : decode cX1_holds 84 = .ok (.if_icmp .lt 18, 3) := dk_161 0 18 (dk_at dksX1_holds_3 14 rfl rfl)
theorem dX1_holds_87 : decode cX1_holds 87 = .ok (.iload 4, 2) := dk_21 4 (dk_at dksX1_holds_3 17 rfl rfl)
theorem dX1_holds_89 : decode cX1_holds 89 = .ok (.aload_n 0, 1) := dk_42 (dk_at dksX1_holds_3 19 rfl rfl)
theorem dX1_holds_90 : decode cX1_holds 90 = .ok (.getfield 82, 3) := dk_180 0 82 (dk_at dksX1_holds_3 20 rfl rfl)
theorem dX1_holds_93 : decode cX1_holds 93 = .ok (.getfield 329, 3) := dk_180 1 73 (dk_at dksX1_holds_4 0 rfl rfl)
theorem dX1_holds_96 : decode cX1_holds 96 = .ok (.iload 5, 2) := dk_21 5 (dk_at dksX1_holds_4 3 rfl rfl)
theorem dX1_holds_98 : decode cX1_holds 98 = .ok (.iaload, 1) := dk_46 (dk_at dksX1_holds_4 5 rfl rfl)
theorem dX1_holds_99 : decode cX1_holds 99 = .ok (.iadd, 1) := dk_96 (dk_at dksX1_holds_4 6 rfl rfl)
theorem dX1_holds_100 : decode cX1_holds 100 = .ok (.istore 4, 2) := dk_54 4 (dk_at dksX1_holds_4 7 rfl rfl)
theorem dX1_holds_102 : decode cX1_holds 102 = .ok (.iinc 5 1, 3) := dk_132 5 1 (dk_at dksX1_holds_4 9 rfl rfl)
theorem dX1_holds_105 : decode cX1_holds 105 = .ok (.goto (-52), 3) := dk_167 255 204 (dk_at dksX1_holds_4 12 rfl rfl)
theorem dX1_holds_108 : decode cX1_holds 108 = .ok (.iload 4, 2) := dk_21 4 (dk_at dksX1_holds_4 15 rfl rfl)
theorem dX1_holds_110 : decode cX1_holds 110 = .ok (.ireturn, 1) := dk_172 (dk_at dksX1_holds_4 17 rfl rfl)
abbrev cX1_settle : ByteArray := prog_1_method_38_code
def yX1_settle : MethodName := ⟨RX1, "settle", "()I"⟩
def dkwX1_settle_1 : List UInt8 := [27, 4, 28, 120, 128, 60, 132, 2, 1, 167, 255, 227, 27, 184, 1, 37, 42, 27, 182, 1, 80, 100, 172]
abbrev dktX1_settle_1 : List UInt8 := dkwX1_settle_1 ++ []
def dkwX1_settle_0 : List UInt8 := [3, 60, 3, 61, 28, 42, 182, 0, 138, 162, 0, 27, 42, 180, 0, 40, 180, 0, 183, 28, 46, 153, 0, 9]
abbrev dktX1_settle_0 : List UInt8 := dkwX1_settle_0 ++ dktX1_settle_1
theorem dksX1_settle_0 : cX1_settle.data.toList.drop 0 = dktX1_settle_0 := by decide +kernel
theorem dksX1_settle_1 : cX1_settle.data.toList.drop 24 = dktX1_settle_1 := dk_seg dksX1_settle_0 24 rfl rfl
theorem dX1_settle_0 : decode cX1_settle 0 = .ok (.iconst 0, 1) := dk_3 (dk_at dksX1_settle_0 0 rfl rfl)
theorem dX1_settle_1 : decode cX1_settle 1 = .ok (.istore_n 1, 1) := dk_60 (dk_at dksX1_settle_0 1 rfl rfl)
theorem dX1_settle_2 : decode cX1_settle 2 = .ok (.iconst 0, 1) := dk_3 (dk_at dksX1_settle_0 2 rfl rfl)
theorem dX1_settle_3 : decode cX1_settle 3 = .ok (.istore_n 2, 1) := dk_61 (dk_at dksX1_settle_0 3 rfl rfl)
theorem dX1_settle_4 : decode cX1_settle 4 = .ok (.iload_n 2, 1) := dk_28 (dk_at dksX1_settle_0 4 rfl rfl)
theorem dX1_settle_5 : decode cX1_settle 5 = .ok (.aload_n 0, 1) := dk_42 (dk_at dksX1_settle_0 5 rfl rfl)
theorem dX1_settle_6 : decode cX1_settle 6 = .ok (.invokevirtual 138, 3) := dk_182 0 138 (dk_at dksX1_settle_0 6 rfl rfl)
theorem dX1_settle_9 : decode cX1_settle 9 = .ok (.if_icmp .ge 27, 3) := dk_162 0 27 (dk_at dksX1_settle_0 9 rfl rfl)
theorem dX1_settle_12 : decode cX1_settle 12 = .ok (.aload_n 0, 1) := dk_42 (dk_at dksX1_settle_0 12 rfl rfl)
theorem dX1_settle_13 : decode cX1_settle 13 = .ok (.getfield 40, 3) := dk_180 0 40 (dk_at dksX1_settle_0 13 rfl rfl)
theorem dX1_settle_16 : decode cX1_settle 16 = .ok (.getfield 183, 3) := dk_180 0 183 (dk_at dksX1_settle_0 16 rfl rfl)
theorem dX1_settle_19 : decode cX1_settle 19 = .ok (.iload_n 2, 1) := dk_28 (dk_at dksX1_settle_0 19 rfl rfl)
theorem dX1_settle_20 : decode cX1_settle 20 = .ok (.iaload, 1) := dk_46 (dk_at dksX1_settle_0 20 rfl rfl)
theorem dX1_settle_21 : decode cX1_settle 21 = .ok (.ifCond .eq 9, 3) := dk_153 0 9 (dk_at dksX1_settle_0 21 rfl rfl)
theorem dX1_settle_24 : decode cX1_settle 24 = .ok (.iload_n 1, 1) := dk_27 (dk_at dksX1_settle_1 0 rfl rfl)
theorem dX1_settle_25 : decode cX1_settle 25 = .ok (.iconst 1, 1) := dk_4 (dk_at dksX1_settle_1 1 rfl rfl)
theorem dX1_settle_26 : decode cX1_settle 26 = .ok (.iload_n 2, 1) := dk_28 (dk_at dksX1_settle_1 2 rfl rfl)
theorem dX1_settle_27 : decode cX1_settle 27 = .ok (.ishl, 1) := dk_120 (dk_at dksX1_settle_1 3 rfl rfl)
theorem dX1_settle_28 : decode cX1_settle 28 = .ok (.ior, 1) := dk_128 (dk_at dksX1_settle_1 4 rfl rfl)
theorem dX1_settle_29 : decode cX1_settle 29 = .ok (.istore_n 1, 1) := dk_60 (dk_at dksX1_settle_1 5 rfl rfl)
theorem dX1_settle_30 : decode cX1_settle 30 = .ok (.iinc 2 1, 3) := dk_132 2 1 (dk_at dksX1_settle_1 6 rfl rfl)
theorem dX1_settle_33 : decode cX1_settle 33 = .ok (.goto (-29), 3) := dk_167 255 227 (dk_at dksX1_settle_1 9 rfl rfl)
theorem dX1_settle_36 : decode cX1_settle 36 = .ok (.iload_n 1, 1) := dk_27 (dk_at dksX1_settle_1 12 rfl rfl)
theorem dX1_settle_37 : decode cX1_settle 37 = .ok (.invokestatic 293, 3) := dk_184 1 37 (dk_at dksX1_settle_1 13 rfl rfl)
theorem dX1_settle_40 : decode cX1_settle 40 = .ok (.aload_n 0, 1) := dk_42 (dk_at dksX1_settle_1 16 rfl rfl)
theorem dX1_settle_41 : decode cX1_settle 41 = .ok (.iload_n 1, 1) := dk_27 (dk_at dksX1_settle_1 17 rfl rfl)
theorem dX1_settle_42 : decode cX1_settle 42 = .ok (.invokevirtual 336, 3) := dk_182 1 80 (dk_at dksX1_settle_1 18 rfl rfl)
theorem dX1_settle_45 : decode cX1_settle 45 = .ok (.isub, 1) := dk_100 (dk_at dksX1_settle_1 21 rfl rfl)
theorem dX1_settle_46 : decode cX1_settle 46 = .ok (.ireturn, 1) := dk_172 (dk_at dksX1_settle_1 22 rfl rfl)
abbrev cX1_groups : ByteArray := prog_1_method_37_code
def yX1_groups : MethodName := ⟨RX1, "groups", "(I)I"⟩
def dkwX1_groups_3 : List UInt8 := [184, 1, 83, 61, 29, 4, 100, 27, 126, 62, 167, 255, 180, 28, 172]
abbrev dktX1_groups_3 : List UInt8 := dkwX1_groups_3 ++ []
def dkwX1_groups_2 : List UInt8 := [132, 5, 1, 167, 255, 220, 21, 4, 154, 0, 19, 28, 4, 42, 27, 29, 2, 130, 126, 182, 1, 80, 96]
abbrev dktX1_groups_2 : List UInt8 := dkwX1_groups_2 ++ dktX1_groups_3
def dkwX1_groups_1 : List UInt8 := [21, 5, 184, 0, 176, 153, 0, 18, 21, 4, 42, 180, 0, 40, 180, 0, 183, 21, 5, 46, 96, 54, 4]
abbrev dktX1_groups_1 : List UInt8 := dkwX1_groups_1 ++ dktX1_groups_2
def dkwX1_groups_0 : List UInt8 := [3, 61, 27, 62, 29, 158, 0, 78, 3, 54, 4, 3, 54, 5, 21, 5, 42, 182, 0, 138, 162, 0, 33, 29]
abbrev dktX1_groups_0 : List UInt8 := dkwX1_groups_0 ++ dktX1_groups_1
theorem dksX1_groups_0 : cX1_groups.data.toList.drop 0 = dktX1_groups_0 := by decide +kernel
theorem dksX1_groups_1 : cX1_groups.data.toList.drop 24 = dktX1_groups_1 := dk_seg dksX1_groups_0 24 rfl rfl
theorem dksX1_groups_2 : cX1_groups.data.toList.drop 47 = dktX1_groups_2 := dk_seg dksX1_groups_1 23 rfl rfl
theorem dksX1_groups_3 : cX1_groups.data.toList.drop 70 = dktX1_groups_3 := dk_seg dksX1_groups_2 23 rfl rfl
theorem dX1_groups_0 : decode cX1_groups 0 = .ok (.iconst 0, 1) := dk_3 (dk_at dksX1_groups_0 0 rfl rfl)
theorem dX1_groups_1 : decode cX1_groups 1 = .ok (.istore_n 2, 1) := dk_61 (dk_at dksX1_groups_0 1 rfl rfl)
theorem dX1_groups_2 : decode cX1_groups 2 = .ok (.iload_n 1, 1) := dk_27 (dk_at dksX1_groups_0 2 rfl rfl)
theorem dX1_groups_3 : decode cX1_groups 3 = .ok (.istore_n 3, 1) := dk_62 (dk_at dksX1_groups_0 3 rfl rfl)
theorem dX1_groups_4 : decode cX1_groups 4 = .ok (.iload_n 3, 1) := dk_29 (dk_at dksX1_groups_0 4 rfl rfl)
theorem dX1_groups_5 : decode cX1_groups 5 = .ok (.ifCond .le 78, 3) := dk_158 0 78 (dk_at dksX1_groups_0 5 rfl rfl)
theorem dX1_groups_8 : decode cX1_groups 8 = .ok (.iconst 0, 1) := dk_3 (dk_at dksX1_groups_0 8 rfl rfl)
theorem dX1_groups_9 : decode cX1_groups 9 = .ok (.istore 4, 2) := dk_54 4 (dk_at dksX1_groups_0 9 rfl rfl)
theorem dX1_groups_11 : decode cX1_groups 11 = .ok (.iconst 0, 1) := dk_3 (dk_at dksX1_groups_0 11 rfl rfl)
theorem dX1_groups_12 : decode cX1_groups 12 = .ok (.istore 5, 2) := dk_54 5 (dk_at dksX1_groups_0 12 rfl rfl)
theorem dX1_groups_14 : decode cX1_groups 14 = .ok (.iload 5, 2) := dk_21 5 (dk_at dksX1_groups_0 14 rfl rfl)
theorem dX1_groups_16 : decode cX1_groups 16 = .ok (.aload_n 0, 1) := dk_42 (dk_at dksX1_groups_0 16 rfl rfl)
theorem dX1_groups_17 : decode cX1_groups 17 = .ok (.invokevirtual 138, 3) := dk_182 0 138 (dk_at dksX1_groups_0 17 rfl rfl)
theorem dX1_groups_20 : decode cX1_groups 20 = .ok (.if_icmp .ge 33, 3) := dk_162 0 33 (dk_at dksX1_groups_0 20 rfl rfl)
theorem dX1_groups_23 : decode cX1_groups 23 = .ok (.iload_n 3, 1) := dk_29 (dk_at dksX1_groups_0 23 rfl rfl)
theorem dX1_groups_24 : decode cX1_groups 24 = .ok (.iload 5, 2) := dk_21 5 (dk_at dksX1_groups_1 0 rfl rfl)
theorem dX1_groups_26 : decode cX1_groups 26 = .ok (.invokestatic 176, 3) := dk_184 0 176 (dk_at dksX1_groups_1 2 rfl rfl)
theorem dX1_groups_29 : decode cX1_groups 29 = .ok (.ifCond .eq 18, 3) := dk_153 0 18 (dk_at dksX1_groups_1 5 rfl rfl)
theorem dX1_groups_32 : decode cX1_groups 32 = .ok (.iload 4, 2) := dk_21 4 (dk_at dksX1_groups_1 8 rfl rfl)
theorem dX1_groups_34 : decode cX1_groups 34 = .ok (.aload_n 0, 1) := dk_42 (dk_at dksX1_groups_1 10 rfl rfl)
theorem dX1_groups_35 : decode cX1_groups 35 = .ok (.getfield 40, 3) := dk_180 0 40 (dk_at dksX1_groups_1 11 rfl rfl)
theorem dX1_groups_38 : decode cX1_groups 38 = .ok (.getfield 183, 3) := dk_180 0 183 (dk_at dksX1_groups_1 14 rfl rfl)
theorem dX1_groups_41 : decode cX1_groups 41 = .ok (.iload 5, 2) := dk_21 5 (dk_at dksX1_groups_1 17 rfl rfl)
theorem dX1_groups_43 : decode cX1_groups 43 = .ok (.iaload, 1) := dk_46 (dk_at dksX1_groups_1 19 rfl rfl)
theorem dX1_groups_44 : decode cX1_groups 44 = .ok (.iadd, 1) := dk_96 (dk_at dksX1_groups_1 20 rfl rfl)
theorem dX1_groups_45 : decode cX1_groups 45 = .ok (.istore 4, 2) := dk_54 4 (dk_at dksX1_groups_1 21 rfl rfl)
theorem dX1_groups_47 : decode cX1_groups 47 = .ok (.iinc 5 1, 3) := dk_132 5 1 (dk_at dksX1_groups_2 0 rfl rfl)
theorem dX1_groups_50 : decode cX1_groups 50 = .ok (.goto (-36), 3) := dk_167 255 220 (dk_at dksX1_groups_2 3 rfl rfl)
theorem dX1_groups_53 : decode cX1_groups 53 = .ok (.iload 4, 2) := dk_21 4 (dk_at dksX1_groups_2 6 rfl rfl)
theorem dX1_groups_55 : decode cX1_groups 55 = .ok (.ifCond .ne 19, 3) := dk_154 0 19 (dk_at dksX1_groups_2 8 rfl rfl)
theorem dX1_groups_58 : decode cX1_groups 58 = .ok (.iload_n 2, 1) := dk_28 (dk_at dksX1_groups_2 11 rfl rfl)
theorem dX1_groups_59 : decode cX1_groups 59 = .ok (.iconst 1, 1) := dk_4 (dk_at dksX1_groups_2 12 rfl rfl)
theorem dX1_groups_60 : decode cX1_groups 60 = .ok (.aload_n 0, 1) := dk_42 (dk_at dksX1_groups_2 13 rfl rfl)
theorem dX1_groups_61 : decode cX1_groups 61 = .ok (.iload_n 1, 1) := dk_27 (dk_at dksX1_groups_2 14 rfl rfl)
theorem dX1_groups_62 : decode cX1_groups 62 = .ok (.iload_n 3, 1) := dk_29 (dk_at dksX1_groups_2 15 rfl rfl)
theorem dX1_groups_63 : decode cX1_groups 63 = .ok (.iconst (-1), 1) := dk_2 (dk_at dksX1_groups_2 16 rfl rfl)
theorem dX1_groups_64 : decode cX1_groups 64 = .ok (.ixor, 1) := dk_130 (dk_at dksX1_groups_2 17 rfl rfl)
theorem dX1_groups_65 : decode cX1_groups 65 = .ok (.iand, 1) := dk_126 (dk_at dksX1_groups_2 18 rfl rfl)
theorem dX1_groups_66 : decode cX1_groups 66 = .ok (.invokevirtual 336, 3) := dk_182 1 80 (dk_at dksX1_groups_2 19 rfl rfl)
theorem dX1_groups_69 : decode cX1_groups 69 = .ok (.iadd, 1) := dk_96 (dk_at dksX1_groups_2 22 rfl rfl)
theorem dX1_groups_70 : decode cX1_groups 70 = .ok (.invokestatic 339, 3) := dk_184 1 83 (dk_at dksX1_groups_3 0 rfl rfl)
theorem dX1_groups_73 : decode cX1_groups 73 = .ok (.istore_n 2, 1) := dk_61 (dk_at dksX1_groups_3 3 rfl rfl)
theorem dX1_groups_74 : decode cX1_groups 74 = .ok (.iload_n 3, 1) := dk_29 (dk_at dksX1_groups_3 4 rfl rfl)
theorem dX1_groups_75 : decode cX1_groups 75 = .ok (.iconst 1, 1) := dk_4 (dk_at dksX1_groups_3 5 rfl rfl)
theorem dX1_groups_76 : decode cX1_groups 76 = .ok (.isub, 1) := dk_100 (dk_at dksX1_groups_3 6 rfl rfl)
theorem dX1_groups_77 : decode cX1_groups 77 = .ok (.iload_n 1, 1) := dk_27 (dk_at dksX1_groups_3 7 rfl rfl)
theorem dX1_groups_78 : decode cX1_groups 78 = .ok (.iand, 1) := dk_126 (dk_at dksX1_groups_3 8 rfl rfl)
theorem dX1_groups_79 : decode cX1_groups 79 = .ok (.istore_n 3, 1) := dk_62 (dk_at dksX1_groups_3 9 rfl rfl)
theorem dX1_groups_80 : decode cX1_groups 80 = .ok (.goto (-76), 3) := dk_167 255 180 (dk_at dksX1_groups_3 10 rfl rfl)
theorem dX1_groups_83 : decode cX1_groups 83 = .ok (.iload_n 2, 1) := dk_28 (dk_at dksX1_groups_3 13 rfl rfl)
theorem dX1_groups_84 : decode cX1_groups 84 = .ok (.ireturn, 1) := dk_172 (dk_at dksX1_groups_3 14 rfl rfl)
abbrev cX1_rests : ByteArray := prog_1_method_39_code
def yX1_rests : MethodName := ⟨RX1, "rests", "(II)I"⟩
def dkwX1_rests_4 : List UInt8 := [160, 0, 8, 21, 4, 167, 0, 4, 2, 172]
abbrev dktX1_rests_4 : List UInt8 := dkwX1_rests_4 ++ []
def dkwX1_rests_3 : List UInt8 := [167, 0, 15, 21, 4, 28, 160, 0, 6, 21, 5, 172, 132, 4, 1, 132, 5, 1, 167, 255, 220, 28, 2]
abbrev dktX1_rests_3 : List UInt8 := dkwX1_rests_3 ++ dktX1_rests_4
def dkwX1_rests_2 : List UInt8 := [54, 4, 3, 54, 5, 21, 5, 29, 162, 0, 36, 42, 180, 0, 89, 21, 5, 182, 1, 90, 154, 0, 6]
abbrev dktX1_rests_2 : List UInt8 := dkwX1_rests_2 ++ dktX1_rests_3
def dkwX1_rests_1 : List UInt8 := [184, 0, 140, 153, 0, 8, 28, 2, 162, 0, 5, 2, 172, 42, 180, 0, 89, 27, 182, 1, 88, 62, 3]
abbrev dktX1_rests_1 : List UInt8 := dkwX1_rests_1 ++ dktX1_rests_2
def dkwX1_rests_0 : List UInt8 := [27, 3, 4, 42, 182, 0, 138, 120, 4, 100, 184, 0, 140, 153, 0, 20, 27, 184, 1, 37, 5, 6]
abbrev dktX1_rests_0 : List UInt8 := dkwX1_rests_0 ++ dktX1_rests_1
theorem dksX1_rests_0 : cX1_rests.data.toList.drop 0 = dktX1_rests_0 := by decide +kernel
theorem dksX1_rests_1 : cX1_rests.data.toList.drop 22 = dktX1_rests_1 := dk_seg dksX1_rests_0 22 rfl rfl
theorem dksX1_rests_2 : cX1_rests.data.toList.drop 45 = dktX1_rests_2 := dk_seg dksX1_rests_1 23 rfl rfl
theorem dksX1_rests_3 : cX1_rests.data.toList.drop 68 = dktX1_rests_3 := dk_seg dksX1_rests_2 23 rfl rfl
theorem dksX1_rests_4 : cX1_rests.data.toList.drop 91 = dktX1_rests_4 := dk_seg dksX1_rests_3 23 rfl rfl
theorem dX1_rests_0 : decode cX1_rests 0 = .ok (.iload_n 1, 1) := dk_27 (dk_at dksX1_rests_0 0 rfl rfl)
theorem dX1_rests_1 : decode cX1_rests 1 = .ok (.iconst 0, 1) := dk_3 (dk_at dksX1_rests_0 1 rfl rfl)
theorem dX1_rests_2 : decode cX1_rests 2 = .ok (.iconst 1, 1) := dk_4 (dk_at dksX1_rests_0 2 rfl rfl)
theorem dX1_rests_3 : decode cX1_rests 3 = .ok (.aload_n 0, 1) := dk_42 (dk_at dksX1_rests_0 3 rfl rfl)
theorem dX1_rests_4 : decode cX1_rests 4 = .ok (.invokevirtual 138, 3) := dk_182 0 138 (dk_at dksX1_rests_0 4 rfl rfl)
theorem dX1_rests_7 : decode cX1_rests 7 = .ok (.ishl, 1) := dk_120 (dk_at dksX1_rests_0 7 rfl rfl)
theorem dX1_rests_8 : decode cX1_rests 8 = .ok (.iconst 1, 1) := dk_4 (dk_at dksX1_rests_0 8 rfl rfl)
theorem dX1_rests_9 : decode cX1_rests 9 = .ok (.isub, 1) := dk_100 (dk_at dksX1_rests_0 9 rfl rfl)
theorem dX1_rests_10 : decode cX1_rests 10 = .ok (.invokestatic 140, 3) := dk_184 0 140 (dk_at dksX1_rests_0 10 rfl rfl)
theorem dX1_rests_13 : decode cX1_rests 13 = .ok (.ifCond .eq 20, 3) := dk_153 0 20 (dk_at dksX1_rests_0 13 rfl rfl)
theorem dX1_rests_16 : decode cX1_rests 16 = .ok (.iload_n 1, 1) := dk_27 (dk_at dksX1_rests_0 16 rfl rfl)
theorem dX1_rests_17 : decode cX1_rests 17 = .ok (.invokestatic 293, 3) := dk_184 1 37 (dk_at dksX1_rests_0 17 rfl rfl)
theorem dX1_rests_20 : decode cX1_rests 20 = .ok (.iconst 2, 1) := dk_5 (dk_at dksX1_rests_0 20 rfl rfl)
theorem dX1_rests_21 : decode cX1_rests 21 = .ok (.iconst 3, 1) := dk_6 (dk_at dksX1_rests_0 21 rfl rfl)
theorem dX1_rests_22 : decode cX1_rests 22 = .ok (.invokestatic 140, 3) := dk_184 0 140 (dk_at dksX1_rests_1 0 rfl rfl)
theorem dX1_rests_25 : decode cX1_rests 25 = .ok (.ifCond .eq 8, 3) := dk_153 0 8 (dk_at dksX1_rests_1 3 rfl rfl)
theorem dX1_rests_28 : decode cX1_rests 28 = .ok (.iload_n 2, 1) := dk_28 (dk_at dksX1_rests_1 6 rfl rfl)
theorem dX1_rests_29 : decode cX1_rests 29 = .ok (.iconst (-1), 1) := dk_2 (dk_at dksX1_rests_1 7 rfl rfl)
theorem dX1_rests_30 : decode cX1_rests 30 = .ok (.if_icmp .ge 5, 3) := dk_162 0 5 (dk_at dksX1_rests_1 8 rfl rfl)
theorem dX1_rests_33 : decode cX1_rests 33 = .ok (.iconst (-1), 1) := dk_2 (dk_at dksX1_rests_1 11 rfl rfl)
theorem dX1_rests_34 : decode cX1_rests 34 = .ok (.ireturn, 1) := dk_172 (dk_at dksX1_rests_1 12 rfl rfl)
theorem dX1_rests_35 : decode cX1_rests 35 = .ok (.aload_n 0, 1) := dk_42 (dk_at dksX1_rests_1 13 rfl rfl)
theorem dX1_rests_36 : decode cX1_rests 36 = .ok (.getfield 89, 3) := dk_180 0 89 (dk_at dksX1_rests_1 14 rfl rfl)
theorem dX1_rests_39 : decode cX1_rests 39 = .ok (.iload_n 1, 1) := dk_27 (dk_at dksX1_rests_1 17 rfl rfl)
theorem dX1_rests_40 : decode cX1_rests 40 = .ok (.invokevirtual 344, 3) := dk_182 1 88 (dk_at dksX1_rests_1 18 rfl rfl)
theorem dX1_rests_43 : decode cX1_rests 43 = .ok (.istore_n 3, 1) := dk_62 (dk_at dksX1_rests_1 21 rfl rfl)
theorem dX1_rests_44 : decode cX1_rests 44 = .ok (.iconst 0, 1) := dk_3 (dk_at dksX1_rests_1 22 rfl rfl)
theorem dX1_rests_45 : decode cX1_rests 45 = .ok (.istore 4, 2) := dk_54 4 (dk_at dksX1_rests_2 0 rfl rfl)
theorem dX1_rests_47 : decode cX1_rests 47 = .ok (.iconst 0, 1) := dk_3 (dk_at dksX1_rests_2 2 rfl rfl)
theorem dX1_rests_48 : decode cX1_rests 48 = .ok (.istore 5, 2) := dk_54 5 (dk_at dksX1_rests_2 3 rfl rfl)
theorem dX1_rests_50 : decode cX1_rests 50 = .ok (.iload 5, 2) := dk_21 5 (dk_at dksX1_rests_2 5 rfl rfl)
theorem dX1_rests_52 : decode cX1_rests 52 = .ok (.iload_n 3, 1) := dk_29 (dk_at dksX1_rests_2 7 rfl rfl)
theorem dX1_rests_53 : decode cX1_rests 53 = .ok (.if_icmp .ge 36, 3) := dk_162 0 36 (dk_at dksX1_rests_2 8 rfl rfl)
theorem dX1_rests_56 : decode cX1_rests 56 = .ok (.aload_n 0, 1) := dk_42 (dk_at dksX1_rests_2 11 rfl rfl)
theorem dX1_rests_57 : decode cX1_rests 57 = .ok (.getfield 89, 3) := dk_180 0 89 (dk_at dksX1_rests_2 12 rfl rfl)
theorem dX1_rests_60 : decode cX1_rests 60 = .ok (.iload 5, 2) := dk_21 5 (dk_at dksX1_rests_2 15 rfl rfl)
theorem dX1_rests_62 : decode cX1_rests 62 = .ok (.invokevirtual 346, 3) := dk_182 1 90 (dk_at dksX1_rests_2 17 rfl rfl)
theorem dX1_rests_65 : decode cX1_rests 65 = .ok (.ifCond .ne 6, 3) := dk_154 0 6 (dk_at dksX1_rests_2 20 rfl rfl)
theorem dX1_rests_68 : decode cX1_rests 68 = .ok (.goto 15, 3) := dk_167 0 15 (dk_at dksX1_rests_3 0 rfl rfl)
theorem dX1_rests_71 : decode cX1_rests 71 = .ok (.iload 4, 2) := dk_21 4 (dk_at dksX1_rests_3 3 rfl rfl)
theorem dX1_rests_73 : decode cX1_rests 73 = .ok (.iload_n 2, 1) := dk_28 (dk_at dksX1_rests_3 5 rfl rfl)
theorem dX1_rests_74 : decode cX1_rests 74 = .ok (.if_icmp .ne 6, 3) := dk_160 0 6 (dk_at dksX1_rests_3 6 rfl rfl)
theorem dX1_rests_77 : decode cX1_rests 77 = .ok (.iload 5, 2) := dk_21 5 (dk_at dksX1_rests_3 9 rfl rfl)
theorem dX1_rests_79 : decode cX1_rests 79 = .ok (.ireturn, 1) := dk_172 (dk_at dksX1_rests_3 11 rfl rfl)
theorem dX1_rests_80 : decode cX1_rests 80 = .ok (.iinc 4 1, 3) := dk_132 4 1 (dk_at dksX1_rests_3 12 rfl rfl)
theorem dX1_rests_83 : decode cX1_rests 83 = .ok (.iinc 5 1, 3) := dk_132 5 1 (dk_at dksX1_rests_3 15 rfl rfl)
theorem dX1_rests_86 : decode cX1_rests 86 = .ok (.goto (-36), 3) := dk_167 255 220 (dk_at dksX1_rests_3 18 rfl rfl)
theorem dX1_rests_89 : decode cX1_rests 89 = .ok (.iload_n 2, 1) := dk_28 (dk_at dksX1_rests_3 21 rfl rfl)
theorem dX1_rests_90 : decode cX1_rests 90 = .ok (.iconst (-1), 1) := dk_2 (dk_at dksX1_rests_3 22 rfl rfl)
theorem dX1_rests_91 : decode cX1_rests 91 = .ok (.if_icmp .ne 8, 3) := dk_160 0 8 (dk_at dksX1_rests_4 0 rfl rfl)
theorem dX1_rests_94 : decode cX1_rests 94 = .ok (.iload 4, 2) := dk_21 4 (dk_at dksX1_rests_4 3 rfl rfl)
theorem dX1_rests_96 : decode cX1_rests 96 = .ok (.goto 4, 3) := dk_167 0 4 (dk_at dksX1_rests_4 5 rfl rfl)
theorem dX1_rests_99 : decode cX1_rests 99 = .ok (.iconst (-1), 1) := dk_2 (dk_at dksX1_rests_4 8 rfl rfl)
theorem dX1_rests_100 : decode cX1_rests 100 = .ok (.ireturn, 1) := dk_172 (dk_at dksX1_rests_4 9 rfl rfl)
abbrev cX1_years : ByteArray := prog_1_method_43_code
def yX1_years : MethodName := ⟨RX1, "years", "(III)I"⟩
def dkwX1_years_6 : List UInt8 := [167, 0, 10, 42, 180, 0, 44, 182, 1, 28, 172]
abbrev dktX1_years_6 : List UInt8 := dkwX1_years_6 ++ []
def dkwX1_years_5 : List UInt8 := [132, 6, 1, 167, 255, 194, 29, 154, 0, 8, 21, 4, 167, 0, 20, 29, 4, 160, 0, 8, 21, 5]
abbrev dktX1_years_5 : List UInt8 := dkwX1_years_5 ++ dktX1_years_6
def dkwX1_years_4 : List UInt8 := [132, 7, 1, 167, 255, 226, 21, 6, 16, 10, 112, 154, 0, 12, 21, 5, 42, 182, 1, 122, 96, 54, 5]
abbrev dktX1_years_4 : List UInt8 := dkwX1_years_4 ++ dktX1_years_5
def dkwX1_years_3 : List UInt8 := [182, 0, 119, 180, 1, 105, 182, 0, 131, 162, 0, 21, 42, 21, 7, 182, 1, 119, 153, 0, 6, 132, 4, 1]
abbrev dktX1_years_3 : List UInt8 := dkwX1_years_3 ++ dktX1_years_4
def dkwX1_years_2 : List UInt8 := [181, 1, 93, 3, 54, 4, 3, 54, 5, 4, 54, 6, 21, 6, 28, 163, 0, 62, 3, 54, 7, 21, 7, 42]
abbrev dktX1_years_2 : List UInt8 := dkwX1_years_2 ++ dktX1_years_3
def dkwX1_years_1 : List UInt8 := [184, 0, 140, 154, 0, 5, 2, 172, 42, 180, 0, 44, 42, 180, 0, 40, 182, 1, 115, 87, 42, 27, 133]
abbrev dktX1_years_1 : List UInt8 := dkwX1_years_1 ++ dktX1_years_2
def dkwX1_years_0 : List UInt8 := [27, 3, 17, 39, 15, 184, 0, 140, 153, 0, 22, 28, 4, 16, 100, 184, 0, 140, 153, 0, 12, 29, 3, 5]
abbrev dktX1_years_0 : List UInt8 := dkwX1_years_0 ++ dktX1_years_1
theorem dksX1_years_0 : cX1_years.data.toList.drop 0 = dktX1_years_0 := by decide +kernel
theorem dksX1_years_1 : cX1_years.data.toList.drop 24 = dktX1_years_1 := dk_seg dksX1_years_0 24 rfl rfl
theorem dksX1_years_2 : cX1_years.data.toList.drop 47 = dktX1_years_2 := dk_seg dksX1_years_1 23 rfl rfl
theorem dksX1_years_3 : cX1_years.data.toList.drop 71 = dktX1_years_3 := dk_seg dksX1_years_2 24 rfl rfl
theorem dksX1_years_4 : cX1_years.data.toList.drop 95 = dktX1_years_4 := dk_seg dksX1_years_3 24 rfl rfl
theorem dksX1_years_5 : cX1_years.data.toList.drop 118 = dktX1_years_5 := dk_seg dksX1_years_4 23 rfl rfl
theorem dksX1_years_6 : cX1_years.data.toList.drop 140 = dktX1_years_6 := dk_seg dksX1_years_5 22 rfl rfl
theorem dX1_years_0 : decode cX1_years 0 = .ok (.iload_n 1, 1) := dk_27 (dk_at dksX1_years_0 0 rfl rfl)
theorem dX1_years_1 : decode cX1_years 1 = .ok (.iconst 0, 1) := dk_3 (dk_at dksX1_years_0 1 rfl rfl)
theorem dX1_years_2 : decode cX1_years 2 = .ok (.sipush 9999, 3) := dk_17 39 15 (dk_at dksX1_years_0 2 rfl rfl)
theorem dX1_years_5 : decode cX1_years 5 = .ok (.invokestatic 140, 3) := dk_184 0 140 (dk_at dksX1_years_0 5 rfl rfl)
theorem dX1_years_8 : decode cX1_years 8 = .ok (.ifCond .eq 22, 3) := dk_153 0 22 (dk_at dksX1_years_0 8 rfl rfl)
theorem dX1_years_11 : decode cX1_years 11 = .ok (.iload_n 2, 1) := dk_28 (dk_at dksX1_years_0 11 rfl rfl)
theorem dX1_years_12 : decode cX1_years 12 = .ok (.iconst 1, 1) := dk_4 (dk_at dksX1_years_0 12 rfl rfl)
theorem dX1_years_13 : decode cX1_years 13 = .ok (.bipush 100, 2) := dk_16 100 (dk_at dksX1_years_0 13 rfl rfl)
theorem dX1_years_15 : decode cX1_years 15 = .ok (.invokestatic 140, 3) := dk_184 0 140 (dk_at dksX1_years_0 15 rfl rfl)
theorem dX1_years_18 : decode cX1_years 18 = .ok (.ifCond .eq 12, 3) := dk_153 0 12 (dk_at dksX1_years_0 18 rfl rfl)
theorem dX1_years_21 : decode cX1_years 21 = .ok (.iload_n 3, 1) := dk_29 (dk_at dksX1_years_0 21 rfl rfl)
theorem dX1_years_22 : decode cX1_years 22 = .ok (.iconst 0, 1) := dk_3 (dk_at dksX1_years_0 22 rfl rfl)
theorem dX1_years_23 : decode cX1_years 23 = .ok (.iconst 2, 1) := dk_5 (dk_at dksX1_years_0 23 rfl rfl)
theorem dX1_years_24 : decode cX1_years 24 = .ok (.invokestatic 140, 3) := dk_184 0 140 (dk_at dksX1_years_1 0 rfl rfl)
theorem dX1_years_27 : decode cX1_years 27 = .ok (.ifCond .ne 5, 3) := dk_154 0 5 (dk_at dksX1_years_1 3 rfl rfl)
theorem dX1_years_30 : decode cX1_years 30 = .ok (.iconst (-1), 1) := dk_2 (dk_at dksX1_years_1 6 rfl rfl)
theorem dX1_years_31 : decode cX1_years 31 = .ok (.ireturn, 1) := dk_172 (dk_at dksX1_years_1 7 rfl rfl)
theorem dX1_years_32 : decode cX1_years 32 = .ok (.aload_n 0, 1) := dk_42 (dk_at dksX1_years_1 8 rfl rfl)
theorem dX1_years_33 : decode cX1_years 33 = .ok (.getfield 44, 3) := dk_180 0 44 (dk_at dksX1_years_1 9 rfl rfl)
theorem dX1_years_36 : decode cX1_years 36 = .ok (.aload_n 0, 1) := dk_42 (dk_at dksX1_years_1 12 rfl rfl)
theorem dX1_years_37 : decode cX1_years 37 = .ok (.getfield 40, 3) := dk_180 0 40 (dk_at dksX1_years_1 13 rfl rfl)
theorem dX1_years_40 : decode cX1_years 40 = .ok (.invokevirtual 371, 3) := dk_182 1 115 (dk_at dksX1_years_1 16 rfl rfl)
theorem dX1_years_43 : decode cX1_years 43 = .ok (.pop, 1) := dk_87 (dk_at dksX1_years_1 19 rfl rfl)
theorem dX1_years_44 : decode cX1_years 44 = .ok (.aload_n 0, 1) := dk_42 (dk_at dksX1_years_1 20 rfl rfl)
theorem dX1_years_45 : decode cX1_years 45 = .ok (.iload_n 1, 1) := dk_27 (dk_at dksX1_years_1 21 rfl rfl)
theorem dX1_years_46 : decode cX1_years 46 = .ok (.i2l, 1) := dk_133 (dk_at dksX1_years_1 22 rfl rfl)
theorem dX1_years_47 : decode cX1_years 47 = .ok (.putfield 349, 3) := dk_181 1 93 (dk_at dksX1_years_2 0 rfl rfl)
theorem dX1_years_50 : decode cX1_years 50 = .ok (.iconst 0, 1) := dk_3 (dk_at dksX1_years_2 3 rfl rfl)
theorem dX1_years_51 : decode cX1_years 51 = .ok (.istore 4, 2) := dk_54 4 (dk_at dksX1_years_2 4 rfl rfl)
theorem dX1_years_53 : decode cX1_years 53 = .ok (.iconst 0, 1) := dk_3 (dk_at dksX1_years_2 6 rfl rfl)
theorem dX1_years_54 : decode cX1_years 54 = .ok (.istore 5, 2) := dk_54 5 (dk_at dksX1_years_2 7 rfl rfl)
theorem dX1_years_56 : decode cX1_years 56 = .ok (.iconst 1, 1) := dk_4 (dk_at dksX1_years_2 9 rfl rfl)
theorem dX1_years_57 : decode cX1_years 57 = .ok (.istore 6, 2) := dk_54 6 (dk_at dksX1_years_2 10 rfl rfl)
theorem dX1_years_59 : decode cX1_years 59 = .ok (.iload 6, 2) := dk_21 6 (dk_at dksX1_years_2 12 rfl rfl)
theorem dX1_years_61 : decode cX1_years 61 = .ok (.iload_n 2, 1) := dk_28 (dk_at dksX1_years_2 14 rfl rfl)
theorem dX1_years_62 : decode cX1_years 62 = .ok (.if_icmp .gt 62, 3) := dk_163 0 62 (dk_at dksX1_years_2 15 rfl rfl)
theorem dX1_years_65 : decode cX1_years 65 = .ok (.iconst 0, 1) := dk_3 (dk_at dksX1_years_2 18 rfl rfl)
theorem dX1_years_66 : decode cX1_years 66 = .ok (.istore 7, 2) := dk_54 7 (dk_at dksX1_years_2 19 rfl rfl)
theorem dX1_years_68 : decode cX1_years 68 = .ok (.iload 7, 2) := dk_21 7 (dk_at dksX1_years_2 21 rfl rfl)
theorem dX1_years_70 : decode cX1_years 70 = .ok (.aload_n 0, 1) := dk_42 (dk_at dksX1_years_2 23 rfl rfl)
theorem dX1_years_71 : decode cX1_years 71 = .ok (.invokevirtual 119, 3) := dk_182 0 119 (dk_at dksX1_years_3 0 rfl rfl)
theorem dX1_years_74 : decode cX1_years 74 = .ok (.getfield 361, 3) := dk_180 1 105 (dk_at dksX1_years_3 3 rfl rfl)
theorem dX1_years_77 : decode cX1_years 77 = .ok (.invokevirtual 131, 3) := dk_182 0 131 (dk_at dksX1_years_3 6 rfl rfl)
theorem dX1_years_80 : decode cX1_years 80 = .ok (.if_icmp .ge 21, 3) := dk_162 0 21 (dk_at dksX1_years_3 9 rfl rfl)
theorem dX1_years_83 : decode cX1_years 83 = .ok (.aload_n 0, 1) := dk_42 (dk_at dksX1_years_3 12 rfl rfl)
theorem dX1_years_84 : decode cX1_years 84 = .ok (.iload 7, 2) := dk_21 7 (dk_at dksX1_years_3 13 rfl rfl)
theorem dX1_years_86 : decode cX1_years 86 = .ok (.invokevirtual 375, 3) := dk_182 1 119 (dk_at dksX1_years_3 15 rfl rfl)
theorem dX1_years_89 : decode cX1_years 89 = .ok (.ifCond .eq 6, 3) := dk_153 0 6 (dk_at dksX1_years_3 18 rfl rfl)
theorem dX1_years_92 : decode cX1_years 92 = .ok (.iinc 4 1, 3) := dk_132 4 1 (dk_at dksX1_years_3 21 rfl rfl)
theorem dX1_years_95 : decode cX1_years 95 = .ok (.iinc 7 1, 3) := dk_132 7 1 (dk_at dksX1_years_4 0 rfl rfl)
theorem dX1_years_98 : decode cX1_years 98 = .ok (.goto (-30), 3) := dk_167 255 226 (dk_at dksX1_years_4 3 rfl rfl)
theorem dX1_years_101 : decode cX1_years 101 = .ok (.iload 6, 2) := dk_21 6 (dk_at dksX1_years_4 6 rfl rfl)
theorem dX1_years_103 : decode cX1_years 103 = .ok (.bipush 10, 2) := dk_16 10 (dk_at dksX1_years_4 8 rfl rfl)
theorem dX1_years_105 : decode cX1_years 105 = .ok (.irem, 1) := dk_112 (dk_at dksX1_years_4 10 rfl rfl)
theorem dX1_years_106 : decode cX1_years 106 = .ok (.ifCond .ne 12, 3) := dk_154 0 12 (dk_at dksX1_years_4 11 rfl rfl)
theorem dX1_years_109 : decode cX1_years 109 = .ok (.iload 5, 2) := dk_21 5 (dk_at dksX1_years_4 14 rfl rfl)
theorem dX1_years_111 : decode cX1_years 111 = .ok (.aload_n 0, 1) := dk_42 (dk_at dksX1_years_4 16 rfl rfl)
theorem dX1_years_112 : decode cX1_years 112 = .ok (.invokevirtual 378, 3) := dk_182 1 122 (dk_at dksX1_years_4 17 rfl rfl)
theorem dX1_years_115 : decode cX1_years 115 = .ok (.iadd, 1) := dk_96 (dk_at dksX1_years_4 20 rfl rfl)
theorem dX1_years_116 : decode cX1_years 116 = .ok (.istore 5, 2) := dk_54 5 (dk_at dksX1_years_4 21 rfl rfl)
theorem dX1_years_118 : decode cX1_years 118 = .ok (.iinc 6 1, 3) := dk_132 6 1 (dk_at dksX1_years_5 0 rfl rfl)
theorem dX1_years_121 : decode cX1_years 121 = .ok (.goto (-62), 3) := dk_167 255 194 (dk_at dksX1_years_5 3 rfl rfl)
theorem dX1_years_124 : decode cX1_years 124 = .ok (.iload_n 3, 1) := dk_29 (dk_at dksX1_years_5 6 rfl rfl)
theorem dX1_years_125 : decode cX1_years 125 = .ok (.ifCond .ne 8, 3) := dk_154 0 8 (dk_at dksX1_years_5 7 rfl rfl)
theorem dX1_years_128 : decode cX1_years 128 = .ok (.iload 4, 2) := dk_21 4 (dk_at dksX1_years_5 10 rfl rfl)
theorem dX1_years_130 : decode cX1_years 130 = .ok (.goto 20, 3) := dk_167 0 20 (dk_at dksX1_years_5 12 rfl rfl)
theorem dX1_years_133 : decode cX1_years 133 = .ok (.iload_n 3, 1) := dk_29 (dk_at dksX1_years_5 15 rfl rfl)
theorem dX1_years_134 : decode cX1_years 134 = .ok (.iconst 1, 1) := dk_4 (dk_at dksX1_years_5 16 rfl rfl)
theorem dX1_years_135 : decode cX1_years 135 = .ok (.if_icmp .ne 8, 3) := dk_160 0 8 (dk_at dksX1_years_5 17 rfl rfl)
theorem dX1_years_138 : decode cX1_years 138 = .ok (.iload 5, 2) := dk_21 5 (dk_at dksX1_years_5 20 rfl rfl)
theorem dX1_years_140 : decode cX1_years 140 = .ok (.goto 10, 3) := dk_167 0 10 (dk_at dksX1_years_6 0 rfl rfl)
theorem dX1_years_143 : decode cX1_years 143 = .ok (.aload_n 0, 1) := dk_42 (dk_at dksX1_years_6 3 rfl rfl)
theorem dX1_years_144 : decode cX1_years 144 = .ok (.getfield 44, 3) := dk_180 0 44 (dk_at dksX1_years_6 4 rfl rfl)
theorem dX1_years_147 : decode cX1_years 147 = .ok (.invokevirtual 284, 3) := dk_182 1 28 (dk_at dksX1_years_6 7 rfl rfl)
theorem dX1_years_150 : decode cX1_years 150 = .ok (.ireturn, 1) := dk_172 (dk_at dksX1_years_6 10 rfl rfl)
abbrev cX1_whispers : ByteArray := prog_1_method_41_code
def yX1_whispers : MethodName := ⟨RX1, "whispers", "(I)Z"⟩
def dkwX1_whispers_3 : List UInt8 := [180, 0, 44, 44, 3, 46, 44, 4, 46, 29, 182, 0, 246, 4, 172]
abbrev dktX1_whispers_3 : List UInt8 := dkwX1_whispers_3 ++ []
def dkwX1_whispers_2 : List UInt8 := [182, 1, 109, 62, 42, 180, 0, 44, 44, 3, 46, 44, 4, 46, 29, 182, 0, 240, 154, 0, 5, 3, 172, 42]
abbrev dktX1_whispers_2 : List UInt8 := dkwX1_whispers_2 ++ dktX1_whispers_3
def dkwX1_whispers_1 : List UInt8 := [182, 0, 119, 27, 182, 1, 112, 162, 0, 10, 42, 182, 0, 144, 154, 0, 5, 3, 172, 42, 42, 182, 0, 144]
abbrev dktX1_whispers_1 : List UInt8 := dkwX1_whispers_1 ++ dktX1_whispers_2
def dkwX1_whispers_0 : List UInt8 := [42, 182, 0, 119, 180, 1, 105, 27, 182, 0, 153, 192, 1, 108, 77, 42, 16, 10, 182, 1, 109, 42]
abbrev dktX1_whispers_0 : List UInt8 := dkwX1_whispers_0 ++ dktX1_whispers_1
theorem dksX1_whispers_0 : cX1_whispers.data.toList.drop 0 = dktX1_whispers_0 := by decide +kernel
theorem dksX1_whispers_1 : cX1_whispers.data.toList.drop 22 = dktX1_whispers_1 := dk_seg dksX1_whispers_0 22 rfl rfl
theorem dksX1_whispers_2 : cX1_whispers.data.toList.drop 46 = dktX1_whispers_2 := dk_seg dksX1_whispers_1 24 rfl rfl
theorem dksX1_whispers_3 : cX1_whispers.data.toList.drop 70 = dktX1_whispers_3 := dk_seg dksX1_whispers_2 24 rfl rfl
theorem dX1_whispers_0 : decode cX1_whispers 0 = .ok (.aload_n 0, 1) := dk_42 (dk_at dksX1_whispers_0 0 rfl rfl)
theorem dX1_whispers_1 : decode cX1_whispers 1 = .ok (.invokevirtual 119, 3) := dk_182 0 119 (dk_at dksX1_whispers_0 1 rfl rfl)
theorem dX1_whispers_4 : decode cX1_whispers 4 = .ok (.getfield 361, 3) := dk_180 1 105 (dk_at dksX1_whispers_0 4 rfl rfl)
theorem dX1_whispers_7 : decode cX1_whispers 7 = .ok (.iload_n 1, 1) := dk_27 (dk_at dksX1_whispers_0 7 rfl rfl)
theorem dX1_whispers_8 : decode cX1_whispers 8 = .ok (.invokevirtual 153, 3) := dk_182 0 153 (dk_at dksX1_whispers_0 8 rfl rfl)
theorem dX1_whispers_11 : decode cX1_whispers 11 = .ok (.checkcast 364, 3) := dk_192 1 108 (dk_at dksX1_whispers_0 11 rfl rfl)
theorem dX1_whispers_14 : decode cX1_whispers 14 = .ok (.astore_n 2, 1) := dk_77 (dk_at dksX1_whispers_0 14 rfl rfl)
theorem dX1_whispers_15 : decode cX1_whispers 15 = .ok (.aload_n 0, 1) := dk_42 (dk_at dksX1_whispers_0 15 rfl rfl)
theorem dX1_whispers_16 : decode cX1_whispers 16 = .ok (.bipush 10, 2) := dk_16 10 (dk_at dksX1_whispers_0 16 rfl rfl)
theorem dX1_whispers_18 : decode cX1_whispers 18 = .ok (.invokevirtual 365, 3) := dk_182 1 109 (dk_at dksX1_whispers_0 18 rfl rfl)
theorem dX1_whispers_21 : decode cX1_whispers 21 = .ok (.aload_n 0, 1) := dk_42 (dk_at dksX1_whispers_0 21 rfl rfl)
theorem dX1_whispers_22 : decode cX1_whispers 22 = .ok (.invokevirtual 119, 3) := dk_182 0 119 (dk_at dksX1_whispers_1 0 rfl rfl)
theorem dX1_whispers_25 : decode cX1_whispers 25 = .ok (.iload_n 1, 1) := dk_27 (dk_at dksX1_whispers_1 3 rfl rfl)
theorem dX1_whispers_26 : decode cX1_whispers 26 = .ok (.invokevirtual 368, 3) := dk_182 1 112 (dk_at dksX1_whispers_1 4 rfl rfl)
theorem dX1_whispers_29 : decode cX1_whispers 29 = .ok (.if_icmp .ge 10, 3) := dk_162 0 10 (dk_at dksX1_whispers_1 7 rfl rfl)
theorem dX1_whispers_32 : decode cX1_whispers 32 = .ok (.aload_n 0, 1) := dk_42 (dk_at dksX1_whispers_1 10 rfl rfl)
theorem dX1_whispers_33 : decode cX1_whispers 33 = .ok (.invokevirtual 144, 3) := dk_182 0 144 (dk_at dksX1_whispers_1 11 rfl rfl)
theorem dX1_whispers_36 : decode cX1_whispers 36 = .ok (.ifCond .ne 5, 3) := dk_154 0 5 (dk_at dksX1_whispers_1 14 rfl rfl)
theorem dX1_whispers_39 : decode cX1_whispers 39 = .ok (.iconst 0, 1) := dk_3 (dk_at dksX1_whispers_1 17 rfl rfl)
theorem dX1_whispers_40 : decode cX1_whispers 40 = .ok (.ireturn, 1) := dk_172 (dk_at dksX1_whispers_1 18 rfl rfl)
theorem dX1_whispers_41 : decode cX1_whispers 41 = .ok (.aload_n 0, 1) := dk_42 (dk_at dksX1_whispers_1 19 rfl rfl)
theorem dX1_whispers_42 : decode cX1_whispers 42 = .ok (.aload_n 0, 1) := dk_42 (dk_at dksX1_whispers_1 20 rfl rfl)
theorem dX1_whispers_43 : decode cX1_whispers 43 = .ok (.invokevirtual 144, 3) := dk_182 0 144 (dk_at dksX1_whispers_1 21 rfl rfl)
theorem dX1_whispers_46 : decode cX1_whispers 46 = .ok (.invokevirtual 365, 3) := dk_182 1 109 (dk_at dksX1_whispers_2 0 rfl rfl)
theorem dX1_whispers_49 : decode cX1_whispers 49 = .ok (.istore_n 3, 1) := dk_62 (dk_at dksX1_whispers_2 3 rfl rfl)
theorem dX1_whispers_50 : decode cX1_whispers 50 = .ok (.aload_n 0, 1) := dk_42 (dk_at dksX1_whispers_2 4 rfl rfl)
theorem dX1_whispers_51 : decode cX1_whispers 51 = .ok (.getfield 44, 3) := dk_180 0 44 (dk_at dksX1_whispers_2 5 rfl rfl)
theorem dX1_whispers_54 : decode cX1_whispers 54 = .ok (.aload_n 2, 1) := dk_44 (dk_at dksX1_whispers_2 8 rfl rfl)
theorem dX1_whispers_55 : decode cX1_whispers 55 = .ok (.iconst 0, 1) := dk_3 (dk_at dksX1_whispers_2 9 rfl rfl)
theorem dX1_whispers_56 : decode cX1_whispers 56 = .ok (.iaload, 1) := dk_46 (dk_at dksX1_whispers_2 10 rfl rfl)
theorem dX1_whispers_57 : decode cX1_whispers 57 = .ok (.aload_n 2, 1) := dk_44 (dk_at dksX1_whispers_2 11 rfl rfl)
theorem dX1_whispers_58 : decode cX1_whispers 58 = .ok (.iconst 1, 1) := dk_4 (dk_at dksX1_whispers_2 12 rfl rfl)
theorem dX1_whispers_59 : decode cX1_whispers 59 = .ok (.iaload, 1) := dk_46 (dk_at dksX1_whispers_2 13 rfl rfl)
theorem dX1_whispers_60 : decode cX1_whispers 60 = .ok (.iload_n 3, 1) := dk_29 (dk_at dksX1_whispers_2 14 rfl rfl)
theorem dX1_whispers_61 : decode cX1_whispers 61 = .ok (.invokevirtual 240, 3) := dk_182 0 240 (dk_at dksX1_whispers_2 15 rfl rfl)
theorem dX1_whispers_64 : decode cX1_whispers 64 = .ok (.ifCond .ne 5, 3) := dk_154 0 5 (dk_at dksX1_whispers_2 18 rfl rfl)
theorem dX1_whispers_67 : decode cX1_whispers 67 = .ok (.iconst 0, 1) := dk_3 (dk_at dksX1_whispers_2 21 rfl rfl)
theorem dX1_whispers_68 : decode cX1_whispers 68 = .ok (.ireturn, 1) := dk_172 (dk_at dksX1_whispers_2 22 rfl rfl)
theorem dX1_whispers_69 : decode cX1_whispers 69 = .ok (.aload_n 0, 1) := dk_42 (dk_at dksX1_whispers_2 23 rfl rfl)
theorem dX1_whispers_70 : decode cX1_whispers 70 = .ok (.getfield 44, 3) := dk_180 0 44 (dk_at dksX1_whispers_3 0 rfl rfl)
theorem dX1_whispers_73 : decode cX1_whispers 73 = .ok (.aload_n 2, 1) := dk_44 (dk_at dksX1_whispers_3 3 rfl rfl)
theorem dX1_whispers_74 : decode cX1_whispers 74 = .ok (.iconst 0, 1) := dk_3 (dk_at dksX1_whispers_3 4 rfl rfl)
theorem dX1_whispers_75 : decode cX1_whispers 75 = .ok (.iaload, 1) := dk_46 (dk_at dksX1_whispers_3 5 rfl rfl)
theorem dX1_whispers_76 : decode cX1_whispers 76 = .ok (.aload_n 2, 1) := dk_44 (dk_at dksX1_whispers_3 6 rfl rfl)
theorem dX1_whispers_77 : decode cX1_whispers 77 = .ok (.iconst 1, 1) := dk_4 (dk_at dksX1_whispers_3 7 rfl rfl)
theorem dX1_whispers_78 : decode cX1_whispers 78 = .ok (.iaload, 1) := dk_46 (dk_at dksX1_whispers_3 8 rfl rfl)
theorem dX1_whispers_79 : decode cX1_whispers 79 = .ok (.iload_n 3, 1) := dk_29 (dk_at dksX1_whispers_3 9 rfl rfl)
theorem dX1_whispers_80 : decode cX1_whispers 80 = .ok (.invokevirtual 246, 3) := dk_182 0 246 (dk_at dksX1_whispers_3 10 rfl rfl)
theorem dX1_whispers_83 : decode cX1_whispers 83 = .ok (.iconst 1, 1) := dk_4 (dk_at dksX1_whispers_3 13 rfl rfl)
theorem dX1_whispers_84 : decode cX1_whispers 84 = .ok (.ireturn, 1) := dk_172 (dk_at dksX1_whispers_3 14 rfl rfl)
abbrev cX1_draw : ByteArray := prog_1_method_40_code
def yX1_draw : MethodName := ⟨RX1, "draw", "(I)I"⟩
def dkwX1_draw_1 : List UInt8 := [20, 1, 103, 109, 27, 133, 113, 136, 172]
abbrev dktX1_draw_1 : List UInt8 := dkwX1_draw_1 ++ []
def dkwX1_draw_0 : List UInt8 := [42, 42, 180, 1, 93, 20, 1, 97, 105, 20, 1, 99, 97, 20, 1, 101, 113, 181, 1, 93, 42, 180, 1, 93]
abbrev dktX1_draw_0 : List UInt8 := dkwX1_draw_0 ++ dktX1_draw_1
theorem dksX1_draw_0 : cX1_draw.data.toList.drop 0 = dktX1_draw_0 := by decide +kernel
theorem dksX1_draw_1 : cX1_draw.data.toList.drop 24 = dktX1_draw_1 := dk_seg dksX1_draw_0 24 rfl rfl
theorem dX1_draw_0 : decode cX1_draw 0 = .ok (.aload_n 0, 1) := dk_42 (dk_at dksX1_draw_0 0 rfl rfl)
theorem dX1_draw_1 : decode cX1_draw 1 = .ok (.aload_n 0, 1) := dk_42 (dk_at dksX1_draw_0 1 rfl rfl)
theorem dX1_draw_2 : decode cX1_draw 2 = .ok (.getfield 349, 3) := dk_180 1 93 (dk_at dksX1_draw_0 2 rfl rfl)
theorem dX1_draw_5 : decode cX1_draw 5 = .ok (.ldc2_w 353, 3) := dk_20 1 97 (dk_at dksX1_draw_0 5 rfl rfl)
theorem dX1_draw_8 : decode cX1_draw 8 = .ok (.lmul, 1) := dk_105 (dk_at dksX1_draw_0 8 rfl rfl)
theorem dX1_draw_9 : decode cX1_draw 9 = .ok (.ldc2_w 355, 3) := dk_20 1 99 (dk_at dksX1_draw_0 9 rfl rfl)
theorem dX1_draw_12 : decode cX1_draw 12 = .ok (.ladd, 1) := dk_97 (dk_at dksX1_draw_0 12 rfl rfl)
theorem dX1_draw_13 : decode cX1_draw 13 = .ok (.ldc2_w 357, 3) := dk_20 1 101 (dk_at dksX1_draw_0 13 rfl rfl)
theorem dX1_draw_16 : decode cX1_draw 16 = .ok (.lrem, 1) := dk_113 (dk_at dksX1_draw_0 16 rfl rfl)
theorem dX1_draw_17 : decode cX1_draw 17 = .ok (.putfield 349, 3) := dk_181 1 93 (dk_at dksX1_draw_0 17 rfl rfl)
theorem dX1_draw_20 : decode cX1_draw 20 = .ok (.aload_n 0, 1) := dk_42 (dk_at dksX1_draw_0 20 rfl rfl)
theorem dX1_draw_21 : decode cX1_draw 21 = .ok (.getfield 349, 3) := dk_180 1 93 (dk_at dksX1_draw_0 21 rfl rfl)
theorem dX1_draw_24 : decode cX1_draw 24 = .ok (.ldc2_w 359, 3) := dk_20 1 103 (dk_at dksX1_draw_1 0 rfl rfl)
theorem dX1_draw_27 : decode cX1_draw 27 = .ok (.ldiv, 1) := dk_109 (dk_at dksX1_draw_1 3 rfl rfl)
theorem dX1_draw_28 : decode cX1_draw 28 = .ok (.iload_n 1, 1) := dk_27 (dk_at dksX1_draw_1 4 rfl rfl)
theorem dX1_draw_29 : decode cX1_draw 29 = .ok (.i2l, 1) := dk_133 (dk_at dksX1_draw_1 5 rfl rfl)
theorem dX1_draw_30 : decode cX1_draw 30 = .ok (.lrem, 1) := dk_113 (dk_at dksX1_draw_1 6 rfl rfl)
theorem dX1_draw_31 : decode cX1_draw 31 = .ok (.l2i, 1) := dk_136 (dk_at dksX1_draw_1 7 rfl rfl)
theorem dX1_draw_32 : decode cX1_draw 32 = .ok (.ireturn, 1) := dk_172 (dk_at dksX1_draw_1 8 rfl rfl)
abbrev cX1_quarterDay : ByteArray := prog_1_method_42_code
def yX1_quarterDay : MethodName := ⟨RX1, "quarterDay", "()I"⟩
def dkwX1_quarterDay_3 : List UInt8 := [184, 1, 37, 172]
abbrev dktX1_quarterDay_3 : List UInt8 := dkwX1_quarterDay_3 ++ []
def dkwX1_quarterDay_2 : List UInt8 := [42, 180, 0, 44, 27, 28, 182, 1, 0, 132, 1, 1, 167, 255, 198, 42, 180, 0, 44, 182, 1, 9]
abbrev dktX1_quarterDay_2 : List UInt8 := dkwX1_quarterDay_2 ++ dktX1_quarterDay_3
def dkwX1_quarterDay_1 : List UInt8 := [180, 0, 164, 154, 0, 7, 2, 167, 0, 11, 42, 180, 0, 44, 27, 182, 1, 31, 61, 28, 2, 159, 0, 12]
abbrev dktX1_quarterDay_1 : List UInt8 := dkwX1_quarterDay_1 ++ dktX1_quarterDay_2
def dkwX1_quarterDay_0 : List UInt8 := [3, 60, 27, 42, 182, 0, 138, 162, 0, 56, 42, 182, 0, 119, 180, 0, 128, 27, 182, 0, 153, 192, 0, 13]
abbrev dktX1_quarterDay_0 : List UInt8 := dkwX1_quarterDay_0 ++ dktX1_quarterDay_1
theorem dksX1_quarterDay_0 : cX1_quarterDay.data.toList.drop 0 = dktX1_quarterDay_0 := by decide +kernel
theorem dksX1_quarterDay_1 : cX1_quarterDay.data.toList.drop 24 = dktX1_quarterDay_1 := dk_seg dksX1_quarterDay_0 24 rfl rfl
theorem dksX1_quarterDay_2 : cX1_quarterDay.data.toList.drop 48 = dktX1_quarterDay_2 := dk_seg dksX1_quarterDay_1 24 rfl rfl
theorem dksX1_quarterDay_3 : cX1_quarterDay.data.toList.drop 70 = dktX1_quarterDay_3 := dk_seg dksX1_quarterDay_2 22 rfl rfl
theorem dX1_quarterDay_0 : decode cX1_quarterDay 0 = .ok (.iconst 0, 1) := dk_3 (dk_at dksX1_quarterDay_0 0 rfl rfl)
theorem dX1_quarterDay_1 : decode cX1_quarterDay 1 = .ok (.istore_n 1, 1) := dk_60 (dk_at dksX1_quarterDay_0 1 rfl rfl)
theorem dX1_quarterDay_2 : decode cX1_quarterDay 2 = .ok (.iload_n 1, 1) := dk_27 (dk_at dksX1_quarterDay_0 2 rfl rfl)
theorem dX1_quarterDay_3 : decode cX1_quarterDay 3 = .ok (.aload_n 0, 1) := dk_42 (dk_at dksX1_quarterDay_0 3 rfl rfl)
theorem dX1_quarterDay_4 : decode cX1_quarterDay 4 = .ok (.invokevirtual 138, 3) := dk_182 0 138 (dk_at dksX1_quarterDay_0 4 rfl rfl)
theorem dX1_quarterDay_7 : decode cX1_quarterDay 7 = .ok (.if_icmp .ge 56, 3) := dk_162 0 56 (dk_at dksX1_quarterDay_0 7 rfl rfl)
theorem dX1_quarterDay_10 : decode cX1_quarterDay 10 = .ok (.aload_n 0, 1) := dk_42 (dk_at dksX1_quarterDay_0 10 rfl rfl)
theorem dX1_quarterDay_11 : decode cX1_quarterDay 11 = .ok (.invokevirtual 119, 3) := dk_182 0 119 (dk_at dksX1_quarterDay_0 11 rfl rfl)
theorem dX1_quarterDay_14 : decode cX1_quarterDay 14 = .ok (.getfield 128, 3) := dk_180 0 128 (dk_at dksX1_quarterDay_0 14 rfl rfl)
theorem dX1_quarterDay_17 : decode cX1_quarterDay 17 = .ok (.iload_n 1, 1) := dk_27 (dk_at dksX1_quarterDay_0 17 rfl rfl)
theorem dX1_quarterDay_18 : decode cX1_quarterDay 18 = .ok (.invokevirtual 153, 3) := dk_182 0 153 (dk_at dksX1_quarterDay_0 18 rfl rfl)
theorem dX1_quarterDay_21 : decode cX1_quarterDay 21 = .ok (.checkcast 13, 3) := dk_192 0 13 (dk_at dksX1_quarterDay_0 21 rfl rfl)
theorem dX1_quarterDay_24 : decode cX1_quarterDay 24 = .ok (.getfield 164, 3) := dk_180 0 164 (dk_at dksX1_quarterDay_1 0 rfl rfl)
theorem dX1_quarterDay_27 : decode cX1_quarterDay 27 = .ok (.ifCond .ne 7, 3) := dk_154 0 7 (dk_at dksX1_quarterDay_1 3 rfl rfl)
theorem dX1_quarterDay_30 : decode cX1_quarterDay 30 = .ok (.iconst (-1), 1) := dk_2 (dk_at dksX1_quarterDay_1 6 rfl rfl)
theorem dX1_quarterDay_31 : decode cX1_quarterDay 31 = .ok (.goto 11, 3) := dk_167 0 11 (dk_at dksX1_quarterDay_1 7 rfl rfl)
theorem dX1_quarterDay_34 : decode cX1_quarterDay 34 = .ok (.aload_n 0, 1) := dk_42 (dk_at dksX1_quarterDay_1 10 rfl rfl)
theorem dX1_quarterDay_35 : decode cX1_quarterDay 35 = .ok (.getfield 44, 3) := dk_180 0 44 (dk_at dksX1_quarterDay_1 11 rfl rfl)
theorem dX1_quarterDay_38 : decode cX1_quarterDay 38 = .ok (.iload_n 1, 1) := dk_27 (dk_at dksX1_quarterDay_1 14 rfl rfl)
theorem dX1_quarterDay_39 : decode cX1_quarterDay 39 = .ok (.invokevirtual 287, 3) := dk_182 1 31 (dk_at dksX1_quarterDay_1 15 rfl rfl)
theorem dX1_quarterDay_42 : decode cX1_quarterDay 42 = .ok (.istore_n 2, 1) := dk_61 (dk_at dksX1_quarterDay_1 18 rfl rfl)
theorem dX1_quarterDay_43 : decode cX1_quarterDay 43 = .ok (.iload_n 2, 1) := dk_28 (dk_at dksX1_quarterDay_1 19 rfl rfl)
theorem dX1_quarterDay_44 : decode cX1_quarterDay 44 = .ok (.iconst (-1), 1) := dk_2 (dk_at dksX1_quarterDay_1 20 rfl rfl)
theorem dX1_quarterDay_45 : decode cX1_quarterDay 45 = .ok (.if_icmp .eq 12, 3) := dk_159 0 12 (dk_at dksX1_quarterDay_1 21 rfl rfl)
theorem dX1_quarterDay_48 : decode cX1_quarterDay 48 = .ok (.aload_n 0, 1) := dk_42 (dk_at dksX1_quarterDay_2 0 rfl rfl)
theorem dX1_quarterDay_49 : decode cX1_quarterDay 49 = .ok (.getfield 44, 3) := dk_180 0 44 (dk_at dksX1_quarterDay_2 1 rfl rfl)
theorem dX1_quarterDay_52 : decode cX1_quarterDay 52 = .ok (.iload_n 1, 1) := dk_27 (dk_at dksX1_quarterDay_2 4 rfl rfl)
theorem dX1_quarterDay_53 : decode cX1_quarterDay 53 = .ok (.iload_n 2, 1) := dk_28 (dk_at dksX1_quarterDay_2 5 rfl rfl)
theorem dX1_quarterDay_54 : decode cX1_quarterDay 54 = .ok (.invokevirtual 256, 3) := dk_182 1 0 (dk_at dksX1_quarterDay_2 6 rfl rfl)
theorem dX1_quarterDay_57 : decode cX1_quarterDay 57 = .ok (.iinc 1 1, 3) := dk_132 1 1 (dk_at dksX1_quarterDay_2 9 rfl rfl)
theorem dX1_quarterDay_60 : decode cX1_quarterDay 60 = .ok (.goto (-58), 3) := dk_167 255 198 (dk_at dksX1_quarterDay_2 12 rfl rfl)
theorem dX1_quarterDay_63 : decode cX1_quarterDay 63 = .ok (.aload_n 0, 1) := dk_42 (dk_at dksX1_quarterDay_2 15 rfl rfl)
theorem dX1_quarterDay_64 : decode cX1_quarterDay 64 = .ok (.getfield 44, 3) := dk_180 0 44 (dk_at dksX1_quarterDay_2 16 rfl rfl)
theorem dX1_quarterDay_67 : decode cX1_quarterDay 67 = .ok (.invokevirtual 265, 3) := dk_182 1 9 (dk_at dksX1_quarterDay_2 19 rfl rfl)
theorem dX1_quarterDay_70 : decode cX1_quarterDay 70 = .ok (.invokestatic 293, 3) := dk_184 1 37 (dk_at dksX1_quarterDay_3 0 rfl rfl)
theorem dX1_quarterDay_73 : decode cX1_quarterDay 73 = .ok (.ireturn, 1) := dk_172 (dk_at dksX1_quarterDay_3 3 rfl rfl)
abbrev cX1_mark : ByteArray := prog_1_method_45_code
def yX1_mark : MethodName := ⟨RX1, "mark", "(IZ)Z"⟩
def dkwX1_mark_4 : List UInt8 := [27, 50, 180, 1, 133, 184, 1, 125, 181, 0, 56, 42, 180, 0, 60, 182, 0, 111, 4, 172]
abbrev dktX1_mark_4 : List UInt8 := dkwX1_mark_4 ++ []
def dkwX1_mark_3 : List UInt8 := [182, 0, 232, 181, 0, 40, 42, 42, 180, 0, 95, 27, 50, 180, 1, 132, 181, 0, 52, 42, 42, 180, 0, 95]
abbrev dktX1_mark_3 : List UInt8 := dkwX1_mark_3 ++ dktX1_mark_4
def dkwX1_mark_2 : List UInt8 := [42, 180, 0, 56, 184, 1, 125, 183, 1, 128, 83, 4, 172, 42, 42, 180, 0, 95, 27, 50, 180, 1, 131]
abbrev dktX1_mark_2 : List UInt8 := dkwX1_mark_2 ++ dktX1_mark_3
def dkwX1_mark_1 : List UInt8 := [28, 154, 0, 36, 42, 180, 0, 95, 27, 187, 0, 93, 89, 42, 180, 0, 40, 182, 0, 232, 42, 180, 0, 52]
abbrev dktX1_mark_1 : List UInt8 := dkwX1_mark_1 ++ dktX1_mark_2
def dkwX1_mark_0 : List UInt8 := [27, 3, 6, 184, 0, 140, 153, 0, 16, 28, 153, 0, 14, 42, 180, 0, 95, 27, 50, 199, 0, 5, 3, 172]
abbrev dktX1_mark_0 : List UInt8 := dkwX1_mark_0 ++ dktX1_mark_1
theorem dksX1_mark_0 : cX1_mark.data.toList.drop 0 = dktX1_mark_0 := by decide +kernel
theorem dksX1_mark_1 : cX1_mark.data.toList.drop 24 = dktX1_mark_1 := dk_seg dksX1_mark_0 24 rfl rfl
theorem dksX1_mark_2 : cX1_mark.data.toList.drop 48 = dktX1_mark_2 := dk_seg dksX1_mark_1 24 rfl rfl
theorem dksX1_mark_3 : cX1_mark.data.toList.drop 71 = dktX1_mark_3 := dk_seg dksX1_mark_2 23 rfl rfl
theorem dksX1_mark_4 : cX1_mark.data.toList.drop 95 = dktX1_mark_4 := dk_seg dksX1_mark_3 24 rfl rfl
theorem dX1_mark_0 : decode cX1_mark 0 = .ok (.iload_n 1, 1) := dk_27 (dk_at dksX1_mark_0 0 rfl rfl)
theorem dX1_mark_1 : decode cX1_mark 1 = .ok (.iconst 0, 1) := dk_3 (dk_at dksX1_mark_0 1 rfl rfl)
theorem dX1_mark_2 : decode cX1_mark 2 = .ok (.iconst 3, 1) := dk_6 (dk_at dksX1_mark_0 2 rfl rfl)
theorem dX1_mark_3 : decode cX1_mark 3 = .ok (.invokestatic 140, 3) := dk_184 0 140 (dk_at dksX1_mark_0 3 rfl rfl)
theorem dX1_mark_6 : decode cX1_mark 6 = .ok (.ifCond .eq 16, 3) := dk_153 0 16 (dk_at dksX1_mark_0 6 rfl rfl)
theorem dX1_mark_9 : decode cX1_mark 9 = .ok (.iload_n 2, 1) := dk_28 (dk_at dksX1_mark_0 9 rfl rfl)
theorem dX1_mark_10 : decode cX1_mark 10 = .ok (.ifCond .eq 14, 3) := dk_153 0 14 (dk_at dksX1_mark_0 10 rfl rfl)
theorem dX1_mark_13 : decode cX1_mark 13 = .ok (.aload_n 0, 1) := dk_42 (dk_at dksX1_mark_0 13 rfl rfl)
theorem dX1_mark_14 : decode cX1_mark 14 = .ok (.getfield 95, 3) := dk_180 0 95 (dk_at dksX1_mark_0 14 rfl rfl)
theorem dX1_mark_17 : decode cX1_mark 17 = .ok (.iload_n 1, 1) := dk_27 (dk_at dksX1_mark_0 17 rfl rfl)
theorem dX1_mark_18 : decode cX1_mark 18 = .ok (.aaload, 1) := dk_50 (dk_at dksX1_mark_0 18 rfl rfl)
theorem dX1_mark_19 : decode cX1_mark 19 = .ok (.ifnonnull 5, 3) := dk_199 0 5 (dk_at dksX1_mark_0 19 rfl rfl)
theorem dX1_mark_22 : decode cX1_mark 22 = .ok (.iconst 0, 1) := dk_3 (dk_at dksX1_mark_0 22 rfl rfl)
theorem dX1_mark_23 : decode cX1_mark 23 = .ok (.ireturn, 1) := dk_172 (dk_at dksX1_mark_0 23 rfl rfl)
theorem dX1_mark_24 : decode cX1_mark 24 = .ok (.iload_n 2, 1) := dk_28 (dk_at dksX1_mark_1 0 rfl rfl)
theorem dX1_mark_25 : decode cX1_mark 25 = .ok (.ifCond .ne 36, 3) := dk_154 0 36 (dk_at dksX1_mark_1 1 rfl rfl)
theorem dX1_mark_28 : decode cX1_mark 28 = .ok (.aload_n 0, 1) := dk_42 (dk_at dksX1_mark_1 4 rfl rfl)
theorem dX1_mark_29 : decode cX1_mark 29 = .ok (.getfield 95, 3) := dk_180 0 95 (dk_at dksX1_mark_1 5 rfl rfl)
theorem dX1_mark_32 : decode cX1_mark 32 = .ok (.iload_n 1, 1) := dk_27 (dk_at dksX1_mark_1 8 rfl rfl)
theorem dX1_mark_33 : decode cX1_mark 33 = .ok (.new 93, 3) := dk_187 0 93 (dk_at dksX1_mark_1 9 rfl rfl)
theorem dX1_mark_36 : decode cX1_mark 36 = .ok (.dup, 1) := dk_89 (dk_at dksX1_mark_1 12 rfl rfl)
theorem dX1_mark_37 : decode cX1_mark 37 = .ok (.aload_n 0, 1) := dk_42 (dk_at dksX1_mark_1 13 rfl rfl)
theorem dX1_mark_38 : decode cX1_mark 38 = .ok (.getfield 40, 3) := dk_180 0 40 (dk_at dksX1_mark_1 14 rfl rfl)
theorem dX1_mark_41 : decode cX1_mark 41 = .ok (.invokevirtual 232, 3) := dk_182 0 232 (dk_at dksX1_mark_1 17 rfl rfl)
theorem dX1_mark_44 : decode cX1_mark 44 = .ok (.aload_n 0, 1) := dk_42 (dk_at dksX1_mark_1 20 rfl rfl)
theorem dX1_mark_45 : decode cX1_mark 45 = .ok (.getfield 52, 3) := dk_180 0 52 (dk_at dksX1_mark_1 21 rfl rfl)
theorem dX1_mark_48 : decode cX1_mark 48 = .ok (.aload_n 0, 1) := dk_42 (dk_at dksX1_mark_2 0 rfl rfl)
theorem dX1_mark_49 : decode cX1_mark 49 = .ok (.getfield 56, 3) := dk_180 0 56 (dk_at dksX1_mark_2 1 rfl rfl)
theorem dX1_mark_52 : decode cX1_mark 52 = .ok (.invokestatic 381, 3) := dk_184 1 125 (dk_at dksX1_mark_2 4 rfl rfl)
theorem dX1_mark_55 : decode cX1_mark 55 = .ok (.invokespecial 384, 3) := dk_183 1 128 (dk_at dksX1_mark_2 7 rfl rfl)
theorem dX1_mark_58 : decode cX1_mark 58 = .ok (.aastore, 1) := dk_83 (dk_at dksX1_mark_2 10 rfl rfl)
theorem dX1_mark_59 : decode cX1_mark 59 = .ok (.iconst 1, 1) := dk_4 (dk_at dksX1_mark_2 11 rfl rfl)
theorem dX1_mark_60 : decode cX1_mark 60 = .ok (.ireturn, 1) := dk_172 (dk_at dksX1_mark_2 12 rfl rfl)
theorem dX1_mark_61 : decode cX1_mark 61 = .ok (.aload_n 0, 1) := dk_42 (dk_at dksX1_mark_2 13 rfl rfl)
theorem dX1_mark_62 : decode cX1_mark 62 = .ok (.aload_n 0, 1) := dk_42 (dk_at dksX1_mark_2 14 rfl rfl)
theorem dX1_mark_63 : decode cX1_mark 63 = .ok (.getfield 95, 3) := dk_180 0 95 (dk_at dksX1_mark_2 15 rfl rfl)
theorem dX1_mark_66 : decode cX1_mark 66 = .ok (.iload_n 1, 1) := dk_27 (dk_at dksX1_mark_2 18 rfl rfl)
theorem dX1_mark_67 : decode cX1_mark 67 = .ok (.aaload, 1) := dk_50 (dk_at dksX1_mark_2 19 rfl rfl)
theorem dX1_mark_68 : decode cX1_mark 68 = .ok (.getfield 387, 3) := dk_180 1 131 (dk_at dksX1_mark_2 20 rfl rfl)
theorem dX1_mark_71 : decode cX1_mark 71 = .ok (.invokevirtual 232, 3) := dk_182 0 232 (dk_at dksX1_mark_3 0 rfl rfl)
theorem dX1_mark_74 : decode cX1_mark 74 = .ok (.putfield 40, 3) := dk_181 0 40 (dk_at dksX1_mark_3 3 rfl rfl)
theorem dX1_mark_77 : decode cX1_mark 77 = .ok (.aload_n 0, 1) := dk_42 (dk_at dksX1_mark_3 6 rfl rfl)
theorem dX1_mark_78 : decode cX1_mark 78 = .ok (.aload_n 0, 1) := dk_42 (dk_at dksX1_mark_3 7 rfl rfl)
theorem dX1_mark_79 : decode cX1_mark 79 = .ok (.getfield 95, 3) := dk_180 0 95 (dk_at dksX1_mark_3 8 rfl rfl)
theorem dX1_mark_82 : decode cX1_mark 82 = .ok (.iload_n 1, 1) := dk_27 (dk_at dksX1_mark_3 11 rfl rfl)
theorem dX1_mark_83 : decode cX1_mark 83 = .ok (.aaload, 1) := dk_50 (dk_at dksX1_mark_3 12 rfl rfl)
theorem dX1_mark_84 : decode cX1_mark 84 = .ok (.getfield 388, 3) := dk_180 1 132 (dk_at dksX1_mark_3 13 rfl rfl)
theorem dX1_mark_87 : decode cX1_mark 87 = .ok (.putfield 52, 3) := dk_181 0 52 (dk_at dksX1_mark_3 16 rfl rfl)
theorem dX1_mark_90 : decode cX1_mark 90 = .ok (.aload_n 0, 1) := dk_42 (dk_at dksX1_mark_3 19 rfl rfl)
theorem dX1_mark_91 : decode cX1_mark 91 = .ok (.aload_n 0, 1) := dk_42 (dk_at dksX1_mark_3 20 rfl rfl)
theorem dX1_mark_92 : decode cX1_mark 92 = .ok (.getfield 95, 3) := dk_180 0 95 (dk_at dksX1_mark_3 21 rfl rfl)
theorem dX1_mark_95 : decode cX1_mark 95 = .ok (.iload_n 1, 1) := dk_27 (dk_at dksX1_mark_4 0 rfl rfl)
theorem dX1_mark_96 : decode cX1_mark 96 = .ok (.aaload, 1) := dk_50 (dk_at dksX1_mark_4 1 rfl rfl)
theorem dX1_mark_97 : decode cX1_mark 97 = .ok (.getfield 389, 3) := dk_180 1 133 (dk_at dksX1_mark_4 2 rfl rfl)
theorem dX1_mark_100 : decode cX1_mark 100 = .ok (.invokestatic 381, 3) := dk_184 1 125 (dk_at dksX1_mark_4 5 rfl rfl)
theorem dX1_mark_103 : decode cX1_mark 103 = .ok (.putfield 56, 3) := dk_181 0 56 (dk_at dksX1_mark_4 8 rfl rfl)
theorem dX1_mark_106 : decode cX1_mark 106 = .ok (.aload_n 0, 1) := dk_42 (dk_at dksX1_mark_4 11 rfl rfl)
theorem dX1_mark_107 : decode cX1_mark 107 = .ok (.getfield 60, 3) := dk_180 0 60 (dk_at dksX1_mark_4 12 rfl rfl)
theorem dX1_mark_110 : decode cX1_mark 110 = .ok (.invokevirtual 111, 3) := dk_182 0 111 (dk_at dksX1_mark_4 15 rfl rfl)
theorem dX1_mark_113 : decode cX1_mark 113 = .ok (.iconst 1, 1) := dk_4 (dk_at dksX1_mark_4 18 rfl rfl)
theorem dX1_mark_114 : decode cX1_mark 114 = .ok (.ireturn, 1) := dk_172 (dk_at dksX1_mark_4 19 rfl rfl)
abbrev cX1_copied : ByteArray := prog_1_method_44_code
def yX1_copied : MethodName := ⟨RX1, "copied", "(Ljava/util/ArrayList;)Ljava/util/ArrayList;"⟩
def dkwX1_copied_1 : List UInt8 := [182, 0, 153, 192, 1, 56, 182, 0, 236, 87, 132, 2, 1, 167, 255, 232, 43, 176]
abbrev dktX1_copied_1 : List UInt8 := dkwX1_copied_1 ++ []
def dkwX1_copied_0 : List UInt8 := [187, 0, 47, 89, 5, 183, 0, 49, 76, 3, 61, 28, 42, 182, 0, 131, 162, 0, 22, 43, 42, 28]
abbrev dktX1_copied_0 : List UInt8 := dkwX1_copied_0 ++ dktX1_copied_1
theorem dksX1_copied_0 : cX1_copied.data.toList.drop 0 = dktX1_copied_0 := by decide +kernel
theorem dksX1_copied_1 : cX1_copied.data.toList.drop 22 = dktX1_copied_1 := dk_seg dksX1_copied_0 22 rfl rfl
theorem dX1_copied_0 : decode cX1_copied 0 = .ok (.new 47, 3) := dk_187 0 47 (dk_at dksX1_copied_0 0 rfl rfl)
theorem dX1_copied_3 : decode cX1_copied 3 = .ok (.dup, 1) := dk_89 (dk_at dksX1_copied_0 3 rfl rfl)
theorem dX1_copied_4 : decode cX1_copied 4 = .ok (.iconst 2, 1) := dk_5 (dk_at dksX1_copied_0 4 rfl rfl)
theorem dX1_copied_5 : decode cX1_copied 5 = .ok (.invokespecial 49, 3) := dk_183 0 49 (dk_at dksX1_copied_0 5 rfl rfl)
theorem dX1_copied_8 : decode cX1_copied 8 = .ok (.astore_n 1, 1) := dk_76 (dk_at dksX1_copied_0 8 rfl rfl)
theorem dX1_copied_9 : decode cX1_copied 9 = .ok (.iconst 0, 1) := dk_3 (dk_at dksX1_copied_0 9 rfl rfl)
theorem dX1_copied_10 : decode cX1_copied 10 = .ok (.istore_n 2, 1) := dk_61 (dk_at dksX1_copied_0 10 rfl rfl)
theorem dX1_copied_11 : decode cX1_copied 11 = .ok (.iload_n 2, 1) := dk_28 (dk_at dksX1_copied_0 11 rfl rfl)
theorem dX1_copied_12 : decode cX1_copied 12 = .ok (.aload_n 0, 1) := dk_42 (dk_at dksX1_copied_0 12 rfl rfl)
theorem dX1_copied_13 : decode cX1_copied 13 = .ok (.invokevirtual 131, 3) := dk_182 0 131 (dk_at dksX1_copied_0 13 rfl rfl)
theorem dX1_copied_16 : decode cX1_copied 16 = .ok (.if_icmp .ge 22, 3) := dk_162 0 22 (dk_at dksX1_copied_0 16 rfl rfl)
theorem dX1_copied_19 : decode cX1_copied 19 = .ok (.aload_n 1, 1) := dk_43 (dk_at dksX1_copied_0 19 rfl rfl)
theorem dX1_copied_20 : decode cX1_copied 20 = .ok (.aload_n 0, 1) := dk_42 (dk_at dksX1_copied_0 20 rfl rfl)
theorem dX1_copied_21 : decode cX1_copied 21 = .ok (.iload_n 2, 1) := dk_28 (dk_at dksX1_copied_0 21 rfl rfl)
theorem dX1_copied_22 : decode cX1_copied 22 = .ok (.invokevirtual 153, 3) := dk_182 0 153 (dk_at dksX1_copied_1 0 rfl rfl)
theorem dX1_copied_25 : decode cX1_copied 25 = .ok (.checkcast 312, 3) := dk_192 1 56 (dk_at dksX1_copied_1 3 rfl rfl)
theorem dX1_copied_28 : decode cX1_copied 28 = .ok (.invokevirtual 236, 3) := dk_182 0 236 (dk_at dksX1_copied_1 6 rfl rfl)
theorem dX1_copied_31 : decode cX1_copied 31 = .ok (.pop, 1) := dk_87 (dk_at dksX1_copied_1 9 rfl rfl)
theorem dX1_copied_32 : decode cX1_copied 32 = .ok (.iinc 2 1, 3) := dk_132 2 1 (dk_at dksX1_copied_1 10 rfl rfl)
theorem dX1_copied_35 : decode cX1_copied 35 = .ok (.goto (-24), 3) := dk_167 255 232 (dk_at dksX1_copied_1 13 rfl rfl)
theorem dX1_copied_38 : decode cX1_copied 38 = .ok (.aload_n 1, 1) := dk_43 (dk_at dksX1_copied_1 16 rfl rfl)
theorem dX1_copied_39 : decode cX1_copied 39 = .ok (.areturn, 1) := dk_176 (dk_at dksX1_copied_1 17 rfl rfl)
abbrev cX1_count : ByteArray := prog_1_method_46_code
def yX1_count : MethodName := ⟨RX1, "count", "(I)I"⟩
def dkwX1_count_5 : List UInt8 := [180, 0, 60, 182, 0, 131, 172, 42, 180, 0, 24, 180, 0, 103, 172, 2, 172]
abbrev dktX1_count_5 : List UInt8 := dkwX1_count_5 ++ []
def dkwX1_count_4 : List UInt8 := [180, 0, 52, 182, 0, 131, 172, 42, 180, 0, 56, 182, 0, 131, 172, 42, 180, 0, 40, 180, 1, 140, 172, 42]
abbrev dktX1_count_4 : List UInt8 := dkwX1_count_4 ++ dktX1_count_5
def dkwX1_count_3 : List UInt8 := [182, 0, 119, 180, 1, 134, 172, 42, 180, 0, 40, 180, 1, 137, 172, 42, 180, 0, 40, 182, 1, 28, 172, 42]
abbrev dktX1_count_3 : List UInt8 := dkwX1_count_3 ++ dktX1_count_4
def dkwX1_count_2 : List UInt8 := [42, 182, 0, 138, 172, 42, 182, 0, 144, 172, 42, 182, 0, 119, 180, 1, 105, 182, 0, 131, 172, 42]
abbrev dktX1_count_2 : List UInt8 := dkwX1_count_2 ++ dktX1_count_3
def dkwX1_count_1 : List UInt8 := [170, 0, 0, 0, 0, 0, 144, 0, 0, 0, 0, 0, 0, 0, 10, 0, 0, 0, 59, 0, 0, 0, 64, 0, 0, 0, 69, 0, 0, 0, 80, 0, 0, 0, 88, 0, 0, 0, 96, 0, 0, 0, 104, 0, 0, 0, 112, 0, 0, 0, 120, 0, 0, 0, 128, 0, 0, 0, 136]
abbrev dktX1_count_1 : List UInt8 := dkwX1_count_1 ++ dktX1_count_2
def dkwX1_count_0 : List UInt8 := [27]
abbrev dktX1_count_0 : List UInt8 := dkwX1_count_0 ++ dktX1_count_1
theorem dksX1_count_0 : cX1_count.data.toList.drop 0 = dktX1_count_0 := by decide +kernel
theorem dksX1_count_1 : cX1_count.data.toList.drop 1 = dktX1_count_1 := dk_seg dksX1_count_0 1 rfl rfl
theorem dksX1_count_2 : cX1_count.data.toList.drop 60 = dktX1_count_2 := dk_seg dksX1_count_1 59 rfl rfl
theorem dksX1_count_3 : cX1_count.data.toList.drop 82 = dktX1_count_3 := dk_seg dksX1_count_2 22 rfl rfl
theorem dksX1_count_4 : cX1_count.data.toList.drop 106 = dktX1_count_4 := dk_seg dksX1_count_3 24 rfl rfl
theorem dksX1_count_5 : cX1_count.data.toList.drop 130 = dktX1_count_5 := dk_seg dksX1_count_4 24 rfl rfl
theorem dX1_count_0 : decode cX1_count 0 = .ok (.iload_n 1, 1) := dk_27 (dk_at dksX1_count_0 0 rfl rfl)
theorem dX1_count_1 : decode cX1_count 1 = .ok (.tableswitch 144 0 10 #[59, 64, 69, 80, 88, 96, 104, 112, 120, 128, 136], 59) := by decide +kernel
theorem dX1_count_60 : decode cX1_count 60 = .ok (.aload_n 0, 1) := dk_42 (dk_at dksX1_count_2 0 rfl rfl)
theorem dX1_count_61 : decode cX1_count 61 = .ok (.invokevirtual 138, 3) := dk_182 0 138 (dk_at dksX1_count_2 1 rfl rfl)
theorem dX1_count_64 : decode cX1_count 64 = .ok (.ireturn, 1) := dk_172 (dk_at dksX1_count_2 4 rfl rfl)
theorem dX1_count_65 : decode cX1_count 65 = .ok (.aload_n 0, 1) := dk_42 (dk_at dksX1_count_2 5 rfl rfl)
theorem dX1_count_66 : decode cX1_count 66 = .ok (.invokevirtual 144, 3) := dk_182 0 144 (dk_at dksX1_count_2 6 rfl rfl)
theorem dX1_count_69 : decode cX1_count 69 = .ok (.ireturn, 1) := dk_172 (dk_at dksX1_count_2 9 rfl rfl)
theorem dX1_count_70 : decode cX1_count 70 = .ok (.aload_n 0, 1) := dk_42 (dk_at dksX1_count_2 10 rfl rfl)
theorem dX1_count_71 : decode cX1_count 71 = .ok (.invokevirtual 119, 3) := dk_182 0 119 (dk_at dksX1_count_2 11 rfl rfl)
theorem dX1_count_74 : decode cX1_count 74 = .ok (.getfield 361, 3) := dk_180 1 105 (dk_at dksX1_count_2 14 rfl rfl)
theorem dX1_count_77 : decode cX1_count 77 = .ok (.invokevirtual 131, 3) := dk_182 0 131 (dk_at dksX1_count_2 17 rfl rfl)
theorem dX1_count_80 : decode cX1_count 80 = .ok (.ireturn, 1) := dk_172 (dk_at dksX1_count_2 20 rfl rfl)
theorem dX1_count_81 : decode cX1_count 81 = .ok (.aload_n 0, 1) := dk_42 (dk_at dksX1_count_2 21 rfl rfl)
theorem dX1_count_82 : decode cX1_count 82 = .ok (.invokevirtual 119, 3) := dk_182 0 119 (dk_at dksX1_count_3 0 rfl rfl)
theorem dX1_count_85 : decode cX1_count 85 = .ok (.getfield 390, 3) := dk_180 1 134 (dk_at dksX1_count_3 3 rfl rfl)
theorem dX1_count_88 : decode cX1_count 88 = .ok (.ireturn, 1) := dk_172 (dk_at dksX1_count_3 6 rfl rfl)
theorem dX1_count_89 : decode cX1_count 89 = .ok (.aload_n 0, 1) := dk_42 (dk_at dksX1_count_3 7 rfl rfl)
theorem dX1_count_90 : decode cX1_count 90 = .ok (.getfield 40, 3) := dk_180 0 40 (dk_at dksX1_count_3 8 rfl rfl)
theorem dX1_count_93 : decode cX1_count 93 = .ok (.getfield 393, 3) := dk_180 1 137 (dk_at dksX1_count_3 11 rfl rfl)
theorem dX1_count_96 : decode cX1_count 96 = .ok (.ireturn, 1) := dk_172 (dk_at dksX1_count_3 14 rfl rfl)
theorem dX1_count_97 : decode cX1_count 97 = .ok (.aload_n 0, 1) := dk_42 (dk_at dksX1_count_3 15 rfl rfl)
theorem dX1_count_98 : decode cX1_count 98 = .ok (.getfield 40, 3) := dk_180 0 40 (dk_at dksX1_count_3 16 rfl rfl)
theorem dX1_count_101 : decode cX1_count 101 = .ok (.invokevirtual 284, 3) := dk_182 1 28 (dk_at dksX1_count_3 19 rfl rfl)
theorem dX1_count_104 : decode cX1_count 104 = .ok (.ireturn, 1) := dk_172 (dk_at dksX1_count_3 22 rfl rfl)
theorem dX1_count_105 : decode cX1_count 105 = .ok (.aload_n 0, 1) := dk_42 (dk_at dksX1_count_3 23 rfl rfl)
theorem dX1_count_106 : decode cX1_count 106 = .ok (.getfield 52, 3) := dk_180 0 52 (dk_at dksX1_count_4 0 rfl rfl)
theorem dX1_count_109 : decode cX1_count 109 = .ok (.invokevirtual 131, 3) := dk_182 0 131 (dk_at dksX1_count_4 3 rfl rfl)
theorem dX1_count_112 : decode cX1_count 112 = .ok (.ireturn, 1) := dk_172 (dk_at dksX1_count_4 6 rfl rfl)
theorem dX1_count_113 : decode cX1_count 113 = .ok (.aload_n 0, 1) := dk_42 (dk_at dksX1_count_4 7 rfl rfl)
theorem dX1_count_114 : decode cX1_count 114 = .ok (.getfield 56, 3) := dk_180 0 56 (dk_at dksX1_count_4 8 rfl rfl)
theorem dX1_count_117 : decode cX1_count 117 = .ok (.invokevirtual 131, 3) := dk_182 0 131 (dk_at dksX1_count_4 11 rfl rfl)
theorem dX1_count_120 : decode cX1_count 120 = .ok (.ireturn, 1) := dk_172 (dk_at dksX1_count_4 14 rfl rfl)
theorem dX1_count_121 : decode cX1_count 121 = .ok (.aload_n 0, 1) := dk_42 (dk_at dksX1_count_4 15 rfl rfl)
theorem dX1_count_122 : decode cX1_count 122 = .ok (.getfield 40, 3) := dk_180 0 40 (dk_at dksX1_count_4 16 rfl rfl)
theorem dX1_count_125 : decode cX1_count 125 = .ok (.getfield 396, 3) := dk_180 1 140 (dk_at dksX1_count_4 19 rfl rfl)
theorem dX1_count_128 : decode cX1_count 128 = .ok (.ireturn, 1) := dk_172 (dk_at dksX1_count_4 22 rfl rfl)
theorem dX1_count_129 : decode cX1_count 129 = .ok (.aload_n 0, 1) := dk_42 (dk_at dksX1_count_4 23 rfl rfl)
theorem dX1_count_130 : decode cX1_count 130 = .ok (.getfield 60, 3) := dk_180 0 60 (dk_at dksX1_count_5 0 rfl rfl)
theorem dX1_count_133 : decode cX1_count 133 = .ok (.invokevirtual 131, 3) := dk_182 0 131 (dk_at dksX1_count_5 3 rfl rfl)
theorem dX1_count_136 : decode cX1_count 136 = .ok (.ireturn, 1) := dk_172 (dk_at dksX1_count_5 6 rfl rfl)
theorem dX1_count_137 : decode cX1_count 137 = .ok (.aload_n 0, 1) := dk_42 (dk_at dksX1_count_5 7 rfl rfl)
theorem dX1_count_138 : decode cX1_count 138 = .ok (.getfield 24, 3) := dk_180 0 24 (dk_at dksX1_count_5 8 rfl rfl)
theorem dX1_count_141 : decode cX1_count 141 = .ok (.getfield 103, 3) := dk_180 0 103 (dk_at dksX1_count_5 11 rfl rfl)
theorem dX1_count_144 : decode cX1_count 144 = .ok (.ireturn, 1) := dk_172 (dk_at dksX1_count_5 14 rfl rfl)
theorem dX1_count_145 : decode cX1_count 145 = .ok (.iconst (-1), 1) := dk_2 (dk_at dksX1_count_5 15 rfl rfl)
theorem dX1_count_146 : decode cX1_count 146 = .ok (.ireturn, 1) := dk_172 (dk_at dksX1_count_5 16 rfl rfl)
abbrev cX1_person : ByteArray := prog_1_method_15_code
def yX1_person : MethodName := ⟨RX1, "person", "(II)I"⟩
def dkwX1_person_7 : List UInt8 := [46, 172, 42, 180, 0, 40, 180, 0, 183, 27, 46, 172]
abbrev dktX1_person_7 : List UInt8 := dkwX1_person_7 ++ []
def dkwX1_person_6 : List UInt8 := [180, 0, 174, 27, 184, 0, 176, 153, 0, 7, 4, 167, 0, 4, 3, 172, 42, 180, 0, 40, 180, 0, 180, 27]
abbrev dktX1_person_6 : List UInt8 := dkwX1_person_6 ++ dktX1_person_7
def dkwX1_person_5 : List UInt8 := [42, 180, 0, 40, 27, 182, 0, 167, 172, 42, 180, 0, 40, 27, 182, 0, 171, 172, 42, 180, 0, 40]
abbrev dktX1_person_5 : List UInt8 := dkwX1_person_5 ++ dktX1_person_6
def dkwX1_person_4 : List UInt8 := [180, 0, 160, 27, 46, 172, 42, 182, 0, 119, 180, 0, 128, 27, 182, 0, 153, 192, 0, 13, 180, 0, 164, 172]
abbrev dktX1_person_4 : List UInt8 := dkwX1_person_4 ++ dktX1_person_5
def dkwX1_person_3 : List UInt8 := [42, 182, 0, 119, 180, 0, 128, 27, 182, 0, 153, 192, 0, 13, 182, 0, 157, 172, 42, 180, 0, 40]
abbrev dktX1_person_3 : List UInt8 := dkwX1_person_3 ++ dktX1_person_4
def dkwX1_person_2 : List UInt8 := [170, 0, 0, 0, 135, 0, 0, 0, 0, 0, 0, 0, 6, 0, 0, 0, 41, 0, 0, 0, 59, 0, 0, 0, 69, 0, 0, 0, 87, 0, 0, 0, 96, 0, 0, 0, 105, 0, 0, 0, 125]
abbrev dktX1_person_2 : List UInt8 := dkwX1_person_2 ++ dktX1_person_3
def dkwX1_person_1 : List UInt8 := [183, 0, 152, 191, 28]
abbrev dktX1_person_1 : List UInt8 := dkwX1_person_1 ++ dktX1_person_2
def dkwX1_person_0 : List UInt8 := [42, 27, 182, 0, 146, 153, 0, 13, 28, 3, 16, 7, 184, 0, 140, 154, 0, 11, 187, 0, 150, 89]
abbrev dktX1_person_0 : List UInt8 := dkwX1_person_0 ++ dktX1_person_1
theorem dksX1_person_0 : cX1_person.data.toList.drop 0 = dktX1_person_0 := by decide +kernel
theorem dksX1_person_1 : cX1_person.data.toList.drop 22 = dktX1_person_1 := dk_seg dksX1_person_0 22 rfl rfl
theorem dksX1_person_2 : cX1_person.data.toList.drop 27 = dktX1_person_2 := dk_seg dksX1_person_1 5 rfl rfl
theorem dksX1_person_3 : cX1_person.data.toList.drop 68 = dktX1_person_3 := dk_seg dksX1_person_2 41 rfl rfl
theorem dksX1_person_4 : cX1_person.data.toList.drop 90 = dktX1_person_4 := dk_seg dksX1_person_3 22 rfl rfl
theorem dksX1_person_5 : cX1_person.data.toList.drop 114 = dktX1_person_5 := dk_seg dksX1_person_4 24 rfl rfl
theorem dksX1_person_6 : cX1_person.data.toList.drop 136 = dktX1_person_6 := dk_seg dksX1_person_5 22 rfl rfl
theorem dksX1_person_7 : cX1_person.data.toList.drop 160 = dktX1_person_7 := dk_seg dksX1_person_6 24 rfl rfl
theorem dX1_person_0 : decode cX1_person 0 = .ok (.aload_n 0, 1) := dk_42 (dk_at dksX1_person_0 0 rfl rfl)
theorem dX1_person_1 : decode cX1_person 1 = .ok (.iload_n 1, 1) := dk_27 (dk_at dksX1_person_0 1 rfl rfl)
theorem dX1_person_2 : decode cX1_person 2 = .ok (.invokevirtual 146, 3) := dk_182 0 146 (dk_at dksX1_person_0 2 rfl rfl)
theorem dX1_person_5 : decode cX1_person 5 = .ok (.ifCond .eq 13, 3) := dk_153 0 13 (dk_at dksX1_person_0 5 rfl rfl)
theorem dX1_person_8 : decode cX1_person 8 = .ok (.iload_n 2, 1) := dk_28 (dk_at dksX1_person_0 8 rfl rfl)
theorem dX1_person_9 : decode cX1_person 9 = .ok (.iconst 0, 1) := dk_3 (dk_at dksX1_person_0 9 rfl rfl)
theorem dX1_person_10 : decode cX1_person 10 = .ok (.bipush 7, 2) := dk_16 7 (dk_at dksX1_person_0 10 rfl rfl)
theorem dX1_person_12 : decode cX1_person 12 = .ok (.invokestatic 140, 3) := dk_184 0 140 (dk_at dksX1_person_0 12 rfl rfl)
theorem dX1_person_15 : decode cX1_person 15 = .ok (.ifCond .ne 11, 3) := dk_154 0 11 (dk_at dksX1_person_0 15 rfl rfl)
theorem dX1_person_18 : decode cX1_person 18 = .ok (.new 150, 3) := dk_187 0 150 (dk_at dksX1_person_0 18 rfl rfl)
theorem dX1_person_21 : decode cX1_person 21 = .ok (.dup, 1) := dk_89 (dk_at dksX1_person_0 21 rfl rfl)
theorem dX1_person_22 : decode cX1_person 22 = .ok (.invokespecial 152, 3) := dk_183 0 152 (dk_at dksX1_person_1 0 rfl rfl)
theorem dX1_person_25 : decode cX1_person 25 = .ok (.athrow, 1) := dk_191 (dk_at dksX1_person_1 3 rfl rfl)
theorem dX1_person_26 : decode cX1_person 26 = .ok (.iload_n 2, 1) := dk_28 (dk_at dksX1_person_1 4 rfl rfl)
theorem dX1_person_27 : decode cX1_person 27 = .ok (.tableswitch 135 0 6 #[41, 59, 69, 87, 96, 105, 125], 41) := by decide +kernel
theorem dX1_person_68 : decode cX1_person 68 = .ok (.aload_n 0, 1) := dk_42 (dk_at dksX1_person_3 0 rfl rfl)
theorem dX1_person_69 : decode cX1_person 69 = .ok (.invokevirtual 119, 3) := dk_182 0 119 (dk_at dksX1_person_3 1 rfl rfl)
theorem dX1_person_72 : decode cX1_person 72 = .ok (.getfield 128, 3) := dk_180 0 128 (dk_at dksX1_person_3 4 rfl rfl)
theorem dX1_person_75 : decode cX1_person 75 = .ok (.iload_n 1, 1) := dk_27 (dk_at dksX1_person_3 7 rfl rfl)
theorem dX1_person_76 : decode cX1_person 76 = .ok (.invokevirtual 153, 3) := dk_182 0 153 (dk_at dksX1_person_3 8 rfl rfl)
theorem dX1_person_79 : decode cX1_person 79 = .ok (.checkcast 13, 3) := dk_192 0 13 (dk_at dksX1_person_3 11 rfl rfl)
theorem dX1_person_82 : decode cX1_person 82 = .ok (.invokevirtual 157, 3) := dk_182 0 157 (dk_at dksX1_person_3 14 rfl rfl)
theorem dX1_person_85 : decode cX1_person 85 = .ok (.ireturn, 1) := dk_172 (dk_at dksX1_person_3 17 rfl rfl)
theorem dX1_person_86 : decode cX1_person 86 = .ok (.aload_n 0, 1) := dk_42 (dk_at dksX1_person_3 18 rfl rfl)
theorem dX1_person_87 : decode cX1_person 87 = .ok (.getfield 40, 3) := dk_180 0 40 (dk_at dksX1_person_3 19 rfl rfl)
theorem dX1_person_90 : decode cX1_person 90 = .ok (.getfield 160, 3) := dk_180 0 160 (dk_at dksX1_person_4 0 rfl rfl)
theorem dX1_person_93 : decode cX1_person 93 = .ok (.iload_n 1, 1) := dk_27 (dk_at dksX1_person_4 3 rfl rfl)
theorem dX1_person_94 : decode cX1_person 94 = .ok (.iaload, 1) := dk_46 (dk_at dksX1_person_4 4 rfl rfl)
theorem dX1_person_95 : decode cX1_person 95 = .ok (.ireturn, 1) := dk_172 (dk_at dksX1_person_4 5 rfl rfl)
theorem dX1_person_96 : decode cX1_person 96 = .ok (.aload_n 0, 1) := dk_42 (dk_at dksX1_person_4 6 rfl rfl)
theorem dX1_person_97 : decode cX1_person 97 = .ok (.invokevirtual 119, 3) := dk_182 0 119 (dk_at dksX1_person_4 7 rfl rfl)
theorem dX1_person_100 : decode cX1_person 100 = .ok (.getfield 128, 3) := dk_180 0 128 (dk_at dksX1_person_4 10 rfl rfl)
theorem dX1_person_103 : decode cX1_person 103 = .ok (.iload_n 1, 1) := dk_27 (dk_at dksX1_person_4 13 rfl rfl)
theorem dX1_person_104 : decode cX1_person 104 = .ok (.invokevirtual 153, 3) := dk_182 0 153 (dk_at dksX1_person_4 14 rfl rfl)
theorem dX1_person_107 : decode cX1_person 107 = .ok (.checkcast 13, 3) := dk_192 0 13 (dk_at dksX1_person_4 17 rfl rfl)
theorem dX1_person_110 : decode cX1_person 110 = .ok (.getfield 164, 3) := dk_180 0 164 (dk_at dksX1_person_4 20 rfl rfl)
theorem dX1_person_113 : decode cX1_person 113 = .ok (.ireturn, 1) := dk_172 (dk_at dksX1_person_4 23 rfl rfl)
theorem dX1_person_114 : decode cX1_person 114 = .ok (.aload_n 0, 1) := dk_42 (dk_at dksX1_person_5 0 rfl rfl)
theorem dX1_person_115 : decode cX1_person 115 = .ok (.getfield 40, 3) := dk_180 0 40 (dk_at dksX1_person_5 1 rfl rfl)
theorem dX1_person_118 : decode cX1_person 118 = .ok (.iload_n 1, 1) := dk_27 (dk_at dksX1_person_5 4 rfl rfl)
theorem dX1_person_119 : decode cX1_person 119 = .ok (.invokevirtual 167, 3) := dk_182 0 167 (dk_at dksX1_person_5 5 rfl rfl)
theorem dX1_person_122 : decode cX1_person 122 = .ok (.ireturn, 1) := dk_172 (dk_at dksX1_person_5 8 rfl rfl)
theorem dX1_person_123 : decode cX1_person 123 = .ok (.aload_n 0, 1) := dk_42 (dk_at dksX1_person_5 9 rfl rfl)
theorem dX1_person_124 : decode cX1_person 124 = .ok (.getfield 40, 3) := dk_180 0 40 (dk_at dksX1_person_5 10 rfl rfl)
theorem dX1_person_127 : decode cX1_person 127 = .ok (.iload_n 1, 1) := dk_27 (dk_at dksX1_person_5 13 rfl rfl)
theorem dX1_person_128 : decode cX1_person 128 = .ok (.invokevirtual 171, 3) := dk_182 0 171 (dk_at dksX1_person_5 14 rfl rfl)
theorem dX1_person_131 : decode cX1_person 131 = .ok (.ireturn, 1) := dk_172 (dk_at dksX1_person_5 17 rfl rfl)
theorem dX1_person_132 : decode cX1_person 132 = .ok (.aload_n 0, 1) := dk_42 (dk_at dksX1_person_5 18 rfl rfl)
theorem dX1_person_133 : decode cX1_person 133 = .ok (.getfield 40, 3) := dk_180 0 40 (dk_at dksX1_person_5 19 rfl rfl)
theorem dX1_person_136 : decode cX1_person 136 = .ok (.getfield 174, 3) := dk_180 0 174 (dk_at dksX1_person_6 0 rfl rfl)
theorem dX1_person_139 : decode cX1_person 139 = .ok (.iload_n 1, 1) := dk_27 (dk_at dksX1_person_6 3 rfl rfl)
theorem dX1_person_140 : decode cX1_person 140 = .ok (.invokestatic 176, 3) := dk_184 0 176 (dk_at dksX1_person_6 4 rfl rfl)
theorem dX1_person_143 : decode cX1_person 143 = .ok (.ifCond .eq 7, 3) := dk_153 0 7 (dk_at dksX1_person_6 7 rfl rfl)
theorem dX1_person_146 : decode cX1_person 146 = .ok (.iconst 1, 1) := dk_4 (dk_at dksX1_person_6 10 rfl rfl)
theorem dX1_person_147 : decode cX1_person 147 = .ok (.goto 4, 3) := dk_167 0 4 (dk_at dksX1_person_6 11 rfl rfl)
theorem dX1_person_150 : decode cX1_person 150 = .ok (.iconst 0, 1) := dk_3 (dk_at dksX1_person_6 14 rfl rfl)
theorem dX1_person_151 : decode cX1_person 151 = .ok (.ireturn, 1) := dk_172 (dk_at dksX1_person_6 15 rfl rfl)
theorem dX1_person_152 : decode cX1_person 152 = .ok (.aload_n 0, 1) := dk_42 (dk_at dksX1_person_6 16 rfl rfl)
theorem dX1_person_153 : decode cX1_person 153 = .ok (.getfield 40, 3) := dk_180 0 40 (dk_at dksX1_person_6 17 rfl rfl)
theorem dX1_person_156 : decode cX1_person 156 = .ok (.getfield 180, 3) := dk_180 0 180 (dk_at dksX1_person_6 20 rfl rfl)
theorem dX1_person_159 : decode cX1_person 159 = .ok (.iload_n 1, 1) := dk_27 (dk_at dksX1_person_6 23 rfl rfl)
theorem dX1_person_160 : decode cX1_person 160 = .ok (.iaload, 1) := dk_46 (dk_at dksX1_person_7 0 rfl rfl)
theorem dX1_person_161 : decode cX1_person 161 = .ok (.ireturn, 1) := dk_172 (dk_at dksX1_person_7 1 rfl rfl)
theorem dX1_person_162 : decode cX1_person 162 = .ok (.aload_n 0, 1) := dk_42 (dk_at dksX1_person_7 2 rfl rfl)
theorem dX1_person_163 : decode cX1_person 163 = .ok (.getfield 40, 3) := dk_180 0 40 (dk_at dksX1_person_7 3 rfl rfl)
theorem dX1_person_166 : decode cX1_person 166 = .ok (.getfield 183, 3) := dk_180 0 183 (dk_at dksX1_person_7 6 rfl rfl)
theorem dX1_person_169 : decode cX1_person 169 = .ok (.iload_n 1, 1) := dk_27 (dk_at dksX1_person_7 9 rfl rfl)
theorem dX1_person_170 : decode cX1_person 170 = .ok (.iaload, 1) := dk_46 (dk_at dksX1_person_7 10 rfl rfl)
theorem dX1_person_171 : decode cX1_person 171 = .ok (.ireturn, 1) := dk_172 (dk_at dksX1_person_7 11 rfl rfl)
abbrev cX1_plot : ByteArray := prog_1_method_29_code
def yX1_plot : MethodName := ⟨RX1, "plot", "(IIII)I"⟩
def dkwX1_plot_5 : List UInt8 := [2, 172]
abbrev dktX1_plot_5 : List UInt8 := dkwX1_plot_5 ++ []
def dkwX1_plot_4 : List UInt8 := [180, 0, 75, 180, 1, 49, 162, 0, 18, 42, 180, 0, 75, 180, 1, 52, 21, 4, 5, 100, 46, 167, 0, 4]
abbrev dktX1_plot_4 : List UInt8 := dkwX1_plot_4 ++ dktX1_plot_5
def dkwX1_plot_3 : List UInt8 := [167, 0, 49, 21, 4, 4, 160, 0, 13, 42, 180, 0, 75, 180, 1, 49, 167, 0, 33, 21, 4, 5, 100, 42]
abbrev dktX1_plot_3 : List UInt8 := dkwX1_plot_3 ++ dktX1_plot_4
def dkwX1_plot_2 : List UInt8 := [42, 180, 0, 75, 27, 28, 29, 182, 1, 43, 21, 4, 154, 0, 13, 42, 180, 0, 75, 180, 1, 46]
abbrev dktX1_plot_2 : List UInt8 := dkwX1_plot_2 ++ dktX1_plot_3
def dkwX1_plot_1 : List UInt8 := [184, 0, 140, 153, 0, 13, 21, 4, 3, 6, 184, 0, 140, 154, 0, 11, 187, 0, 150, 89, 183, 0, 152, 191]
abbrev dktX1_plot_1 : List UInt8 := dkwX1_plot_1 ++ dktX1_plot_2
def dkwX1_plot_0 : List UInt8 := [42, 27, 182, 0, 146, 153, 0, 35, 42, 28, 182, 0, 146, 153, 0, 27, 27, 28, 159, 0, 22, 29, 3, 5]
abbrev dktX1_plot_0 : List UInt8 := dkwX1_plot_0 ++ dktX1_plot_1
theorem dksX1_plot_0 : cX1_plot.data.toList.drop 0 = dktX1_plot_0 := by decide +kernel
theorem dksX1_plot_1 : cX1_plot.data.toList.drop 24 = dktX1_plot_1 := dk_seg dksX1_plot_0 24 rfl rfl
theorem dksX1_plot_2 : cX1_plot.data.toList.drop 48 = dktX1_plot_2 := dk_seg dksX1_plot_1 24 rfl rfl
theorem dksX1_plot_3 : cX1_plot.data.toList.drop 70 = dktX1_plot_3 := dk_seg dksX1_plot_2 22 rfl rfl
theorem dksX1_plot_4 : cX1_plot.data.toList.drop 94 = dktX1_plot_4 := dk_seg dksX1_plot_3 24 rfl rfl
theorem dksX1_plot_5 : cX1_plot.data.toList.drop 118 = dktX1_plot_5 := dk_seg dksX1_plot_4 24 rfl rfl
theorem dX1_plot_0 : decode cX1_plot 0 = .ok (.aload_n 0, 1) := dk_42 (dk_at dksX1_plot_0 0 rfl rfl)
theorem dX1_plot_1 : decode cX1_plot 1 = .ok (.iload_n 1, 1) := dk_27 (dk_at dksX1_plot_0 1 rfl rfl)
theorem dX1_plot_2 : decode cX1_plot 2 = .ok (.invokevirtual 146, 3) := dk_182 0 146 (dk_at dksX1_plot_0 2 rfl rfl)
theorem dX1_plot_5 : decode cX1_plot 5 = .ok (.ifCond .eq 35, 3) := dk_153 0 35 (dk_at dksX1_plot_0 5 rfl rfl)
theorem dX1_plot_8 : decode cX1_plot 8 = .ok (.aload_n 0, 1) := dk_42 (dk_at dksX1_plot_0 8 rfl rfl)
theorem dX1_plot_9 : decode cX1_plot 9 = .ok (.iload_n 2, 1) := dk_28 (dk_at dksX1_plot_0 9 rfl rfl)
theorem dX1_plot_10 : decode cX1_plot 10 = .ok (.invokevirtual 146, 3) := dk_182 0 146 (dk_at dksX1_plot_0 10 rfl rfl)
theorem dX1_plot_13 : decode cX1_plot 13 = .ok (.ifCond .eq 27, 3) := dk_153 0 27 (dk_at dksX1_plot_0 13 rfl rfl)
theorem dX1_plot_16 : decode cX1_plot 16 = .ok (.iload_n 1, 1) := dk_27 (dk_at dksX1_plot_0 16 rfl rfl)
theorem dX1_plot_17 : decode cX1_plot 17 = .ok (.iload_n 2, 1) := dk_28 (dk_at dksX1_plot_0 17 rfl rfl)
theorem dX1_plot_18 : decode cX1_plot 18 = .ok (.if_icmp .eq 22, 3) := dk_159 0 22 (dk_at dksX1_plot_0 18 rfl rfl)
theorem dX1_plot_21 : decode cX1_plot 21 = .ok (.iload_n 3, 1) := dk_29 (dk_at dksX1_plot_0 21 rfl rfl)
theorem dX1_plot_22 : decode cX1_plot 22 = .ok (.iconst 0, 1) := dk_3 (dk_at dksX1_plot_0 22 rfl rfl)
theorem dX1_plot_23 : decode cX1_plot 23 = .ok (.iconst 2, 1) := dk_5 (dk_at dksX1_plot_0 23 rfl rfl)
theorem dX1_plot_24 : decode cX1_plot 24 = .ok (.invokestatic 140, 3) := dk_184 0 140 (dk_at dksX1_plot_1 0 rfl rfl)
theorem dX1_plot_27 : decode cX1_plot 27 = .ok (.ifCond .eq 13, 3) := dk_153 0 13 (dk_at dksX1_plot_1 3 rfl rfl)
theorem dX1_plot_30 : decode cX1_plot 30 = .ok (.iload 4, 2) := dk_21 4 (dk_at dksX1_plot_1 6 rfl rfl)
theorem dX1_plot_32 : decode cX1_plot 32 = .ok (.iconst 0, 1) := dk_3 (dk_at dksX1_plot_1 8 rfl rfl)
theorem dX1_plot_33 : decode cX1_plot 33 = .ok (.iconst 3, 1) := dk_6 (dk_at dksX1_plot_1 9 rfl rfl)
theorem dX1_plot_34 : decode cX1_plot 34 = .ok (.invokestatic 140, 3) := dk_184 0 140 (dk_at dksX1_plot_1 10 rfl rfl)
theorem dX1_plot_37 : decode cX1_plot 37 = .ok (.ifCond .ne 11, 3) := dk_154 0 11 (dk_at dksX1_plot_1 13 rfl rfl)
theorem dX1_plot_40 : decode cX1_plot 40 = .ok (.new 150, 3) := dk_187 0 150 (dk_at dksX1_plot_1 16 rfl rfl)
theorem dX1_plot_43 : decode cX1_plot 43 = .ok (.dup, 1) := dk_89 (dk_at dksX1_plot_1 19 rfl rfl)
theorem dX1_plot_44 : decode cX1_plot 44 = .ok (.invokespecial 152, 3) := dk_183 0 152 (dk_at dksX1_plot_1 20 rfl rfl)
theorem dX1_plot_47 : decode cX1_plot 47 = .ok (.athrow, 1) := dk_191 (dk_at dksX1_plot_1 23 rfl rfl)
theorem dX1_plot_48 : decode cX1_plot 48 = .ok (.aload_n 0, 1) := dk_42 (dk_at dksX1_plot_2 0 rfl rfl)
theorem dX1_plot_49 : decode cX1_plot 49 = .ok (.getfield 75, 3) := dk_180 0 75 (dk_at dksX1_plot_2 1 rfl rfl)
theorem dX1_plot_52 : decode cX1_plot 52 = .ok (.iload_n 1, 1) := dk_27 (dk_at dksX1_plot_2 4 rfl rfl)
theorem dX1_plot_53 : decode cX1_plot 53 = .ok (.iload_n 2, 1) := dk_28 (dk_at dksX1_plot_2 5 rfl rfl)
theorem dX1_plot_54 : decode cX1_plot 54 = .ok (.iload_n 3, 1) := dk_29 (dk_at dksX1_plot_2 6 rfl rfl)
theorem dX1_plot_55 : decode cX1_plot 55 = .ok (.invokevirtual 299, 3) := dk_182 1 43 (dk_at dksX1_plot_2 7 rfl rfl)
theorem dX1_plot_58 : decode cX1_plot 58 = .ok (.iload 4, 2) := dk_21 4 (dk_at dksX1_plot_2 10 rfl rfl)
theorem dX1_plot_60 : decode cX1_plot 60 = .ok (.ifCond .ne 13, 3) := dk_154 0 13 (dk_at dksX1_plot_2 12 rfl rfl)
theorem dX1_plot_63 : decode cX1_plot 63 = .ok (.aload_n 0, 1) := dk_42 (dk_at dksX1_plot_2 15 rfl rfl)
theorem dX1_plot_64 : decode cX1_plot 64 = .ok (.getfield 75, 3) := dk_180 0 75 (dk_at dksX1_plot_2 16 rfl rfl)
theorem dX1_plot_67 : decode cX1_plot 67 = .ok (.getfield 302, 3) := dk_180 1 46 (dk_at dksX1_plot_2 19 rfl rfl)
theorem dX1_plot_70 : decode cX1_plot 70 = .ok (.goto 49, 3) := dk_167 0 49 (dk_at dksX1_plot_3 0 rfl rfl)
theorem dX1_plot_73 : decode cX1_plot 73 = .ok (.iload 4, 2) := dk_21 4 (dk_at dksX1_plot_3 3 rfl rfl)
theorem dX1_plot_75 : decode cX1_plot 75 = .ok (.iconst 1, 1) := dk_4 (dk_at dksX1_plot_3 5 rfl rfl)
theorem dX1_plot_76 : decode cX1_plot 76 = .ok (.if_icmp .ne 13, 3) := dk_160 0 13 (dk_at dksX1_plot_3 6 rfl rfl)
theorem dX1_plot_79 : decode cX1_plot 79 = .ok (.aload_n 0, 1) := dk_42 (dk_at dksX1_plot_3 9 rfl rfl)
theorem dX1_plot_80 : decode cX1_plot 80 = .ok (.getfield 75, 3) := dk_180 0 75 (dk_at dksX1_plot_3 10 rfl rfl)
theorem dX1_plot_83 : decode cX1_plot 83 = .ok (.getfield 305, 3) := dk_180 1 49 (dk_at dksX1_plot_3 13 rfl rfl)
theorem dX1_plot_86 : decode cX1_plot 86 = .ok (.goto 33, 3) := dk_167 0 33 (dk_at dksX1_plot_3 16 rfl rfl)
theorem dX1_plot_89 : decode cX1_plot 89 = .ok (.iload 4, 2) := dk_21 4 (dk_at dksX1_plot_3 19 rfl rfl)
theorem dX1_plot_91 : decode cX1_plot 91 = .ok (.iconst 2, 1) := dk_5 (dk_at dksX1_plot_3 21 rfl rfl)
theorem dX1_plot_92 : decode cX1_plot 92 = .ok (.isub, 1) := dk_100 (dk_at dksX1_plot_3 22 rfl rfl)
theorem dX1_plot_93 : decode cX1_plot 93 = .ok (.aload_n 0, 1) := dk_42 (dk_at dksX1_plot_3 23 rfl rfl)
theorem dX1_plot_94 : decode cX1_plot 94 = .ok (.getfield 75, 3) := dk_180 0 75 (dk_at dksX1_plot_4 0 rfl rfl)
theorem dX1_plot_97 : decode cX1_plot 97 = .ok (.getfield 305, 3) := dk_180 1 49 (dk_at dksX1_plot_4 3 rfl rfl)
theorem dX1_plot_100 : decode cX1_plot 100 = .ok (.if_icmp .ge 18, 3) := dk_162 0 18 (dk_at dksX1_plot_4 6 rfl rfl)
theorem dX1_plot_103 : decode cX1_plot 103 = .ok (.aload_n 0, 1) := dk_42 (dk_at dksX1_plot_4 9 rfl rfl)
theorem dX1_plot_104 : decode cX1_plot 104 = .ok (.getfield 75, 3) := dk_180 0 75 (dk_at dksX1_plot_4 10 rfl rfl)
theorem dX1_plot_107 : decode cX1_plot 107 = .ok (.getfield 308, 3) := dk_180 1 52 (dk_at dksX1_plot_4 13 rfl rfl)
theorem dX1_plot_110 : decode cX1_plot 110 = .ok (.iload 4, 2) := dk_21 4 (dk_at dksX1_plot_4 16 rfl rfl)
theorem dX1_plot_112 : decode cX1_plot 112 = .ok (.iconst 2, 1) := dk_5 (dk_at dksX1_plot_4 18 rfl rfl)
theorem dX1_plot_113 : decode cX1_plot 113 = .ok (.isub, 1) := dk_100 (dk_at dksX1_plot_4 19 rfl rfl)
theorem dX1_plot_114 : decode cX1_plot 114 = .ok (.iaload, 1) := dk_46 (dk_at dksX1_plot_4 20 rfl rfl)
theorem dX1_plot_115 : decode cX1_plot 115 = .ok (.goto 4, 3) := dk_167 0 4 (dk_at dksX1_plot_4 21 rfl rfl)
theorem dX1_plot_118 : decode cX1_plot 118 = .ok (.iconst (-1), 1) := dk_2 (dk_at dksX1_plot_5 0 rfl rfl)
theorem dX1_plot_119 : decode cX1_plot 119 = .ok (.ireturn, 1) := dk_172 (dk_at dksX1_plot_5 1 rfl rfl)
theorem q129 : (Jvm.Cond.initialized "PaidSecrets") ∈ lw_all := lw_g (lw_at lw_m1 1 rfl) rfl
theorem q187 : (Jvm.Cond.instantiable "PaidSecrets" (12 : Nat)) ∈ lw_all := lw_g (lw_at lw_m1 59 rfl) rfl
theorem q189 : (Jvm.Cond.instanceMethod ({ cls := "PaidSecrets", name := "<init>", desc := "()V" } : Jvm.MethodName)) ∈ lw_all := lw_g (lw_at lw_m1 61 rfl) rfl
theorem q190 : (Jvm.Cond.code ({ cls := "PaidSecrets", name := "<init>", desc := "()V" } : Jvm.MethodName) prog_1_method_5_code (1 : Nat) (Option.none : Option Jvm.ClassFile.FieldType)) ∈ lw_all := lw_g (lw_at lw_m1 62 rfl) rfl
theorem q191 : (Jvm.Cond.methodLink "PaidSecrets" (16 : Nat) ({ cls := "java/lang/Object", name := "<init>", desc := "()V" } : Jvm.MethodName)) ∈ lw_all := lw_g (lw_at lw_m1 63 rfl) rfl
theorem q194 : (Jvm.Cond.classLink "PaidSecrets" (21 : Nat) "PaidSecrets$Reader") ∈ lw_all := lw_g (lw_at lw_m1 66 rfl) rfl
theorem q196 : (Jvm.Cond.methodLinkNest "PaidSecrets" (23 : Nat) ({ cls := "PaidSecrets$Reader", name := "<init>", desc := "()V" } : Jvm.MethodName) "PaidSecrets") ∈ lw_tbl := lw_at lw_m1 68 rfl
theorem q236 : (Jvm.Cond.fieldLink "PaidSecrets" (103 : Nat) "PaidSecrets$Reader" "taped" "I") ∈ lw_all := lw_g (lw_at lw_m1 108 rfl) rfl
theorem q268 : (Jvm.Cond.classLink "PaidSecrets" (30 : Nat) "PaidSecrets$Talk") ∈ lw_all := lw_g (lw_at lw_m1 140 rfl) rfl
theorem q270 : (Jvm.Cond.methodLinkNest "PaidSecrets" (32 : Nat) ({ cls := "PaidSecrets$Talk", name := "<init>", desc := "()V" } : Jvm.MethodName) "PaidSecrets") ∈ lw_tbl := lw_at lw_m1 142 rfl
theorem q275 : (Jvm.Cond.fieldLink "PaidSecrets" (125 : Nat) "PaidSecrets$Talk" "town" "LPaidSecrets$Town;") ∈ lw_all := lw_g (lw_at lw_m1 147 rfl) rfl
theorem q279 : (Jvm.Cond.fieldLink "PaidSecrets" (204 : Nat) "PaidSecrets$Talk" "knows" "[I") ∈ lw_all := lw_g (lw_at lw_m1 151 rfl) rfl
theorem q281 : (Jvm.Cond.fieldLink "PaidSecrets" (222 : Nat) "PaidSecrets$Talk" "aware" "[I") ∈ lw_all := lw_g (lw_at lw_m1 153 rfl) rfl
theorem q283 : (Jvm.Cond.fieldLink "PaidSecrets" (160 : Nat) "PaidSecrets$Talk" "rank" "[I") ∈ lw_all := lw_g (lw_at lw_m1 155 rfl) rfl
theorem q285 : (Jvm.Cond.fieldLink "PaidSecrets" (180 : Nat) "PaidSecrets$Talk" "fined" "[I") ∈ lw_all := lw_g (lw_at lw_m1 157 rfl) rfl
theorem q287 : (Jvm.Cond.fieldLink "PaidSecrets" (183 : Nat) "PaidSecrets$Talk" "net" "[I") ∈ lw_all := lw_g (lw_at lw_m1 159 rfl) rfl
theorem q289 : (Jvm.Cond.fieldLink "PaidSecrets" (213 : Nat) "PaidSecrets$Talk" "met" "I") ∈ lw_all := lw_g (lw_at lw_m1 161 rfl) rfl
theorem q292 : (Jvm.Cond.fieldLink "PaidSecrets" (216 : Nat) "PaidSecrets$Talk" "paid" "I") ∈ lw_all := lw_g (lw_at lw_m1 164 rfl) rfl
theorem q294 : (Jvm.Cond.fieldLink "PaidSecrets" (174 : Nat) "PaidSecrets$Talk" "payers" "I") ∈ lw_all := lw_g (lw_at lw_m1 166 rfl) rfl
theorem q296 : (Jvm.Cond.fieldLink "PaidSecrets" (396 : Nat) "PaidSecrets$Talk" "loans" "I") ∈ lw_all := lw_g (lw_at lw_m1 168 rfl) rfl
theorem q298 : (Jvm.Cond.fieldLink "PaidSecrets" (393 : Nat) "PaidSecrets$Talk" "quarter" "I") ∈ lw_all := lw_g (lw_at lw_m1 170 rfl) rfl
theorem q322 : (Jvm.Cond.classLink "PaidSecrets" (33 : Nat) "PaidSecrets$Town") ∈ lw_all := lw_g (lw_at lw_m1 194 rfl) rfl
theorem q324 : (Jvm.Cond.methodLinkNest "PaidSecrets" (35 : Nat) ({ cls := "PaidSecrets$Town", name := "<init>", desc := "()V" } : Jvm.MethodName) "PaidSecrets") ∈ lw_tbl := lw_at lw_m1 196 rfl
theorem q376 : (Jvm.Cond.fieldLink "PaidSecrets" (128 : Nat) "PaidSecrets$Town" "people" "Ljava/util/ArrayList;") ∈ lw_all := lw_g (lw_at lw_m2 8 rfl) rfl
theorem q380 : (Jvm.Cond.fieldLink "PaidSecrets" (135 : Nat) "PaidSecrets$Town" "secrets" "Ljava/util/ArrayList;") ∈ lw_all := lw_g (lw_at lw_m2 12 rfl) rfl
theorem q384 : (Jvm.Cond.fieldLink "PaidSecrets" (361 : Nat) "PaidSecrets$Town" "ears" "Ljava/util/ArrayList;") ∈ lw_all := lw_g (lw_at lw_m2 16 rfl) rfl
theorem q386 : (Jvm.Cond.fieldLink "PaidSecrets" (390 : Nat) "PaidSecrets$Town" "clashing" "I") ∈ lw_all := lw_g (lw_at lw_m2 18 rfl) rfl
theorem q407 : (Jvm.Cond.methodLink "PaidSecrets" (36 : Nat) ({ cls := "PaidSecrets$Talk", name := "begins", desc := "(LPaidSecrets$Town;)LPaidSecrets$Talk;" } : Jvm.MethodName)) ∈ lw_all := lw_g (lw_at lw_m2 39 rfl) rfl
theorem q431 : (Jvm.Cond.classLink "PaidSecrets" (47 : Nat) "java/util/ArrayList") ∈ lw_all := lw_g (lw_at lw_m2 63 rfl) rfl
theorem q432 : (Jvm.Cond.methodLink "PaidSecrets" (49 : Nat) ({ cls := "java/util/ArrayList", name := "<init>", desc := "(I)V" } : Jvm.MethodName)) ∈ lw_all := lw_g (lw_at lw_m2 64 rfl) rfl
theorem q433 : (Jvm.Cond.methodLink "PaidSecrets" (59 : Nat) ({ cls := "java/util/ArrayList", name := "<init>", desc := "()V" } : Jvm.MethodName)) ∈ lw_all := lw_g (lw_at lw_m2 65 rfl) rfl
theorem q438 : (Jvm.Cond.classLink "PaidSecrets" (63 : Nat) "PaidSecrets$Payers") ∈ lw_all := lw_g (lw_at lw_m2 70 rfl) rfl
theorem q440 : (Jvm.Cond.methodLinkNest "PaidSecrets" (65 : Nat) ({ cls := "PaidSecrets$Payers", name := "<init>", desc := "(LPaidSecrets;)V" } : Jvm.MethodName) "PaidSecrets") ∈ lw_tbl := lw_at lw_m2 72 rfl
theorem q458 : (Jvm.Cond.classLink "PaidSecrets" (72 : Nat) "PaidSecrets$Plots") ∈ lw_all := lw_g (lw_at lw_m2 90 rfl) rfl
theorem q460 : (Jvm.Cond.methodLinkNest "PaidSecrets" (74 : Nat) ({ cls := "PaidSecrets$Plots", name := "<init>", desc := "(LPaidSecrets;)V" } : Jvm.MethodName) "PaidSecrets") ∈ lw_tbl := lw_at lw_m2 92 rfl
theorem q469 : (Jvm.Cond.fieldLink "PaidSecrets" (308 : Nat) "PaidSecrets$Plots" "best" "[I") ∈ lw_all := lw_g (lw_at lw_m2 101 rfl) rfl
theorem q472 : (Jvm.Cond.fieldLink "PaidSecrets" (302 : Nat) "PaidSecrets$Plots" "most" "I") ∈ lw_all := lw_g (lw_at lw_m2 104 rfl) rfl
theorem q474 : (Jvm.Cond.fieldLink "PaidSecrets" (305 : Nat) "PaidSecrets$Plots" "many" "I") ∈ lw_all := lw_g (lw_at lw_m2 106 rfl) rfl
theorem q495 : (Jvm.Cond.classLink "PaidSecrets" (79 : Nat) "PaidSecrets$Nights") ∈ lw_all := lw_g (lw_at lw_m2 127 rfl) rfl
theorem q497 : (Jvm.Cond.methodLinkNest "PaidSecrets" (81 : Nat) ({ cls := "PaidSecrets$Nights", name := "<init>", desc := "(LPaidSecrets;)V" } : Jvm.MethodName) "PaidSecrets") ∈ lw_tbl := lw_at lw_m2 129 rfl
theorem q502 : (Jvm.Cond.fieldLinkNest "PaidSecrets" (329 : Nat) "PaidSecrets$Nights" "of" "[I" "PaidSecrets") ∈ lw_tbl := lw_at lw_m2 134 rfl
theorem q515 : (Jvm.Cond.classLink "PaidSecrets" (86 : Nat) "PaidSecrets$Feast") ∈ lw_all := lw_g (lw_at lw_m2 147 rfl) rfl
theorem q517 : (Jvm.Cond.methodLinkNest "PaidSecrets" (88 : Nat) ({ cls := "PaidSecrets$Feast", name := "<init>", desc := "(LPaidSecrets;)V" } : Jvm.MethodName) "PaidSecrets") ∈ lw_tbl := lw_at lw_m2 149 rfl
theorem q534 : (Jvm.Cond.classLink "PaidSecrets" (93 : Nat) "PaidSecrets$Mark") ∈ lw_all := lw_g (lw_at lw_m2 166 rfl) rfl
theorem q536 : (Jvm.Cond.fieldLink "PaidSecrets" (24 : Nat) "PaidSecrets" "reader" "LPaidSecrets$Reader;") ∈ lw_all := lw_g (lw_at lw_m2 168 rfl) rfl
theorem q541 : (Jvm.Cond.fieldLink "PaidSecrets" (40 : Nat) "PaidSecrets" "talk" "LPaidSecrets$Talk;") ∈ lw_all := lw_g (lw_at lw_m2 173 rfl) rfl
theorem q542 : (Jvm.Cond.fieldLink "PaidSecrets" (44 : Nat) "PaidSecrets" "trial" "LPaidSecrets$Talk;") ∈ lw_all := lw_g (lw_at lw_m2 174 rfl) rfl
theorem q543 : (Jvm.Cond.fieldLink "PaidSecrets" (52 : Nat) "PaidSecrets" "gossip" "Ljava/util/ArrayList;") ∈ lw_all := lw_g (lw_at lw_m2 175 rfl) rfl
theorem q544 : (Jvm.Cond.fieldLink "PaidSecrets" (56 : Nat) "PaidSecrets" "seen" "Ljava/util/ArrayList;") ∈ lw_all := lw_g (lw_at lw_m2 176 rfl) rfl
theorem q545 : (Jvm.Cond.fieldLink "PaidSecrets" (60 : Nat) "PaidSecrets" "behind" "Ljava/util/ArrayList;") ∈ lw_all := lw_g (lw_at lw_m2 177 rfl) rfl
theorem q546 : (Jvm.Cond.fieldLink "PaidSecrets" (68 : Nat) "PaidSecrets" "payers" "LPaidSecrets$Payers;") ∈ lw_all := lw_g (lw_at lw_m2 178 rfl) rfl
theorem q547 : (Jvm.Cond.fieldLink "PaidSecrets" (75 : Nat) "PaidSecrets" "plots" "LPaidSecrets$Plots;") ∈ lw_all := lw_g (lw_at lw_m2 179 rfl) rfl
theorem q548 : (Jvm.Cond.fieldLink "PaidSecrets" (82 : Nat) "PaidSecrets" "gossips" "LPaidSecrets$Nights;") ∈ lw_all := lw_g (lw_at lw_m2 180 rfl) rfl
theorem q549 : (Jvm.Cond.fieldLink "PaidSecrets" (89 : Nat) "PaidSecrets" "feast" "LPaidSecrets$Feast;") ∈ lw_all := lw_g (lw_at lw_m2 181 rfl) rfl
theorem q550 : (Jvm.Cond.fieldLink "PaidSecrets" (349 : Nat) "PaidSecrets" "g" "J") ∈ lw_all := lw_g (lw_at lw_m2 182 rfl) rfl
theorem q551 : (Jvm.Cond.fieldLink "PaidSecrets" (95 : Nat) "PaidSecrets" "marks" "[LPaidSecrets$Mark;") ∈ lw_all := lw_g (lw_at lw_m2 183 rfl) rfl
theorem q552 : (Jvm.Cond.laysFinal "PaidSecrets" "PaidSecrets" "reader" "LPaidSecrets$Reader;") ∈ lw_all := lw_g (lw_at lw_m2 184 rfl) rfl
theorem q553 : (Jvm.Cond.soleField "PaidSecrets" "reader") ∈ lw_all := lw_g (lw_at lw_m2 185 rfl) rfl
theorem q554 : (Jvm.Cond.lays "PaidSecrets" "PaidSecrets" "talk" "LPaidSecrets$Talk;") ∈ lw_all := lw_g (lw_at lw_m2 186 rfl) rfl
theorem q555 : (Jvm.Cond.soleField "PaidSecrets" "talk") ∈ lw_all := lw_g (lw_at lw_m2 187 rfl) rfl
theorem q556 : (Jvm.Cond.laysFinal "PaidSecrets" "PaidSecrets" "trial" "LPaidSecrets$Talk;") ∈ lw_all := lw_g (lw_at lw_m2 188 rfl) rfl
theorem q557 : (Jvm.Cond.soleField "PaidSecrets" "trial") ∈ lw_all := lw_g (lw_at lw_m2 189 rfl) rfl
theorem q558 : (Jvm.Cond.lays "PaidSecrets" "PaidSecrets" "gossip" "Ljava/util/ArrayList;") ∈ lw_all := lw_g (lw_at lw_m2 190 rfl) rfl
theorem q559 : (Jvm.Cond.soleField "PaidSecrets" "gossip") ∈ lw_all := lw_g (lw_at lw_m2 191 rfl) rfl
theorem q560 : (Jvm.Cond.lays "PaidSecrets" "PaidSecrets" "seen" "Ljava/util/ArrayList;") ∈ lw_all := lw_g (lw_at lw_m2 192 rfl) rfl
theorem q561 : (Jvm.Cond.soleField "PaidSecrets" "seen") ∈ lw_all := lw_g (lw_at lw_m2 193 rfl) rfl
theorem q562 : (Jvm.Cond.laysFinal "PaidSecrets" "PaidSecrets" "behind" "Ljava/util/ArrayList;") ∈ lw_all := lw_g (lw_at lw_m2 194 rfl) rfl
theorem q563 : (Jvm.Cond.soleField "PaidSecrets" "behind") ∈ lw_all := lw_g (lw_at lw_m2 195 rfl) rfl
theorem q564 : (Jvm.Cond.laysFinal "PaidSecrets" "PaidSecrets" "payers" "LPaidSecrets$Payers;") ∈ lw_all := lw_g (lw_at lw_m2 196 rfl) rfl
theorem q565 : (Jvm.Cond.soleField "PaidSecrets" "payers") ∈ lw_all := lw_g (lw_at lw_m2 197 rfl) rfl
theorem q566 : (Jvm.Cond.laysFinal "PaidSecrets" "PaidSecrets" "plots" "LPaidSecrets$Plots;") ∈ lw_all := lw_g (lw_at lw_m2 198 rfl) rfl
theorem q567 : (Jvm.Cond.soleField "PaidSecrets" "plots") ∈ lw_all := lw_g (lw_at lw_m2 199 rfl) rfl
theorem q568 : (Jvm.Cond.laysFinal "PaidSecrets" "PaidSecrets" "gossips" "LPaidSecrets$Nights;") ∈ lw_all := lw_g (lw_at lw_m2 200 rfl) rfl
theorem q569 : (Jvm.Cond.soleField "PaidSecrets" "gossips") ∈ lw_all := lw_g (lw_at lw_m2 201 rfl) rfl
theorem q570 : (Jvm.Cond.laysFinal "PaidSecrets" "PaidSecrets" "feast" "LPaidSecrets$Feast;") ∈ lw_all := lw_g (lw_at lw_m2 202 rfl) rfl
theorem q571 : (Jvm.Cond.soleField "PaidSecrets" "feast") ∈ lw_all := lw_g (lw_at lw_m2 203 rfl) rfl
theorem q572 : (Jvm.Cond.lays "PaidSecrets" "PaidSecrets" "g" "J") ∈ lw_all := lw_g (lw_at lw_m2 204 rfl) rfl
theorem q573 : (Jvm.Cond.soleField "PaidSecrets" "g") ∈ lw_all := lw_g (lw_at lw_m2 205 rfl) rfl
theorem q574 : (Jvm.Cond.laysFinal "PaidSecrets" "PaidSecrets" "marks" "[LPaidSecrets$Mark;") ∈ lw_all := lw_g (lw_at lw_m2 206 rfl) rfl
theorem q575 : (Jvm.Cond.soleField "PaidSecrets" "marks") ∈ lw_all := lw_g (lw_at lw_m2 207 rfl) rfl
theorem q576 : (Jvm.Cond.superclass "PaidSecrets" "java/lang/Object") ∈ lw_all := lw_g (lw_at lw_m2 208 rfl) rfl
theorem q578 : (Jvm.Cond.instanceMethod ({ cls := "PaidSecrets", name := "feed", desc := "(JJJ)I" } : Jvm.MethodName)) ∈ lw_all := lw_g (lw_at lw_m2 210 rfl) rfl
theorem q579 : (Jvm.Cond.selects "PaidSecrets" ({ cls := "PaidSecrets", name := "feed", desc := "(JJJ)I" } : Jvm.MethodName) ({ cls := "PaidSecrets", name := "feed", desc := "(JJJ)I" } : Jvm.MethodName)) ∈ lw_all := lw_g (lw_at lw_m2 211 rfl) rfl
theorem q580 : (Jvm.Cond.code ({ cls := "PaidSecrets", name := "feed", desc := "(JJJ)I" } : Jvm.MethodName) prog_1_method_6_code (7 : Nat) (Option.some Jvm.ClassFile.FieldType.int)) ∈ lw_all := lw_g (lw_at lw_m2 212 rfl) rfl
theorem q581 : (Jvm.Cond.methodLink "PaidSecrets" (99 : Nat) ({ cls := "PaidSecrets$Reader", name := "feed", desc := "(J)V" } : Jvm.MethodName)) ∈ lw_all := lw_g (lw_at lw_m2 213 rfl) rfl
theorem q587 : (Jvm.Cond.static ({ cls := "PaidSecrets", name := "within", desc := "(III)Z" } : Jvm.MethodName)) ∈ lw_all := lw_g (lw_at lw_m2 219 rfl) rfl
theorem q588 : (Jvm.Cond.code ({ cls := "PaidSecrets", name := "within", desc := "(III)Z" } : Jvm.MethodName) prog_1_method_1_code (3 : Nat) (Option.some Jvm.ClassFile.FieldType.boolean)) ∈ lw_all := lw_g (lw_at lw_m2 220 rfl) rfl
theorem q590 : (Jvm.Cond.instanceMethod ({ cls := "PaidSecrets", name := "town", desc := "()I" } : Jvm.MethodName)) ∈ lw_all := lw_g (lw_at lw_m2 222 rfl) rfl
theorem q591 : (Jvm.Cond.selects "PaidSecrets" ({ cls := "PaidSecrets", name := "town", desc := "()I" } : Jvm.MethodName) ({ cls := "PaidSecrets", name := "town", desc := "()I" } : Jvm.MethodName)) ∈ lw_all := lw_g (lw_at lw_m2 223 rfl) rfl
theorem q592 : (Jvm.Cond.codeWith ({ cls := "PaidSecrets", name := "town", desc := "()I" } : Jvm.MethodName) prog_1_method_7_code (2 : Nat) (Option.some Jvm.ClassFile.FieldType.int) [((0 : Nat), (73 : Nat), (74 : Nat), (114 : Nat))]) ∈ lw_all := lw_g (lw_at lw_m2 224 rfl) rfl
theorem q593 : (Jvm.Cond.classLink "PaidSecrets" (114 : Nat) "PaidSecrets$Wrong") ∈ lw_all := lw_g (lw_at lw_m2 225 rfl) rfl
theorem q594 : (Jvm.Cond.methodLink "PaidSecrets" (107 : Nat) ({ cls := "PaidSecrets$Reader", name := "town", desc := "()LPaidSecrets$Town;" } : Jvm.MethodName)) ∈ lw_all := lw_g (lw_at lw_m2 226 rfl) rfl
theorem q786 : (Jvm.Cond.fieldLink "PaidSecrets" (116 : Nat) "PaidSecrets$Wrong" "fault" "I") ∈ lw_all := lw_g (lw_at lw_m3 178 rfl) rfl
theorem q875 : (Jvm.Cond.selects "PaidSecrets" ({ cls := "java/lang/Object", name := "getClass", desc := "()Ljava/lang/Class;" } : Jvm.MethodName) ({ cls := "java/lang/Object", name := "getClass", desc := "()Ljava/lang/Class;" } : Jvm.MethodName)) ∈ lw_all := lw_g (lw_at lw_m4 27 rfl) rfl
theorem q956 : (Jvm.Cond.static ({ cls := "PaidSecrets", name := "made", desc := "(III)LPaidSecrets$Person;" } : Jvm.MethodName)) ∈ lw_all := lw_g (lw_at lw_m4 108 rfl) rfl
theorem q957 : (Jvm.Cond.code ({ cls := "PaidSecrets", name := "made", desc := "(III)LPaidSecrets$Person;" } : Jvm.MethodName) prog_1_method_4_code (3 : Nat) (Option.some (Jvm.ClassFile.FieldType.object "PaidSecrets$Person"))) ∈ lw_all := lw_g (lw_at lw_m4 109 rfl) rfl
theorem q958 : (Jvm.Cond.classLink "PaidSecrets" (1 : Nat) "PaidSecrets$Gossip") ∈ lw_all := lw_g (lw_at lw_m4 110 rfl) rfl
theorem q960 : (Jvm.Cond.methodLink "PaidSecrets" (3 : Nat) ({ cls := "PaidSecrets$Gossip", name := "<init>", desc := "(II)V" } : Jvm.MethodName)) ∈ lw_all := lw_g (lw_at lw_m4 112 rfl) rfl
theorem q972 : (Jvm.Cond.fieldLink "PaidSecrets" (164 : Nat) "PaidSecrets$Person" "tax" "I") ∈ lw_all := lw_g (lw_at lw_m4 124 rfl) rfl
theorem q978 : (Jvm.Cond.classLink "PaidSecrets" (7 : Nat) "PaidSecrets$Silent") ∈ lw_all := lw_g (lw_at lw_m4 130 rfl) rfl
theorem q980 : (Jvm.Cond.methodLink "PaidSecrets" (9 : Nat) ({ cls := "PaidSecrets$Silent", name := "<init>", desc := "(II)V" } : Jvm.MethodName)) ∈ lw_all := lw_g (lw_at lw_m4 132 rfl) rfl
theorem q987 : (Jvm.Cond.classLink "PaidSecrets" (10 : Nat) "PaidSecrets$Priest") ∈ lw_all := lw_g (lw_at lw_m4 139 rfl) rfl
theorem q989 : (Jvm.Cond.methodLink "PaidSecrets" (12 : Nat) ({ cls := "PaidSecrets$Priest", name := "<init>", desc := "(II)V" } : Jvm.MethodName)) ∈ lw_all := lw_g (lw_at lw_m4 141 rfl) rfl
theorem q996 : (Jvm.Cond.classLink "PaidSecrets" (13 : Nat) "PaidSecrets$Person") ∈ lw_all := lw_g (lw_at lw_m4 148 rfl) rfl
theorem q998 : (Jvm.Cond.methodLink "PaidSecrets" (15 : Nat) ({ cls := "PaidSecrets$Person", name := "<init>", desc := "(II)V" } : Jvm.MethodName)) ∈ lw_all := lw_g (lw_at lw_m4 150 rfl) rfl
theorem q1021 : (Jvm.Cond.static ({ cls := "PaidSecrets", name := "has", desc := "(II)Z" } : Jvm.MethodName)) ∈ lw_all := lw_g (lw_at lw_m4 173 rfl) rfl
theorem q1022 : (Jvm.Cond.code ({ cls := "PaidSecrets", name := "has", desc := "(II)Z" } : Jvm.MethodName) prog_1_method_2_code (2 : Nat) (Option.some Jvm.ClassFile.FieldType.boolean)) ∈ lw_all := lw_g (lw_at lw_m4 174 rfl) rfl
theorem q1029 : (Jvm.Cond.fieldLink "PaidSecrets" (191 : Nat) "PaidSecrets$Secret" "isFalse" "Z") ∈ lw_all := lw_g (lw_at lw_m4 181 rfl) rfl
theorem q1032 : (Jvm.Cond.fieldLink "PaidSecrets" (195 : Nat) "PaidSecrets$Secret" "of" "I") ∈ lw_all := lw_g (lw_at lw_m4 184 rfl) rfl
theorem q1035 : (Jvm.Cond.fieldLink "PaidSecrets" (198 : Nat) "PaidSecrets$Secret" "cost" "I") ∈ lw_all := lw_g (lw_at lw_m4 187 rfl) rfl
theorem q1038 : (Jvm.Cond.fieldLink "PaidSecrets" (201 : Nat) "PaidSecrets$Secret" "on" "I") ∈ lw_all := lw_g (lw_at lw_m4 190 rfl) rfl
theorem q1041 : (Jvm.Cond.fieldLink "PaidSecrets" (219 : Nat) "PaidSecrets$Secret" "clashes" "I") ∈ lw_all := lw_g (lw_at lw_m4 193 rfl) rfl
theorem q1239 : (Jvm.Cond.methodLink "PaidSecrets" (111 : Nat) ({ cls := "java/util/ArrayList", name := "clear", desc := "()V" } : Jvm.MethodName)) ∈ lw_all := lw_g (lw_at lw_m5 151 rfl) rfl
theorem q1244 : (Jvm.Cond.instanceMethod ({ cls := "PaidSecrets", name := "gossip", desc := "()I" } : Jvm.MethodName)) ∈ lw_all := lw_g (lw_at lw_m5 156 rfl) rfl
theorem q1245 : (Jvm.Cond.selects "PaidSecrets" ({ cls := "PaidSecrets", name := "gossip", desc := "()I" } : Jvm.MethodName) ({ cls := "PaidSecrets", name := "gossip", desc := "()I" } : Jvm.MethodName)) ∈ lw_all := lw_g (lw_at lw_m5 157 rfl) rfl
theorem q1246 : (Jvm.Cond.codeWith ({ cls := "PaidSecrets", name := "gossip", desc := "()I" } : Jvm.MethodName) prog_1_method_8_code (2 : Nat) (Option.some Jvm.ClassFile.FieldType.int) [((0 : Nat), (16 : Nat), (17 : Nat), (114 : Nat))]) ∈ lw_all := lw_g (lw_at lw_m5 158 rfl) rfl
theorem q1247 : (Jvm.Cond.methodLink "PaidSecrets" (119 : Nat) ({ cls := "PaidSecrets", name := "now", desc := "()LPaidSecrets$Town;" } : Jvm.MethodName)) ∈ lw_all := lw_g (lw_at lw_m5 159 rfl) rfl
theorem q1248 : (Jvm.Cond.privateMethod ({ cls := "PaidSecrets", name := "now", desc := "()LPaidSecrets$Town;" } : Jvm.MethodName)) ∈ lw_tbl := lw_at lw_m5 160 rfl
theorem q1249 : (Jvm.Cond.instanceMethod ({ cls := "PaidSecrets", name := "now", desc := "()LPaidSecrets$Town;" } : Jvm.MethodName)) ∈ lw_all := lw_g (lw_at lw_m5 161 rfl) rfl
theorem q1250 : (Jvm.Cond.code ({ cls := "PaidSecrets", name := "now", desc := "()LPaidSecrets$Town;" } : Jvm.MethodName) prog_1_method_9_code (1 : Nat) (Option.some (Jvm.ClassFile.FieldType.object "PaidSecrets$Town"))) ∈ lw_all := lw_g (lw_at lw_m5 162 rfl) rfl
theorem q1251 : (Jvm.Cond.methodLink "PaidSecrets" (122 : Nat) ({ cls := "PaidSecrets$Reader", name := "gossip", desc := "(LPaidSecrets$Town;)Ljava/util/ArrayList;" } : Jvm.MethodName)) ∈ lw_all := lw_g (lw_at lw_m5 163 rfl) rfl
theorem q1315 : (Jvm.Cond.instanceMethod ({ cls := "PaidSecrets", name := "secret", desc := "(II)I" } : Jvm.MethodName)) ∈ lw_all := lw_g (lw_at lw_m5 227 rfl) rfl
theorem q1316 : (Jvm.Cond.selects "PaidSecrets" ({ cls := "PaidSecrets", name := "secret", desc := "(II)I" } : Jvm.MethodName) ({ cls := "PaidSecrets", name := "secret", desc := "(II)I" } : Jvm.MethodName)) ∈ lw_all := lw_g (lw_at lw_m5 228 rfl) rfl
theorem q1317 : (Jvm.Cond.code ({ cls := "PaidSecrets", name := "secret", desc := "(II)I" } : Jvm.MethodName) prog_1_method_16_code (4 : Nat) (Option.some Jvm.ClassFile.FieldType.int)) ∈ lw_all := lw_g (lw_at lw_m5 229 rfl) rfl
theorem q1318 : (Jvm.Cond.methodLink "PaidSecrets" (186 : Nat) ({ cls := "PaidSecrets", name := "isSecret", desc := "(I)Z" } : Jvm.MethodName)) ∈ lw_all := lw_g (lw_at lw_m5 230 rfl) rfl
theorem q1319 : (Jvm.Cond.privateMethod ({ cls := "PaidSecrets", name := "isSecret", desc := "(I)Z" } : Jvm.MethodName)) ∈ lw_tbl := lw_at lw_m5 231 rfl
theorem q1320 : (Jvm.Cond.instanceMethod ({ cls := "PaidSecrets", name := "isSecret", desc := "(I)Z" } : Jvm.MethodName)) ∈ lw_all := lw_g (lw_at lw_m5 232 rfl) rfl
theorem q1321 : (Jvm.Cond.code ({ cls := "PaidSecrets", name := "isSecret", desc := "(I)Z" } : Jvm.MethodName) prog_1_method_13_code (2 : Nat) (Option.some Jvm.ClassFile.FieldType.boolean)) ∈ lw_all := lw_g (lw_at lw_m5 233 rfl) rfl
theorem q1322 : (Jvm.Cond.methodLink "PaidSecrets" (144 : Nat) ({ cls := "PaidSecrets", name := "secrets", desc := "()I" } : Jvm.MethodName)) ∈ lw_all := lw_g (lw_at lw_m5 234 rfl) rfl
theorem q1323 : (Jvm.Cond.privateMethod ({ cls := "PaidSecrets", name := "secrets", desc := "()I" } : Jvm.MethodName)) ∈ lw_tbl := lw_at lw_m5 235 rfl
theorem q1324 : (Jvm.Cond.instanceMethod ({ cls := "PaidSecrets", name := "secrets", desc := "()I" } : Jvm.MethodName)) ∈ lw_all := lw_g (lw_at lw_m5 236 rfl) rfl
theorem q1325 : (Jvm.Cond.code ({ cls := "PaidSecrets", name := "secrets", desc := "()I" } : Jvm.MethodName) prog_1_method_11_code (1 : Nat) (Option.some Jvm.ClassFile.FieldType.int)) ∈ lw_all := lw_g (lw_at lw_m5 237 rfl) rfl
theorem q1326 : (Jvm.Cond.methodLink "PaidSecrets" (131 : Nat) ({ cls := "java/util/ArrayList", name := "size", desc := "()I" } : Jvm.MethodName)) ∈ lw_all := lw_g (lw_at lw_m5 238 rfl) rfl
theorem q1327 : (Jvm.Cond.methodLink "PaidSecrets" (140 : Nat) ({ cls := "PaidSecrets", name := "within", desc := "(III)Z" } : Jvm.MethodName)) ∈ lw_all := lw_g (lw_at lw_m5 239 rfl) rfl
theorem q1328 : (Jvm.Cond.methodLink "PaidSecrets" (153 : Nat) ({ cls := "java/util/ArrayList", name := "get", desc := "(I)Ljava/lang/Object;" } : Jvm.MethodName)) ∈ lw_all := lw_g (lw_at lw_m6 0 rfl) rfl
theorem q1329 : (Jvm.Cond.classLink "PaidSecrets" (189 : Nat) "PaidSecrets$Secret") ∈ lw_all := lw_g (lw_at lw_m6 1 rfl) rfl
theorem q1330 : (Jvm.Cond.methodLink "PaidSecrets" (207 : Nat) ({ cls := "PaidSecrets$Town", name := "knowers", desc := "(I)I" } : Jvm.MethodName)) ∈ lw_all := lw_g (lw_at lw_m6 2 rfl) rfl
theorem q1345 : (Jvm.Cond.methodLink "PaidSecrets" (210 : Nat) ({ cls := "PaidSecrets$Talk", name := "worth", desc := "(I)I" } : Jvm.MethodName)) ∈ lw_all := lw_g (lw_at lw_m6 17 rfl) rfl
theorem q1422 : (Jvm.Cond.methodLink "PaidSecrets" (176 : Nat) ({ cls := "PaidSecrets", name := "has", desc := "(II)Z" } : Jvm.MethodName)) ∈ lw_all := lw_g (lw_at lw_m6 94 rfl) rfl
theorem q1424 : (Jvm.Cond.instanceMethod ({ cls := "PaidSecrets", name := "aware", desc := "(III)I" } : Jvm.MethodName)) ∈ lw_all := lw_g (lw_at lw_m6 96 rfl) rfl
theorem q1425 : (Jvm.Cond.selects "PaidSecrets" ({ cls := "PaidSecrets", name := "aware", desc := "(III)I" } : Jvm.MethodName) ({ cls := "PaidSecrets", name := "aware", desc := "(III)I" } : Jvm.MethodName)) ∈ lw_all := lw_g (lw_at lw_m6 97 rfl) rfl
theorem q1426 : (Jvm.Cond.code ({ cls := "PaidSecrets", name := "aware", desc := "(III)I" } : Jvm.MethodName) prog_1_method_17_code (4 : Nat) (Option.some Jvm.ClassFile.FieldType.int)) ∈ lw_all := lw_g (lw_at lw_m6 98 rfl) rfl
theorem q1427 : (Jvm.Cond.methodLink "PaidSecrets" (146 : Nat) ({ cls := "PaidSecrets", name := "isPerson", desc := "(I)Z" } : Jvm.MethodName)) ∈ lw_all := lw_g (lw_at lw_m6 99 rfl) rfl
theorem q1428 : (Jvm.Cond.privateMethod ({ cls := "PaidSecrets", name := "isPerson", desc := "(I)Z" } : Jvm.MethodName)) ∈ lw_tbl := lw_at lw_m6 100 rfl
theorem q1429 : (Jvm.Cond.instanceMethod ({ cls := "PaidSecrets", name := "isPerson", desc := "(I)Z" } : Jvm.MethodName)) ∈ lw_all := lw_g (lw_at lw_m6 101 rfl) rfl
theorem q1430 : (Jvm.Cond.code ({ cls := "PaidSecrets", name := "isPerson", desc := "(I)Z" } : Jvm.MethodName) prog_1_method_12_code (2 : Nat) (Option.some Jvm.ClassFile.FieldType.boolean)) ∈ lw_all := lw_g (lw_at lw_m6 102 rfl) rfl
theorem q1431 : (Jvm.Cond.methodLink "PaidSecrets" (138 : Nat) ({ cls := "PaidSecrets", name := "people", desc := "()I" } : Jvm.MethodName)) ∈ lw_all := lw_g (lw_at lw_m6 103 rfl) rfl
theorem q1432 : (Jvm.Cond.privateMethod ({ cls := "PaidSecrets", name := "people", desc := "()I" } : Jvm.MethodName)) ∈ lw_tbl := lw_at lw_m6 104 rfl
theorem q1433 : (Jvm.Cond.instanceMethod ({ cls := "PaidSecrets", name := "people", desc := "()I" } : Jvm.MethodName)) ∈ lw_all := lw_g (lw_at lw_m6 105 rfl) rfl
theorem q1434 : (Jvm.Cond.code ({ cls := "PaidSecrets", name := "people", desc := "()I" } : Jvm.MethodName) prog_1_method_10_code (1 : Nat) (Option.some Jvm.ClassFile.FieldType.int)) ∈ lw_all := lw_g (lw_at lw_m6 106 rfl) rfl
theorem q1436 : (Jvm.Cond.instanceMethod ({ cls := "PaidSecrets", name := "ear", desc := "(II)I" } : Jvm.MethodName)) ∈ lw_all := lw_g (lw_at lw_m6 108 rfl) rfl
theorem q1437 : (Jvm.Cond.selects "PaidSecrets" ({ cls := "PaidSecrets", name := "ear", desc := "(II)I" } : Jvm.MethodName) ({ cls := "PaidSecrets", name := "ear", desc := "(II)I" } : Jvm.MethodName)) ∈ lw_all := lw_g (lw_at lw_m6 109 rfl) rfl
theorem q1438 : (Jvm.Cond.code ({ cls := "PaidSecrets", name := "ear", desc := "(II)I" } : Jvm.MethodName) prog_1_method_18_code (3 : Nat) (Option.some Jvm.ClassFile.FieldType.int)) ∈ lw_all := lw_g (lw_at lw_m6 110 rfl) rfl
theorem q1439 : (Jvm.Cond.methodLink "PaidSecrets" (225 : Nat) ({ cls := "PaidSecrets$Town", name := "ear", desc := "(II)I" } : Jvm.MethodName)) ∈ lw_all := lw_g (lw_at lw_m6 111 rfl) rfl
theorem q1441 : (Jvm.Cond.instanceMethod ({ cls := "PaidSecrets", name := "tell", desc := "(III)I" } : Jvm.MethodName)) ∈ lw_all := lw_g (lw_at lw_m6 113 rfl) rfl
theorem q1442 : (Jvm.Cond.selects "PaidSecrets" ({ cls := "PaidSecrets", name := "tell", desc := "(III)I" } : Jvm.MethodName) ({ cls := "PaidSecrets", name := "tell", desc := "(III)I" } : Jvm.MethodName)) ∈ lw_all := lw_g (lw_at lw_m6 114 rfl) rfl
theorem q1443 : (Jvm.Cond.code ({ cls := "PaidSecrets", name := "tell", desc := "(III)I" } : Jvm.MethodName) prog_1_method_20_code (4 : Nat) (Option.some Jvm.ClassFile.FieldType.int)) ∈ lw_all := lw_g (lw_at lw_m6 115 rfl) rfl
theorem q1444 : (Jvm.Cond.methodLink "PaidSecrets" (240 : Nat) ({ cls := "PaidSecrets$Talk", name := "mayTell", desc := "(III)Z" } : Jvm.MethodName)) ∈ lw_all := lw_g (lw_at lw_m6 116 rfl) rfl
theorem q1458 : (Jvm.Cond.methodLink "PaidSecrets" (243 : Nat) ({ cls := "PaidSecrets", name := "keeps", desc := "()V" } : Jvm.MethodName)) ∈ lw_all := lw_g (lw_at lw_m6 130 rfl) rfl
theorem q1459 : (Jvm.Cond.privateMethod ({ cls := "PaidSecrets", name := "keeps", desc := "()V" } : Jvm.MethodName)) ∈ lw_tbl := lw_at lw_m6 131 rfl
theorem q1460 : (Jvm.Cond.instanceMethod ({ cls := "PaidSecrets", name := "keeps", desc := "()V" } : Jvm.MethodName)) ∈ lw_all := lw_g (lw_at lw_m6 132 rfl) rfl
theorem q1461 : (Jvm.Cond.code ({ cls := "PaidSecrets", name := "keeps", desc := "()V" } : Jvm.MethodName) prog_1_method_19_code (1 : Nat) (Option.none : Option Jvm.ClassFile.FieldType)) ∈ lw_all := lw_g (lw_at lw_m6 133 rfl) rfl
theorem q1462 : (Jvm.Cond.methodLink "PaidSecrets" (229 : Nat) ({ cls := "java/util/ArrayList", name := "remove", desc := "(I)Ljava/lang/Object;" } : Jvm.MethodName)) ∈ lw_all := lw_g (lw_at lw_m6 134 rfl) rfl
theorem q1471 : (Jvm.Cond.methodLink "PaidSecrets" (232 : Nat) ({ cls := "PaidSecrets$Talk", name := "copied", desc := "()LPaidSecrets$Talk;" } : Jvm.MethodName)) ∈ lw_all := lw_g (lw_at lw_m6 143 rfl) rfl
theorem q1482 : (Jvm.Cond.methodLink "PaidSecrets" (236 : Nat) ({ cls := "java/util/ArrayList", name := "add", desc := "(Ljava/lang/Object;)Z" } : Jvm.MethodName)) ∈ lw_all := lw_g (lw_at lw_m6 154 rfl) rfl
theorem q1483 : (Jvm.Cond.methodLink "PaidSecrets" (246 : Nat) ({ cls := "PaidSecrets$Talk", name := "tells", desc := "(III)V" } : Jvm.MethodName)) ∈ lw_all := lw_g (lw_at lw_m6 155 rfl) rfl
theorem q1488 : (Jvm.Cond.instanceMethod ({ cls := "PaidSecrets", name := "pay", desc := "(II)I" } : Jvm.MethodName)) ∈ lw_all := lw_g (lw_at lw_m6 160 rfl) rfl
theorem q1489 : (Jvm.Cond.selects "PaidSecrets" ({ cls := "PaidSecrets", name := "pay", desc := "(II)I" } : Jvm.MethodName) ({ cls := "PaidSecrets", name := "pay", desc := "(II)I" } : Jvm.MethodName)) ∈ lw_all := lw_g (lw_at lw_m6 161 rfl) rfl
theorem q1490 : (Jvm.Cond.code ({ cls := "PaidSecrets", name := "pay", desc := "(II)I" } : Jvm.MethodName) prog_1_method_21_code (3 : Nat) (Option.some Jvm.ClassFile.FieldType.int)) ∈ lw_all := lw_g (lw_at lw_m6 162 rfl) rfl
theorem q1491 : (Jvm.Cond.methodLink "PaidSecrets" (250 : Nat) ({ cls := "PaidSecrets", name := "every", desc := "()I" } : Jvm.MethodName)) ∈ lw_all := lw_g (lw_at lw_m6 163 rfl) rfl
theorem q1492 : (Jvm.Cond.privateMethod ({ cls := "PaidSecrets", name := "every", desc := "()I" } : Jvm.MethodName)) ∈ lw_tbl := lw_at lw_m6 164 rfl
theorem q1493 : (Jvm.Cond.instanceMethod ({ cls := "PaidSecrets", name := "every", desc := "()I" } : Jvm.MethodName)) ∈ lw_all := lw_g (lw_at lw_m6 165 rfl) rfl
theorem q1494 : (Jvm.Cond.code ({ cls := "PaidSecrets", name := "every", desc := "()I" } : Jvm.MethodName) prog_1_method_14_code (1 : Nat) (Option.some Jvm.ClassFile.FieldType.int)) ∈ lw_all := lw_g (lw_at lw_m6 166 rfl) rfl
theorem q1495 : (Jvm.Cond.methodLink "PaidSecrets" (253 : Nat) ({ cls := "PaidSecrets$Talk", name := "mayPay", desc := "(II)Z" } : Jvm.MethodName)) ∈ lw_all := lw_g (lw_at lw_m6 167 rfl) rfl
theorem q1507 : (Jvm.Cond.methodLink "PaidSecrets" (256 : Nat) ({ cls := "PaidSecrets$Talk", name := "pays", desc := "(II)V" } : Jvm.MethodName)) ∈ lw_all := lw_g (lw_at lw_m6 179 rfl) rfl
theorem q1511 : (Jvm.Cond.methodLink "PaidSecrets" (259 : Nat) ({ cls := "PaidSecrets$Talk", name := "worths", desc := "(I)I" } : Jvm.MethodName)) ∈ lw_all := lw_g (lw_at lw_m6 183 rfl) rfl
theorem q1513 : (Jvm.Cond.instanceMethod ({ cls := "PaidSecrets", name := "rise", desc := "(I)I" } : Jvm.MethodName)) ∈ lw_all := lw_g (lw_at lw_m6 185 rfl) rfl
theorem q1514 : (Jvm.Cond.selects "PaidSecrets" ({ cls := "PaidSecrets", name := "rise", desc := "(I)I" } : Jvm.MethodName) ({ cls := "PaidSecrets", name := "rise", desc := "(I)I" } : Jvm.MethodName)) ∈ lw_all := lw_g (lw_at lw_m6 186 rfl) rfl
theorem q1515 : (Jvm.Cond.code ({ cls := "PaidSecrets", name := "rise", desc := "(I)I" } : Jvm.MethodName) prog_1_method_22_code (2 : Nat) (Option.some Jvm.ClassFile.FieldType.int)) ∈ lw_all := lw_g (lw_at lw_m6 187 rfl) rfl
theorem q1516 : (Jvm.Cond.methodLink "PaidSecrets" (262 : Nat) ({ cls := "PaidSecrets$Talk", name := "rises", desc := "(I)Z" } : Jvm.MethodName)) ∈ lw_all := lw_g (lw_at lw_m6 188 rfl) rfl
theorem q1521 : (Jvm.Cond.instanceMethod ({ cls := "PaidSecrets", name := "quarter", desc := "()I" } : Jvm.MethodName)) ∈ lw_all := lw_g (lw_at lw_m6 193 rfl) rfl
theorem q1522 : (Jvm.Cond.selects "PaidSecrets" ({ cls := "PaidSecrets", name := "quarter", desc := "()I" } : Jvm.MethodName) ({ cls := "PaidSecrets", name := "quarter", desc := "()I" } : Jvm.MethodName)) ∈ lw_all := lw_g (lw_at lw_m6 194 rfl) rfl
theorem q1523 : (Jvm.Cond.code ({ cls := "PaidSecrets", name := "quarter", desc := "()I" } : Jvm.MethodName) prog_1_method_23_code (1 : Nat) (Option.some Jvm.ClassFile.FieldType.int)) ∈ lw_all := lw_g (lw_at lw_m6 195 rfl) rfl
theorem q1524 : (Jvm.Cond.methodLink "PaidSecrets" (265 : Nat) ({ cls := "PaidSecrets$Talk", name := "ends", desc := "()I" } : Jvm.MethodName)) ∈ lw_all := lw_g (lw_at lw_m6 196 rfl) rfl
theorem q1529 : (Jvm.Cond.instanceMethod ({ cls := "PaidSecrets", name := "lend", desc := "(III)I" } : Jvm.MethodName)) ∈ lw_all := lw_g (lw_at lw_m6 201 rfl) rfl
theorem q1530 : (Jvm.Cond.selects "PaidSecrets" ({ cls := "PaidSecrets", name := "lend", desc := "(III)I" } : Jvm.MethodName) ({ cls := "PaidSecrets", name := "lend", desc := "(III)I" } : Jvm.MethodName)) ∈ lw_all := lw_g (lw_at lw_m6 202 rfl) rfl
theorem q1531 : (Jvm.Cond.code ({ cls := "PaidSecrets", name := "lend", desc := "(III)I" } : Jvm.MethodName) prog_1_method_24_code (5 : Nat) (Option.some Jvm.ClassFile.FieldType.int)) ∈ lw_all := lw_g (lw_at lw_m6 203 rfl) rfl
theorem q1532 : (Jvm.Cond.methodLink "PaidSecrets" (268 : Nat) ({ cls := "PaidSecrets$Talk", name := "lends", desc := "(III)Z" } : Jvm.MethodName)) ∈ lw_all := lw_g (lw_at lw_m6 204 rfl) rfl
theorem q1537 : (Jvm.Cond.instanceMethod ({ cls := "PaidSecrets", name := "undo", desc := "()Z" } : Jvm.MethodName)) ∈ lw_all := lw_g (lw_at lw_m6 209 rfl) rfl
theorem q1538 : (Jvm.Cond.selects "PaidSecrets" ({ cls := "PaidSecrets", name := "undo", desc := "()Z" } : Jvm.MethodName) ({ cls := "PaidSecrets", name := "undo", desc := "()Z" } : Jvm.MethodName)) ∈ lw_all := lw_g (lw_at lw_m6 210 rfl) rfl
theorem q1539 : (Jvm.Cond.code ({ cls := "PaidSecrets", name := "undo", desc := "()Z" } : Jvm.MethodName) prog_1_method_25_code (1 : Nat) (Option.some Jvm.ClassFile.FieldType.boolean)) ∈ lw_all := lw_g (lw_at lw_m6 211 rfl) rfl
theorem q1540 : (Jvm.Cond.methodLink "PaidSecrets" (271 : Nat) ({ cls := "java/util/ArrayList", name := "isEmpty", desc := "()Z" } : Jvm.MethodName)) ∈ lw_all := lw_g (lw_at lw_m6 212 rfl) rfl
theorem q1545 : (Jvm.Cond.instanceMethod ({ cls := "PaidSecrets", name := "judged", desc := "(I)I" } : Jvm.MethodName)) ∈ lw_all := lw_g (lw_at lw_m6 217 rfl) rfl
theorem q1546 : (Jvm.Cond.selects "PaidSecrets" ({ cls := "PaidSecrets", name := "judged", desc := "(I)I" } : Jvm.MethodName) ({ cls := "PaidSecrets", name := "judged", desc := "(I)I" } : Jvm.MethodName)) ∈ lw_all := lw_g (lw_at lw_m6 218 rfl) rfl
theorem q1547 : (Jvm.Cond.code ({ cls := "PaidSecrets", name := "judged", desc := "(I)I" } : Jvm.MethodName) prog_1_method_26_code (4 : Nat) (Option.some Jvm.ClassFile.FieldType.int)) ∈ lw_all := lw_g (lw_at lw_m6 219 rfl) rfl
theorem q1548 : (Jvm.Cond.classLink "PaidSecrets" (275 : Nat) "PaidSecrets$Line") ∈ lw_all := lw_g (lw_at lw_m6 220 rfl) rfl
theorem q1549 : (Jvm.Cond.methodLink "PaidSecrets" (277 : Nat) ({ cls := "PaidSecrets$Line", name := "isDone", desc := "(LPaidSecrets$Talk;)Z" } : Jvm.MethodName)) ∈ lw_all := lw_g (lw_at lw_m6 221 rfl) rfl
theorem q1570 : (Jvm.Cond.methodLink "PaidSecrets" (281 : Nat) ({ cls := "PaidSecrets$Talk", name := "finedInAll", desc := "()I" } : Jvm.MethodName)) ∈ lw_all := lw_g (lw_at lw_m7 2 rfl) rfl
theorem q1574 : (Jvm.Cond.methodLink "PaidSecrets" (284 : Nat) ({ cls := "PaidSecrets$Talk", name := "all", desc := "()I" } : Jvm.MethodName)) ∈ lw_all := lw_g (lw_at lw_m7 6 rfl) rfl
theorem q1579 : (Jvm.Cond.instanceMethod ({ cls := "PaidSecrets", name := "least", desc := "(I)I" } : Jvm.MethodName)) ∈ lw_all := lw_g (lw_at lw_m7 11 rfl) rfl
theorem q1580 : (Jvm.Cond.selects "PaidSecrets" ({ cls := "PaidSecrets", name := "least", desc := "(I)I" } : Jvm.MethodName) ({ cls := "PaidSecrets", name := "least", desc := "(I)I" } : Jvm.MethodName)) ∈ lw_all := lw_g (lw_at lw_m7 12 rfl) rfl
theorem q1581 : (Jvm.Cond.code ({ cls := "PaidSecrets", name := "least", desc := "(I)I" } : Jvm.MethodName) prog_1_method_27_code (2 : Nat) (Option.some Jvm.ClassFile.FieldType.int)) ∈ lw_all := lw_g (lw_at lw_m7 13 rfl) rfl
theorem q1582 : (Jvm.Cond.methodLink "PaidSecrets" (287 : Nat) ({ cls := "PaidSecrets$Talk", name := "least", desc := "(I)I" } : Jvm.MethodName)) ∈ lw_all := lw_g (lw_at lw_m7 14 rfl) rfl
theorem q1592 : (Jvm.Cond.static ({ cls := "PaidSecrets", name := "bits", desc := "(I)I" } : Jvm.MethodName)) ∈ lw_all := lw_g (lw_at lw_m7 24 rfl) rfl
theorem q1593 : (Jvm.Cond.code ({ cls := "PaidSecrets", name := "bits", desc := "(I)I" } : Jvm.MethodName) prog_1_method_3_code (3 : Nat) (Option.some Jvm.ClassFile.FieldType.int)) ∈ lw_all := lw_g (lw_at lw_m7 25 rfl) rfl
theorem q1595 : (Jvm.Cond.instanceMethod ({ cls := "PaidSecrets", name := "payers", desc := "()I" } : Jvm.MethodName)) ∈ lw_all := lw_g (lw_at lw_m7 27 rfl) rfl
theorem q1596 : (Jvm.Cond.selects "PaidSecrets" ({ cls := "PaidSecrets", name := "payers", desc := "()I" } : Jvm.MethodName) ({ cls := "PaidSecrets", name := "payers", desc := "()I" } : Jvm.MethodName)) ∈ lw_all := lw_g (lw_at lw_m7 28 rfl) rfl
theorem q1597 : (Jvm.Cond.code ({ cls := "PaidSecrets", name := "payers", desc := "()I" } : Jvm.MethodName) prog_1_method_28_code (4 : Nat) (Option.some Jvm.ClassFile.FieldType.int)) ∈ lw_all := lw_g (lw_at lw_m7 29 rfl) rfl
theorem q1598 : (Jvm.Cond.methodLink "PaidSecrets" (290 : Nat) ({ cls := "PaidSecrets$Payers", name := "lays", desc := "()V" } : Jvm.MethodName)) ∈ lw_all := lw_g (lw_at lw_m7 30 rfl) rfl
theorem q1604 : (Jvm.Cond.methodLink "PaidSecrets" (293 : Nat) ({ cls := "PaidSecrets", name := "bits", desc := "(I)I" } : Jvm.MethodName)) ∈ lw_all := lw_g (lw_at lw_m7 36 rfl) rfl
theorem q1605 : (Jvm.Cond.methodLink "PaidSecrets" (296 : Nat) ({ cls := "PaidSecrets$Payers", name := "can", desc := "(I)Z" } : Jvm.MethodName)) ∈ lw_all := lw_g (lw_at lw_m7 37 rfl) rfl
theorem q1621 : (Jvm.Cond.instanceMethod ({ cls := "PaidSecrets", name := "see", desc := "(IZ)Z" } : Jvm.MethodName)) ∈ lw_all := lw_g (lw_at lw_m7 53 rfl) rfl
theorem q1622 : (Jvm.Cond.selects "PaidSecrets" ({ cls := "PaidSecrets", name := "see", desc := "(IZ)Z" } : Jvm.MethodName) ({ cls := "PaidSecrets", name := "see", desc := "(IZ)Z" } : Jvm.MethodName)) ∈ lw_all := lw_g (lw_at lw_m7 54 rfl) rfl
theorem q1623 : (Jvm.Cond.code ({ cls := "PaidSecrets", name := "see", desc := "(IZ)Z" } : Jvm.MethodName) prog_1_method_30_code (3 : Nat) (Option.some Jvm.ClassFile.FieldType.boolean)) ∈ lw_all := lw_g (lw_at lw_m7 55 rfl) rfl
theorem q1624 : (Jvm.Cond.methodLink "PaidSecrets" (311 : Nat) ({ cls := "java/lang/Integer", name := "valueOf", desc := "(I)Ljava/lang/Integer;" } : Jvm.MethodName)) ∈ lw_all := lw_g (lw_at lw_m7 56 rfl) rfl
theorem q1626 : (Jvm.Cond.instanceMethod ({ cls := "PaidSecrets", name := "leaks", desc := "(I)I" } : Jvm.MethodName)) ∈ lw_all := lw_g (lw_at lw_m7 58 rfl) rfl
theorem q1627 : (Jvm.Cond.selects "PaidSecrets" ({ cls := "PaidSecrets", name := "leaks", desc := "(I)I" } : Jvm.MethodName) ({ cls := "PaidSecrets", name := "leaks", desc := "(I)I" } : Jvm.MethodName)) ∈ lw_all := lw_g (lw_at lw_m7 59 rfl) rfl
theorem q1628 : (Jvm.Cond.code ({ cls := "PaidSecrets", name := "leaks", desc := "(I)I" } : Jvm.MethodName) prog_1_method_32_code (7 : Nat) (Option.some Jvm.ClassFile.FieldType.int)) ∈ lw_all := lw_g (lw_at lw_m7 60 rfl) rfl
theorem q1629 : (Jvm.Cond.methodLink "PaidSecrets" (320 : Nat) ({ cls := "PaidSecrets", name := "isAsSeen", desc := "(I)Z" } : Jvm.MethodName)) ∈ lw_all := lw_g (lw_at lw_m7 61 rfl) rfl
theorem q1630 : (Jvm.Cond.privateMethod ({ cls := "PaidSecrets", name := "isAsSeen", desc := "(I)Z" } : Jvm.MethodName)) ∈ lw_tbl := lw_at lw_m7 62 rfl
theorem q1631 : (Jvm.Cond.instanceMethod ({ cls := "PaidSecrets", name := "isAsSeen", desc := "(I)Z" } : Jvm.MethodName)) ∈ lw_all := lw_g (lw_at lw_m7 63 rfl) rfl
theorem q1632 : (Jvm.Cond.code ({ cls := "PaidSecrets", name := "isAsSeen", desc := "(I)Z" } : Jvm.MethodName) prog_1_method_31_code (3 : Nat) (Option.some Jvm.ClassFile.FieldType.boolean)) ∈ lw_all := lw_g (lw_at lw_m7 64 rfl) rfl
theorem q1633 : (Jvm.Cond.classLink "PaidSecrets" (312 : Nat) "java/lang/Integer") ∈ lw_all := lw_g (lw_at lw_m7 65 rfl) rfl
theorem q1634 : (Jvm.Cond.methodLink "PaidSecrets" (317 : Nat) ({ cls := "java/lang/Integer", name := "intValue", desc := "()I" } : Jvm.MethodName)) ∈ lw_all := lw_g (lw_at lw_m7 66 rfl) rfl
theorem q1636 : (Jvm.Cond.instanceMethod ({ cls := "PaidSecrets", name := "lies", desc := "(I)I" } : Jvm.MethodName)) ∈ lw_all := lw_g (lw_at lw_m7 68 rfl) rfl
theorem q1637 : (Jvm.Cond.selects "PaidSecrets" ({ cls := "PaidSecrets", name := "lies", desc := "(I)I" } : Jvm.MethodName) ({ cls := "PaidSecrets", name := "lies", desc := "(I)I" } : Jvm.MethodName)) ∈ lw_all := lw_g (lw_at lw_m7 69 rfl) rfl
theorem q1638 : (Jvm.Cond.code ({ cls := "PaidSecrets", name := "lies", desc := "(I)I" } : Jvm.MethodName) prog_1_method_34_code (6 : Nat) (Option.some Jvm.ClassFile.FieldType.int)) ∈ lw_all := lw_g (lw_at lw_m7 70 rfl) rfl
theorem q1639 : (Jvm.Cond.methodLink "PaidSecrets" (323 : Nat) ({ cls := "PaidSecrets", name := "areTrue", desc := "(I)Z" } : Jvm.MethodName)) ∈ lw_all := lw_g (lw_at lw_m7 71 rfl) rfl
theorem q1640 : (Jvm.Cond.privateMethod ({ cls := "PaidSecrets", name := "areTrue", desc := "(I)Z" } : Jvm.MethodName)) ∈ lw_tbl := lw_at lw_m7 72 rfl
theorem q1641 : (Jvm.Cond.instanceMethod ({ cls := "PaidSecrets", name := "areTrue", desc := "(I)Z" } : Jvm.MethodName)) ∈ lw_all := lw_g (lw_at lw_m7 73 rfl) rfl
theorem q1642 : (Jvm.Cond.code ({ cls := "PaidSecrets", name := "areTrue", desc := "(I)Z" } : Jvm.MethodName) prog_1_method_33_code (3 : Nat) (Option.some Jvm.ClassFile.FieldType.boolean)) ∈ lw_all := lw_g (lw_at lw_m7 74 rfl) rfl
theorem q1644 : (Jvm.Cond.instanceMethod ({ cls := "PaidSecrets", name := "mean", desc := "(II)I" } : Jvm.MethodName)) ∈ lw_all := lw_g (lw_at lw_m7 76 rfl) rfl
theorem q1645 : (Jvm.Cond.selects "PaidSecrets" ({ cls := "PaidSecrets", name := "mean", desc := "(II)I" } : Jvm.MethodName) ({ cls := "PaidSecrets", name := "mean", desc := "(II)I" } : Jvm.MethodName)) ∈ lw_all := lw_g (lw_at lw_m7 77 rfl) rfl
theorem q1646 : (Jvm.Cond.code ({ cls := "PaidSecrets", name := "mean", desc := "(II)I" } : Jvm.MethodName) prog_1_method_35_code (6 : Nat) (Option.some Jvm.ClassFile.FieldType.int)) ∈ lw_all := lw_g (lw_at lw_m7 78 rfl) rfl
theorem q1647 : (Jvm.Cond.methodLink "PaidSecrets" (326 : Nat) ({ cls := "PaidSecrets$Nights", name := "goes", desc := "(II)V" } : Jvm.MethodName)) ∈ lw_all := lw_g (lw_at lw_m7 79 rfl) rfl
theorem q1672 : (Jvm.Cond.methodLink "PaidSecrets" (331 : Nat) ({ cls := "PaidSecrets$Talk", name := "bare", desc := "(II)I" } : Jvm.MethodName)) ∈ lw_all := lw_g (lw_at lw_m7 104 rfl) rfl
theorem q1673 : (Jvm.Cond.constantLong "PaidSecrets" (334 : Nat) (1000 : Int64)) ∈ lw_all := lw_g (lw_at lw_m7 105 rfl) rfl
theorem q1675 : (Jvm.Cond.instanceMethod ({ cls := "PaidSecrets", name := "holds", desc := "(II)I" } : Jvm.MethodName)) ∈ lw_all := lw_g (lw_at lw_m7 107 rfl) rfl
theorem q1676 : (Jvm.Cond.selects "PaidSecrets" ({ cls := "PaidSecrets", name := "holds", desc := "(II)I" } : Jvm.MethodName) ({ cls := "PaidSecrets", name := "holds", desc := "(II)I" } : Jvm.MethodName)) ∈ lw_all := lw_g (lw_at lw_m7 108 rfl) rfl
theorem q1677 : (Jvm.Cond.code ({ cls := "PaidSecrets", name := "holds", desc := "(II)I" } : Jvm.MethodName) prog_1_method_36_code (6 : Nat) (Option.some Jvm.ClassFile.FieldType.int)) ∈ lw_all := lw_g (lw_at lw_m7 109 rfl) rfl
theorem q1679 : (Jvm.Cond.instanceMethod ({ cls := "PaidSecrets", name := "settle", desc := "()I" } : Jvm.MethodName)) ∈ lw_all := lw_g (lw_at lw_m7 111 rfl) rfl
theorem q1680 : (Jvm.Cond.selects "PaidSecrets" ({ cls := "PaidSecrets", name := "settle", desc := "()I" } : Jvm.MethodName) ({ cls := "PaidSecrets", name := "settle", desc := "()I" } : Jvm.MethodName)) ∈ lw_all := lw_g (lw_at lw_m7 112 rfl) rfl
theorem q1681 : (Jvm.Cond.code ({ cls := "PaidSecrets", name := "settle", desc := "()I" } : Jvm.MethodName) prog_1_method_38_code (3 : Nat) (Option.some Jvm.ClassFile.FieldType.int)) ∈ lw_all := lw_g (lw_at lw_m7 113 rfl) rfl
theorem q1682 : (Jvm.Cond.methodLink "PaidSecrets" (336 : Nat) ({ cls := "PaidSecrets", name := "groups", desc := "(I)I" } : Jvm.MethodName)) ∈ lw_all := lw_g (lw_at lw_m7 114 rfl) rfl
theorem q1683 : (Jvm.Cond.privateMethod ({ cls := "PaidSecrets", name := "groups", desc := "(I)I" } : Jvm.MethodName)) ∈ lw_tbl := lw_at lw_m7 115 rfl
theorem q1684 : (Jvm.Cond.instanceMethod ({ cls := "PaidSecrets", name := "groups", desc := "(I)I" } : Jvm.MethodName)) ∈ lw_all := lw_g (lw_at lw_m7 116 rfl) rfl
theorem q1685 : (Jvm.Cond.code ({ cls := "PaidSecrets", name := "groups", desc := "(I)I" } : Jvm.MethodName) prog_1_method_37_code (6 : Nat) (Option.some Jvm.ClassFile.FieldType.int)) ∈ lw_all := lw_g (lw_at lw_m7 117 rfl) rfl
theorem q1686 : (Jvm.Cond.methodLink "PaidSecrets" (339 : Nat) ({ cls := "java/lang/Math", name := "max", desc := "(II)I" } : Jvm.MethodName)) ∈ lw_all := lw_g (lw_at lw_m7 118 rfl) rfl
theorem q1688 : (Jvm.Cond.instanceMethod ({ cls := "PaidSecrets", name := "rests", desc := "(II)I" } : Jvm.MethodName)) ∈ lw_all := lw_g (lw_at lw_m7 120 rfl) rfl
theorem q1689 : (Jvm.Cond.selects "PaidSecrets" ({ cls := "PaidSecrets", name := "rests", desc := "(II)I" } : Jvm.MethodName) ({ cls := "PaidSecrets", name := "rests", desc := "(II)I" } : Jvm.MethodName)) ∈ lw_all := lw_g (lw_at lw_m7 121 rfl) rfl
theorem q1690 : (Jvm.Cond.code ({ cls := "PaidSecrets", name := "rests", desc := "(II)I" } : Jvm.MethodName) prog_1_method_39_code (6 : Nat) (Option.some Jvm.ClassFile.FieldType.int)) ∈ lw_all := lw_g (lw_at lw_m7 122 rfl) rfl
theorem q1691 : (Jvm.Cond.methodLink "PaidSecrets" (344 : Nat) ({ cls := "PaidSecrets$Feast", name := "lays", desc := "(I)I" } : Jvm.MethodName)) ∈ lw_all := lw_g (lw_at lw_m7 123 rfl) rfl
theorem q1697 : (Jvm.Cond.methodLink "PaidSecrets" (346 : Nat) ({ cls := "PaidSecrets$Feast", name := "isRest", desc := "(I)Z" } : Jvm.MethodName)) ∈ lw_all := lw_g (lw_at lw_m7 129 rfl) rfl
theorem q1716 : (Jvm.Cond.instanceMethod ({ cls := "PaidSecrets", name := "years", desc := "(III)I" } : Jvm.MethodName)) ∈ lw_all := lw_g (lw_at lw_m7 148 rfl) rfl
theorem q1717 : (Jvm.Cond.selects "PaidSecrets" ({ cls := "PaidSecrets", name := "years", desc := "(III)I" } : Jvm.MethodName) ({ cls := "PaidSecrets", name := "years", desc := "(III)I" } : Jvm.MethodName)) ∈ lw_all := lw_g (lw_at lw_m7 149 rfl) rfl
theorem q1718 : (Jvm.Cond.code ({ cls := "PaidSecrets", name := "years", desc := "(III)I" } : Jvm.MethodName) prog_1_method_43_code (8 : Nat) (Option.some Jvm.ClassFile.FieldType.int)) ∈ lw_all := lw_g (lw_at lw_m7 150 rfl) rfl
theorem q1719 : (Jvm.Cond.methodLink "PaidSecrets" (371 : Nat) ({ cls := "PaidSecrets$Talk", name := "copies", desc := "(LPaidSecrets$Talk;)LPaidSecrets$Talk;" } : Jvm.MethodName)) ∈ lw_all := lw_g (lw_at lw_m7 151 rfl) rfl
theorem q1720 : (Jvm.Cond.methodLink "PaidSecrets" (375 : Nat) ({ cls := "PaidSecrets", name := "whispers", desc := "(I)Z" } : Jvm.MethodName)) ∈ lw_all := lw_g (lw_at lw_m7 152 rfl) rfl
theorem q1721 : (Jvm.Cond.privateMethod ({ cls := "PaidSecrets", name := "whispers", desc := "(I)Z" } : Jvm.MethodName)) ∈ lw_tbl := lw_at lw_m7 153 rfl
theorem q1722 : (Jvm.Cond.instanceMethod ({ cls := "PaidSecrets", name := "whispers", desc := "(I)Z" } : Jvm.MethodName)) ∈ lw_all := lw_g (lw_at lw_m7 154 rfl) rfl
theorem q1723 : (Jvm.Cond.code ({ cls := "PaidSecrets", name := "whispers", desc := "(I)Z" } : Jvm.MethodName) prog_1_method_41_code (4 : Nat) (Option.some Jvm.ClassFile.FieldType.boolean)) ∈ lw_all := lw_g (lw_at lw_m7 155 rfl) rfl
theorem q1724 : (Jvm.Cond.classLink "PaidSecrets" (364 : Nat) "[I") ∈ lw_all := lw_g (lw_at lw_m7 156 rfl) rfl
theorem q1725 : (Jvm.Cond.methodLink "PaidSecrets" (365 : Nat) ({ cls := "PaidSecrets", name := "draw", desc := "(I)I" } : Jvm.MethodName)) ∈ lw_all := lw_g (lw_at lw_m7 157 rfl) rfl
theorem q1726 : (Jvm.Cond.privateMethod ({ cls := "PaidSecrets", name := "draw", desc := "(I)I" } : Jvm.MethodName)) ∈ lw_tbl := lw_at lw_m7 158 rfl
theorem q1727 : (Jvm.Cond.instanceMethod ({ cls := "PaidSecrets", name := "draw", desc := "(I)I" } : Jvm.MethodName)) ∈ lw_all := lw_g (lw_at lw_m7 159 rfl) rfl
theorem q1728 : (Jvm.Cond.code ({ cls := "PaidSecrets", name := "draw", desc := "(I)I" } : Jvm.MethodName) prog_1_method_40_code (2 : Nat) (Option.some Jvm.ClassFile.FieldType.int)) ∈ lw_all := lw_g (lw_at lw_m7 160 rfl) rfl
theorem q1729 : (Jvm.Cond.constantLong "PaidSecrets" (353 : Nat) (1103515245 : Int64)) ∈ lw_all := lw_g (lw_at lw_m7 161 rfl) rfl
theorem q1730 : (Jvm.Cond.constantLong "PaidSecrets" (355 : Nat) (12345 : Int64)) ∈ lw_all := lw_g (lw_at lw_m7 162 rfl) rfl
theorem q1731 : (Jvm.Cond.constantLong "PaidSecrets" (357 : Nat) (2147483648 : Int64)) ∈ lw_all := lw_g (lw_at lw_m7 163 rfl) rfl
theorem q1732 : (Jvm.Cond.constantLong "PaidSecrets" (359 : Nat) (65536 : Int64)) ∈ lw_all := lw_g (lw_at lw_m7 164 rfl) rfl
theorem q1733 : (Jvm.Cond.methodLink "PaidSecrets" (368 : Nat) ({ cls := "PaidSecrets$Town", name := "chance", desc := "(I)I" } : Jvm.MethodName)) ∈ lw_all := lw_g (lw_at lw_m7 165 rfl) rfl
theorem q1734 : (Jvm.Cond.methodLink "PaidSecrets" (378 : Nat) ({ cls := "PaidSecrets", name := "quarterDay", desc := "()I" } : Jvm.MethodName)) ∈ lw_all := lw_g (lw_at lw_m7 166 rfl) rfl
theorem q1735 : (Jvm.Cond.privateMethod ({ cls := "PaidSecrets", name := "quarterDay", desc := "()I" } : Jvm.MethodName)) ∈ lw_tbl := lw_at lw_m7 167 rfl
theorem q1736 : (Jvm.Cond.instanceMethod ({ cls := "PaidSecrets", name := "quarterDay", desc := "()I" } : Jvm.MethodName)) ∈ lw_all := lw_g (lw_at lw_m7 168 rfl) rfl
theorem q1737 : (Jvm.Cond.code ({ cls := "PaidSecrets", name := "quarterDay", desc := "()I" } : Jvm.MethodName) prog_1_method_42_code (3 : Nat) (Option.some Jvm.ClassFile.FieldType.int)) ∈ lw_all := lw_g (lw_at lw_m7 169 rfl) rfl
theorem q1739 : (Jvm.Cond.instanceMethod ({ cls := "PaidSecrets", name := "mark", desc := "(IZ)Z" } : Jvm.MethodName)) ∈ lw_all := lw_g (lw_at lw_m7 171 rfl) rfl
theorem q1740 : (Jvm.Cond.selects "PaidSecrets" ({ cls := "PaidSecrets", name := "mark", desc := "(IZ)Z" } : Jvm.MethodName) ({ cls := "PaidSecrets", name := "mark", desc := "(IZ)Z" } : Jvm.MethodName)) ∈ lw_all := lw_g (lw_at lw_m7 172 rfl) rfl
theorem q1741 : (Jvm.Cond.code ({ cls := "PaidSecrets", name := "mark", desc := "(IZ)Z" } : Jvm.MethodName) prog_1_method_45_code (3 : Nat) (Option.some Jvm.ClassFile.FieldType.boolean)) ∈ lw_all := lw_g (lw_at lw_m7 173 rfl) rfl
theorem q1743 : (Jvm.Cond.methodLink "PaidSecrets" (381 : Nat) ({ cls := "PaidSecrets", name := "copied", desc := "(Ljava/util/ArrayList;)Ljava/util/ArrayList;" } : Jvm.MethodName)) ∈ lw_all := lw_g (lw_at lw_m7 175 rfl) rfl
theorem q1744 : (Jvm.Cond.static ({ cls := "PaidSecrets", name := "copied", desc := "(Ljava/util/ArrayList;)Ljava/util/ArrayList;" } : Jvm.MethodName)) ∈ lw_all := lw_g (lw_at lw_m7 176 rfl) rfl
theorem q1745 : (Jvm.Cond.code ({ cls := "PaidSecrets", name := "copied", desc := "(Ljava/util/ArrayList;)Ljava/util/ArrayList;" } : Jvm.MethodName) prog_1_method_44_code (3 : Nat) (Option.some (Jvm.ClassFile.FieldType.object "java/util/ArrayList"))) ∈ lw_all := lw_g (lw_at lw_m7 177 rfl) rfl
theorem q1746 : (Jvm.Cond.methodLink "PaidSecrets" (384 : Nat) ({ cls := "PaidSecrets$Mark", name := "<init>", desc := "(LPaidSecrets$Talk;Ljava/util/ArrayList;Ljava/util/ArrayList;)V" } : Jvm.MethodName)) ∈ lw_all := lw_g (lw_at lw_m7 178 rfl) rfl
theorem q1751 : (Jvm.Cond.fieldLinkNest "PaidSecrets" (387 : Nat) "PaidSecrets$Mark" "talk" "LPaidSecrets$Talk;" "PaidSecrets") ∈ lw_tbl := lw_at lw_m7 183 rfl
theorem q1753 : (Jvm.Cond.fieldLinkNest "PaidSecrets" (388 : Nat) "PaidSecrets$Mark" "gossip" "Ljava/util/ArrayList;" "PaidSecrets") ∈ lw_tbl := lw_at lw_m7 185 rfl
theorem q1755 : (Jvm.Cond.fieldLinkNest "PaidSecrets" (389 : Nat) "PaidSecrets$Mark" "seen" "Ljava/util/ArrayList;" "PaidSecrets") ∈ lw_tbl := lw_at lw_m7 187 rfl
theorem q1764 : (Jvm.Cond.instanceMethod ({ cls := "PaidSecrets", name := "count", desc := "(I)I" } : Jvm.MethodName)) ∈ lw_all := lw_g (lw_at lw_m7 196 rfl) rfl
theorem q1765 : (Jvm.Cond.selects "PaidSecrets" ({ cls := "PaidSecrets", name := "count", desc := "(I)I" } : Jvm.MethodName) ({ cls := "PaidSecrets", name := "count", desc := "(I)I" } : Jvm.MethodName)) ∈ lw_all := lw_g (lw_at lw_m7 197 rfl) rfl
theorem q1766 : (Jvm.Cond.code ({ cls := "PaidSecrets", name := "count", desc := "(I)I" } : Jvm.MethodName) prog_1_method_46_code (2 : Nat) (Option.some Jvm.ClassFile.FieldType.int)) ∈ lw_all := lw_g (lw_at lw_m7 198 rfl) rfl
theorem q1772 : (Jvm.Cond.instanceMethod ({ cls := "PaidSecrets", name := "person", desc := "(II)I" } : Jvm.MethodName)) ∈ lw_all := lw_g (lw_at lw_m7 204 rfl) rfl
theorem q1773 : (Jvm.Cond.selects "PaidSecrets" ({ cls := "PaidSecrets", name := "person", desc := "(II)I" } : Jvm.MethodName) ({ cls := "PaidSecrets", name := "person", desc := "(II)I" } : Jvm.MethodName)) ∈ lw_all := lw_g (lw_at lw_m7 205 rfl) rfl
theorem q1774 : (Jvm.Cond.code ({ cls := "PaidSecrets", name := "person", desc := "(II)I" } : Jvm.MethodName) prog_1_method_15_code (3 : Nat) (Option.some Jvm.ClassFile.FieldType.int)) ∈ lw_all := lw_g (lw_at lw_m7 206 rfl) rfl
theorem q1775 : (Jvm.Cond.classLink "PaidSecrets" (150 : Nat) "java/util/NoSuchElementException") ∈ lw_all := lw_g (lw_at lw_m7 207 rfl) rfl
theorem q1786 : (Jvm.Cond.methodLink "PaidSecrets" (152 : Nat) ({ cls := "java/util/NoSuchElementException", name := "<init>", desc := "()V" } : Jvm.MethodName)) ∈ lw_all := lw_g (lw_at lw_m7 218 rfl) rfl
theorem q1795 : (Jvm.Cond.methodLink "PaidSecrets" (157 : Nat) ({ cls := "PaidSecrets$Person", name := "kind", desc := "()I" } : Jvm.MethodName)) ∈ lw_all := lw_g (lw_at lw_m7 227 rfl) rfl
theorem q1809 : (Jvm.Cond.methodLink "PaidSecrets" (167 : Nat) ({ cls := "PaidSecrets$Talk", name := "known", desc := "(I)I" } : Jvm.MethodName)) ∈ lw_all := lw_g (lw_at lw_m8 1 rfl) rfl
theorem q1810 : (Jvm.Cond.methodLink "PaidSecrets" (171 : Nat) ({ cls := "PaidSecrets$Talk", name := "purse", desc := "(I)I" } : Jvm.MethodName)) ∈ lw_all := lw_g (lw_at lw_m8 2 rfl) rfl
theorem q1818 : (Jvm.Cond.instanceMethod ({ cls := "PaidSecrets", name := "plot", desc := "(IIII)I" } : Jvm.MethodName)) ∈ lw_all := lw_g (lw_at lw_m8 10 rfl) rfl
theorem q1819 : (Jvm.Cond.selects "PaidSecrets" ({ cls := "PaidSecrets", name := "plot", desc := "(IIII)I" } : Jvm.MethodName) ({ cls := "PaidSecrets", name := "plot", desc := "(IIII)I" } : Jvm.MethodName)) ∈ lw_all := lw_g (lw_at lw_m8 11 rfl) rfl
theorem q1820 : (Jvm.Cond.code ({ cls := "PaidSecrets", name := "plot", desc := "(IIII)I" } : Jvm.MethodName) prog_1_method_29_code (5 : Nat) (Option.some Jvm.ClassFile.FieldType.int)) ∈ lw_all := lw_g (lw_at lw_m8 12 rfl) rfl
theorem q1821 : (Jvm.Cond.methodLink "PaidSecrets" (299 : Nat) ({ cls := "PaidSecrets$Plots", name := "finds", desc := "(III)V" } : Jvm.MethodName)) ∈ lw_all := lw_g (lw_at lw_m8 13 rfl) rfl
theorem q2534 : (Jvm.Cond.castable "PaidSecrets" "java/lang/Object") ∈ lw_tbl := lw_at lw_m11 6 rfl
theorem in_X1 : ∀ w ∈ wsX10, w ∈ lw_all := lw_in wsX10 [552, 554, 556, 558, 560, 562, 564, 566, 568, 570, 572, 574] (by decide +kernel) (by decide +kernel)
