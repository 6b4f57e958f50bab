set_option maxRecDepth 100000
/-! PaidSecretsModel -/
set_option maxRecDepth 100000
def RX10 : String := "PaidSecretsModel"
def TX10 : u_T := fun k => match k with
  | 0 => ("PaidSecretsModel", "thrown", "I", false)
  | 1 => ("PaidSecretsModel", "taped", "I", false)
  | 2 => ("PaidSecretsModel", "tape", "[I", true)
  | 3 => ("PaidSecretsModel", "size", "I", false)
  | 4 => ("PaidSecretsModel", "place", "I", false)
  | 5 => ("PaidSecretsModel", "begin", "I", false)
  | 6 => ("PaidSecretsModel", "token", "I", false)
  | 7 => ("PaidSecretsModel", "word", "J", false)
  | 8 => ("PaidSecretsModel", "told", "I", false)
  | 9 => ("PaidSecretsModel", "wrong", "I", false)
  | 10 => ("PaidSecretsModel", "town", "[I", true)
  | 11 => ("PaidSecretsModel", "personName", "[J", true)
  | 12 => ("PaidSecretsModel", "secretName", "[J", true)
  | 13 => ("PaidSecretsModel", "kind", "[I", true)
  | 14 => ("PaidSecretsModel", "rankTold", "[I", true)
  | 15 => ("PaidSecretsModel", "tax", "[I", true)
  | 16 => ("PaidSecretsModel", "truth", "[I", true)
  | 17 => ("PaidSecretsModel", "whose", "[I", true)
  | 18 => ("PaidSecretsModel", "costs", "[I", true)
  | 19 => ("PaidSecretsModel", "onSecret", "[I", true)
  | 20 => ("PaidSecretsModel", "knowTold", "[I", true)
  | 21 => ("PaidSecretsModel", "clashes", "[I", true)
  | 22 => ("PaidSecretsModel", "earFrom", "[I", true)
  | 23 => ("PaidSecretsModel", "earTo", "[I", true)
  | 24 => ("PaidSecretsModel", "earChance", "[I", true)
  | 25 => ("PaidSecretsModel", "lineFrom", "[I", true)
  | 26 => ("PaidSecretsModel", "lineTo", "[I", true)
  | 27 => ("PaidSecretsModel", "codes", "[I", true)
  | 28 => ("PaidSecretsModel", "code", "I", false)
  | 29 => ("PaidSecretsModel", "opened", "[I", true)
  | 30 => ("PaidSecretsModel", "compared", "[Z", true)
  | 31 => ("PaidSecretsModel", "kept", "[I", true)
  | 32 => ("PaidSecretsModel", "keptBy", "[I", true)
  | 33 => ("PaidSecretsModel", "ahead", "[I", true)
  | 34 => ("PaidSecretsModel", "against", "[I", true)
  | 35 => ("PaidSecretsModel", "sum", "[I", true)
  | 36 => ("PaidSecretsModel", "sumBy", "[I", true)
  | 37 => ("PaidSecretsModel", "term", "[I", true)
  | 38 => ("PaidSecretsModel", "termBy", "[I", true)
  | 39 => ("PaidSecretsModel", "byNot", "[I", true)
  | 40 => ("PaidSecretsModel", "valueOf", "[I", true)
  | 41 => ("PaidSecretsModel", "given", "I", false)
  | 42 => ("PaidSecretsModel", "lines", "[I", true)
  | 43 => ("PaidSecretsModel", "lineWhat", "[I", true)
  | 44 => ("PaidSecretsModel", "lineA", "[I", true)
  | 45 => ("PaidSecretsModel", "lineB", "[I", true)
  | 46 => ("PaidSecretsModel", "lineC", "[I", true)
  | 47 => ("PaidSecretsModel", "seens", "[I", true)
  | 48 => ("PaidSecretsModel", "seen", "[I", true)
  | 49 => ("PaidSecretsModel", "seenFell", "[Z", true)
  | 50 => ("PaidSecretsModel", "s", "[I", true)
  | 51 => ("PaidSecretsModel", "aside", "[I", true)
  | 52 => ("PaidSecretsModel", "marked", "[I", true)
  | 53 => ("PaidSecretsModel", "undone", "[I", true)
  | 54 => ("PaidSecretsModel", "isLaid", "[Z", true)
  | 55 => ("PaidSecretsModel", "done", "I", false)
  | 56 => ("PaidSecretsModel", "together", "[Z", true)
  | 57 => ("PaidSecretsModel", "isEnough", "[Z", true)
  | 58 => ("PaidSecretsModel", "telling", "[I", true)
  | 59 => ("PaidSecretsModel", "bestTelling", "[I", true)
  | 60 => ("PaidSecretsModel", "bestGap", "I", false)
  | 61 => ("PaidSecretsModel", "bestMany", "I", false)
  | 62 => ("PaidSecretsModel", "odds", "[I", true)
  | 63 => ("PaidSecretsModel", "oddsThen", "[I", true)
  | 64 => ("PaidSecretsModel", "hears", "[I", true)
  | 65 => ("PaidSecretsModel", "groups", "[I", true)
  | 66 => ("PaidSecretsModel", "guest", "[I", true)
  | 67 => ("PaidSecretsModel", "chosen", "[I", true)
  | 68 => ("PaidSecretsModel", "guests", "I", false)
  | _ => ("PaidSecretsModel", "g", "J", false)
def tyX10 : Nat → FieldType := fun k => match k with
  | 0 => .int
  | 1 => .int
  | 2 => .array .int
  | 3 => .int
  | 4 => .int
  | 5 => .int
  | 6 => .int
  | 7 => .long
  | 8 => .int
  | 9 => .int
  | 10 => .array .int
  | 11 => .array .long
  | 12 => .array .long
  | 13 => .array .int
  | 14 => .array .int
  | 15 => .array .int
  | 16 => .array .int
  | 17 => .array .int
  | 18 => .array .int
  | 19 => .array .int
  | 20 => .array .int
  | 21 => .array .int
  | 22 => .array .int
  | 23 => .array .int
  | 24 => .array .int
  | 25 => .array .int
  | 26 => .array .int
  | 27 => .array .int
  | 28 => .int
  | 29 => .array .int
  | 30 => .array .boolean
  | 31 => .array .int
  | 32 => .array .int
  | 33 => .array .int
  | 34 => .array .int
  | 35 => .array .int
  | 36 => .array .int
  | 37 => .array .int
  | 38 => .array .int
  | 39 => .array .int
  | 40 => .array .int
  | 41 => .int
  | 42 => .array .int
  | 43 => .array .int
  | 44 => .array .int
  | 45 => .array .int
  | 46 => .array .int
  | 47 => .array .int
  | 48 => .array .int
  | 49 => .array .boolean
  | 50 => .array .int
  | 51 => .array .int
  | 52 => .array .int
  | 53 => .array .int
  | 54 => .array .boolean
  | 55 => .int
  | 56 => .array .boolean
  | 57 => .array .boolean
  | 58 => .array .int
  | 59 => .array .int
  | 60 => .int
  | 61 => .int
  | 62 => .array .int
  | 63 => .array .int
  | 64 => .array .int
  | 65 => .array .int
  | 66 => .array .int
  | 67 => .array .int
  | 68 => .int
  | _ => .long
abbrev wsX100 : List Cond := u_ws RX10 TX10 70
set_option maxRecDepth 100000 in
theorem nmX10 : ∀ a, a < 70 → ∀ b, b < 70 → a ≠ b → (TX10 a).2.1 ≠ (TX10 b).2.1 := by decide +kernel
set_option maxRecDepth 100000 in
theorem tyX10_ok : ∀ k, k < 70 → parseFieldDescriptor (TX10 k).2.2.1 = some (tyX10 k) := by decide +kernel
abbrev cX10_init : ByteArray := prog_36_method_1_code
def yX10_init : MethodName := ⟨RX10, "<init>", "()V"⟩
def dkwX10_init_18 : List UInt8 := [188, 10, 181, 0, 169, 42, 6, 188, 10, 181, 0, 172, 177]
abbrev dktX10_init_18 : List UInt8 := dkwX10_init_18 ++ []
def dkwX10_init_17 : List UInt8 := [188, 10, 181, 0, 160, 42, 16, 6, 188, 10, 181, 0, 163, 42, 16, 64, 188, 10, 181, 0, 166, 42, 6]
abbrev dktX10_init_17 : List UInt8 := dkwX10_init_17 ++ dktX10_init_18
def dkwX10_init_16 : List UInt8 := [5, 188, 10, 181, 0, 151, 42, 5, 188, 10, 181, 0, 154, 42, 16, 64, 188, 10, 181, 0, 157, 42, 16, 64]
abbrev dktX10_init_16 : List UInt8 := dkwX10_init_16 ++ dktX10_init_17
def dkwX10_init_15 : List UInt8 := [7, 188, 4, 181, 0, 141, 42, 18, 144, 188, 4, 181, 0, 145, 42, 17, 24, 0, 188, 4, 181, 0, 148, 42]
abbrev dktX10_init_15 : List UInt8 := dkwX10_init_15 ++ dktX10_init_16
def dkwX10_init_14 : List UInt8 := [188, 10, 181, 0, 132, 42, 17, 1, 236, 188, 10, 181, 0, 135, 42, 17, 7, 176, 188, 10, 181, 0, 138, 42]
abbrev dktX10_init_14 : List UInt8 := dkwX10_init_14 ++ dktX10_init_15
def dkwX10_init_13 : List UInt8 := [181, 0, 123, 42, 16, 50, 188, 4, 181, 0, 126, 42, 16, 123, 188, 10, 181, 0, 129, 42, 17, 0, 246]
abbrev dktX10_init_13 : List UInt8 := dkwX10_init_13 ++ dktX10_init_14
def dkwX10_init_12 : List UInt8 := [181, 0, 114, 42, 17, 0, 180, 188, 10, 181, 0, 117, 42, 8, 188, 10, 181, 0, 120, 42, 16, 50, 188, 10]
abbrev dktX10_init_12 : List UInt8 := dkwX10_init_12 ++ dktX10_init_13
def dkwX10_init_11 : List UInt8 := [17, 0, 180, 188, 10, 181, 0, 108, 42, 17, 0, 180, 188, 10, 181, 0, 111, 42, 17, 0, 180, 188, 10]
abbrev dktX10_init_11 : List UInt8 := dkwX10_init_11 ++ dktX10_init_12
def dkwX10_init_10 : List UInt8 := [188, 10, 181, 0, 99, 42, 16, 20, 188, 10, 181, 0, 102, 42, 16, 6, 188, 10, 181, 0, 105, 42]
abbrev dktX10_init_10 : List UInt8 := dkwX10_init_10 ++ dktX10_init_11
def dkwX10_init_9 : List UInt8 := [188, 10, 181, 0, 90, 42, 16, 7, 188, 10, 181, 0, 93, 42, 16, 7, 188, 10, 181, 0, 96, 42, 16, 7]
abbrev dktX10_init_9 : List UInt8 := dkwX10_init_9 ++ dktX10_init_10
def dkwX10_init_8 : List UInt8 := [188, 10, 181, 0, 81, 42, 16, 7, 188, 10, 181, 0, 84, 42, 16, 7, 188, 10, 181, 0, 87, 42, 16, 7]
abbrev dktX10_init_8 : List UInt8 := dkwX10_init_8 ++ dktX10_init_9
def dkwX10_init_7 : List UInt8 := [188, 4, 181, 0, 71, 42, 16, 7, 188, 10, 181, 0, 75, 42, 16, 7, 188, 10, 181, 0, 78, 42, 16, 7]
abbrev dktX10_init_7 : List UInt8 := dkwX10_init_7 ++ dktX10_init_8
def dkwX10_init_6 : List UInt8 := [181, 0, 62, 42, 17, 7, 208, 188, 10, 181, 0, 65, 42, 16, 7, 188, 10, 181, 0, 68, 42, 16, 7]
abbrev dktX10_init_6 : List UInt8 := dkwX10_init_6 ++ dktX10_init_7
def dkwX10_init_5 : List UInt8 := [188, 10, 181, 0, 53, 42, 16, 60, 188, 10, 181, 0, 56, 42, 5, 188, 10, 181, 0, 59, 42, 5, 188, 10]
abbrev dktX10_init_5 : List UInt8 := dkwX10_init_5 ++ dktX10_init_6
def dkwX10_init_4 : List UInt8 := [188, 10, 181, 0, 44, 42, 16, 20, 188, 10, 181, 0, 47, 42, 16, 60, 188, 10, 181, 0, 50, 42, 16, 60]
abbrev dktX10_init_4 : List UInt8 := dkwX10_init_4 ++ dktX10_init_5
def dkwX10_init_3 : List UInt8 := [188, 10, 181, 0, 35, 42, 16, 20, 188, 10, 181, 0, 38, 42, 16, 20, 188, 10, 181, 0, 41, 42, 16, 20]
abbrev dktX10_init_3 : List UInt8 := dkwX10_init_3 ++ dktX10_init_4
def dkwX10_init_2 : List UInt8 := [188, 10, 181, 0, 26, 42, 16, 12, 188, 10, 181, 0, 29, 42, 16, 20, 188, 10, 181, 0, 32, 42, 16, 20]
abbrev dktX10_init_2 : List UInt8 := dkwX10_init_2 ++ dktX10_init_3
def dkwX10_init_1 : List UInt8 := [188, 11, 181, 0, 16, 42, 16, 20, 188, 11, 181, 0, 20, 42, 16, 12, 188, 10, 181, 0, 23, 42, 16, 12]
abbrev dktX10_init_1 : List UInt8 := dkwX10_init_1 ++ dktX10_init_2
def dkwX10_init_0 : List UInt8 := [42, 183, 0, 1, 42, 17, 3, 232, 188, 10, 181, 0, 7, 42, 16, 8, 188, 10, 181, 0, 13, 42, 16, 12]
abbrev dktX10_init_0 : List UInt8 := dkwX10_init_0 ++ dktX10_init_1
theorem dksX10_init_0 : cX10_init.data.toList.drop 0 = dktX10_init_0 := by decide +kernel
theorem dksX10_init_1 : cX10_init.data.toList.drop 24 = dktX10_init_1 := dk_seg dksX10_init_0 24 rfl rfl
theorem dksX10_init_2 : cX10_init.data.toList.drop 48 = dktX10_init_2 := dk_seg dksX10_init_1 24 rfl rfl
theorem dksX10_init_3 : cX10_init.data.toList.drop 72 = dktX10_init_3 := dk_seg dksX10_init_2 24 rfl rfl
theorem dksX10_init_4 : cX10_init.data.toList.drop 96 = dktX10_init_4 := dk_seg dksX10_init_3 24 rfl rfl
theorem dksX10_init_5 : cX10_init.data.toList.drop 120 = dktX10_init_5 := dk_seg dksX10_init_4 24 rfl rfl
theorem dksX10_init_6 : cX10_init.data.toList.drop 144 = dktX10_init_6 := dk_seg dksX10_init_5 24 rfl rfl
theorem dksX10_init_7 : cX10_init.data.toList.drop 167 = dktX10_init_7 := dk_seg dksX10_init_6 23 rfl rfl
theorem dksX10_init_8 : cX10_init.data.toList.drop 191 = dktX10_init_8 := dk_seg dksX10_init_7 24 rfl rfl
theorem dksX10_init_9 : cX10_init.data.toList.drop 215 = dktX10_init_9 := dk_seg dksX10_init_8 24 rfl rfl
theorem dksX10_init_10 : cX10_init.data.toList.drop 239 = dktX10_init_10 := dk_seg dksX10_init_9 24 rfl rfl
theorem dksX10_init_11 : cX10_init.data.toList.drop 261 = dktX10_init_11 := dk_seg dksX10_init_10 22 rfl rfl
theorem dksX10_init_12 : cX10_init.data.toList.drop 284 = dktX10_init_12 := dk_seg dksX10_init_11 23 rfl rfl
theorem dksX10_init_13 : cX10_init.data.toList.drop 308 = dktX10_init_13 := dk_seg dksX10_init_12 24 rfl rfl
theorem dksX10_init_14 : cX10_init.data.toList.drop 331 = dktX10_init_14 := dk_seg dksX10_init_13 23 rfl rfl
theorem dksX10_init_15 : cX10_init.data.toList.drop 355 = dktX10_init_15 := dk_seg dksX10_init_14 24 rfl rfl
theorem dksX10_init_16 : cX10_init.data.toList.drop 379 = dktX10_init_16 := dk_seg dksX10_init_15 24 rfl rfl
theorem dksX10_init_17 : cX10_init.data.toList.drop 403 = dktX10_init_17 := dk_seg dksX10_init_16 24 rfl rfl
theorem dksX10_init_18 : cX10_init.data.toList.drop 426 = dktX10_init_18 := dk_seg dksX10_init_17 23 rfl rfl
theorem dX10_init_0 : decode cX10_init 0 = .ok (.aload_n 0, 1) := dk_42 (dk_at dksX10_init_0 0 rfl rfl)
theorem dX10_init_1 : decode cX10_init 1 = .ok (.invokespecial 1, 3) := dk_183 0 1 (dk_at dksX10_init_0 1 rfl rfl)
theorem dX10_init_4 : decode cX10_init 4 = .ok (.aload_n 0, 1) := dk_42 (dk_at dksX10_init_0 4 rfl rfl)
theorem dX10_init_5 : decode cX10_init 5 = .ok (.sipush 1000, 3) := dk_17 3 232 (dk_at dksX10_init_0 5 rfl rfl)
theorem dX10_init_8 : decode cX10_init 8 = .ok (.newarray .int, 2) := dk_188_10 (dk_at dksX10_init_0 8 rfl rfl)
theorem dX10_init_10 : decode cX10_init 10 = .ok (.putfield 7, 3) := dk_181 0 7 (dk_at dksX10_init_0 10 rfl rfl)
theorem dX10_init_13 : decode cX10_init 13 = .ok (.aload_n 0, 1) := dk_42 (dk_at dksX10_init_0 13 rfl rfl)
theorem dX10_init_14 : decode cX10_init 14 = .ok (.bipush 8, 2) := dk_16 8 (dk_at dksX10_init_0 14 rfl rfl)
theorem dX10_init_16 : decode cX10_init 16 = .ok (.newarray .int, 2) := dk_188_10 (dk_at dksX10_init_0 16 rfl rfl)
theorem dX10_init_18 : decode cX10_init 18 = .ok (.putfield 13, 3) := dk_181 0 13 (dk_at dksX10_init_0 18 rfl rfl)
theorem dX10_init_21 : decode cX10_init 21 = .ok (.aload_n 0, 1) := dk_42 (dk_at dksX10_init_0 21 rfl rfl)
theorem dX10_init_22 : decode cX10_init 22 = .ok (.bipush 12, 2) := dk_16 12 (dk_at dksX10_init_0 22 rfl rfl)
theorem dX10_init_24 : decode cX10_init 24 = .ok (.newarray .long, 2) := dk_188_11 (dk_at dksX10_init_1 0 rfl rfl)
theorem dX10_init_26 : decode cX10_init 26 = .ok (.putfield 16, 3) := dk_181 0 16 (dk_at dksX10_init_1 2 rfl rfl)
theorem dX10_init_29 : decode cX10_init 29 = .ok (.aload_n 0, 1) := dk_42 (dk_at dksX10_init_1 5 rfl rfl)
theorem dX10_init_30 : decode cX10_init 30 = .ok (.bipush 20, 2) := dk_16 20 (dk_at dksX10_init_1 6 rfl rfl)
theorem dX10_init_32 : decode cX10_init 32 = .ok (.newarray .long, 2) := dk_188_11 (dk_at dksX10_init_1 8 rfl rfl)
theorem dX10_init_34 : decode cX10_init 34 = .ok (.putfield 20, 3) := dk_181 0 20 (dk_at dksX10_init_1 10 rfl rfl)
theorem dX10_init_37 : decode cX10_init 37 = .ok (.aload_n 0, 1) := dk_42 (dk_at dksX10_init_1 13 rfl rfl)
theorem dX10_init_38 : decode cX10_init 38 = .ok (.bipush 12, 2) := dk_16 12 (dk_at dksX10_init_1 14 rfl rfl)
theorem dX10_init_40 : decode cX10_init 40 = .ok (.newarray .int, 2) := dk_188_10 (dk_at dksX10_init_1 16 rfl rfl)
theorem dX10_init_42 : decode cX10_init 42 = .ok (.putfield 23, 3) := dk_181 0 23 (dk_at dksX10_init_1 18 rfl rfl)
theorem dX10_init_45 : decode cX10_init 45 = .ok (.aload_n 0, 1) := dk_42 (dk_at dksX10_init_1 21 rfl rfl)
theorem dX10_init_46 : decode cX10_init 46 = .ok (.bipush 12, 2) := dk_16 12 (dk_at dksX10_init_1 22 rfl rfl)
theorem dX10_init_48 : decode cX10_init 48 = .ok (.newarray .int, 2) := dk_188_10 (dk_at dksX10_init_2 0 rfl rfl)
theorem dX10_init_50 : decode cX10_init 50 = .ok (.putfield 26, 3) := dk_181 0 26 (dk_at dksX10_init_2 2 rfl rfl)
theorem dX10_init_53 : decode cX10_init 53 = .ok (.aload_n 0, 1) := dk_42 (dk_at dksX10_init_2 5 rfl rfl)
theorem dX10_init_54 : decode cX10_init 54 = .ok (.bipush 12, 2) := dk_16 12 (dk_at dksX10_init_2 6 rfl rfl)
theorem dX10_init_56 : decode cX10_init 56 = .ok (.newarray .int, 2) := dk_188_10 (dk_at dksX10_init_2 8 rfl rfl)
theorem dX10_init_58 : decode cX10_init 58 = .ok (.putfield 29, 3) := dk_181 0 29 (dk_at dksX10_init_2 10 rfl rfl)
theorem dX10_init_61 : decode cX10_init 61 = .ok (.aload_n 0, 1) := dk_42 (dk_at dksX10_init_2 13 rfl rfl)
theorem dX10_init_62 : decode cX10_init 62 = .ok (.bipush 20, 2) := dk_16 20 (dk_at dksX10_init_2 14 rfl rfl)
theorem dX10_init_64 : decode cX10_init 64 = .ok (.newarray .int, 2) := dk_188_10 (dk_at dksX10_init_2 16 rfl rfl)
theorem dX10_init_66 : decode cX10_init 66 = .ok (.putfield 32, 3) := dk_181 0 32 (dk_at dksX10_init_2 18 rfl rfl)
theorem dX10_init_69 : decode cX10_init 69 = .ok (.aload_n 0, 1) := dk_42 (dk_at dksX10_init_2 21 rfl rfl)
theorem dX10_init_70 : decode cX10_init 70 = .ok (.bipush 20, 2) := dk_16 20 (dk_at dksX10_init_2 22 rfl rfl)
theorem dX10_init_72 : decode cX10_init 72 = .ok (.newarray .int, 2) := dk_188_10 (dk_at dksX10_init_3 0 rfl rfl)
theorem dX10_init_74 : decode cX10_init 74 = .ok (.putfield 35, 3) := dk_181 0 35 (dk_at dksX10_init_3 2 rfl rfl)
theorem dX10_init_77 : decode cX10_init 77 = .ok (.aload_n 0, 1) := dk_42 (dk_at dksX10_init_3 5 rfl rfl)
theorem dX10_init_78 : decode cX10_init 78 = .ok (.bipush 20, 2) := dk_16 20 (dk_at dksX10_init_3 6 rfl rfl)
theorem dX10_init_80 : decode cX10_init 80 = .ok (.newarray .int, 2) := dk_188_10 (dk_at dksX10_init_3 8 rfl rfl)
theorem dX10_init_82 : decode cX10_init 82 = .ok (.putfield 38, 3) := dk_181 0 38 (dk_at dksX10_init_3 10 rfl rfl)
theorem dX10_init_85 : decode cX10_init 85 = .ok (.aload_n 0, 1) := dk_42 (dk_at dksX10_init_3 13 rfl rfl)
theorem dX10_init_86 : decode cX10_init 86 = .ok (.bipush 20, 2) := dk_16 20 (dk_at dksX10_init_3 14 rfl rfl)
theorem dX10_init_88 : decode cX10_init 88 = .ok (.newarray .int, 2) := dk_188_10 (dk_at dksX10_init_3 16 rfl rfl)
theorem dX10_init_90 : decode cX10_init 90 = .ok (.putfield 41, 3) := dk_181 0 41 (dk_at dksX10_init_3 18 rfl rfl)
theorem dX10_init_93 : decode cX10_init 93 = .ok (.aload_n 0, 1) := dk_42 (dk_at dksX10_init_3 21 rfl rfl)
theorem dX10_init_94 : decode cX10_init 94 = .ok (.bipush 20, 2) := dk_16 20 (dk_at dksX10_init_3 22 rfl rfl)
theorem dX10_init_96 : decode cX10_init 96 = .ok (.newarray .int, 2) := dk_188_10 (dk_at dksX10_init_4 0 rfl rfl)
theorem dX10_init_98 : decode cX10_init 98 = .ok (.putfield 44, 3) := dk_181 0 44 (dk_at dksX10_init_4 2 rfl rfl)
theorem dX10_init_101 : decode cX10_init 101 = .ok (.aload_n 0, 1) := dk_42 (dk_at dksX10_init_4 5 rfl rfl)
theorem dX10_init_102 : decode cX10_init 102 = .ok (.bipush 20, 2) := dk_16 20 (dk_at dksX10_init_4 6 rfl rfl)
theorem dX10_init_104 : decode cX10_init 104 = .ok (.newarray .int, 2) := dk_188_10 (dk_at dksX10_init_4 8 rfl rfl)
theorem dX10_init_106 : decode cX10_init 106 = .ok (.putfield 47, 3) := dk_181 0 47 (dk_at dksX10_init_4 10 rfl rfl)
theorem dX10_init_109 : decode cX10_init 109 = .ok (.aload_n 0, 1) := dk_42 (dk_at dksX10_init_4 13 rfl rfl)
theorem dX10_init_110 : decode cX10_init 110 = .ok (.bipush 60, 2) := dk_16 60 (dk_at dksX10_init_4 14 rfl rfl)
theorem dX10_init_112 : decode cX10_init 112 = .ok (.newarray .int, 2) := dk_188_10 (dk_at dksX10_init_4 16 rfl rfl)
theorem dX10_init_114 : decode cX10_init 114 = .ok (.putfield 50, 3) := dk_181 0 50 (dk_at dksX10_init_4 18 rfl rfl)
theorem dX10_init_117 : decode cX10_init 117 = .ok (.aload_n 0, 1) := dk_42 (dk_at dksX10_init_4 21 rfl rfl)
theorem dX10_init_118 : decode cX10_init 118 = .ok (.bipush 60, 2) := dk_16 60 (dk_at dksX10_init_4 22 rfl rfl)
theorem dX10_init_120 : decode cX10_init 120 = .ok (.newarray .int, 2) := dk_188_10 (dk_at dksX10_init_5 0 rfl rfl)
theorem dX10_init_122 : decode cX10_init 122 = .ok (.putfield 53, 3) := dk_181 0 53 (dk_at dksX10_init_5 2 rfl rfl)
theorem dX10_init_125 : decode cX10_init 125 = .ok (.aload_n 0, 1) := dk_42 (dk_at dksX10_init_5 5 rfl rfl)
theorem dX10_init_126 : decode cX10_init 126 = .ok (.bipush 60, 2) := dk_16 60 (dk_at dksX10_init_5 6 rfl rfl)
theorem dX10_init_128 : decode cX10_init 128 = .ok (.newarray .int, 2) := dk_188_10 (dk_at dksX10_init_5 8 rfl rfl)
theorem dX10_init_130 : decode cX10_init 130 = .ok (.putfield 56, 3) := dk_181 0 56 (dk_at dksX10_init_5 10 rfl rfl)
theorem dX10_init_133 : decode cX10_init 133 = .ok (.aload_n 0, 1) := dk_42 (dk_at dksX10_init_5 13 rfl rfl)
theorem dX10_init_134 : decode cX10_init 134 = .ok (.iconst 2, 1) := dk_5 (dk_at dksX10_init_5 14 rfl rfl)
theorem dX10_init_135 : decode cX10_init 135 = .ok (.newarray .int, 2) := dk_188_10 (dk_at dksX10_init_5 15 rfl rfl)
theorem dX10_init_137 : decode cX10_init 137 = .ok (.putfield 59, 3) := dk_181 0 59 (dk_at dksX10_init_5 17 rfl rfl)
theorem dX10_init_140 : decode cX10_init 140 = .ok (.aload_n 0, 1) := dk_42 (dk_at dksX10_init_5 20 rfl rfl)
theorem dX10_init_141 : decode cX10_init 141 = .ok (.iconst 2, 1) := dk_5 (dk_at dksX10_init_5 21 rfl rfl)
theorem dX10_init_142 : decode cX10_init 142 = .ok (.newarray .int, 2) := dk_188_10 (dk_at dksX10_init_5 22 rfl rfl)
theorem dX10_init_144 : decode cX10_init 144 = .ok (.putfield 62, 3) := dk_181 0 62 (dk_at dksX10_init_6 0 rfl rfl)
theorem dX10_init_147 : decode cX10_init 147 = .ok (.aload_n 0, 1) := dk_42 (dk_at dksX10_init_6 3 rfl rfl)
theorem dX10_init_148 : decode cX10_init 148 = .ok (.sipush 2000, 3) := dk_17 7 208 (dk_at dksX10_init_6 4 rfl rfl)
theorem dX10_init_151 : decode cX10_init 151 = .ok (.newarray .int, 2) := dk_188_10 (dk_at dksX10_init_6 7 rfl rfl)
theorem dX10_init_153 : decode cX10_init 153 = .ok (.putfield 65, 3) := dk_181 0 65 (dk_at dksX10_init_6 9 rfl rfl)
theorem dX10_init_156 : decode cX10_init 156 = .ok (.aload_n 0, 1) := dk_42 (dk_at dksX10_init_6 12 rfl rfl)
theorem dX10_init_157 : decode cX10_init 157 = .ok (.bipush 7, 2) := dk_16 7 (dk_at dksX10_init_6 13 rfl rfl)
theorem dX10_init_159 : decode cX10_init 159 = .ok (.newarray .int, 2) := dk_188_10 (dk_at dksX10_init_6 15 rfl rfl)
theorem dX10_init_161 : decode cX10_init 161 = .ok (.putfield 68, 3) := dk_181 0 68 (dk_at dksX10_init_6 17 rfl rfl)
theorem dX10_init_164 : decode cX10_init 164 = .ok (.aload_n 0, 1) := dk_42 (dk_at dksX10_init_6 20 rfl rfl)
theorem dX10_init_165 : decode cX10_init 165 = .ok (.bipush 7, 2) := dk_16 7 (dk_at dksX10_init_6 21 rfl rfl)
theorem dX10_init_167 : decode cX10_init 167 = .ok (.newarray .boolean, 2) := dk_188_4 (dk_at dksX10_init_7 0 rfl rfl)
theorem dX10_init_169 : decode cX10_init 169 = .ok (.putfield 71, 3) := dk_181 0 71 (dk_at dksX10_init_7 2 rfl rfl)
theorem dX10_init_172 : decode cX10_init 172 = .ok (.aload_n 0, 1) := dk_42 (dk_at dksX10_init_7 5 rfl rfl)
theorem dX10_init_173 : decode cX10_init 173 = .ok (.bipush 7, 2) := dk_16 7 (dk_at dksX10_init_7 6 rfl rfl)
theorem dX10_init_175 : decode cX10_init 175 = .ok (.newarray .int, 2) := dk_188_10 (dk_at dksX10_init_7 8 rfl rfl)
theorem dX10_init_177 : decode cX10_init 177 = .ok (.putfield 75, 3) := dk_181 0 75 (dk_at dksX10_init_7 10 rfl rfl)
theorem dX10_init_180 : decode cX10_init 180 = .ok (.aload_n 0, 1) := dk_42 (dk_at dksX10_init_7 13 rfl rfl)
theorem dX10_init_181 : decode cX10_init 181 = .ok (.bipush 7, 2) := dk_16 7 (dk_at dksX10_init_7 14 rfl rfl)
theorem dX10_init_183 : decode cX10_init 183 = .ok (.newarray .int, 2) := dk_188_10 (dk_at dksX10_init_7 16 rfl rfl)
theorem dX10_init_185 : decode cX10_init 185 = .ok (.putfield 78, 3) := dk_181 0 78 (dk_at dksX10_init_7 18 rfl rfl)
theorem dX10_init_188 : decode cX10_init 188 = .ok (.aload_n 0, 1) := dk_42 (dk_at dksX10_init_7 21 rfl rfl)
theorem dX10_init_189 : decode cX10_init 189 = .ok (.bipush 7, 2) := dk_16 7 (dk_at dksX10_init_7 22 rfl rfl)
theorem dX10_init_191 : decode cX10_init 191 = .ok (.newarray .int, 2) := dk_188_10 (dk_at dksX10_init_8 0 rfl rfl)
theorem dX10_init_193 : decode cX10_init 193 = .ok (.putfield 81, 3) := dk_181 0 81 (dk_at dksX10_init_8 2 rfl rfl)
theorem dX10_init_196 : decode cX10_init 196 = .ok (.aload_n 0, 1) := dk_42 (dk_at dksX10_init_8 5 rfl rfl)
theorem dX10_init_197 : decode cX10_init 197 = .ok (.bipush 7, 2) := dk_16 7 (dk_at dksX10_init_8 6 rfl rfl)
theorem dX10_init_199 : decode cX10_init 199 = .ok (.newarray .int, 2) := dk_188_10 (dk_at dksX10_init_8 8 rfl rfl)
theorem dX10_init_201 : decode cX10_init 201 = .ok (.putfield 84, 3) := dk_181 0 84 (dk_at dksX10_init_8 10 rfl rfl)
theorem dX10_init_204 : decode cX10_init 204 = .ok (.aload_n 0, 1) := dk_42 (dk_at dksX10_init_8 13 rfl rfl)
theorem dX10_init_205 : decode cX10_init 205 = .ok (.bipush 7, 2) := dk_16 7 (dk_at dksX10_init_8 14 rfl rfl)
theorem dX10_init_207 : decode cX10_init 207 = .ok (.newarray .int, 2) := dk_188_10 (dk_at dksX10_init_8 16 rfl rfl)
theorem dX10_init_209 : decode cX10_init 209 = .ok (.putfield 87, 3) := dk_181 0 87 (dk_at dksX10_init_8 18 rfl rfl)
theorem dX10_init_212 : decode cX10_init 212 = .ok (.aload_n 0, 1) := dk_42 (dk_at dksX10_init_8 21 rfl rfl)
theorem dX10_init_213 : decode cX10_init 213 = .ok (.bipush 7, 2) := dk_16 7 (dk_at dksX10_init_8 22 rfl rfl)
theorem dX10_init_215 : decode cX10_init 215 = .ok (.newarray .int, 2) := dk_188_10 (dk_at dksX10_init_9 0 rfl rfl)
theorem dX10_init_217 : decode cX10_init 217 = .ok (.putfield 90, 3) := dk_181 0 90 (dk_at dksX10_init_9 2 rfl rfl)
theorem dX10_init_220 : decode cX10_init 220 = .ok (.aload_n 0, 1) := dk_42 (dk_at dksX10_init_9 5 rfl rfl)
theorem dX10_init_221 : decode cX10_init 221 = .ok (.bipush 7, 2) := dk_16 7 (dk_at dksX10_init_9 6 rfl rfl)
theorem dX10_init_223 : decode cX10_init 223 = .ok (.newarray .int, 2) := dk_188_10 (dk_at dksX10_init_9 8 rfl rfl)
theorem dX10_init_225 : decode cX10_init 225 = .ok (.putfield 93, 3) := dk_181 0 93 (dk_at dksX10_init_9 10 rfl rfl)
theorem dX10_init_228 : decode cX10_init 228 = .ok (.aload_n 0, 1) := dk_42 (dk_at dksX10_init_9 13 rfl rfl)
theorem dX10_init_229 : decode cX10_init 229 = .ok (.bipush 7, 2) := dk_16 7 (dk_at dksX10_init_9 14 rfl rfl)
theorem dX10_init_231 : decode cX10_init 231 = .ok (.newarray .int, 2) := dk_188_10 (dk_at dksX10_init_9 16 rfl rfl)
theorem dX10_init_233 : decode cX10_init 233 = .ok (.putfield 96, 3) := dk_181 0 96 (dk_at dksX10_init_9 18 rfl rfl)
theorem dX10_init_236 : decode cX10_init 236 = .ok (.aload_n 0, 1) := dk_42 (dk_at dksX10_init_9 21 rfl rfl)
theorem dX10_init_237 : decode cX10_init 237 = .ok (.bipush 7, 2) := dk_16 7 (dk_at dksX10_init_9 22 rfl rfl)
theorem dX10_init_239 : decode cX10_init 239 = .ok (.newarray .int, 2) := dk_188_10 (dk_at dksX10_init_10 0 rfl rfl)
theorem dX10_init_241 : decode cX10_init 241 = .ok (.putfield 99, 3) := dk_181 0 99 (dk_at dksX10_init_10 2 rfl rfl)
theorem dX10_init_244 : decode cX10_init 244 = .ok (.aload_n 0, 1) := dk_42 (dk_at dksX10_init_10 5 rfl rfl)
theorem dX10_init_245 : decode cX10_init 245 = .ok (.bipush 20, 2) := dk_16 20 (dk_at dksX10_init_10 6 rfl rfl)
theorem dX10_init_247 : decode cX10_init 247 = .ok (.newarray .int, 2) := dk_188_10 (dk_at dksX10_init_10 8 rfl rfl)
theorem dX10_init_249 : decode cX10_init 249 = .ok (.putfield 102, 3) := dk_181 0 102 (dk_at dksX10_init_10 10 rfl rfl)
theorem dX10_init_252 : decode cX10_init 252 = .ok (.aload_n 0, 1) := dk_42 (dk_at dksX10_init_10 13 rfl rfl)
theorem dX10_init_253 : decode cX10_init 253 = .ok (.bipush 6, 2) := dk_16 6 (dk_at dksX10_init_10 14 rfl rfl)
theorem dX10_init_255 : decode cX10_init 255 = .ok (.newarray .int, 2) := dk_188_10 (dk_at dksX10_init_10 16 rfl rfl)
theorem dX10_init_257 : decode cX10_init 257 = .ok (.putfield 105, 3) := dk_181 0 105 (dk_at dksX10_init_10 18 rfl rfl)
theorem dX10_init_260 : decode cX10_init 260 = .ok (.aload_n 0, 1) := dk_42 (dk_at dksX10_init_10 21 rfl rfl)
theorem dX10_init_261 : decode cX10_init 261 = .ok (.sipush 180, 3) := dk_17 0 180 (dk_at dksX10_init_11 0 rfl rfl)
theorem dX10_init_264 : decode cX10_init 264 = .ok (.newarray .int, 2) := dk_188_10 (dk_at dksX10_init_11 3 rfl rfl)
theorem dX10_init_266 : decode cX10_init 266 = .ok (.putfield 108, 3) := dk_181 0 108 (dk_at dksX10_init_11 5 rfl rfl)
theorem dX10_init_269 : decode cX10_init 269 = .ok (.aload_n 0, 1) := dk_42 (dk_at dksX10_init_11 8 rfl rfl)
theorem dX10_init_270 : decode cX10_init 270 = .ok (.sipush 180, 3) := dk_17 0 180 (dk_at dksX10_init_11 9 rfl rfl)
theorem dX10_init_273 : decode cX10_init 273 = .ok (.newarray .int, 2) := dk_188_10 (dk_at dksX10_init_11 12 rfl rfl)
theorem dX10_init_275 : decode cX10_init 275 = .ok (.putfield 111, 3) := dk_181 0 111 (dk_at dksX10_init_11 14 rfl rfl)
theorem dX10_init_278 : decode cX10_init 278 = .ok (.aload_n 0, 1) := dk_42 (dk_at dksX10_init_11 17 rfl rfl)
theorem dX10_init_279 : decode cX10_init 279 = .ok (.sipush 180, 3) := dk_17 0 180 (dk_at dksX10_init_11 18 rfl rfl)
theorem dX10_init_282 : decode cX10_init 282 = .ok (.newarray .int, 2) := dk_188_10 (dk_at dksX10_init_11 21 rfl rfl)
theorem dX10_init_284 : decode cX10_init 284 = .ok (.putfield 114, 3) := dk_181 0 114 (dk_at dksX10_init_12 0 rfl rfl)
theorem dX10_init_287 : decode cX10_init 287 = .ok (.aload_n 0, 1) := dk_42 (dk_at dksX10_init_12 3 rfl rfl)
theorem dX10_init_288 : decode cX10_init 288 = .ok (.sipush 180, 3) := dk_17 0 180 (dk_at dksX10_init_12 4 rfl rfl)
theorem dX10_init_291 : decode cX10_init 291 = .ok (.newarray .int, 2) := dk_188_10 (dk_at dksX10_init_12 7 rfl rfl)
theorem dX10_init_293 : decode cX10_init 293 = .ok (.putfield 117, 3) := dk_181 0 117 (dk_at dksX10_init_12 9 rfl rfl)
theorem dX10_init_296 : decode cX10_init 296 = .ok (.aload_n 0, 1) := dk_42 (dk_at dksX10_init_12 12 rfl rfl)
theorem dX10_init_297 : decode cX10_init 297 = .ok (.iconst 5, 1) := dk_8 (dk_at dksX10_init_12 13 rfl rfl)
theorem dX10_init_298 : decode cX10_init 298 = .ok (.newarray .int, 2) := dk_188_10 (dk_at dksX10_init_12 14 rfl rfl)
theorem dX10_init_300 : decode cX10_init 300 = .ok (.putfield 120, 3) := dk_181 0 120 (dk_at dksX10_init_12 16 rfl rfl)
theorem dX10_init_303 : decode cX10_init 303 = .ok (.aload_n 0, 1) := dk_42 (dk_at dksX10_init_12 19 rfl rfl)
theorem dX10_init_304 : decode cX10_init 304 = .ok (.bipush 50, 2) := dk_16 50 (dk_at dksX10_init_12 20 rfl rfl)
theorem dX10_init_306 : decode cX10_init 306 = .ok (.newarray .int, 2) := dk_188_10 (dk_at dksX10_init_12 22 rfl rfl)
theorem dX10_init_308 : decode cX10_init 308 = .ok (.putfield 123, 3) := dk_181 0 123 (dk_at dksX10_init_13 0 rfl rfl)
theorem dX10_init_311 : decode cX10_init 311 = .ok (.aload_n 0, 1) := dk_42 (dk_at dksX10_init_13 3 rfl rfl)
theorem dX10_init_312 : decode cX10_init 312 = .ok (.bipush 50, 2) := dk_16 50 (dk_at dksX10_init_13 4 rfl rfl)
theorem dX10_init_314 : decode cX10_init 314 = .ok (.newarray .boolean, 2) := dk_188_4 (dk_at dksX10_init_13 6 rfl rfl)
theorem dX10_init_316 : decode cX10_init 316 = .ok (.putfield 126, 3) := dk_181 0 126 (dk_at dksX10_init_13 8 rfl rfl)
theorem dX10_init_319 : decode cX10_init 319 = .ok (.aload_n 0, 1) := dk_42 (dk_at dksX10_init_13 11 rfl rfl)
theorem dX10_init_320 : decode cX10_init 320 = .ok (.bipush 123, 2) := dk_16 123 (dk_at dksX10_init_13 12 rfl rfl)
theorem dX10_init_322 : decode cX10_init 322 = .ok (.newarray .int, 2) := dk_188_10 (dk_at dksX10_init_13 14 rfl rfl)
theorem dX10_init_324 : decode cX10_init 324 = .ok (.putfield 129, 3) := dk_181 0 129 (dk_at dksX10_init_13 16 rfl rfl)
theorem dX10_init_327 : decode cX10_init 327 = .ok (.aload_n 0, 1) := dk_42 (dk_at dksX10_init_13 19 rfl rfl)
theorem dX10_init_328 : decode cX10_init 328 = .ok (.sipush 246, 3) := dk_17 0 246 (dk_at dksX10_init_13 20 rfl rfl)
theorem dX10_init_331 : decode cX10_init 331 = .ok (.newarray .int, 2) := dk_188_10 (dk_at dksX10_init_14 0 rfl rfl)
theorem dX10_init_333 : decode cX10_init 333 = .ok (.putfield 132, 3) := dk_181 0 132 (dk_at dksX10_init_14 2 rfl rfl)
theorem dX10_init_336 : decode cX10_init 336 = .ok (.aload_n 0, 1) := dk_42 (dk_at dksX10_init_14 5 rfl rfl)
theorem dX10_init_337 : decode cX10_init 337 = .ok (.sipush 492, 3) := dk_17 1 236 (dk_at dksX10_init_14 6 rfl rfl)
theorem dX10_init_340 : decode cX10_init 340 = .ok (.newarray .int, 2) := dk_188_10 (dk_at dksX10_init_14 9 rfl rfl)
theorem dX10_init_342 : decode cX10_init 342 = .ok (.putfield 135, 3) := dk_181 0 135 (dk_at dksX10_init_14 11 rfl rfl)
theorem dX10_init_345 : decode cX10_init 345 = .ok (.aload_n 0, 1) := dk_42 (dk_at dksX10_init_14 14 rfl rfl)
theorem dX10_init_346 : decode cX10_init 346 = .ok (.sipush 1968, 3) := dk_17 7 176 (dk_at dksX10_init_14 15 rfl rfl)
theorem dX10_init_349 : decode cX10_init 349 = .ok (.newarray .int, 2) := dk_188_10 (dk_at dksX10_init_14 18 rfl rfl)
theorem dX10_init_351 : decode cX10_init 351 = .ok (.putfield 138, 3) := dk_181 0 138 (dk_at dksX10_init_14 20 rfl rfl)
theorem dX10_init_354 : decode cX10_init 354 = .ok (.aload_n 0, 1) := dk_42 (dk_at dksX10_init_14 23 rfl rfl)
theorem dX10_init_355 : decode cX10_init 355 = .ok (.iconst 4, 1) := dk_7 (dk_at dksX10_init_15 0 rfl rfl)
theorem dX10_init_356 : decode cX10_init 356 = .ok (.newarray .boolean, 2) := dk_188_4 (dk_at dksX10_init_15 1 rfl rfl)
theorem dX10_init_358 : decode cX10_init 358 = .ok (.putfield 141, 3) := dk_181 0 141 (dk_at dksX10_init_15 3 rfl rfl)
theorem dX10_init_361 : decode cX10_init 361 = .ok (.aload_n 0, 1) := dk_42 (dk_at dksX10_init_15 6 rfl rfl)
theorem dX10_init_362 : decode cX10_init 362 = .ok (.ldc 144, 2) := dk_18 144 (dk_at dksX10_init_15 7 rfl rfl)
theorem dX10_init_364 : decode cX10_init 364 = .ok (.newarray .boolean, 2) := dk_188_4 (dk_at dksX10_init_15 9 rfl rfl)
theorem dX10_init_366 : decode cX10_init 366 = .ok (.putfield 145, 3) := dk_181 0 145 (dk_at dksX10_init_15 11 rfl rfl)
theorem dX10_init_369 : decode cX10_init 369 = .ok (.aload_n 0, 1) := dk_42 (dk_at dksX10_init_15 14 rfl rfl)
theorem dX10_init_370 : decode cX10_init 370 = .ok (.sipush 6144, 3) := dk_17 24 0 (dk_at dksX10_init_15 15 rfl rfl)
theorem dX10_init_373 : decode cX10_init 373 = .ok (.newarray .boolean, 2) := dk_188_4 (dk_at dksX10_init_15 18 rfl rfl)
theorem dX10_init_375 : decode cX10_init 375 = .ok (.putfield 148, 3) := dk_181 0 148 (dk_at dksX10_init_15 20 rfl rfl)
theorem dX10_init_378 : decode cX10_init 378 = .ok (.aload_n 0, 1) := dk_42 (dk_at dksX10_init_15 23 rfl rfl)
theorem dX10_init_379 : decode cX10_init 379 = .ok (.iconst 2, 1) := dk_5 (dk_at dksX10_init_16 0 rfl rfl)
theorem dX10_init_380 : decode cX10_init 380 = .ok (.newarray .int, 2) := dk_188_10 (dk_at dksX10_init_16 1 rfl rfl)
theorem dX10_init_382 : decode cX10_init 382 = .ok (.putfield 151, 3) := dk_181 0 151 (dk_at dksX10_init_16 3 rfl rfl)
theorem dX10_init_385 : decode cX10_init 385 = .ok (.aload_n 0, 1) := dk_42 (dk_at dksX10_init_16 6 rfl rfl)
theorem dX10_init_386 : decode cX10_init 386 = .ok (.iconst 2, 1) := dk_5 (dk_at dksX10_init_16 7 rfl rfl)
theorem dX10_init_387 : decode cX10_init 387 = .ok (.newarray .int, 2) := dk_188_10 (dk_at dksX10_init_16 8 rfl rfl)
theorem dX10_init_389 : decode cX10_init 389 = .ok (.putfield 154, 3) := dk_181 0 154 (dk_at dksX10_init_16 10 rfl rfl)
theorem dX10_init_392 : decode cX10_init 392 = .ok (.aload_n 0, 1) := dk_42 (dk_at dksX10_init_16 13 rfl rfl)
theorem dX10_init_393 : decode cX10_init 393 = .ok (.bipush 64, 2) := dk_16 64 (dk_at dksX10_init_16 14 rfl rfl)
theorem dX10_init_395 : decode cX10_init 395 = .ok (.newarray .int, 2) := dk_188_10 (dk_at dksX10_init_16 16 rfl rfl)
theorem dX10_init_397 : decode cX10_init 397 = .ok (.putfield 157, 3) := dk_181 0 157 (dk_at dksX10_init_16 18 rfl rfl)
theorem dX10_init_400 : decode cX10_init 400 = .ok (.aload_n 0, 1) := dk_42 (dk_at dksX10_init_16 21 rfl rfl)
theorem dX10_init_401 : decode cX10_init 401 = .ok (.bipush 64, 2) := dk_16 64 (dk_at dksX10_init_16 22 rfl rfl)
theorem dX10_init_403 : decode cX10_init 403 = .ok (.newarray .int, 2) := dk_188_10 (dk_at dksX10_init_17 0 rfl rfl)
theorem dX10_init_405 : decode cX10_init 405 = .ok (.putfield 160, 3) := dk_181 0 160 (dk_at dksX10_init_17 2 rfl rfl)
theorem dX10_init_408 : decode cX10_init 408 = .ok (.aload_n 0, 1) := dk_42 (dk_at dksX10_init_17 5 rfl rfl)
theorem dX10_init_409 : decode cX10_init 409 = .ok (.bipush 6, 2) := dk_16 6 (dk_at dksX10_init_17 6 rfl rfl)
theorem dX10_init_411 : decode cX10_init 411 = .ok (.newarray .int, 2) := dk_188_10 (dk_at dksX10_init_17 8 rfl rfl)
theorem dX10_init_413 : decode cX10_init 413 = .ok (.putfield 163, 3) := dk_181 0 163 (dk_at dksX10_init_17 10 rfl rfl)
theorem dX10_init_416 : decode cX10_init 416 = .ok (.aload_n 0, 1) := dk_42 (dk_at dksX10_init_17 13 rfl rfl)
theorem dX10_init_417 : decode cX10_init 417 = .ok (.bipush 64, 2) := dk_16 64 (dk_at dksX10_init_17 14 rfl rfl)
theorem dX10_init_419 : decode cX10_init 419 = .ok (.newarray .int, 2) := dk_188_10 (dk_at dksX10_init_17 16 rfl rfl)
theorem dX10_init_421 : decode cX10_init 421 = .ok (.putfield 166, 3) := dk_181 0 166 (dk_at dksX10_init_17 18 rfl rfl)
theorem dX10_init_424 : decode cX10_init 424 = .ok (.aload_n 0, 1) := dk_42 (dk_at dksX10_init_17 21 rfl rfl)
theorem dX10_init_425 : decode cX10_init 425 = .ok (.iconst 3, 1) := dk_6 (dk_at dksX10_init_17 22 rfl rfl)
theorem dX10_init_426 : decode cX10_init 426 = .ok (.newarray .int, 2) := dk_188_10 (dk_at dksX10_init_18 0 rfl rfl)
theorem dX10_init_428 : decode cX10_init 428 = .ok (.putfield 169, 3) := dk_181 0 169 (dk_at dksX10_init_18 2 rfl rfl)
theorem dX10_init_431 : decode cX10_init 431 = .ok (.aload_n 0, 1) := dk_42 (dk_at dksX10_init_18 5 rfl rfl)
theorem dX10_init_432 : decode cX10_init 432 = .ok (.iconst 3, 1) := dk_6 (dk_at dksX10_init_18 6 rfl rfl)
theorem dX10_init_433 : decode cX10_init 433 = .ok (.newarray .int, 2) := dk_188_10 (dk_at dksX10_init_18 7 rfl rfl)
theorem dX10_init_435 : decode cX10_init 435 = .ok (.putfield 172, 3) := dk_181 0 172 (dk_at dksX10_init_18 9 rfl rfl)
theorem dX10_init_438 : decode cX10_init 438 = .ok (.return_, 1) := dk_177 (dk_at dksX10_init_18 12 rfl rfl)
abbrev cX10_thrown : ByteArray := prog_36_method_2_code
def yX10_thrown : MethodName := ⟨RX10, "thrown", "()I"⟩
theorem dX10_thrown_0 : decode cX10_thrown 0 = .ok (.aload_n 0, 1) := by decide +kernel
theorem dX10_thrown_1 : decode cX10_thrown 1 = .ok (.getfield 175, 3) := by decide +kernel
theorem dX10_thrown_4 : decode cX10_thrown 4 = .ok (.ireturn, 1) := by decide +kernel
abbrev cX10_feed : ByteArray := prog_36_method_6_code
def yX10_feed : MethodName := ⟨RX10, "feed", "(JJJ)I"⟩
def dkwX10_feed_5 : List UInt8 := [167, 255, 147, 42, 180, 0, 181, 172]
abbrev dktX10_feed_5 : List UInt8 := dkwX10_feed_5 ++ []
def dkwX10_feed_4 : List UInt8 := [42, 180, 0, 7, 42, 180, 0, 181, 21, 10, 79, 42, 89, 180, 0, 181, 4, 96, 181, 0, 181, 132, 7, 1]
abbrev dktX10_feed_4 : List UInt8 := dkwX10_feed_4 ++ dktX10_feed_5
def dkwX10_feed_3 : List UInt8 := [162, 0, 45, 21, 10, 16, 10, 159, 0, 17, 21, 10, 16, 32, 161, 0, 31, 21, 10, 16, 126, 163, 0, 24]
abbrev dktX10_feed_3 : List UInt8 := dkwX10_feed_3 ++ dktX10_feed_4
def dkwX10_feed_2 : List UInt8 := [21, 7, 16, 7, 126, 104, 100, 125, 20, 0, 179, 127, 136, 54, 10, 42, 180, 0, 181, 17, 3, 232]
abbrev dktX10_feed_2 : List UInt8 := dkwX10_feed_2 ++ dktX10_feed_3
def dkwX10_feed_1 : List UInt8 := [167, 0, 16, 21, 7, 16, 16, 162, 0, 7, 33, 167, 0, 5, 22, 5, 55, 8, 22, 8, 16, 56, 16, 8]
abbrev dktX10_feed_1 : List UInt8 := dkwX10_feed_1 ++ dktX10_feed_2
def dkwX10_feed_0 : List UInt8 := [42, 3, 181, 0, 175, 3, 54, 7, 21, 7, 16, 24, 162, 0, 108, 21, 7, 16, 8, 162, 0, 7, 31]
abbrev dktX10_feed_0 : List UInt8 := dkwX10_feed_0 ++ dktX10_feed_1
theorem dksX10_feed_0 : cX10_feed.data.toList.drop 0 = dktX10_feed_0 := by decide +kernel
theorem dksX10_feed_1 : cX10_feed.data.toList.drop 23 = dktX10_feed_1 := dk_seg dksX10_feed_0 23 rfl rfl
theorem dksX10_feed_2 : cX10_feed.data.toList.drop 47 = dktX10_feed_2 := dk_seg dksX10_feed_1 24 rfl rfl
theorem dksX10_feed_3 : cX10_feed.data.toList.drop 69 = dktX10_feed_3 := dk_seg dksX10_feed_2 22 rfl rfl
theorem dksX10_feed_4 : cX10_feed.data.toList.drop 93 = dktX10_feed_4 := dk_seg dksX10_feed_3 24 rfl rfl
theorem dksX10_feed_5 : cX10_feed.data.toList.drop 117 = dktX10_feed_5 := dk_seg dksX10_feed_4 24 rfl rfl
theorem dX10_feed_0 : decode cX10_feed 0 = .ok (.aload_n 0, 1) := dk_42 (dk_at dksX10_feed_0 0 rfl rfl)
theorem dX10_feed_1 : decode cX10_feed 1 = .ok (.iconst 0, 1) := dk_3 (dk_at dksX10_feed_0 1 rfl rfl)
theorem dX10_feed_2 : decode cX10_feed 2 = .ok (.putfield 175, 3) := dk_181 0 175 (dk_at dksX10_feed_0 2 rfl rfl)
theorem dX10_feed_5 : decode cX10_feed 5 = .ok (.iconst 0, 1) := dk_3 (dk_at dksX10_feed_0 5 rfl rfl)
theorem dX10_feed_6 : decode cX10_feed 6 = .ok (.istore 7, 2) := dk_54 7 (dk_at dksX10_feed_0 6 rfl rfl)
theorem dX10_feed_8 : decode cX10_feed 8 = .ok (.iload 7, 2) := dk_21 7 (dk_at dksX10_feed_0 8 rfl rfl)
theorem dX10_feed_10 : decode cX10_feed 10 = .ok (.bipush 24, 2) := dk_16 24 (dk_at dksX10_feed_0 10 rfl rfl)
theorem dX10_feed_12 : decode cX10_feed 12 = .ok (.if_icmp .ge 108, 3) := dk_162 0 108 (dk_at dksX10_feed_0 12 rfl rfl)
theorem dX10_feed_15 : decode cX10_feed 15 = .ok (.iload 7, 2) := dk_21 7 (dk_at dksX10_feed_0 15 rfl rfl)
theorem dX10_feed_17 : decode cX10_feed 17 = .ok (.bipush 8, 2) := dk_16 8 (dk_at dksX10_feed_0 17 rfl rfl)
theorem dX10_feed_19 : decode cX10_feed 19 = .ok (.if_icmp .ge 7, 3) := dk_162 0 7 (dk_at dksX10_feed_0 19 rfl rfl)
theorem dX10_feed_22 : decode cX10_feed 22 = .ok (.lload_n 1, 1) := dk_31 (dk_at dksX10_feed_0 22 rfl rfl)
theorem dX10_feed_23 : decode cX10_feed 23 = .ok (.goto 16, 3) := dk_167 0 16 (dk_at dksX10_feed_1 0 rfl rfl)
theorem dX10_feed_26 : decode cX10_feed 26 = .ok (.iload 7, 2) := dk_21 7 (dk_at dksX10_feed_1 3 rfl rfl)
theorem dX10_feed_28 : decode cX10_feed 28 = .ok (.bipush 16, 2) := dk_16 16 (dk_at dksX10_feed_1 5 rfl rfl)
theorem dX10_feed_30 : decode cX10_feed 30 = .ok (.if_icmp .ge 7, 3) := dk_162 0 7 (dk_at dksX10_feed_1 7 rfl rfl)
theorem dX10_feed_33 : decode cX10_feed 33 = .ok (.lload_n 3, 1) := dk_33 (dk_at dksX10_feed_1 10 rfl rfl)
theorem dX10_feed_34 : decode cX10_feed 34 = .ok (.goto 5, 3) := dk_167 0 5 (dk_at dksX10_feed_1 11 rfl rfl)
theorem dX10_feed_37 : decode cX10_feed 37 = .ok (.lload 5, 2) := dk_22 5 (dk_at dksX10_feed_1 14 rfl rfl)
theorem dX10_feed_39 : decode cX10_feed 39 = .ok (.lstore 8, 2) := dk_55 8 (dk_at dksX10_feed_1 16 rfl rfl)
theorem dX10_feed_41 : decode cX10_feed 41 = .ok (.lload 8, 2) := dk_22 8 (dk_at dksX10_feed_1 18 rfl rfl)
theorem dX10_feed_43 : decode cX10_feed 43 = .ok (.bipush 56, 2) := dk_16 56 (dk_at dksX10_feed_1 20 rfl rfl)
theorem dX10_feed_45 : decode cX10_feed 45 = .ok (.bipush 8, 2) := dk_16 8 (dk_at dksX10_feed_1 22 rfl rfl)
theorem dX10_feed_47 : decode cX10_feed 47 = .ok (.iload 7, 2) := dk_21 7 (dk_at dksX10_feed_2 0 rfl rfl)
theorem dX10_feed_49 : decode cX10_feed 49 = .ok (.bipush 7, 2) := dk_16 7 (dk_at dksX10_feed_2 2 rfl rfl)
theorem dX10_feed_51 : decode cX10_feed 51 = .ok (.iand, 1) := dk_126 (dk_at dksX10_feed_2 4 rfl rfl)
theorem dX10_feed_52 : decode cX10_feed 52 = .ok (.imul, 1) := dk_104 (dk_at dksX10_feed_2 5 rfl rfl)
theorem dX10_feed_53 : decode cX10_feed 53 = .ok (.isub, 1) := dk_100 (dk_at dksX10_feed_2 6 rfl rfl)
theorem dX10_feed_54 : decode cX10_feed 54 = .ok (.lushr, 1) := dk_125 (dk_at dksX10_feed_2 7 rfl rfl)
theorem dX10_feed_55 : decode cX10_feed 55 = .ok (.ldc2_w 179, 3) := dk_20 0 179 (dk_at dksX10_feed_2 8 rfl rfl)
theorem dX10_feed_58 : decode cX10_feed 58 = .ok (.land, 1) := dk_127 (dk_at dksX10_feed_2 11 rfl rfl)
theorem dX10_feed_59 : decode cX10_feed 59 = .ok (.l2i, 1) := dk_136 (dk_at dksX10_feed_2 12 rfl rfl)
theorem dX10_feed_60 : decode cX10_feed 60 = .ok (.istore 10, 2) := dk_54 10 (dk_at dksX10_feed_2 13 rfl rfl)
theorem dX10_feed_62 : decode cX10_feed 62 = .ok (.aload_n 0, 1) := dk_42 (dk_at dksX10_feed_2 15 rfl rfl)
theorem dX10_feed_63 : decode cX10_feed 63 = .ok (.getfield 181, 3) := dk_180 0 181 (dk_at dksX10_feed_2 16 rfl rfl)
theorem dX10_feed_66 : decode cX10_feed 66 = .ok (.sipush 1000, 3) := dk_17 3 232 (dk_at dksX10_feed_2 19 rfl rfl)
theorem dX10_feed_69 : decode cX10_feed 69 = .ok (.if_icmp .ge 45, 3) := dk_162 0 45 (dk_at dksX10_feed_3 0 rfl rfl)
theorem dX10_feed_72 : decode cX10_feed 72 = .ok (.iload 10, 2) := dk_21 10 (dk_at dksX10_feed_3 3 rfl rfl)
theorem dX10_feed_74 : decode cX10_feed 74 = .ok (.bipush 10, 2) := dk_16 10 (dk_at dksX10_feed_3 5 rfl rfl)
theorem dX10_feed_76 : decode cX10_feed 76 = .ok (.if_icmp .eq 17, 3) := dk_159 0 17 (dk_at dksX10_feed_3 7 rfl rfl)
theorem dX10_feed_79 : decode cX10_feed 79 = .ok (.iload 10, 2) := dk_21 10 (dk_at dksX10_feed_3 10 rfl rfl)
theorem dX10_feed_81 : decode cX10_feed 81 = .ok (.bipush 32, 2) := dk_16 32 (dk_at dksX10_feed_3 12 rfl rfl)
theorem dX10_feed_83 : decode cX10_feed 83 = .ok (.if_icmp .lt 31, 3) := dk_161 0 31 (dk_at dksX10_feed_3 14 rfl rfl)
theorem dX10_feed_86 : decode cX10_feed 86 = .ok (.iload 10, 2) := dk_21 10 (dk_at dksX10_feed_3 17 rfl rfl)
theorem dX10_feed_88 : decode cX10_feed 88 = .ok (.bipush 126, 2) := dk_16 126 (dk_at dksX10_feed_3 19 rfl rfl)
theorem dX10_feed_90 : decode cX10_feed 90 = .ok (.if_icmp .gt 24, 3) := dk_163 0 24 (dk_at dksX10_feed_3 21 rfl rfl)
theorem dX10_feed_93 : decode cX10_feed 93 = .ok (.aload_n 0, 1) := dk_42 (dk_at dksX10_feed_4 0 rfl rfl)
theorem dX10_feed_94 : decode cX10_feed 94 = .ok (.getfield 7, 3) := dk_180 0 7 (dk_at dksX10_feed_4 1 rfl rfl)
theorem dX10_feed_97 : decode cX10_feed 97 = .ok (.aload_n 0, 1) := dk_42 (dk_at dksX10_feed_4 4 rfl rfl)
theorem dX10_feed_98 : decode cX10_feed 98 = .ok (.getfield 181, 3) := dk_180 0 181 (dk_at dksX10_feed_4 5 rfl rfl)
theorem dX10_feed_101 : decode cX10_feed 101 = .ok (.iload 10, 2) := dk_21 10 (dk_at dksX10_feed_4 8 rfl rfl)
theorem dX10_feed_103 : decode cX10_feed 103 = .ok (.iastore, 1) := dk_79 (dk_at dksX10_feed_4 10 rfl rfl)
theorem dX10_feed_104 : decode cX10_feed 104 = .ok (.aload_n 0, 1) := dk_42 (dk_at dksX10_feed_4 11 rfl rfl)
theorem dX10_feed_105 : decode cX10_feed 105 = .ok (.dup, 1) := dk_89 (dk_at dksX10_feed_4 12 rfl rfl)
theorem dX10_feed_106 : decode cX10_feed 106 = .ok (.getfield 181, 3) := dk_180 0 181 (dk_at dksX10_feed_4 13 rfl rfl)
theorem dX10_feed_109 : decode cX10_feed 109 = .ok (.iconst 1, 1) := dk_4 (dk_at dksX10_feed_4 16 rfl rfl)
theorem dX10_feed_110 : decode cX10_feed 110 = .ok (.iadd, 1) := dk_96 (dk_at dksX10_feed_4 17 rfl rfl)
theorem dX10_feed_111 : decode cX10_feed 111 = .ok (.putfield 181, 3) := dk_181 0 181 (dk_at dksX10_feed_4 18 rfl rfl)
theorem dX10_feed_114 : decode cX10_feed 114 = .ok (.iinc 7 1, 3) := dk_132 7 1 (dk_at dksX10_feed_4 21 rfl rfl)
theorem dX10_feed_117 : decode cX10_feed 117 = .ok (.goto (-109), 3) := dk_167 255 147 (dk_at dksX10_feed_5 0 rfl rfl)
theorem dX10_feed_120 : decode cX10_feed 120 = .ok (.aload_n 0, 1) := dk_42 (dk_at dksX10_feed_5 3 rfl rfl)
theorem dX10_feed_121 : decode cX10_feed 121 = .ok (.getfield 181, 3) := dk_180 0 181 (dk_at dksX10_feed_5 4 rfl rfl)
theorem dX10_feed_124 : decode cX10_feed 124 = .ok (.ireturn, 1) := dk_172 (dk_at dksX10_feed_5 7 rfl rfl)
abbrev cX10_town : ByteArray := prog_36_method_49_code
def yX10_town : MethodName := ⟨RX10, "town", "()I"⟩
def dkwX10_town_2 : List UInt8 := [27, 7, 162, 0, 16, 42, 180, 0, 141, 27, 3, 84, 132, 1, 1, 167, 255, 241, 3, 172]
abbrev dktX10_town_2 : List UInt8 := dkwX10_town_2 ++ []
def dkwX10_town_1 : List UInt8 := [182, 1, 139, 42, 180, 0, 105, 3, 3, 79, 42, 180, 0, 120, 3, 3, 79, 42, 3, 181, 1, 142, 3, 60]
abbrev dktX10_town_1 : List UInt8 := dkwX10_town_1 ++ dktX10_town_2
def dkwX10_town_0 : List UInt8 := [42, 3, 181, 0, 175, 42, 182, 1, 133, 154, 0, 8, 42, 180, 0, 211, 172, 42, 182, 1, 136, 42]
abbrev dktX10_town_0 : List UInt8 := dkwX10_town_0 ++ dktX10_town_1
theorem dksX10_town_0 : cX10_town.data.toList.drop 0 = dktX10_town_0 := by decide +kernel
theorem dksX10_town_1 : cX10_town.data.toList.drop 22 = dktX10_town_1 := dk_seg dksX10_town_0 22 rfl rfl
theorem dksX10_town_2 : cX10_town.data.toList.drop 46 = dktX10_town_2 := dk_seg dksX10_town_1 24 rfl rfl
theorem dX10_town_0 : decode cX10_town 0 = .ok (.aload_n 0, 1) := dk_42 (dk_at dksX10_town_0 0 rfl rfl)
theorem dX10_town_1 : decode cX10_town 1 = .ok (.iconst 0, 1) := dk_3 (dk_at dksX10_town_0 1 rfl rfl)
theorem dX10_town_2 : decode cX10_town 2 = .ok (.putfield 175, 3) := dk_181 0 175 (dk_at dksX10_town_0 2 rfl rfl)
theorem dX10_town_5 : decode cX10_town 5 = .ok (.aload_n 0, 1) := dk_42 (dk_at dksX10_town_0 5 rfl rfl)
theorem dX10_town_6 : decode cX10_town 6 = .ok (.invokevirtual 389, 3) := dk_182 1 133 (dk_at dksX10_town_0 6 rfl rfl)
theorem dX10_town_9 : decode cX10_town 9 = .ok (.ifCond .ne 8, 3) := dk_154 0 8 (dk_at dksX10_town_0 9 rfl rfl)
theorem dX10_town_12 : decode cX10_town 12 = .ok (.aload_n 0, 1) := dk_42 (dk_at dksX10_town_0 12 rfl rfl)
theorem dX10_town_13 : decode cX10_town 13 = .ok (.getfield 211, 3) := dk_180 0 211 (dk_at dksX10_town_0 13 rfl rfl)
theorem dX10_town_16 : decode cX10_town 16 = .ok (.ireturn, 1) := dk_172 (dk_at dksX10_town_0 16 rfl rfl)
theorem dX10_town_17 : decode cX10_town 17 = .ok (.aload_n 0, 1) := dk_42 (dk_at dksX10_town_0 17 rfl rfl)
theorem dX10_town_18 : decode cX10_town 18 = .ok (.invokevirtual 392, 3) := dk_182 1 136 (dk_at dksX10_town_0 18 rfl rfl)
theorem dX10_town_21 : decode cX10_town 21 = .ok (.aload_n 0, 1) := dk_42 (dk_at dksX10_town_0 21 rfl rfl)
theorem dX10_town_22 : decode cX10_town 22 = .ok (.invokevirtual 395, 3) := dk_182 1 139 (dk_at dksX10_town_1 0 rfl rfl)
theorem dX10_town_25 : decode cX10_town 25 = .ok (.aload_n 0, 1) := dk_42 (dk_at dksX10_town_1 3 rfl rfl)
theorem dX10_town_26 : decode cX10_town 26 = .ok (.getfield 105, 3) := dk_180 0 105 (dk_at dksX10_town_1 4 rfl rfl)
theorem dX10_town_29 : decode cX10_town 29 = .ok (.iconst 0, 1) := dk_3 (dk_at dksX10_town_1 7 rfl rfl)
theorem dX10_town_30 : decode cX10_town 30 = .ok (.iconst 0, 1) := dk_3 (dk_at dksX10_town_1 8 rfl rfl)
theorem dX10_town_31 : decode cX10_town 31 = .ok (.iastore, 1) := dk_79 (dk_at dksX10_town_1 9 rfl rfl)
theorem dX10_town_32 : decode cX10_town 32 = .ok (.aload_n 0, 1) := dk_42 (dk_at dksX10_town_1 10 rfl rfl)
theorem dX10_town_33 : decode cX10_town 33 = .ok (.getfield 120, 3) := dk_180 0 120 (dk_at dksX10_town_1 11 rfl rfl)
theorem dX10_town_36 : decode cX10_town 36 = .ok (.iconst 0, 1) := dk_3 (dk_at dksX10_town_1 14 rfl rfl)
theorem dX10_town_37 : decode cX10_town 37 = .ok (.iconst 0, 1) := dk_3 (dk_at dksX10_town_1 15 rfl rfl)
theorem dX10_town_38 : decode cX10_town 38 = .ok (.iastore, 1) := dk_79 (dk_at dksX10_town_1 16 rfl rfl)
theorem dX10_town_39 : decode cX10_town 39 = .ok (.aload_n 0, 1) := dk_42 (dk_at dksX10_town_1 17 rfl rfl)
theorem dX10_town_40 : decode cX10_town 40 = .ok (.iconst 0, 1) := dk_3 (dk_at dksX10_town_1 18 rfl rfl)
theorem dX10_town_41 : decode cX10_town 41 = .ok (.putfield 398, 3) := dk_181 1 142 (dk_at dksX10_town_1 19 rfl rfl)
theorem dX10_town_44 : decode cX10_town 44 = .ok (.iconst 0, 1) := dk_3 (dk_at dksX10_town_1 22 rfl rfl)
theorem dX10_town_45 : decode cX10_town 45 = .ok (.istore_n 1, 1) := dk_60 (dk_at dksX10_town_1 23 rfl rfl)
theorem dX10_town_46 : decode cX10_town 46 = .ok (.iload_n 1, 1) := dk_27 (dk_at dksX10_town_2 0 rfl rfl)
theorem dX10_town_47 : decode cX10_town 47 = .ok (.iconst 4, 1) := dk_7 (dk_at dksX10_town_2 1 rfl rfl)
theorem dX10_town_48 : decode cX10_town 48 = .ok (.if_icmp .ge 16, 3) := dk_162 0 16 (dk_at dksX10_town_2 2 rfl rfl)
theorem dX10_town_51 : decode cX10_town 51 = .ok (.aload_n 0, 1) := dk_42 (dk_at dksX10_town_2 5 rfl rfl)
theorem dX10_town_52 : decode cX10_town 52 = .ok (.getfield 141, 3) := dk_180 0 141 (dk_at dksX10_town_2 6 rfl rfl)
theorem dX10_town_55 : decode cX10_town 55 = .ok (.iload_n 1, 1) := dk_27 (dk_at dksX10_town_2 9 rfl rfl)
theorem dX10_town_56 : decode cX10_town 56 = .ok (.iconst 0, 1) := dk_3 (dk_at dksX10_town_2 10 rfl rfl)
theorem dX10_town_57 : decode cX10_town 57 = .ok (.bastore, 1) := dk_84 (dk_at dksX10_town_2 11 rfl rfl)
theorem dX10_town_58 : decode cX10_town 58 = .ok (.iinc 1 1, 3) := dk_132 1 1 (dk_at dksX10_town_2 12 rfl rfl)
theorem dX10_town_61 : decode cX10_town 61 = .ok (.goto (-15), 3) := dk_167 255 241 (dk_at dksX10_town_2 15 rfl rfl)
theorem dX10_town_64 : decode cX10_town 64 = .ok (.iconst 0, 1) := dk_3 (dk_at dksX10_town_2 18 rfl rfl)
theorem dX10_town_65 : decode cX10_town 65 = .ok (.ireturn, 1) := dk_172 (dk_at dksX10_town_2 19 rfl rfl)
abbrev cX10_readsAll : ByteArray := prog_36_method_37_code
def yX10_readsAll : MethodName := ⟨RX10, "readsAll", "()Z"⟩
def dkwX10_readsAll_6 : List UInt8 := [167, 0, 8, 42, 4, 182, 0, 239, 60, 27, 154, 0, 5, 3, 172, 167, 255, 152, 4, 172]
abbrev dktX10_readsAll_6 : List UInt8 := dkwX10_readsAll_6 ++ []
def dkwX10_readsAll_5 : List UInt8 := [153, 0, 10, 42, 182, 1, 110, 167, 0, 25, 42, 20, 1, 26, 182, 0, 231, 153, 0, 10, 42, 182, 1, 113]
abbrev dktX10_readsAll_5 : List UInt8 := dkwX10_readsAll_5 ++ dktX10_readsAll_6
def dkwX10_readsAll_4 : List UInt8 := [20, 1, 22, 182, 0, 231, 153, 0, 10, 42, 182, 1, 107, 167, 0, 42, 42, 20, 1, 24, 182, 0, 231]
abbrev dktX10_readsAll_4 : List UInt8 := dkwX10_readsAll_4 ++ dktX10_readsAll_5
def dkwX10_readsAll_3 : List UInt8 := [182, 1, 101, 167, 0, 76, 42, 20, 1, 12, 182, 0, 231, 153, 0, 10, 42, 182, 1, 104, 167, 0, 59, 42]
abbrev dktX10_readsAll_3 : List UInt8 := dkwX10_readsAll_3 ++ dktX10_readsAll_4
def dkwX10_readsAll_2 : List UInt8 := [42, 182, 1, 98, 42, 180, 0, 200, 153, 0, 103, 42, 20, 1, 6, 182, 0, 231, 153, 0, 10, 42]
abbrev dktX10_readsAll_2 : List UInt8 := dkwX10_readsAll_2 ++ dktX10_readsAll_3
def dkwX10_readsAll_1 : List UInt8 := [180, 0, 59, 4, 17, 3, 232, 79, 42, 180, 0, 62, 4, 17, 3, 232, 79, 42, 17, 3, 232, 181, 0, 214]
abbrev dktX10_readsAll_1 : List UInt8 := dkwX10_readsAll_1 ++ dktX10_readsAll_2
def dkwX10_readsAll_0 : List UInt8 := [7, 60, 27, 16, 8, 162, 0, 16, 42, 180, 0, 13, 27, 3, 79, 132, 1, 1, 167, 255, 240, 42]
abbrev dktX10_readsAll_0 : List UInt8 := dkwX10_readsAll_0 ++ dktX10_readsAll_1
theorem dksX10_readsAll_0 : cX10_readsAll.data.toList.drop 0 = dktX10_readsAll_0 := by decide +kernel
theorem dksX10_readsAll_1 : cX10_readsAll.data.toList.drop 22 = dktX10_readsAll_1 := dk_seg dksX10_readsAll_0 22 rfl rfl
theorem dksX10_readsAll_2 : cX10_readsAll.data.toList.drop 46 = dktX10_readsAll_2 := dk_seg dksX10_readsAll_1 24 rfl rfl
theorem dksX10_readsAll_3 : cX10_readsAll.data.toList.drop 68 = dktX10_readsAll_3 := dk_seg dksX10_readsAll_2 22 rfl rfl
theorem dksX10_readsAll_4 : cX10_readsAll.data.toList.drop 92 = dktX10_readsAll_4 := dk_seg dksX10_readsAll_3 24 rfl rfl
theorem dksX10_readsAll_5 : cX10_readsAll.data.toList.drop 115 = dktX10_readsAll_5 := dk_seg dksX10_readsAll_4 23 rfl rfl
theorem dksX10_readsAll_6 : cX10_readsAll.data.toList.drop 139 = dktX10_readsAll_6 := dk_seg dksX10_readsAll_5 24 rfl rfl
theorem dX10_readsAll_0 : decode cX10_readsAll 0 = .ok (.iconst 4, 1) := dk_7 (dk_at dksX10_readsAll_0 0 rfl rfl)
theorem dX10_readsAll_1 : decode cX10_readsAll 1 = .ok (.istore_n 1, 1) := dk_60 (dk_at dksX10_readsAll_0 1 rfl rfl)
theorem dX10_readsAll_2 : decode cX10_readsAll 2 = .ok (.iload_n 1, 1) := dk_27 (dk_at dksX10_readsAll_0 2 rfl rfl)
theorem dX10_readsAll_3 : decode cX10_readsAll 3 = .ok (.bipush 8, 2) := dk_16 8 (dk_at dksX10_readsAll_0 3 rfl rfl)
theorem dX10_readsAll_5 : decode cX10_readsAll 5 = .ok (.if_icmp .ge 16, 3) := dk_162 0 16 (dk_at dksX10_readsAll_0 5 rfl rfl)
theorem dX10_readsAll_8 : decode cX10_readsAll 8 = .ok (.aload_n 0, 1) := dk_42 (dk_at dksX10_readsAll_0 8 rfl rfl)
theorem dX10_readsAll_9 : decode cX10_readsAll 9 = .ok (.getfield 13, 3) := dk_180 0 13 (dk_at dksX10_readsAll_0 9 rfl rfl)
theorem dX10_readsAll_12 : decode cX10_readsAll 12 = .ok (.iload_n 1, 1) := dk_27 (dk_at dksX10_readsAll_0 12 rfl rfl)
theorem dX10_readsAll_13 : decode cX10_readsAll 13 = .ok (.iconst 0, 1) := dk_3 (dk_at dksX10_readsAll_0 13 rfl rfl)
theorem dX10_readsAll_14 : decode cX10_readsAll 14 = .ok (.iastore, 1) := dk_79 (dk_at dksX10_readsAll_0 14 rfl rfl)
theorem dX10_readsAll_15 : decode cX10_readsAll 15 = .ok (.iinc 1 1, 3) := dk_132 1 1 (dk_at dksX10_readsAll_0 15 rfl rfl)
theorem dX10_readsAll_18 : decode cX10_readsAll 18 = .ok (.goto (-16), 3) := dk_167 255 240 (dk_at dksX10_readsAll_0 18 rfl rfl)
theorem dX10_readsAll_21 : decode cX10_readsAll 21 = .ok (.aload_n 0, 1) := dk_42 (dk_at dksX10_readsAll_0 21 rfl rfl)
theorem dX10_readsAll_22 : decode cX10_readsAll 22 = .ok (.getfield 59, 3) := dk_180 0 59 (dk_at dksX10_readsAll_1 0 rfl rfl)
theorem dX10_readsAll_25 : decode cX10_readsAll 25 = .ok (.iconst 1, 1) := dk_4 (dk_at dksX10_readsAll_1 3 rfl rfl)
theorem dX10_readsAll_26 : decode cX10_readsAll 26 = .ok (.sipush 1000, 3) := dk_17 3 232 (dk_at dksX10_readsAll_1 4 rfl rfl)
theorem dX10_readsAll_29 : decode cX10_readsAll 29 = .ok (.iastore, 1) := dk_79 (dk_at dksX10_readsAll_1 7 rfl rfl)
theorem dX10_readsAll_30 : decode cX10_readsAll 30 = .ok (.aload_n 0, 1) := dk_42 (dk_at dksX10_readsAll_1 8 rfl rfl)
theorem dX10_readsAll_31 : decode cX10_readsAll 31 = .ok (.getfield 62, 3) := dk_180 0 62 (dk_at dksX10_readsAll_1 9 rfl rfl)
theorem dX10_readsAll_34 : decode cX10_readsAll 34 = .ok (.iconst 1, 1) := dk_4 (dk_at dksX10_readsAll_1 12 rfl rfl)
theorem dX10_readsAll_35 : decode cX10_readsAll 35 = .ok (.sipush 1000, 3) := dk_17 3 232 (dk_at dksX10_readsAll_1 13 rfl rfl)
theorem dX10_readsAll_38 : decode cX10_readsAll 38 = .ok (.iastore, 1) := dk_79 (dk_at dksX10_readsAll_1 16 rfl rfl)
theorem dX10_readsAll_39 : decode cX10_readsAll 39 = .ok (.aload_n 0, 1) := dk_42 (dk_at dksX10_readsAll_1 17 rfl rfl)
theorem dX10_readsAll_40 : decode cX10_readsAll 40 = .ok (.sipush 1000, 3) := dk_17 3 232 (dk_at dksX10_readsAll_1 18 rfl rfl)
theorem dX10_readsAll_43 : decode cX10_readsAll 43 = .ok (.putfield 214, 3) := dk_181 0 214 (dk_at dksX10_readsAll_1 21 rfl rfl)
theorem dX10_readsAll_46 : decode cX10_readsAll 46 = .ok (.aload_n 0, 1) := dk_42 (dk_at dksX10_readsAll_2 0 rfl rfl)
theorem dX10_readsAll_47 : decode cX10_readsAll 47 = .ok (.invokevirtual 354, 3) := dk_182 1 98 (dk_at dksX10_readsAll_2 1 rfl rfl)
theorem dX10_readsAll_50 : decode cX10_readsAll 50 = .ok (.aload_n 0, 1) := dk_42 (dk_at dksX10_readsAll_2 4 rfl rfl)
theorem dX10_readsAll_51 : decode cX10_readsAll 51 = .ok (.getfield 200, 3) := dk_180 0 200 (dk_at dksX10_readsAll_2 5 rfl rfl)
theorem dX10_readsAll_54 : decode cX10_readsAll 54 = .ok (.ifCond .eq 103, 3) := dk_153 0 103 (dk_at dksX10_readsAll_2 8 rfl rfl)
theorem dX10_readsAll_57 : decode cX10_readsAll 57 = .ok (.aload_n 0, 1) := dk_42 (dk_at dksX10_readsAll_2 11 rfl rfl)
theorem dX10_readsAll_58 : decode cX10_readsAll 58 = .ok (.ldc2_w 262, 3) := dk_20 1 6 (dk_at dksX10_readsAll_2 12 rfl rfl)
theorem dX10_readsAll_61 : decode cX10_readsAll 61 = .ok (.invokevirtual 231, 3) := dk_182 0 231 (dk_at dksX10_readsAll_2 15 rfl rfl)
theorem dX10_readsAll_64 : decode cX10_readsAll 64 = .ok (.ifCond .eq 10, 3) := dk_153 0 10 (dk_at dksX10_readsAll_2 18 rfl rfl)
theorem dX10_readsAll_67 : decode cX10_readsAll 67 = .ok (.aload_n 0, 1) := dk_42 (dk_at dksX10_readsAll_2 21 rfl rfl)
theorem dX10_readsAll_68 : decode cX10_readsAll 68 = .ok (.invokevirtual 357, 3) := dk_182 1 101 (dk_at dksX10_readsAll_3 0 rfl rfl)
theorem dX10_readsAll_71 : decode cX10_readsAll 71 = .ok (.goto 76, 3) := dk_167 0 76 (dk_at dksX10_readsAll_3 3 rfl rfl)
theorem dX10_readsAll_74 : decode cX10_readsAll 74 = .ok (.aload_n 0, 1) := dk_42 (dk_at dksX10_readsAll_3 6 rfl rfl)
theorem dX10_readsAll_75 : decode cX10_readsAll 75 = .ok (.ldc2_w 268, 3) := dk_20 1 12 (dk_at dksX10_readsAll_3 7 rfl rfl)
theorem dX10_readsAll_78 : decode cX10_readsAll 78 = .ok (.invokevirtual 231, 3) := dk_182 0 231 (dk_at dksX10_readsAll_3 10 rfl rfl)
theorem dX10_readsAll_81 : decode cX10_readsAll 81 = .ok (.ifCond .eq 10, 3) := dk_153 0 10 (dk_at dksX10_readsAll_3 13 rfl rfl)
theorem dX10_readsAll_84 : decode cX10_readsAll 84 = .ok (.aload_n 0, 1) := dk_42 (dk_at dksX10_readsAll_3 16 rfl rfl)
theorem dX10_readsAll_85 : decode cX10_readsAll 85 = .ok (.invokevirtual 360, 3) := dk_182 1 104 (dk_at dksX10_readsAll_3 17 rfl rfl)
theorem dX10_readsAll_88 : decode cX10_readsAll 88 = .ok (.goto 59, 3) := dk_167 0 59 (dk_at dksX10_readsAll_3 20 rfl rfl)
theorem dX10_readsAll_91 : decode cX10_readsAll 91 = .ok (.aload_n 0, 1) := dk_42 (dk_at dksX10_readsAll_3 23 rfl rfl)
theorem dX10_readsAll_92 : decode cX10_readsAll 92 = .ok (.ldc2_w 278, 3) := dk_20 1 22 (dk_at dksX10_readsAll_4 0 rfl rfl)
theorem dX10_readsAll_95 : decode cX10_readsAll 95 = .ok (.invokevirtual 231, 3) := dk_182 0 231 (dk_at dksX10_readsAll_4 3 rfl rfl)
theorem dX10_readsAll_98 : decode cX10_readsAll 98 = .ok (.ifCond .eq 10, 3) := dk_153 0 10 (dk_at dksX10_readsAll_4 6 rfl rfl)
theorem dX10_readsAll_101 : decode cX10_readsAll 101 = .ok (.aload_n 0, 1) := dk_42 (dk_at dksX10_readsAll_4 9 rfl rfl)
theorem dX10_readsAll_102 : decode cX10_readsAll 102 = .ok (.invokevirtual 363, 3) := dk_182 1 107 (dk_at dksX10_readsAll_4 10 rfl rfl)
theorem dX10_readsAll_105 : decode cX10_readsAll 105 = .ok (.goto 42, 3) := dk_167 0 42 (dk_at dksX10_readsAll_4 13 rfl rfl)
theorem dX10_readsAll_108 : decode cX10_readsAll 108 = .ok (.aload_n 0, 1) := dk_42 (dk_at dksX10_readsAll_4 16 rfl rfl)
theorem dX10_readsAll_109 : decode cX10_readsAll 109 = .ok (.ldc2_w 280, 3) := dk_20 1 24 (dk_at dksX10_readsAll_4 17 rfl rfl)
theorem dX10_readsAll_112 : decode cX10_readsAll 112 = .ok (.invokevirtual 231, 3) := dk_182 0 231 (dk_at dksX10_readsAll_4 20 rfl rfl)
theorem dX10_readsAll_115 : decode cX10_readsAll 115 = .ok (.ifCond .eq 10, 3) := dk_153 0 10 (dk_at dksX10_readsAll_5 0 rfl rfl)
theorem dX10_readsAll_118 : decode cX10_readsAll 118 = .ok (.aload_n 0, 1) := dk_42 (dk_at dksX10_readsAll_5 3 rfl rfl)
theorem dX10_readsAll_119 : decode cX10_readsAll 119 = .ok (.invokevirtual 366, 3) := dk_182 1 110 (dk_at dksX10_readsAll_5 4 rfl rfl)
theorem dX10_readsAll_122 : decode cX10_readsAll 122 = .ok (.goto 25, 3) := dk_167 0 25 (dk_at dksX10_readsAll_5 7 rfl rfl)
theorem dX10_readsAll_125 : decode cX10_readsAll 125 = .ok (.aload_n 0, 1) := dk_42 (dk_at dksX10_readsAll_5 10 rfl rfl)
theorem dX10_readsAll_126 : decode cX10_readsAll 126 = .ok (.ldc2_w 282, 3) := dk_20 1 26 (dk_at dksX10_readsAll_5 11 rfl rfl)
theorem dX10_readsAll_129 : decode cX10_readsAll 129 = .ok (.invokevirtual 231, 3) := dk_182 0 231 (dk_at dksX10_readsAll_5 14 rfl rfl)
theorem dX10_readsAll_132 : decode cX10_readsAll 132 = .ok (.ifCond .eq 10, 3) := dk_153 0 10 (dk_at dksX10_readsAll_5 17 rfl rfl)
theorem dX10_readsAll_135 : decode cX10_readsAll 135 = .ok (.aload_n 0, 1) := dk_42 (dk_at dksX10_readsAll_5 20 rfl rfl)
theorem dX10_readsAll_136 : decode cX10_readsAll 136 = .ok (.invokevirtual 369, 3) := dk_182 1 113 (dk_at dksX10_readsAll_5 21 rfl rfl)
theorem dX10_readsAll_139 : decode cX10_readsAll 139 = .ok (.goto 8, 3) := dk_167 0 8 (dk_at dksX10_readsAll_6 0 rfl rfl)
theorem dX10_readsAll_142 : decode cX10_readsAll 142 = .ok (.aload_n 0, 1) := dk_42 (dk_at dksX10_readsAll_6 3 rfl rfl)
theorem dX10_readsAll_143 : decode cX10_readsAll 143 = .ok (.iconst 1, 1) := dk_4 (dk_at dksX10_readsAll_6 4 rfl rfl)
theorem dX10_readsAll_144 : decode cX10_readsAll 144 = .ok (.invokevirtual 239, 3) := dk_182 0 239 (dk_at dksX10_readsAll_6 5 rfl rfl)
theorem dX10_readsAll_147 : decode cX10_readsAll 147 = .ok (.istore_n 1, 1) := dk_60 (dk_at dksX10_readsAll_6 8 rfl rfl)
theorem dX10_readsAll_148 : decode cX10_readsAll 148 = .ok (.iload_n 1, 1) := dk_27 (dk_at dksX10_readsAll_6 9 rfl rfl)
theorem dX10_readsAll_149 : decode cX10_readsAll 149 = .ok (.ifCond .ne 5, 3) := dk_154 0 5 (dk_at dksX10_readsAll_6 10 rfl rfl)
theorem dX10_readsAll_152 : decode cX10_readsAll 152 = .ok (.iconst 0, 1) := dk_3 (dk_at dksX10_readsAll_6 13 rfl rfl)
theorem dX10_readsAll_153 : decode cX10_readsAll 153 = .ok (.ireturn, 1) := dk_172 (dk_at dksX10_readsAll_6 14 rfl rfl)
theorem dX10_readsAll_154 : decode cX10_readsAll 154 = .ok (.goto (-104), 3) := dk_167 255 152 (dk_at dksX10_readsAll_6 15 rfl rfl)
theorem dX10_readsAll_157 : decode cX10_readsAll 157 = .ok (.iconst 1, 1) := dk_4 (dk_at dksX10_readsAll_6 18 rfl rfl)
theorem dX10_readsAll_158 : decode cX10_readsAll 158 = .ok (.ireturn, 1) := dk_172 (dk_at dksX10_readsAll_6 19 rfl rfl)
abbrev cX10_starts : ByteArray := prog_36_method_36_code
def yX10_starts : MethodName := ⟨RX10, "starts", "()V"⟩
def dkwX10_starts_0 : List UInt8 := [42, 42, 180, 0, 181, 181, 0, 184, 42, 3, 181, 0, 181, 42, 3, 181, 0, 187, 42, 182, 0, 246, 177]
abbrev dktX10_starts_0 : List UInt8 := dkwX10_starts_0 ++ []
theorem dksX10_starts_0 : cX10_starts.data.toList.drop 0 = dktX10_starts_0 := by decide +kernel
theorem dX10_starts_0 : decode cX10_starts 0 = .ok (.aload_n 0, 1) := dk_42 (dk_at dksX10_starts_0 0 rfl rfl)
theorem dX10_starts_1 : decode cX10_starts 1 = .ok (.aload_n 0, 1) := dk_42 (dk_at dksX10_starts_0 1 rfl rfl)
theorem dX10_starts_2 : decode cX10_starts 2 = .ok (.getfield 181, 3) := dk_180 0 181 (dk_at dksX10_starts_0 2 rfl rfl)
theorem dX10_starts_5 : decode cX10_starts 5 = .ok (.putfield 184, 3) := dk_181 0 184 (dk_at dksX10_starts_0 5 rfl rfl)
theorem dX10_starts_8 : decode cX10_starts 8 = .ok (.aload_n 0, 1) := dk_42 (dk_at dksX10_starts_0 8 rfl rfl)
theorem dX10_starts_9 : decode cX10_starts 9 = .ok (.iconst 0, 1) := dk_3 (dk_at dksX10_starts_0 9 rfl rfl)
theorem dX10_starts_10 : decode cX10_starts 10 = .ok (.putfield 181, 3) := dk_181 0 181 (dk_at dksX10_starts_0 10 rfl rfl)
theorem dX10_starts_13 : decode cX10_starts 13 = .ok (.aload_n 0, 1) := dk_42 (dk_at dksX10_starts_0 13 rfl rfl)
theorem dX10_starts_14 : decode cX10_starts 14 = .ok (.iconst 0, 1) := dk_3 (dk_at dksX10_starts_0 14 rfl rfl)
theorem dX10_starts_15 : decode cX10_starts 15 = .ok (.putfield 187, 3) := dk_181 0 187 (dk_at dksX10_starts_0 15 rfl rfl)
theorem dX10_starts_18 : decode cX10_starts 18 = .ok (.aload_n 0, 1) := dk_42 (dk_at dksX10_starts_0 18 rfl rfl)
theorem dX10_starts_19 : decode cX10_starts 19 = .ok (.invokevirtual 246, 3) := dk_182 0 246 (dk_at dksX10_starts_0 19 rfl rfl)
theorem dX10_starts_22 : decode cX10_starts 22 = .ok (.return_, 1) := dk_177 (dk_at dksX10_starts_0 22 rfl rfl)
abbrev cX10_nextToken : ByteArray := prog_36_method_8_code
def yX10_nextToken : MethodName := ⟨RX10, "nextToken", "()V"⟩
def dkwX10_nextToken_16 : List UInt8 := [167, 0, 4, 7, 181, 0, 200, 177]
abbrev dktX10_nextToken_16 : List UInt8 := dkwX10_nextToken_16 ++ []
def dkwX10_nextToken_15 : List UInt8 := [164, 0, 21, 27, 16, 45, 159, 0, 15, 27, 16, 59, 161, 0, 13, 27, 16, 61, 163, 0, 7, 6]
abbrev dktX10_nextToken_15 : List UInt8 := dkwX10_nextToken_15 ++ dktX10_nextToken_16
def dkwX10_nextToken_14 : List UInt8 := [181, 0, 200, 177, 42, 89, 180, 0, 187, 4, 96, 181, 0, 187, 42, 27, 16, 40, 161, 0, 9, 27, 16, 43]
abbrev dktX10_nextToken_14 : List UInt8 := dkwX10_nextToken_14 ++ dktX10_nextToken_15
def dkwX10_nextToken_13 : List UInt8 := [167, 255, 184, 42, 42, 180, 0, 187, 42, 180, 0, 190, 100, 7, 164, 0, 7, 7, 167, 0, 4, 5]
abbrev dktX10_nextToken_13 : List UInt8 := dkwX10_nextToken_13 ++ dktX10_nextToken_14
def dkwX10_nextToken_12 : List UInt8 := [180, 0, 187, 182, 0, 203, 96, 16, 48, 100, 181, 0, 197, 42, 89, 180, 0, 187, 4, 96, 181, 0, 187]
abbrev dktX10_nextToken_12 : List UInt8 := dkwX10_nextToken_12 ++ dktX10_nextToken_13
def dkwX10_nextToken_11 : List UInt8 := [42, 180, 0, 187, 42, 180, 0, 190, 100, 7, 162, 0, 26, 42, 42, 180, 0, 197, 16, 10, 104, 42, 42]
abbrev dktX10_nextToken_11 : List UInt8 := dkwX10_nextToken_11 ++ dktX10_nextToken_12
def dkwX10_nextToken_10 : List UInt8 := [180, 0, 187, 182, 0, 203, 16, 48, 161, 0, 65, 42, 42, 180, 0, 187, 182, 0, 203, 16, 57, 163, 0, 52]
abbrev dktX10_nextToken_10 : List UInt8 := dkwX10_nextToken_10 ++ dktX10_nextToken_11
def dkwX10_nextToken_9 : List UInt8 := [167, 0, 4, 4, 181, 0, 200, 177, 27, 16, 48, 161, 0, 107, 27, 16, 57, 163, 0, 101, 42, 42]
abbrev dktX10_nextToken_9 : List UInt8 := dkwX10_nextToken_9 ++ dktX10_nextToken_10
def dkwX10_nextToken_8 : List UInt8 := [181, 0, 187, 167, 255, 180, 42, 42, 180, 0, 187, 42, 180, 0, 190, 100, 16, 8, 164, 0, 7, 7]
abbrev dktX10_nextToken_8 : List UInt8 := dkwX10_nextToken_8 ++ dktX10_nextToken_9
def dkwX10_nextToken_7 : List UInt8 := [180, 0, 187, 182, 0, 203, 133, 97, 20, 0, 209, 101, 181, 0, 193, 42, 89, 180, 0, 187, 4, 96]
abbrev dktX10_nextToken_7 : List UInt8 := dkwX10_nextToken_7 ++ dktX10_nextToken_8
def dkwX10_nextToken_6 : List UInt8 := [180, 0, 187, 42, 180, 0, 190, 100, 16, 8, 162, 0, 29, 42, 42, 180, 0, 193, 20, 0, 207, 105, 42, 42]
abbrev dktX10_nextToken_6 : List UInt8 := dkwX10_nextToken_6 ++ dktX10_nextToken_7
def dkwX10_nextToken_5 : List UInt8 := [182, 0, 203, 16, 97, 161, 0, 69, 42, 42, 180, 0, 187, 182, 0, 203, 16, 122, 163, 0, 56, 42]
abbrev dktX10_nextToken_5 : List UInt8 := dkwX10_nextToken_5 ++ dktX10_nextToken_6
def dkwX10_nextToken_4 : List UInt8 := [180, 0, 187, 46, 60, 27, 16, 97, 161, 0, 112, 27, 16, 122, 163, 0, 106, 42, 42, 180, 0, 187]
abbrev dktX10_nextToken_4 : List UInt8 := dkwX10_nextToken_4 ++ dktX10_nextToken_5
def dkwX10_nextToken_3 : List UInt8 := [42, 180, 0, 187, 42, 180, 0, 184, 160, 0, 9, 42, 3, 181, 0, 200, 177, 42, 180, 0, 7, 42]
abbrev dktX10_nextToken_3 : List UInt8 := dkwX10_nextToken_3 ++ dktX10_nextToken_4
def dkwX10_nextToken_2 : List UInt8 := [181, 0, 187, 167, 255, 207, 42, 42, 180, 0, 187, 181, 0, 190, 42, 9, 181, 0, 193, 42, 3, 181, 0, 197]
abbrev dktX10_nextToken_2 : List UInt8 := dkwX10_nextToken_2 ++ dktX10_nextToken_3
def dkwX10_nextToken_1 : List UInt8 := [159, 0, 17, 42, 180, 0, 7, 42, 180, 0, 187, 46, 16, 10, 160, 0, 16, 42, 89, 180, 0, 187, 4, 96]
abbrev dktX10_nextToken_1 : List UInt8 := dkwX10_nextToken_1 ++ dktX10_nextToken_2
def dkwX10_nextToken_0 : List UInt8 := [42, 180, 0, 187, 42, 180, 0, 184, 162, 0, 44, 42, 180, 0, 7, 42, 180, 0, 187, 46, 16, 32]
abbrev dktX10_nextToken_0 : List UInt8 := dkwX10_nextToken_0 ++ dktX10_nextToken_1
theorem dksX10_nextToken_0 : cX10_nextToken.data.toList.drop 0 = dktX10_nextToken_0 := by decide +kernel
theorem dksX10_nextToken_1 : cX10_nextToken.data.toList.drop 22 = dktX10_nextToken_1 := dk_seg dksX10_nextToken_0 22 rfl rfl
theorem dksX10_nextToken_2 : cX10_nextToken.data.toList.drop 46 = dktX10_nextToken_2 := dk_seg dksX10_nextToken_1 24 rfl rfl
theorem dksX10_nextToken_3 : cX10_nextToken.data.toList.drop 70 = dktX10_nextToken_3 := dk_seg dksX10_nextToken_2 24 rfl rfl
theorem dksX10_nextToken_4 : cX10_nextToken.data.toList.drop 92 = dktX10_nextToken_4 := dk_seg dksX10_nextToken_3 22 rfl rfl
theorem dksX10_nextToken_5 : cX10_nextToken.data.toList.drop 114 = dktX10_nextToken_5 := dk_seg dksX10_nextToken_4 22 rfl rfl
theorem dksX10_nextToken_6 : cX10_nextToken.data.toList.drop 136 = dktX10_nextToken_6 := dk_seg dksX10_nextToken_5 22 rfl rfl
theorem dksX10_nextToken_7 : cX10_nextToken.data.toList.drop 160 = dktX10_nextToken_7 := dk_seg dksX10_nextToken_6 24 rfl rfl
theorem dksX10_nextToken_8 : cX10_nextToken.data.toList.drop 182 = dktX10_nextToken_8 := dk_seg dksX10_nextToken_7 22 rfl rfl
theorem dksX10_nextToken_9 : cX10_nextToken.data.toList.drop 204 = dktX10_nextToken_9 := dk_seg dksX10_nextToken_8 22 rfl rfl
theorem dksX10_nextToken_10 : cX10_nextToken.data.toList.drop 226 = dktX10_nextToken_10 := dk_seg dksX10_nextToken_9 22 rfl rfl
theorem dksX10_nextToken_11 : cX10_nextToken.data.toList.drop 250 = dktX10_nextToken_11 := dk_seg dksX10_nextToken_10 24 rfl rfl
theorem dksX10_nextToken_12 : cX10_nextToken.data.toList.drop 273 = dktX10_nextToken_12 := dk_seg dksX10_nextToken_11 23 rfl rfl
theorem dksX10_nextToken_13 : cX10_nextToken.data.toList.drop 296 = dktX10_nextToken_13 := dk_seg dksX10_nextToken_12 23 rfl rfl
theorem dksX10_nextToken_14 : cX10_nextToken.data.toList.drop 318 = dktX10_nextToken_14 := dk_seg dksX10_nextToken_13 22 rfl rfl
theorem dksX10_nextToken_15 : cX10_nextToken.data.toList.drop 342 = dktX10_nextToken_15 := dk_seg dksX10_nextToken_14 24 rfl rfl
theorem dksX10_nextToken_16 : cX10_nextToken.data.toList.drop 364 = dktX10_nextToken_16 := dk_seg dksX10_nextToken_15 22 rfl rfl
theorem dX10_nextToken_0 : decode cX10_nextToken 0 = .ok (.aload_n 0, 1) := dk_42 (dk_at dksX10_nextToken_0 0 rfl rfl)
theorem dX10_nextToken_1 : decode cX10_nextToken 1 = .ok (.getfield 187, 3) := dk_180 0 187 (dk_at dksX10_nextToken_0 1 rfl rfl)
theorem dX10_nextToken_4 : decode cX10_nextToken 4 = .ok (.aload_n 0, 1) := dk_42 (dk_at dksX10_nextToken_0 4 rfl rfl)
theorem dX10_nextToken_5 : decode cX10_nextToken 5 = .ok (.getfield 184, 3) := dk_180 0 184 (dk_at dksX10_nextToken_0 5 rfl rfl)
theorem dX10_nextToken_8 : decode cX10_nextToken 8 = .ok (.if_icmp .ge 44, 3) := dk_162 0 44 (dk_at dksX10_nextToken_0 8 rfl rfl)
theorem dX10_nextToken_11 : decode cX10_nextToken 11 = .ok (.aload_n 0, 1) := dk_42 (dk_at dksX10_nextToken_0 11 rfl rfl)
theorem dX10_nextToken_12 : decode cX10_nextToken 12 = .ok (.getfield 7, 3) := dk_180 0 7 (dk_at dksX10_nextToken_0 12 rfl rfl)
theorem dX10_nextToken_15 : decode cX10_nextToken 15 = .ok (.aload_n 0, 1) := dk_42 (dk_at dksX10_nextToken_0 15 rfl rfl)
theorem dX10_nextToken_16 : decode cX10_nextToken 16 = .ok (.getfield 187, 3) := dk_180 0 187 (dk_at dksX10_nextToken_0 16 rfl rfl)
theorem dX10_nextToken_19 : decode cX10_nextToken 19 = .ok (.iaload, 1) := dk_46 (dk_at dksX10_nextToken_0 19 rfl rfl)
theorem dX10_nextToken_20 : decode cX10_nextToken 20 = .ok (.bipush 32, 2) := dk_16 32 (dk_at dksX10_nextToken_0 20 rfl rfl)
theorem dX10_nextToken_22 : decode cX10_nextToken 22 = .ok (.if_icmp .eq 17, 3) := dk_159 0 17 (dk_at dksX10_nextToken_1 0 rfl rfl)
theorem dX10_nextToken_25 : decode cX10_nextToken 25 = .ok (.aload_n 0, 1) := dk_42 (dk_at dksX10_nextToken_1 3 rfl rfl)
theorem dX10_nextToken_26 : decode cX10_nextToken 26 = .ok (.getfield 7, 3) := dk_180 0 7 (dk_at dksX10_nextToken_1 4 rfl rfl)
theorem dX10_nextToken_29 : decode cX10_nextToken 29 = .ok (.aload_n 0, 1) := dk_42 (dk_at dksX10_nextToken_1 7 rfl rfl)
theorem dX10_nextToken_30 : decode cX10_nextToken 30 = .ok (.getfield 187, 3) := dk_180 0 187 (dk_at dksX10_nextToken_1 8 rfl rfl)
theorem dX10_nextToken_33 : decode cX10_nextToken 33 = .ok (.iaload, 1) := dk_46 (dk_at dksX10_nextToken_1 11 rfl rfl)
theorem dX10_nextToken_34 : decode cX10_nextToken 34 = .ok (.bipush 10, 2) := dk_16 10 (dk_at dksX10_nextToken_1 12 rfl rfl)
theorem dX10_nextToken_36 : decode cX10_nextToken 36 = .ok (.if_icmp .ne 16, 3) := dk_160 0 16 (dk_at dksX10_nextToken_1 14 rfl rfl)
theorem dX10_nextToken_39 : decode cX10_nextToken 39 = .ok (.aload_n 0, 1) := dk_42 (dk_at dksX10_nextToken_1 17 rfl rfl)
theorem dX10_nextToken_40 : decode cX10_nextToken 40 = .ok (.dup, 1) := dk_89 (dk_at dksX10_nextToken_1 18 rfl rfl)
theorem dX10_nextToken_41 : decode cX10_nextToken 41 = .ok (.getfield 187, 3) := dk_180 0 187 (dk_at dksX10_nextToken_1 19 rfl rfl)
theorem dX10_nextToken_44 : decode cX10_nextToken 44 = .ok (.iconst 1, 1) := dk_4 (dk_at dksX10_nextToken_1 22 rfl rfl)
theorem dX10_nextToken_45 : decode cX10_nextToken 45 = .ok (.iadd, 1) := dk_96 (dk_at dksX10_nextToken_1 23 rfl rfl)
theorem dX10_nextToken_46 : decode cX10_nextToken 46 = .ok (.putfield 187, 3) := dk_181 0 187 (dk_at dksX10_nextToken_2 0 rfl rfl)
theorem dX10_nextToken_49 : decode cX10_nextToken 49 = .ok (.goto (-49), 3) := dk_167 255 207 (dk_at dksX10_nextToken_2 3 rfl rfl)
theorem dX10_nextToken_52 : decode cX10_nextToken 52 = .ok (.aload_n 0, 1) := dk_42 (dk_at dksX10_nextToken_2 6 rfl rfl)
theorem dX10_nextToken_53 : decode cX10_nextToken 53 = .ok (.aload_n 0, 1) := dk_42 (dk_at dksX10_nextToken_2 7 rfl rfl)
theorem dX10_nextToken_54 : decode cX10_nextToken 54 = .ok (.getfield 187, 3) := dk_180 0 187 (dk_at dksX10_nextToken_2 8 rfl rfl)
theorem dX10_nextToken_57 : decode cX10_nextToken 57 = .ok (.putfield 190, 3) := dk_181 0 190 (dk_at dksX10_nextToken_2 11 rfl rfl)
theorem dX10_nextToken_60 : decode cX10_nextToken 60 = .ok (.aload_n 0, 1) := dk_42 (dk_at dksX10_nextToken_2 14 rfl rfl)
theorem dX10_nextToken_61 : decode cX10_nextToken 61 = .ok (.lconst 0, 1) := dk_9 (dk_at dksX10_nextToken_2 15 rfl rfl)
theorem dX10_nextToken_62 : decode cX10_nextToken 62 = .ok (.putfield 193, 3) := dk_181 0 193 (dk_at dksX10_nextToken_2 16 rfl rfl)
theorem dX10_nextToken_65 : decode cX10_nextToken 65 = .ok (.aload_n 0, 1) := dk_42 (dk_at dksX10_nextToken_2 19 rfl rfl)
theorem dX10_nextToken_66 : decode cX10_nextToken 66 = .ok (.iconst 0, 1) := dk_3 (dk_at dksX10_nextToken_2 20 rfl rfl)
theorem dX10_nextToken_67 : decode cX10_nextToken 67 = .ok (.putfield 197, 3) := dk_181 0 197 (dk_at dksX10_nextToken_2 21 rfl rfl)
theorem dX10_nextToken_70 : decode cX10_nextToken 70 = .ok (.aload_n 0, 1) := dk_42 (dk_at dksX10_nextToken_3 0 rfl rfl)
theorem dX10_nextToken_71 : decode cX10_nextToken 71 = .ok (.getfield 187, 3) := dk_180 0 187 (dk_at dksX10_nextToken_3 1 rfl rfl)
theorem dX10_nextToken_74 : decode cX10_nextToken 74 = .ok (.aload_n 0, 1) := dk_42 (dk_at dksX10_nextToken_3 4 rfl rfl)
theorem dX10_nextToken_75 : decode cX10_nextToken 75 = .ok (.getfield 184, 3) := dk_180 0 184 (dk_at dksX10_nextToken_3 5 rfl rfl)
theorem dX10_nextToken_78 : decode cX10_nextToken 78 = .ok (.if_icmp .ne 9, 3) := dk_160 0 9 (dk_at dksX10_nextToken_3 8 rfl rfl)
theorem dX10_nextToken_81 : decode cX10_nextToken 81 = .ok (.aload_n 0, 1) := dk_42 (dk_at dksX10_nextToken_3 11 rfl rfl)
theorem dX10_nextToken_82 : decode cX10_nextToken 82 = .ok (.iconst 0, 1) := dk_3 (dk_at dksX10_nextToken_3 12 rfl rfl)
theorem dX10_nextToken_83 : decode cX10_nextToken 83 = .ok (.putfield 200, 3) := dk_181 0 200 (dk_at dksX10_nextToken_3 13 rfl rfl)
theorem dX10_nextToken_86 : decode cX10_nextToken 86 = .ok (.return_, 1) := dk_177 (dk_at dksX10_nextToken_3 16 rfl rfl)
theorem dX10_nextToken_87 : decode cX10_nextToken 87 = .ok (.aload_n 0, 1) := dk_42 (dk_at dksX10_nextToken_3 17 rfl rfl)
theorem dX10_nextToken_88 : decode cX10_nextToken 88 = .ok (.getfield 7, 3) := dk_180 0 7 (dk_at dksX10_nextToken_3 18 rfl rfl)
theorem dX10_nextToken_91 : decode cX10_nextToken 91 = .ok (.aload_n 0, 1) := dk_42 (dk_at dksX10_nextToken_3 21 rfl rfl)
theorem dX10_nextToken_92 : decode cX10_nextToken 92 = .ok (.getfield 187, 3) := dk_180 0 187 (dk_at dksX10_nextToken_4 0 rfl rfl)
theorem dX10_nextToken_95 : decode cX10_nextToken 95 = .ok (.iaload, 1) := dk_46 (dk_at dksX10_nextToken_4 3 rfl rfl)
theorem dX10_nextToken_96 : decode cX10_nextToken 96 = .ok (.istore_n 1, 1) := dk_60 (dk_at dksX10_nextToken_4 4 rfl rfl)
theorem dX10_nextToken_97 : decode cX10_nextToken 97 = .ok (.iload_n 1, 1) := dk_27 (dk_at dksX10_nextToken_4 5 rfl rfl)
theorem dX10_nextToken_98 : decode cX10_nextToken 98 = .ok (.bipush 97, 2) := dk_16 97 (dk_at dksX10_nextToken_4 6 rfl rfl)
theorem dX10_nextToken_100 : decode cX10_nextToken 100 = .ok (.if_icmp .lt 112, 3) := dk_161 0 112 (dk_at dksX10_nextToken_4 8 rfl rfl)
theorem dX10_nextToken_103 : decode cX10_nextToken 103 = .ok (.iload_n 1, 1) := dk_27 (dk_at dksX10_nextToken_4 11 rfl rfl)
theorem dX10_nextToken_104 : decode cX10_nextToken 104 = .ok (.bipush 122, 2) := dk_16 122 (dk_at dksX10_nextToken_4 12 rfl rfl)
theorem dX10_nextToken_106 : decode cX10_nextToken 106 = .ok (.if_icmp .gt 106, 3) := dk_163 0 106 (dk_at dksX10_nextToken_4 14 rfl rfl)
theorem dX10_nextToken_109 : decode cX10_nextToken 109 = .ok (.aload_n 0, 1) := dk_42 (dk_at dksX10_nextToken_4 17 rfl rfl)
theorem dX10_nextToken_110 : decode cX10_nextToken 110 = .ok (.aload_n 0, 1) := dk_42 (dk_at dksX10_nextToken_4 18 rfl rfl)
theorem dX10_nextToken_111 : decode cX10_nextToken 111 = .ok (.getfield 187, 3) := dk_180 0 187 (dk_at dksX10_nextToken_4 19 rfl rfl)
theorem dX10_nextToken_114 : decode cX10_nextToken 114 = .ok (.invokevirtual 203, 3) := dk_182 0 203 (dk_at dksX10_nextToken_5 0 rfl rfl)
theorem dX10_nextToken_117 : decode cX10_nextToken 117 = .ok (.bipush 97, 2) := dk_16 97 (dk_at dksX10_nextToken_5 3 rfl rfl)
theorem dX10_nextToken_119 : decode cX10_nextToken 119 = .ok (.if_icmp .lt 69, 3) := dk_161 0 69 (dk_at dksX10_nextToken_5 5 rfl rfl)
theorem dX10_nextToken_122 : decode cX10_nextToken 122 = .ok (.aload_n 0, 1) := dk_42 (dk_at dksX10_nextToken_5 8 rfl rfl)
theorem dX10_nextToken_123 : decode cX10_nextToken 123 = .ok (.aload_n 0, 1) := dk_42 (dk_at dksX10_nextToken_5 9 rfl rfl)
theorem dX10_nextToken_124 : decode cX10_nextToken 124 = .ok (.getfield 187, 3) := dk_180 0 187 (dk_at dksX10_nextToken_5 10 rfl rfl)
theorem dX10_nextToken_127 : decode cX10_nextToken 127 = .ok (.invokevirtual 203, 3) := dk_182 0 203 (dk_at dksX10_nextToken_5 13 rfl rfl)
theorem dX10_nextToken_130 : decode cX10_nextToken 130 = .ok (.bipush 122, 2) := dk_16 122 (dk_at dksX10_nextToken_5 16 rfl rfl)
theorem dX10_nextToken_132 : decode cX10_nextToken 132 = .ok (.if_icmp .gt 56, 3) := dk_163 0 56 (dk_at dksX10_nextToken_5 18 rfl rfl)
theorem dX10_nextToken_135 : decode cX10_nextToken 135 = .ok (.aload_n 0, 1) := dk_42 (dk_at dksX10_nextToken_5 21 rfl rfl)
theorem dX10_nextToken_136 : decode cX10_nextToken 136 = .ok (.getfield 187, 3) := dk_180 0 187 (dk_at dksX10_nextToken_6 0 rfl rfl)
theorem dX10_nextToken_139 : decode cX10_nextToken 139 = .ok (.aload_n 0, 1) := dk_42 (dk_at dksX10_nextToken_6 3 rfl rfl)
theorem dX10_nextToken_140 : decode cX10_nextToken 140 = .ok (.getfield 190, 3) := dk_180 0 190 (dk_at dksX10_nextToken_6 4 rfl rfl)
theorem dX10_nextToken_143 : decode cX10_nextToken 143 = .ok (.isub, 1) := dk_100 (dk_at dksX10_nextToken_6 7 rfl rfl)
theorem dX10_nextToken_144 : decode cX10_nextToken 144 = .ok (.bipush 8, 2) := dk_16 8 (dk_at dksX10_nextToken_6 8 rfl rfl)
theorem dX10_nextToken_146 : decode cX10_nextToken 146 = .ok (.if_icmp .ge 29, 3) := dk_162 0 29 (dk_at dksX10_nextToken_6 10 rfl rfl)
theorem dX10_nextToken_149 : decode cX10_nextToken 149 = .ok (.aload_n 0, 1) := dk_42 (dk_at dksX10_nextToken_6 13 rfl rfl)
theorem dX10_nextToken_150 : decode cX10_nextToken 150 = .ok (.aload_n 0, 1) := dk_42 (dk_at dksX10_nextToken_6 14 rfl rfl)
theorem dX10_nextToken_151 : decode cX10_nextToken 151 = .ok (.getfield 193, 3) := dk_180 0 193 (dk_at dksX10_nextToken_6 15 rfl rfl)
theorem dX10_nextToken_154 : decode cX10_nextToken 154 = .ok (.ldc2_w 207, 3) := dk_20 0 207 (dk_at dksX10_nextToken_6 18 rfl rfl)
theorem dX10_nextToken_157 : decode cX10_nextToken 157 = .ok (.lmul, 1) := dk_105 (dk_at dksX10_nextToken_6 21 rfl rfl)
theorem dX10_nextToken_158 : decode cX10_nextToken 158 = .ok (.aload_n 0, 1) := dk_42 (dk_at dksX10_nextToken_6 22 rfl rfl)
theorem dX10_nextToken_159 : decode cX10_nextToken 159 = .ok (.aload_n 0, 1) := dk_42 (dk_at dksX10_nextToken_6 23 rfl rfl)
theorem dX10_nextToken_160 : decode cX10_nextToken 160 = .ok (.getfield 187, 3) := dk_180 0 187 (dk_at dksX10_nextToken_7 0 rfl rfl)
theorem dX10_nextToken_163 : decode cX10_nextToken 163 = .ok (.invokevirtual 203, 3) := dk_182 0 203 (dk_at dksX10_nextToken_7 3 rfl rfl)
theorem dX10_nextToken_166 : decode cX10_nextToken 166 = .ok (.i2l, 1) := dk_133 (dk_at dksX10_nextToken_7 6 rfl rfl)
theorem dX10_nextToken_167 : decode cX10_nextToken 167 = .ok (.ladd, 1) := dk_97 (dk_at dksX10_nextToken_7 7 rfl rfl)
theorem dX10_nextToken_168 : decode cX10_nextToken 168 = .ok (.ldc2_w 209, 3) := dk_20 0 209 (dk_at dksX10_nextToken_7 8 rfl rfl)
theorem dX10_nextToken_171 : decode cX10_nextToken 171 = .ok (.lsub, 1) := dk_101 (dk_at dksX10_nextToken_7 11 rfl rfl)
theorem dX10_nextToken_172 : decode cX10_nextToken 172 = .ok (.putfield 193, 3) := dk_181 0 193 (dk_at dksX10_nextToken_7 12 rfl rfl)
theorem dX10_nextToken_175 : decode cX10_nextToken 175 = .ok (.aload_n 0, 1) := dk_42 (dk_at dksX10_nextToken_7 15 rfl rfl)
theorem dX10_nextToken_176 : decode cX10_nextToken 176 = .ok (.dup, 1) := dk_89 (dk_at dksX10_nextToken_7 16 rfl rfl)
theorem dX10_nextToken_177 : decode cX10_nextToken 177 = .ok (.getfield 187, 3) := dk_180 0 187 (dk_at dksX10_nextToken_7 17 rfl rfl)
theorem dX10_nextToken_180 : decode cX10_nextToken 180 = .ok (.iconst 1, 1) := dk_4 (dk_at dksX10_nextToken_7 20 rfl rfl)
theorem dX10_nextToken_181 : decode cX10_nextToken 181 = .ok (.iadd, 1) := dk_96 (dk_at dksX10_nextToken_7 21 rfl rfl)
theorem dX10_nextToken_182 : decode cX10_nextToken 182 = .ok (.putfield 187, 3) := dk_181 0 187 (dk_at dksX10_nextToken_8 0 rfl rfl)
theorem dX10_nextToken_185 : decode cX10_nextToken 185 = .ok (.goto (-76), 3) := dk_167 255 180 (dk_at dksX10_nextToken_8 3 rfl rfl)
theorem dX10_nextToken_188 : decode cX10_nextToken 188 = .ok (.aload_n 0, 1) := dk_42 (dk_at dksX10_nextToken_8 6 rfl rfl)
theorem dX10_nextToken_189 : decode cX10_nextToken 189 = .ok (.aload_n 0, 1) := dk_42 (dk_at dksX10_nextToken_8 7 rfl rfl)
theorem dX10_nextToken_190 : decode cX10_nextToken 190 = .ok (.getfield 187, 3) := dk_180 0 187 (dk_at dksX10_nextToken_8 8 rfl rfl)
theorem dX10_nextToken_193 : decode cX10_nextToken 193 = .ok (.aload_n 0, 1) := dk_42 (dk_at dksX10_nextToken_8 11 rfl rfl)
theorem dX10_nextToken_194 : decode cX10_nextToken 194 = .ok (.getfield 190, 3) := dk_180 0 190 (dk_at dksX10_nextToken_8 12 rfl rfl)
theorem dX10_nextToken_197 : decode cX10_nextToken 197 = .ok (.isub, 1) := dk_100 (dk_at dksX10_nextToken_8 15 rfl rfl)
theorem dX10_nextToken_198 : decode cX10_nextToken 198 = .ok (.bipush 8, 2) := dk_16 8 (dk_at dksX10_nextToken_8 16 rfl rfl)
theorem dX10_nextToken_200 : decode cX10_nextToken 200 = .ok (.if_icmp .le 7, 3) := dk_164 0 7 (dk_at dksX10_nextToken_8 18 rfl rfl)
theorem dX10_nextToken_203 : decode cX10_nextToken 203 = .ok (.iconst 4, 1) := dk_7 (dk_at dksX10_nextToken_8 21 rfl rfl)
theorem dX10_nextToken_204 : decode cX10_nextToken 204 = .ok (.goto 4, 3) := dk_167 0 4 (dk_at dksX10_nextToken_9 0 rfl rfl)
theorem dX10_nextToken_207 : decode cX10_nextToken 207 = .ok (.iconst 1, 1) := dk_4 (dk_at dksX10_nextToken_9 3 rfl rfl)
theorem dX10_nextToken_208 : decode cX10_nextToken 208 = .ok (.putfield 200, 3) := dk_181 0 200 (dk_at dksX10_nextToken_9 4 rfl rfl)
theorem dX10_nextToken_211 : decode cX10_nextToken 211 = .ok (.return_, 1) := dk_177 (dk_at dksX10_nextToken_9 7 rfl rfl)
theorem dX10_nextToken_212 : decode cX10_nextToken 212 = .ok (.iload_n 1, 1) := dk_27 (dk_at dksX10_nextToken_9 8 rfl rfl)
theorem dX10_nextToken_213 : decode cX10_nextToken 213 = .ok (.bipush 48, 2) := dk_16 48 (dk_at dksX10_nextToken_9 9 rfl rfl)
theorem dX10_nextToken_215 : decode cX10_nextToken 215 = .ok (.if_icmp .lt 107, 3) := dk_161 0 107 (dk_at dksX10_nextToken_9 11 rfl rfl)
theorem dX10_nextToken_218 : decode cX10_nextToken 218 = .ok (.iload_n 1, 1) := dk_27 (dk_at dksX10_nextToken_9 14 rfl rfl)
theorem dX10_nextToken_219 : decode cX10_nextToken 219 = .ok (.bipush 57, 2) := dk_16 57 (dk_at dksX10_nextToken_9 15 rfl rfl)
theorem dX10_nextToken_221 : decode cX10_nextToken 221 = .ok (.if_icmp .gt 101, 3) := dk_163 0 101 (dk_at dksX10_nextToken_9 17 rfl rfl)
theorem dX10_nextToken_224 : decode cX10_nextToken 224 = .ok (.aload_n 0, 1) := dk_42 (dk_at dksX10_nextToken_9 20 rfl rfl)
theorem dX10_nextToken_225 : decode cX10_nextToken 225 = .ok (.aload_n 0, 1) := dk_42 (dk_at dksX10_nextToken_9 21 rfl rfl)
theorem dX10_nextToken_226 : decode cX10_nextToken 226 = .ok (.getfield 187, 3) := dk_180 0 187 (dk_at dksX10_nextToken_10 0 rfl rfl)
theorem dX10_nextToken_229 : decode cX10_nextToken 229 = .ok (.invokevirtual 203, 3) := dk_182 0 203 (dk_at dksX10_nextToken_10 3 rfl rfl)
theorem dX10_nextToken_232 : decode cX10_nextToken 232 = .ok (.bipush 48, 2) := dk_16 48 (dk_at dksX10_nextToken_10 6 rfl rfl)
theorem dX10_nextToken_234 : decode cX10_nextToken 234 = .ok (.if_icmp .lt 65, 3) := dk_161 0 65 (dk_at dksX10_nextToken_10 8 rfl rfl)
theorem dX10_nextToken_237 : decode cX10_nextToken 237 = .ok (.aload_n 0, 1) := dk_42 (dk_at dksX10_nextToken_10 11 rfl rfl)
theorem dX10_nextToken_238 : decode cX10_nextToken 238 = .ok (.aload_n 0, 1) := dk_42 (dk_at dksX10_nextToken_10 12 rfl rfl)
theorem dX10_nextToken_239 : decode cX10_nextToken 239 = .ok (.getfield 187, 3) := dk_180 0 187 (dk_at dksX10_nextToken_10 13 rfl rfl)
theorem dX10_nextToken_242 : decode cX10_nextToken 242 = .ok (.invokevirtual 203, 3) := dk_182 0 203 (dk_at dksX10_nextToken_10 16 rfl rfl)
theorem dX10_nextToken_245 : decode cX10_nextToken 245 = .ok (.bipush 57, 2) := dk_16 57 (dk_at dksX10_nextToken_10 19 rfl rfl)
theorem dX10_nextToken_247 : decode cX10_nextToken 247 = .ok (.if_icmp .gt 52, 3) := dk_163 0 52 (dk_at dksX10_nextToken_10 21 rfl rfl)
theorem dX10_nextToken_250 : decode cX10_nextToken 250 = .ok (.aload_n 0, 1) := dk_42 (dk_at dksX10_nextToken_11 0 rfl rfl)
theorem dX10_nextToken_251 : decode cX10_nextToken 251 = .ok (.getfield 187, 3) := dk_180 0 187 (dk_at dksX10_nextToken_11 1 rfl rfl)
theorem dX10_nextToken_254 : decode cX10_nextToken 254 = .ok (.aload_n 0, 1) := dk_42 (dk_at dksX10_nextToken_11 4 rfl rfl)
theorem dX10_nextToken_255 : decode cX10_nextToken 255 = .ok (.getfield 190, 3) := dk_180 0 190 (dk_at dksX10_nextToken_11 5 rfl rfl)
theorem dX10_nextToken_258 : decode cX10_nextToken 258 = .ok (.isub, 1) := dk_100 (dk_at dksX10_nextToken_11 8 rfl rfl)
theorem dX10_nextToken_259 : decode cX10_nextToken 259 = .ok (.iconst 4, 1) := dk_7 (dk_at dksX10_nextToken_11 9 rfl rfl)
theorem dX10_nextToken_260 : decode cX10_nextToken 260 = .ok (.if_icmp .ge 26, 3) := dk_162 0 26 (dk_at dksX10_nextToken_11 10 rfl rfl)
theorem dX10_nextToken_263 : decode cX10_nextToken 263 = .ok (.aload_n 0, 1) := dk_42 (dk_at dksX10_nextToken_11 13 rfl rfl)
theorem dX10_nextToken_264 : decode cX10_nextToken 264 = .ok (.aload_n 0, 1) := dk_42 (dk_at dksX10_nextToken_11 14 rfl rfl)
theorem dX10_nextToken_265 : decode cX10_nextToken 265 = .ok (.getfield 197, 3) := dk_180 0 197 (dk_at dksX10_nextToken_11 15 rfl rfl)
theorem dX10_nextToken_268 : decode cX10_nextToken 268 = .ok (.bipush 10, 2) := dk_16 10 (dk_at dksX10_nextToken_11 18 rfl rfl)
theorem dX10_nextToken_270 : decode cX10_nextToken 270 = .ok (.imul, 1) := dk_104 (dk_at dksX10_nextToken_11 20 rfl rfl)
theorem dX10_nextToken_271 : decode cX10_nextToken 271 = .ok (.aload_n 0, 1) := dk_42 (dk_at dksX10_nextToken_11 21 rfl rfl)
theorem dX10_nextToken_272 : decode cX10_nextToken 272 = .ok (.aload_n 0, 1) := dk_42 (dk_at dksX10_nextToken_11 22 rfl rfl)
theorem dX10_nextToken_273 : decode cX10_nextToken 273 = .ok (.getfield 187, 3) := dk_180 0 187 (dk_at dksX10_nextToken_12 0 rfl rfl)
theorem dX10_nextToken_276 : decode cX10_nextToken 276 = .ok (.invokevirtual 203, 3) := dk_182 0 203 (dk_at dksX10_nextToken_12 3 rfl rfl)
theorem dX10_nextToken_279 : decode cX10_nextToken 279 = .ok (.iadd, 1) := dk_96 (dk_at dksX10_nextToken_12 6 rfl rfl)
theorem dX10_nextToken_280 : decode cX10_nextToken 280 = .ok (.bipush 48, 2) := dk_16 48 (dk_at dksX10_nextToken_12 7 rfl rfl)
theorem dX10_nextToken_282 : decode cX10_nextToken 282 = .ok (.isub, 1) := dk_100 (dk_at dksX10_nextToken_12 9 rfl rfl)
theorem dX10_nextToken_283 : decode cX10_nextToken 283 = .ok (.putfield 197, 3) := dk_181 0 197 (dk_at dksX10_nextToken_12 10 rfl rfl)
theorem dX10_nextToken_286 : decode cX10_nextToken 286 = .ok (.aload_n 0, 1) := dk_42 (dk_at dksX10_nextToken_12 13 rfl rfl)
theorem dX10_nextToken_287 : decode cX10_nextToken 287 = .ok (.dup, 1) := dk_89 (dk_at dksX10_nextToken_12 14 rfl rfl)
theorem dX10_nextToken_288 : decode cX10_nextToken 288 = .ok (.getfield 187, 3) := dk_180 0 187 (dk_at dksX10_nextToken_12 15 rfl rfl)
theorem dX10_nextToken_291 : decode cX10_nextToken 291 = .ok (.iconst 1, 1) := dk_4 (dk_at dksX10_nextToken_12 18 rfl rfl)
theorem dX10_nextToken_292 : decode cX10_nextToken 292 = .ok (.iadd, 1) := dk_96 (dk_at dksX10_nextToken_12 19 rfl rfl)
theorem dX10_nextToken_293 : decode cX10_nextToken 293 = .ok (.putfield 187, 3) := dk_181 0 187 (dk_at dksX10_nextToken_12 20 rfl rfl)
theorem dX10_nextToken_296 : decode cX10_nextToken 296 = .ok (.goto (-72), 3) := dk_167 255 184 (dk_at dksX10_nextToken_13 0 rfl rfl)
theorem dX10_nextToken_299 : decode cX10_nextToken 299 = .ok (.aload_n 0, 1) := dk_42 (dk_at dksX10_nextToken_13 3 rfl rfl)
theorem dX10_nextToken_300 : decode cX10_nextToken 300 = .ok (.aload_n 0, 1) := dk_42 (dk_at dksX10_nextToken_13 4 rfl rfl)
theorem dX10_nextToken_301 : decode cX10_nextToken 301 = .ok (.getfield 187, 3) := dk_180 0 187 (dk_at dksX10_nextToken_13 5 rfl rfl)
theorem dX10_nextToken_304 : decode cX10_nextToken 304 = .ok (.aload_n 0, 1) := dk_42 (dk_at dksX10_nextToken_13 8 rfl rfl)
theorem dX10_nextToken_305 : decode cX10_nextToken 305 = .ok (.getfield 190, 3) := dk_180 0 190 (dk_at dksX10_nextToken_13 9 rfl rfl)
theorem dX10_nextToken_308 : decode cX10_nextToken 308 = .ok (.isub, 1) := dk_100 (dk_at dksX10_nextToken_13 12 rfl rfl)
theorem dX10_nextToken_309 : decode cX10_nextToken 309 = .ok (.iconst 4, 1) := dk_7 (dk_at dksX10_nextToken_13 13 rfl rfl)
theorem dX10_nextToken_310 : decode cX10_nextToken 310 = .ok (.if_icmp .le 7, 3) := dk_164 0 7 (dk_at dksX10_nextToken_13 14 rfl rfl)
theorem dX10_nextToken_313 : decode cX10_nextToken 313 = .ok (.iconst 4, 1) := dk_7 (dk_at dksX10_nextToken_13 17 rfl rfl)
theorem dX10_nextToken_314 : decode cX10_nextToken 314 = .ok (.goto 4, 3) := dk_167 0 4 (dk_at dksX10_nextToken_13 18 rfl rfl)
theorem dX10_nextToken_317 : decode cX10_nextToken 317 = .ok (.iconst 2, 1) := dk_5 (dk_at dksX10_nextToken_13 21 rfl rfl)
theorem dX10_nextToken_318 : decode cX10_nextToken 318 = .ok (.putfield 200, 3) := dk_181 0 200 (dk_at dksX10_nextToken_14 0 rfl rfl)
theorem dX10_nextToken_321 : decode cX10_nextToken 321 = .ok (.return_, 1) := dk_177 (dk_at dksX10_nextToken_14 3 rfl rfl)
theorem dX10_nextToken_322 : decode cX10_nextToken 322 = .ok (.aload_n 0, 1) := dk_42 (dk_at dksX10_nextToken_14 4 rfl rfl)
theorem dX10_nextToken_323 : decode cX10_nextToken 323 = .ok (.dup, 1) := dk_89 (dk_at dksX10_nextToken_14 5 rfl rfl)
theorem dX10_nextToken_324 : decode cX10_nextToken 324 = .ok (.getfield 187, 3) := dk_180 0 187 (dk_at dksX10_nextToken_14 6 rfl rfl)
theorem dX10_nextToken_327 : decode cX10_nextToken 327 = .ok (.iconst 1, 1) := dk_4 (dk_at dksX10_nextToken_14 9 rfl rfl)
theorem dX10_nextToken_328 : decode cX10_nextToken 328 = .ok (.iadd, 1) := dk_96 (dk_at dksX10_nextToken_14 10 rfl rfl)
theorem dX10_nextToken_329 : decode cX10_nextToken 329 = .ok (.putfield 187, 3) := dk_181 0 187 (dk_at dksX10_nextToken_14 11 rfl rfl)
theorem dX10_nextToken_332 : decode cX10_nextToken 332 = .ok (.aload_n 0, 1) := dk_42 (dk_at dksX10_nextToken_14 14 rfl rfl)
theorem dX10_nextToken_333 : decode cX10_nextToken 333 = .ok (.iload_n 1, 1) := dk_27 (dk_at dksX10_nextToken_14 15 rfl rfl)
theorem dX10_nextToken_334 : decode cX10_nextToken 334 = .ok (.bipush 40, 2) := dk_16 40 (dk_at dksX10_nextToken_14 16 rfl rfl)
theorem dX10_nextToken_336 : decode cX10_nextToken 336 = .ok (.if_icmp .lt 9, 3) := dk_161 0 9 (dk_at dksX10_nextToken_14 18 rfl rfl)
theorem dX10_nextToken_339 : decode cX10_nextToken 339 = .ok (.iload_n 1, 1) := dk_27 (dk_at dksX10_nextToken_14 21 rfl rfl)
theorem dX10_nextToken_340 : decode cX10_nextToken 340 = .ok (.bipush 43, 2) := dk_16 43 (dk_at dksX10_nextToken_14 22 rfl rfl)
theorem dX10_nextToken_342 : decode cX10_nextToken 342 = .ok (.if_icmp .le 21, 3) := dk_164 0 21 (dk_at dksX10_nextToken_15 0 rfl rfl)
theorem dX10_nextToken_345 : decode cX10_nextToken 345 = .ok (.iload_n 1, 1) := dk_27 (dk_at dksX10_nextToken_15 3 rfl rfl)
theorem dX10_nextToken_346 : decode cX10_nextToken 346 = .ok (.bipush 45, 2) := dk_16 45 (dk_at dksX10_nextToken_15 4 rfl rfl)
theorem dX10_nextToken_348 : decode cX10_nextToken 348 = .ok (.if_icmp .eq 15, 3) := dk_159 0 15 (dk_at dksX10_nextToken_15 6 rfl rfl)
theorem dX10_nextToken_351 : decode cX10_nextToken 351 = .ok (.iload_n 1, 1) := dk_27 (dk_at dksX10_nextToken_15 9 rfl rfl)
theorem dX10_nextToken_352 : decode cX10_nextToken 352 = .ok (.bipush 59, 2) := dk_16 59 (dk_at dksX10_nextToken_15 10 rfl rfl)
theorem dX10_nextToken_354 : decode cX10_nextToken 354 = .ok (.if_icmp .lt 13, 3) := dk_161 0 13 (dk_at dksX10_nextToken_15 12 rfl rfl)
theorem dX10_nextToken_357 : decode cX10_nextToken 357 = .ok (.iload_n 1, 1) := dk_27 (dk_at dksX10_nextToken_15 15 rfl rfl)
theorem dX10_nextToken_358 : decode cX10_nextToken 358 = .ok (.bipush 61, 2) := dk_16 61 (dk_at dksX10_nextToken_15 16 rfl rfl)
theorem dX10_nextToken_360 : decode cX10_nextToken 360 = .ok (.if_icmp .gt 7, 3) := dk_163 0 7 (dk_at dksX10_nextToken_15 18 rfl rfl)
theorem dX10_nextToken_363 : decode cX10_nextToken 363 = .ok (.iconst 3, 1) := dk_6 (dk_at dksX10_nextToken_15 21 rfl rfl)
theorem dX10_nextToken_364 : decode cX10_nextToken 364 = .ok (.goto 4, 3) := dk_167 0 4 (dk_at dksX10_nextToken_16 0 rfl rfl)
theorem dX10_nextToken_367 : decode cX10_nextToken 367 = .ok (.iconst 4, 1) := dk_7 (dk_at dksX10_nextToken_16 3 rfl rfl)
theorem dX10_nextToken_368 : decode cX10_nextToken 368 = .ok (.putfield 200, 3) := dk_181 0 200 (dk_at dksX10_nextToken_16 4 rfl rfl)
theorem dX10_nextToken_371 : decode cX10_nextToken 371 = .ok (.return_, 1) := dk_177 (dk_at dksX10_nextToken_16 7 rfl rfl)
abbrev cX10_signAt : ByteArray := prog_36_method_7_code
def yX10_signAt : MethodName := ⟨RX10, "signAt", "(I)I"⟩
def dkwX10_signAt_0 : List UInt8 := [27, 42, 180, 0, 184, 162, 0, 12, 42, 180, 0, 7, 27, 46, 167, 0, 4, 3, 172]
abbrev dktX10_signAt_0 : List UInt8 := dkwX10_signAt_0 ++ []
theorem dksX10_signAt_0 : cX10_signAt.data.toList.drop 0 = dktX10_signAt_0 := by decide +kernel
theorem dX10_signAt_0 : decode cX10_signAt 0 = .ok (.iload_n 1, 1) := dk_27 (dk_at dksX10_signAt_0 0 rfl rfl)
theorem dX10_signAt_1 : decode cX10_signAt 1 = .ok (.aload_n 0, 1) := dk_42 (dk_at dksX10_signAt_0 1 rfl rfl)
theorem dX10_signAt_2 : decode cX10_signAt 2 = .ok (.getfield 184, 3) := dk_180 0 184 (dk_at dksX10_signAt_0 2 rfl rfl)
theorem dX10_signAt_5 : decode cX10_signAt 5 = .ok (.if_icmp .ge 12, 3) := dk_162 0 12 (dk_at dksX10_signAt_0 5 rfl rfl)
theorem dX10_signAt_8 : decode cX10_signAt 8 = .ok (.aload_n 0, 1) := dk_42 (dk_at dksX10_signAt_0 8 rfl rfl)
theorem dX10_signAt_9 : decode cX10_signAt 9 = .ok (.getfield 7, 3) := dk_180 0 7 (dk_at dksX10_signAt_0 9 rfl rfl)
theorem dX10_signAt_12 : decode cX10_signAt 12 = .ok (.iload_n 1, 1) := dk_27 (dk_at dksX10_signAt_0 12 rfl rfl)
theorem dX10_signAt_13 : decode cX10_signAt 13 = .ok (.iaload, 1) := dk_46 (dk_at dksX10_signAt_0 13 rfl rfl)
theorem dX10_signAt_14 : decode cX10_signAt 14 = .ok (.goto 4, 3) := dk_167 0 4 (dk_at dksX10_signAt_0 14 rfl rfl)
theorem dX10_signAt_17 : decode cX10_signAt 17 = .ok (.iconst 0, 1) := dk_3 (dk_at dksX10_signAt_0 17 rfl rfl)
theorem dX10_signAt_18 : decode cX10_signAt 18 = .ok (.ireturn, 1) := dk_172 (dk_at dksX10_signAt_0 18 rfl rfl)
abbrev cX10_isWord : ByteArray := prog_36_method_9_code
def yX10_isWord : MethodName := ⟨RX10, "isWord", "(J)Z"⟩
def dkwX10_isWord_0 : List UInt8 := [42, 180, 0, 200, 4, 160, 0, 16, 42, 180, 0, 193, 31, 148, 154, 0, 7, 4, 167, 0, 4, 3, 172]
abbrev dktX10_isWord_0 : List UInt8 := dkwX10_isWord_0 ++ []
theorem dksX10_isWord_0 : cX10_isWord.data.toList.drop 0 = dktX10_isWord_0 := by decide +kernel
theorem dX10_isWord_0 : decode cX10_isWord 0 = .ok (.aload_n 0, 1) := dk_42 (dk_at dksX10_isWord_0 0 rfl rfl)
theorem dX10_isWord_1 : decode cX10_isWord 1 = .ok (.getfield 200, 3) := dk_180 0 200 (dk_at dksX10_isWord_0 1 rfl rfl)
theorem dX10_isWord_4 : decode cX10_isWord 4 = .ok (.iconst 1, 1) := dk_4 (dk_at dksX10_isWord_0 4 rfl rfl)
theorem dX10_isWord_5 : decode cX10_isWord 5 = .ok (.if_icmp .ne 16, 3) := dk_160 0 16 (dk_at dksX10_isWord_0 5 rfl rfl)
theorem dX10_isWord_8 : decode cX10_isWord 8 = .ok (.aload_n 0, 1) := dk_42 (dk_at dksX10_isWord_0 8 rfl rfl)
theorem dX10_isWord_9 : decode cX10_isWord 9 = .ok (.getfield 193, 3) := dk_180 0 193 (dk_at dksX10_isWord_0 9 rfl rfl)
theorem dX10_isWord_12 : decode cX10_isWord 12 = .ok (.lload_n 1, 1) := dk_31 (dk_at dksX10_isWord_0 12 rfl rfl)
theorem dX10_isWord_13 : decode cX10_isWord 13 = .ok (.lcmp, 1) := dk_148 (dk_at dksX10_isWord_0 13 rfl rfl)
theorem dX10_isWord_14 : decode cX10_isWord 14 = .ok (.ifCond .ne 7, 3) := dk_154 0 7 (dk_at dksX10_isWord_0 14 rfl rfl)
theorem dX10_isWord_17 : decode cX10_isWord 17 = .ok (.iconst 1, 1) := dk_4 (dk_at dksX10_isWord_0 17 rfl rfl)
theorem dX10_isWord_18 : decode cX10_isWord 18 = .ok (.goto 4, 3) := dk_167 0 4 (dk_at dksX10_isWord_0 18 rfl rfl)
theorem dX10_isWord_21 : decode cX10_isWord 21 = .ok (.iconst 0, 1) := dk_3 (dk_at dksX10_isWord_0 21 rfl rfl)
theorem dX10_isWord_22 : decode cX10_isWord 22 = .ok (.ireturn, 1) := dk_172 (dk_at dksX10_isWord_0 22 rfl rfl)
abbrev cX10_readsPerson : ByteArray := prog_36_method_30_code
def yX10_readsPerson : MethodName := ⟨RX10, "readsPerson", "()Z"⟩
def dkwX10_readsPerson_8 : List UInt8 := [80, 42, 180, 0, 13, 7, 92, 46, 4, 96, 79, 42, 182, 1, 83, 172]
abbrev dktX10_readsPerson_8 : List UInt8 := dkwX10_readsPerson_8 ++ []
def dkwX10_readsPerson_7 : List UInt8 := [182, 1, 79, 154, 0, 5, 3, 172, 42, 180, 0, 29, 27, 42, 180, 1, 56, 79, 42, 180, 0, 16, 27, 32]
abbrev dktX10_readsPerson_7 : List UInt8 := dkwX10_readsPerson_7 ++ dktX10_readsPerson_8
def dkwX10_readsPerson_6 : List UInt8 := [154, 0, 5, 3, 172, 42, 180, 0, 26, 27, 42, 180, 1, 56, 79, 42, 20, 1, 10, 3, 17, 3, 231]
abbrev dktX10_readsPerson_6 : List UInt8 := dkwX10_readsPerson_6 ++ dktX10_readsPerson_7
def dkwX10_readsPerson_5 : List UInt8 := [156, 0, 9, 42, 4, 182, 0, 239, 172, 42, 182, 0, 246, 42, 20, 1, 8, 3, 16, 9, 182, 1, 79]
abbrev dktX10_readsPerson_5 : List UInt8 := dkwX10_readsPerson_5 ++ dktX10_readsPerson_6
def dkwX10_readsPerson_4 : List UInt8 := [42, 20, 1, 42, 182, 0, 231, 153, 0, 7, 6, 167, 0, 4, 2, 79, 42, 180, 0, 23, 27, 46]
abbrev dktX10_readsPerson_4 : List UInt8 := dkwX10_readsPerson_4 ++ dktX10_readsPerson_5
def dkwX10_readsPerson_3 : List UInt8 := [182, 0, 231, 153, 0, 7, 4, 167, 0, 32, 42, 20, 1, 40, 182, 0, 231, 153, 0, 7, 5, 167, 0, 18]
abbrev dktX10_readsPerson_3 : List UInt8 := dkwX10_readsPerson_3 ++ dktX10_readsPerson_4
def dkwX10_readsPerson_2 : List UInt8 := [180, 0, 23, 27, 42, 20, 1, 36, 182, 0, 231, 153, 0, 7, 3, 167, 0, 46, 42, 20, 1, 38]
abbrev dktX10_readsPerson_2 : List UInt8 := dkwX10_readsPerson_2 ++ dktX10_readsPerson_3
def dkwX10_readsPerson_1 : List UInt8 := [182, 0, 246, 42, 182, 1, 76, 154, 0, 5, 3, 172, 42, 180, 0, 193, 65, 42, 182, 0, 246, 42]
abbrev dktX10_readsPerson_1 : List UInt8 := dkwX10_readsPerson_1 ++ dktX10_readsPerson_2
def dkwX10_readsPerson_0 : List UInt8 := [16, 6, 42, 180, 0, 13, 7, 46, 96, 60, 27, 16, 12, 160, 0, 9, 42, 8, 182, 0, 239, 172, 42]
abbrev dktX10_readsPerson_0 : List UInt8 := dkwX10_readsPerson_0 ++ dktX10_readsPerson_1
theorem dksX10_readsPerson_0 : cX10_readsPerson.data.toList.drop 0 = dktX10_readsPerson_0 := by decide +kernel
theorem dksX10_readsPerson_1 : cX10_readsPerson.data.toList.drop 23 = dktX10_readsPerson_1 := dk_seg dksX10_readsPerson_0 23 rfl rfl
theorem dksX10_readsPerson_2 : cX10_readsPerson.data.toList.drop 45 = dktX10_readsPerson_2 := dk_seg dksX10_readsPerson_1 22 rfl rfl
theorem dksX10_readsPerson_3 : cX10_readsPerson.data.toList.drop 67 = dktX10_readsPerson_3 := dk_seg dksX10_readsPerson_2 22 rfl rfl
theorem dksX10_readsPerson_4 : cX10_readsPerson.data.toList.drop 91 = dktX10_readsPerson_4 := dk_seg dksX10_readsPerson_3 24 rfl rfl
theorem dksX10_readsPerson_5 : cX10_readsPerson.data.toList.drop 113 = dktX10_readsPerson_5 := dk_seg dksX10_readsPerson_4 22 rfl rfl
theorem dksX10_readsPerson_6 : cX10_readsPerson.data.toList.drop 136 = dktX10_readsPerson_6 := dk_seg dksX10_readsPerson_5 23 rfl rfl
theorem dksX10_readsPerson_7 : cX10_readsPerson.data.toList.drop 159 = dktX10_readsPerson_7 := dk_seg dksX10_readsPerson_6 23 rfl rfl
theorem dksX10_readsPerson_8 : cX10_readsPerson.data.toList.drop 183 = dktX10_readsPerson_8 := dk_seg dksX10_readsPerson_7 24 rfl rfl
theorem dX10_readsPerson_0 : decode cX10_readsPerson 0 = .ok (.bipush 6, 2) := dk_16 6 (dk_at dksX10_readsPerson_0 0 rfl rfl)
theorem dX10_readsPerson_2 : decode cX10_readsPerson 2 = .ok (.aload_n 0, 1) := dk_42 (dk_at dksX10_readsPerson_0 2 rfl rfl)
theorem dX10_readsPerson_3 : decode cX10_readsPerson 3 = .ok (.getfield 13, 3) := dk_180 0 13 (dk_at dksX10_readsPerson_0 3 rfl rfl)
theorem dX10_readsPerson_6 : decode cX10_readsPerson 6 = .ok (.iconst 4, 1) := dk_7 (dk_at dksX10_readsPerson_0 6 rfl rfl)
theorem dX10_readsPerson_7 : decode cX10_readsPerson 7 = .ok (.iaload, 1) := dk_46 (dk_at dksX10_readsPerson_0 7 rfl rfl)
theorem dX10_readsPerson_8 : decode cX10_readsPerson 8 = .ok (.iadd, 1) := dk_96 (dk_at dksX10_readsPerson_0 8 rfl rfl)
theorem dX10_readsPerson_9 : decode cX10_readsPerson 9 = .ok (.istore_n 1, 1) := dk_60 (dk_at dksX10_readsPerson_0 9 rfl rfl)
theorem dX10_readsPerson_10 : decode cX10_readsPerson 10 = .ok (.iload_n 1, 1) := dk_27 (dk_at dksX10_readsPerson_0 10 rfl rfl)
theorem dX10_readsPerson_11 : decode cX10_readsPerson 11 = .ok (.bipush 12, 2) := dk_16 12 (dk_at dksX10_readsPerson_0 11 rfl rfl)
theorem dX10_readsPerson_13 : decode cX10_readsPerson 13 = .ok (.if_icmp .ne 9, 3) := dk_160 0 9 (dk_at dksX10_readsPerson_0 13 rfl rfl)
theorem dX10_readsPerson_16 : decode cX10_readsPerson 16 = .ok (.aload_n 0, 1) := dk_42 (dk_at dksX10_readsPerson_0 16 rfl rfl)
theorem dX10_readsPerson_17 : decode cX10_readsPerson 17 = .ok (.iconst 5, 1) := dk_8 (dk_at dksX10_readsPerson_0 17 rfl rfl)
theorem dX10_readsPerson_18 : decode cX10_readsPerson 18 = .ok (.invokevirtual 239, 3) := dk_182 0 239 (dk_at dksX10_readsPerson_0 18 rfl rfl)
theorem dX10_readsPerson_21 : decode cX10_readsPerson 21 = .ok (.ireturn, 1) := dk_172 (dk_at dksX10_readsPerson_0 21 rfl rfl)
theorem dX10_readsPerson_22 : decode cX10_readsPerson 22 = .ok (.aload_n 0, 1) := dk_42 (dk_at dksX10_readsPerson_0 22 rfl rfl)
theorem dX10_readsPerson_23 : decode cX10_readsPerson 23 = .ok (.invokevirtual 246, 3) := dk_182 0 246 (dk_at dksX10_readsPerson_1 0 rfl rfl)
theorem dX10_readsPerson_26 : decode cX10_readsPerson 26 = .ok (.aload_n 0, 1) := dk_42 (dk_at dksX10_readsPerson_1 3 rfl rfl)
theorem dX10_readsPerson_27 : decode cX10_readsPerson 27 = .ok (.invokevirtual 332, 3) := dk_182 1 76 (dk_at dksX10_readsPerson_1 4 rfl rfl)
theorem dX10_readsPerson_30 : decode cX10_readsPerson 30 = .ok (.ifCond .ne 5, 3) := dk_154 0 5 (dk_at dksX10_readsPerson_1 7 rfl rfl)
theorem dX10_readsPerson_33 : decode cX10_readsPerson 33 = .ok (.iconst 0, 1) := dk_3 (dk_at dksX10_readsPerson_1 10 rfl rfl)
theorem dX10_readsPerson_34 : decode cX10_readsPerson 34 = .ok (.ireturn, 1) := dk_172 (dk_at dksX10_readsPerson_1 11 rfl rfl)
theorem dX10_readsPerson_35 : decode cX10_readsPerson 35 = .ok (.aload_n 0, 1) := dk_42 (dk_at dksX10_readsPerson_1 12 rfl rfl)
theorem dX10_readsPerson_36 : decode cX10_readsPerson 36 = .ok (.getfield 193, 3) := dk_180 0 193 (dk_at dksX10_readsPerson_1 13 rfl rfl)
theorem dX10_readsPerson_39 : decode cX10_readsPerson 39 = .ok (.lstore_n 2, 1) := dk_65 (dk_at dksX10_readsPerson_1 16 rfl rfl)
theorem dX10_readsPerson_40 : decode cX10_readsPerson 40 = .ok (.aload_n 0, 1) := dk_42 (dk_at dksX10_readsPerson_1 17 rfl rfl)
theorem dX10_readsPerson_41 : decode cX10_readsPerson 41 = .ok (.invokevirtual 246, 3) := dk_182 0 246 (dk_at dksX10_readsPerson_1 18 rfl rfl)
theorem dX10_readsPerson_44 : decode cX10_readsPerson 44 = .ok (.aload_n 0, 1) := dk_42 (dk_at dksX10_readsPerson_1 21 rfl rfl)
theorem dX10_readsPerson_45 : decode cX10_readsPerson 45 = .ok (.getfield 23, 3) := dk_180 0 23 (dk_at dksX10_readsPerson_2 0 rfl rfl)
theorem dX10_readsPerson_48 : decode cX10_readsPerson 48 = .ok (.iload_n 1, 1) := dk_27 (dk_at dksX10_readsPerson_2 3 rfl rfl)
theorem dX10_readsPerson_49 : decode cX10_readsPerson 49 = .ok (.aload_n 0, 1) := dk_42 (dk_at dksX10_readsPerson_2 4 rfl rfl)
theorem dX10_readsPerson_50 : decode cX10_readsPerson 50 = .ok (.ldc2_w 292, 3) := dk_20 1 36 (dk_at dksX10_readsPerson_2 5 rfl rfl)
theorem dX10_readsPerson_53 : decode cX10_readsPerson 53 = .ok (.invokevirtual 231, 3) := dk_182 0 231 (dk_at dksX10_readsPerson_2 8 rfl rfl)
theorem dX10_readsPerson_56 : decode cX10_readsPerson 56 = .ok (.ifCond .eq 7, 3) := dk_153 0 7 (dk_at dksX10_readsPerson_2 11 rfl rfl)
theorem dX10_readsPerson_59 : decode cX10_readsPerson 59 = .ok (.iconst 0, 1) := dk_3 (dk_at dksX10_readsPerson_2 14 rfl rfl)
theorem dX10_readsPerson_60 : decode cX10_readsPerson 60 = .ok (.goto 46, 3) := dk_167 0 46 (dk_at dksX10_readsPerson_2 15 rfl rfl)
theorem dX10_readsPerson_63 : decode cX10_readsPerson 63 = .ok (.aload_n 0, 1) := dk_42 (dk_at dksX10_readsPerson_2 18 rfl rfl)
theorem dX10_readsPerson_64 : decode cX10_readsPerson 64 = .ok (.ldc2_w 294, 3) := dk_20 1 38 (dk_at dksX10_readsPerson_2 19 rfl rfl)
theorem dX10_readsPerson_67 : decode cX10_readsPerson 67 = .ok (.invokevirtual 231, 3) := dk_182 0 231 (dk_at dksX10_readsPerson_3 0 rfl rfl)
theorem dX10_readsPerson_70 : decode cX10_readsPerson 70 = .ok (.ifCond .eq 7, 3) := dk_153 0 7 (dk_at dksX10_readsPerson_3 3 rfl rfl)
theorem dX10_readsPerson_73 : decode cX10_readsPerson 73 = .ok (.iconst 1, 1) := dk_4 (dk_at dksX10_readsPerson_3 6 rfl rfl)
theorem dX10_readsPerson_74 : decode cX10_readsPerson 74 = .ok (.goto 32, 3) := dk_167 0 32 (dk_at dksX10_readsPerson_3 7 rfl rfl)
theorem dX10_readsPerson_77 : decode cX10_readsPerson 77 = .ok (.aload_n 0, 1) := dk_42 (dk_at dksX10_readsPerson_3 10 rfl rfl)
theorem dX10_readsPerson_78 : decode cX10_readsPerson 78 = .ok (.ldc2_w 296, 3) := dk_20 1 40 (dk_at dksX10_readsPerson_3 11 rfl rfl)
theorem dX10_readsPerson_81 : decode cX10_readsPerson 81 = .ok (.invokevirtual 231, 3) := dk_182 0 231 (dk_at dksX10_readsPerson_3 14 rfl rfl)
theorem dX10_readsPerson_84 : decode cX10_readsPerson 84 = .ok (.ifCond .eq 7, 3) := dk_153 0 7 (dk_at dksX10_readsPerson_3 17 rfl rfl)
theorem dX10_readsPerson_87 : decode cX10_readsPerson 87 = .ok (.iconst 2, 1) := dk_5 (dk_at dksX10_readsPerson_3 20 rfl rfl)
theorem dX10_readsPerson_88 : decode cX10_readsPerson 88 = .ok (.goto 18, 3) := dk_167 0 18 (dk_at dksX10_readsPerson_3 21 rfl rfl)
theorem dX10_readsPerson_91 : decode cX10_readsPerson 91 = .ok (.aload_n 0, 1) := dk_42 (dk_at dksX10_readsPerson_4 0 rfl rfl)
theorem dX10_readsPerson_92 : decode cX10_readsPerson 92 = .ok (.ldc2_w 298, 3) := dk_20 1 42 (dk_at dksX10_readsPerson_4 1 rfl rfl)
theorem dX10_readsPerson_95 : decode cX10_readsPerson 95 = .ok (.invokevirtual 231, 3) := dk_182 0 231 (dk_at dksX10_readsPerson_4 4 rfl rfl)
theorem dX10_readsPerson_98 : decode cX10_readsPerson 98 = .ok (.ifCond .eq 7, 3) := dk_153 0 7 (dk_at dksX10_readsPerson_4 7 rfl rfl)
theorem dX10_readsPerson_101 : decode cX10_readsPerson 101 = .ok (.iconst 3, 1) := dk_6 (dk_at dksX10_readsPerson_4 10 rfl rfl)
theorem dX10_readsPerson_102 : decode cX10_readsPerson 102 = .ok (.goto 4, 3) := dk_167 0 4 (dk_at dksX10_readsPerson_4 11 rfl rfl)
theorem dX10_readsPerson_105 : decode cX10_readsPerson 105 = .ok (.iconst (-1), 1) := dk_2 (dk_at dksX10_readsPerson_4 14 rfl rfl)
theorem dX10_readsPerson_106 : decode cX10_readsPerson 106 = .ok (.iastore, 1) := dk_79 (dk_at dksX10_readsPerson_4 15 rfl rfl)
theorem dX10_readsPerson_107 : decode cX10_readsPerson 107 = .ok (.aload_n 0, 1) := dk_42 (dk_at dksX10_readsPerson_4 16 rfl rfl)
theorem dX10_readsPerson_108 : decode cX10_readsPerson 108 = .ok (.getfield 23, 3) := dk_180 0 23 (dk_at dksX10_readsPerson_4 17 rfl rfl)
theorem dX10_readsPerson_111 : decode cX10_readsPerson 111 = .ok (.iload_n 1, 1) := dk_27 (dk_at dksX10_readsPerson_4 20 rfl rfl)
theorem dX10_readsPerson_112 : decode cX10_readsPerson 112 = .ok (.iaload, 1) := dk_46 (dk_at dksX10_readsPerson_4 21 rfl rfl)
theorem dX10_readsPerson_113 : decode cX10_readsPerson 113 = .ok (.ifCond .ge 9, 3) := dk_156 0 9 (dk_at dksX10_readsPerson_5 0 rfl rfl)
theorem dX10_readsPerson_116 : decode cX10_readsPerson 116 = .ok (.aload_n 0, 1) := dk_42 (dk_at dksX10_readsPerson_5 3 rfl rfl)
theorem dX10_readsPerson_117 : decode cX10_readsPerson 117 = .ok (.iconst 1, 1) := dk_4 (dk_at dksX10_readsPerson_5 4 rfl rfl)
theorem dX10_readsPerson_118 : decode cX10_readsPerson 118 = .ok (.invokevirtual 239, 3) := dk_182 0 239 (dk_at dksX10_readsPerson_5 5 rfl rfl)
theorem dX10_readsPerson_121 : decode cX10_readsPerson 121 = .ok (.ireturn, 1) := dk_172 (dk_at dksX10_readsPerson_5 8 rfl rfl)
theorem dX10_readsPerson_122 : decode cX10_readsPerson 122 = .ok (.aload_n 0, 1) := dk_42 (dk_at dksX10_readsPerson_5 9 rfl rfl)
theorem dX10_readsPerson_123 : decode cX10_readsPerson 123 = .ok (.invokevirtual 246, 3) := dk_182 0 246 (dk_at dksX10_readsPerson_5 10 rfl rfl)
theorem dX10_readsPerson_126 : decode cX10_readsPerson 126 = .ok (.aload_n 0, 1) := dk_42 (dk_at dksX10_readsPerson_5 13 rfl rfl)
theorem dX10_readsPerson_127 : decode cX10_readsPerson 127 = .ok (.ldc2_w 264, 3) := dk_20 1 8 (dk_at dksX10_readsPerson_5 14 rfl rfl)
theorem dX10_readsPerson_130 : decode cX10_readsPerson 130 = .ok (.iconst 0, 1) := dk_3 (dk_at dksX10_readsPerson_5 17 rfl rfl)
theorem dX10_readsPerson_131 : decode cX10_readsPerson 131 = .ok (.bipush 9, 2) := dk_16 9 (dk_at dksX10_readsPerson_5 18 rfl rfl)
theorem dX10_readsPerson_133 : decode cX10_readsPerson 133 = .ok (.invokevirtual 335, 3) := dk_182 1 79 (dk_at dksX10_readsPerson_5 20 rfl rfl)
theorem dX10_readsPerson_136 : decode cX10_readsPerson 136 = .ok (.ifCond .ne 5, 3) := dk_154 0 5 (dk_at dksX10_readsPerson_6 0 rfl rfl)
theorem dX10_readsPerson_139 : decode cX10_readsPerson 139 = .ok (.iconst 0, 1) := dk_3 (dk_at dksX10_readsPerson_6 3 rfl rfl)
theorem dX10_readsPerson_140 : decode cX10_readsPerson 140 = .ok (.ireturn, 1) := dk_172 (dk_at dksX10_readsPerson_6 4 rfl rfl)
theorem dX10_readsPerson_141 : decode cX10_readsPerson 141 = .ok (.aload_n 0, 1) := dk_42 (dk_at dksX10_readsPerson_6 5 rfl rfl)
theorem dX10_readsPerson_142 : decode cX10_readsPerson 142 = .ok (.getfield 26, 3) := dk_180 0 26 (dk_at dksX10_readsPerson_6 6 rfl rfl)
theorem dX10_readsPerson_145 : decode cX10_readsPerson 145 = .ok (.iload_n 1, 1) := dk_27 (dk_at dksX10_readsPerson_6 9 rfl rfl)
theorem dX10_readsPerson_146 : decode cX10_readsPerson 146 = .ok (.aload_n 0, 1) := dk_42 (dk_at dksX10_readsPerson_6 10 rfl rfl)
theorem dX10_readsPerson_147 : decode cX10_readsPerson 147 = .ok (.getfield 312, 3) := dk_180 1 56 (dk_at dksX10_readsPerson_6 11 rfl rfl)
theorem dX10_readsPerson_150 : decode cX10_readsPerson 150 = .ok (.iastore, 1) := dk_79 (dk_at dksX10_readsPerson_6 14 rfl rfl)
theorem dX10_readsPerson_151 : decode cX10_readsPerson 151 = .ok (.aload_n 0, 1) := dk_42 (dk_at dksX10_readsPerson_6 15 rfl rfl)
theorem dX10_readsPerson_152 : decode cX10_readsPerson 152 = .ok (.ldc2_w 266, 3) := dk_20 1 10 (dk_at dksX10_readsPerson_6 16 rfl rfl)
theorem dX10_readsPerson_155 : decode cX10_readsPerson 155 = .ok (.iconst 0, 1) := dk_3 (dk_at dksX10_readsPerson_6 19 rfl rfl)
theorem dX10_readsPerson_156 : decode cX10_readsPerson 156 = .ok (.sipush 999, 3) := dk_17 3 231 (dk_at dksX10_readsPerson_6 20 rfl rfl)
theorem dX10_readsPerson_159 : decode cX10_readsPerson 159 = .ok (.invokevirtual 335, 3) := dk_182 1 79 (dk_at dksX10_readsPerson_7 0 rfl rfl)
theorem dX10_readsPerson_162 : decode cX10_readsPerson 162 = .ok (.ifCond .ne 5, 3) := dk_154 0 5 (dk_at dksX10_readsPerson_7 3 rfl rfl)
theorem dX10_readsPerson_165 : decode cX10_readsPerson 165 = .ok (.iconst 0, 1) := dk_3 (dk_at dksX10_readsPerson_7 6 rfl rfl)
theorem dX10_readsPerson_166 : decode cX10_readsPerson 166 = .ok (.ireturn, 1) := dk_172 (dk_at dksX10_readsPerson_7 7 rfl rfl)
theorem dX10_readsPerson_167 : decode cX10_readsPerson 167 = .ok (.aload_n 0, 1) := dk_42 (dk_at dksX10_readsPerson_7 8 rfl rfl)
theorem dX10_readsPerson_168 : decode cX10_readsPerson 168 = .ok (.getfield 29, 3) := dk_180 0 29 (dk_at dksX10_readsPerson_7 9 rfl rfl)
theorem dX10_readsPerson_171 : decode cX10_readsPerson 171 = .ok (.iload_n 1, 1) := dk_27 (dk_at dksX10_readsPerson_7 12 rfl rfl)
theorem dX10_readsPerson_172 : decode cX10_readsPerson 172 = .ok (.aload_n 0, 1) := dk_42 (dk_at dksX10_readsPerson_7 13 rfl rfl)
theorem dX10_readsPerson_173 : decode cX10_readsPerson 173 = .ok (.getfield 312, 3) := dk_180 1 56 (dk_at dksX10_readsPerson_7 14 rfl rfl)
theorem dX10_readsPerson_176 : decode cX10_readsPerson 176 = .ok (.iastore, 1) := dk_79 (dk_at dksX10_readsPerson_7 17 rfl rfl)
theorem dX10_readsPerson_177 : decode cX10_readsPerson 177 = .ok (.aload_n 0, 1) := dk_42 (dk_at dksX10_readsPerson_7 18 rfl rfl)
theorem dX10_readsPerson_178 : decode cX10_readsPerson 178 = .ok (.getfield 16, 3) := dk_180 0 16 (dk_at dksX10_readsPerson_7 19 rfl rfl)
theorem dX10_readsPerson_181 : decode cX10_readsPerson 181 = .ok (.iload_n 1, 1) := dk_27 (dk_at dksX10_readsPerson_7 22 rfl rfl)
theorem dX10_readsPerson_182 : decode cX10_readsPerson 182 = .ok (.lload_n 2, 1) := dk_32 (dk_at dksX10_readsPerson_7 23 rfl rfl)
theorem dX10_readsPerson_183 : decode cX10_readsPerson 183 = .ok (.lastore, 1) := dk_80 (dk_at dksX10_readsPerson_8 0 rfl rfl)
theorem dX10_readsPerson_184 : decode cX10_readsPerson 184 = .ok (.aload_n 0, 1) := dk_42 (dk_at dksX10_readsPerson_8 1 rfl rfl)
theorem dX10_readsPerson_185 : decode cX10_readsPerson 185 = .ok (.getfield 13, 3) := dk_180 0 13 (dk_at dksX10_readsPerson_8 2 rfl rfl)
theorem dX10_readsPerson_188 : decode cX10_readsPerson 188 = .ok (.iconst 4, 1) := dk_7 (dk_at dksX10_readsPerson_8 5 rfl rfl)
theorem dX10_readsPerson_189 : decode cX10_readsPerson 189 = .ok (.dup2, 1) := dk_92 (dk_at dksX10_readsPerson_8 6 rfl rfl)
theorem dX10_readsPerson_190 : decode cX10_readsPerson 190 = .ok (.iaload, 1) := dk_46 (dk_at dksX10_readsPerson_8 7 rfl rfl)
theorem dX10_readsPerson_191 : decode cX10_readsPerson 191 = .ok (.iconst 1, 1) := dk_4 (dk_at dksX10_readsPerson_8 8 rfl rfl)
theorem dX10_readsPerson_192 : decode cX10_readsPerson 192 = .ok (.iadd, 1) := dk_96 (dk_at dksX10_readsPerson_8 9 rfl rfl)
theorem dX10_readsPerson_193 : decode cX10_readsPerson 193 = .ok (.iastore, 1) := dk_79 (dk_at dksX10_readsPerson_8 10 rfl rfl)
theorem dX10_readsPerson_194 : decode cX10_readsPerson 194 = .ok (.aload_n 0, 1) := dk_42 (dk_at dksX10_readsPerson_8 11 rfl rfl)
theorem dX10_readsPerson_195 : decode cX10_readsPerson 195 = .ok (.invokevirtual 339, 3) := dk_182 1 83 (dk_at dksX10_readsPerson_8 12 rfl rfl)
theorem dX10_readsPerson_198 : decode cX10_readsPerson 198 = .ok (.ireturn, 1) := dk_172 (dk_at dksX10_readsPerson_8 15 rfl rfl)
abbrev cX10_fails : ByteArray := prog_36_method_11_code
def yX10_fails : MethodName := ⟨RX10, "fails", "(I)Z"⟩
def dkwX10_fails_0 : List UInt8 := [42, 27, 16, 16, 42, 180, 0, 190, 104, 96, 181, 0, 211, 3, 172]
abbrev dktX10_fails_0 : List UInt8 := dkwX10_fails_0 ++ []
theorem dksX10_fails_0 : cX10_fails.data.toList.drop 0 = dktX10_fails_0 := by decide +kernel
theorem dX10_fails_0 : decode cX10_fails 0 = .ok (.aload_n 0, 1) := dk_42 (dk_at dksX10_fails_0 0 rfl rfl)
theorem dX10_fails_1 : decode cX10_fails 1 = .ok (.iload_n 1, 1) := dk_27 (dk_at dksX10_fails_0 1 rfl rfl)
theorem dX10_fails_2 : decode cX10_fails 2 = .ok (.bipush 16, 2) := dk_16 16 (dk_at dksX10_fails_0 2 rfl rfl)
theorem dX10_fails_4 : decode cX10_fails 4 = .ok (.aload_n 0, 1) := dk_42 (dk_at dksX10_fails_0 4 rfl rfl)
theorem dX10_fails_5 : decode cX10_fails 5 = .ok (.getfield 190, 3) := dk_180 0 190 (dk_at dksX10_fails_0 5 rfl rfl)
theorem dX10_fails_8 : decode cX10_fails 8 = .ok (.imul, 1) := dk_104 (dk_at dksX10_fails_0 8 rfl rfl)
theorem dX10_fails_9 : decode cX10_fails 9 = .ok (.iadd, 1) := dk_96 (dk_at dksX10_fails_0 9 rfl rfl)
theorem dX10_fails_10 : decode cX10_fails 10 = .ok (.putfield 211, 3) := dk_181 0 211 (dk_at dksX10_fails_0 10 rfl rfl)
theorem dX10_fails_13 : decode cX10_fails 13 = .ok (.iconst 0, 1) := dk_3 (dk_at dksX10_fails_0 13 rfl rfl)
theorem dX10_fails_14 : decode cX10_fails 14 = .ok (.ireturn, 1) := dk_172 (dk_at dksX10_fails_0 14 rfl rfl)
abbrev cX10_isNew : ByteArray := prog_36_method_27_code
def yX10_isNew : MethodName := ⟨RX10, "isNew", "()Z"⟩
def dkwX10_isNew_1 : List UInt8 := [182, 1, 73, 155, 0, 11, 42, 6, 182, 0, 239, 153, 0, 7, 4, 167, 0, 4, 3, 172]
abbrev dktX10_isNew_1 : List UInt8 := dkwX10_isNew_1 ++ []
def dkwX10_isNew_0 : List UInt8 := [42, 182, 1, 66, 153, 0, 9, 42, 4, 182, 0, 239, 172, 42, 4, 182, 1, 70, 156, 0, 11, 42, 4]
abbrev dktX10_isNew_0 : List UInt8 := dkwX10_isNew_0 ++ dktX10_isNew_1
theorem dksX10_isNew_0 : cX10_isNew.data.toList.drop 0 = dktX10_isNew_0 := by decide +kernel
theorem dksX10_isNew_1 : cX10_isNew.data.toList.drop 23 = dktX10_isNew_1 := dk_seg dksX10_isNew_0 23 rfl rfl
theorem dX10_isNew_0 : decode cX10_isNew 0 = .ok (.aload_n 0, 1) := dk_42 (dk_at dksX10_isNew_0 0 rfl rfl)
theorem dX10_isNew_1 : decode cX10_isNew 1 = .ok (.invokevirtual 322, 3) := dk_182 1 66 (dk_at dksX10_isNew_0 1 rfl rfl)
theorem dX10_isNew_4 : decode cX10_isNew 4 = .ok (.ifCond .eq 9, 3) := dk_153 0 9 (dk_at dksX10_isNew_0 4 rfl rfl)
theorem dX10_isNew_7 : decode cX10_isNew 7 = .ok (.aload_n 0, 1) := dk_42 (dk_at dksX10_isNew_0 7 rfl rfl)
theorem dX10_isNew_8 : decode cX10_isNew 8 = .ok (.iconst 1, 1) := dk_4 (dk_at dksX10_isNew_0 8 rfl rfl)
theorem dX10_isNew_9 : decode cX10_isNew 9 = .ok (.invokevirtual 239, 3) := dk_182 0 239 (dk_at dksX10_isNew_0 9 rfl rfl)
theorem dX10_isNew_12 : decode cX10_isNew 12 = .ok (.ireturn, 1) := dk_172 (dk_at dksX10_isNew_0 12 rfl rfl)
theorem dX10_isNew_13 : decode cX10_isNew 13 = .ok (.aload_n 0, 1) := dk_42 (dk_at dksX10_isNew_0 13 rfl rfl)
theorem dX10_isNew_14 : decode cX10_isNew 14 = .ok (.iconst 1, 1) := dk_4 (dk_at dksX10_isNew_0 14 rfl rfl)
theorem dX10_isNew_15 : decode cX10_isNew 15 = .ok (.invokevirtual 326, 3) := dk_182 1 70 (dk_at dksX10_isNew_0 15 rfl rfl)
theorem dX10_isNew_18 : decode cX10_isNew 18 = .ok (.ifCond .ge 11, 3) := dk_156 0 11 (dk_at dksX10_isNew_0 18 rfl rfl)
theorem dX10_isNew_21 : decode cX10_isNew 21 = .ok (.aload_n 0, 1) := dk_42 (dk_at dksX10_isNew_0 21 rfl rfl)
theorem dX10_isNew_22 : decode cX10_isNew 22 = .ok (.iconst 1, 1) := dk_4 (dk_at dksX10_isNew_0 22 rfl rfl)
theorem dX10_isNew_23 : decode cX10_isNew 23 = .ok (.invokevirtual 329, 3) := dk_182 1 73 (dk_at dksX10_isNew_1 0 rfl rfl)
theorem dX10_isNew_26 : decode cX10_isNew 26 = .ok (.ifCond .lt 11, 3) := dk_155 0 11 (dk_at dksX10_isNew_1 3 rfl rfl)
theorem dX10_isNew_29 : decode cX10_isNew 29 = .ok (.aload_n 0, 1) := dk_42 (dk_at dksX10_isNew_1 6 rfl rfl)
theorem dX10_isNew_30 : decode cX10_isNew 30 = .ok (.iconst 3, 1) := dk_6 (dk_at dksX10_isNew_1 7 rfl rfl)
theorem dX10_isNew_31 : decode cX10_isNew 31 = .ok (.invokevirtual 239, 3) := dk_182 0 239 (dk_at dksX10_isNew_1 8 rfl rfl)
theorem dX10_isNew_34 : decode cX10_isNew 34 = .ok (.ifCond .eq 7, 3) := dk_153 0 7 (dk_at dksX10_isNew_1 11 rfl rfl)
theorem dX10_isNew_37 : decode cX10_isNew 37 = .ok (.iconst 1, 1) := dk_4 (dk_at dksX10_isNew_1 14 rfl rfl)
theorem dX10_isNew_38 : decode cX10_isNew 38 = .ok (.goto 4, 3) := dk_167 0 4 (dk_at dksX10_isNew_1 15 rfl rfl)
theorem dX10_isNew_41 : decode cX10_isNew 41 = .ok (.iconst 0, 1) := dk_3 (dk_at dksX10_isNew_1 18 rfl rfl)
theorem dX10_isNew_42 : decode cX10_isNew 42 = .ok (.ireturn, 1) := dk_172 (dk_at dksX10_isNew_1 19 rfl rfl)
abbrev cX10_isKept : ByteArray := prog_36_method_19_code
def yX10_isKept : MethodName := ⟨RX10, "isKept", "()Z"⟩
def dkwX10_isKept_12 : List UInt8 := [180, 0, 193, 20, 0, 251, 148, 154, 0, 7, 4, 167, 0, 4, 3, 172]
abbrev dktX10_isKept_12 : List UInt8 := dkwX10_isKept_12 ++ []
def dkwX10_isKept_11 : List UInt8 := [180, 0, 193, 20, 0, 229, 148, 153, 0, 25, 42, 180, 0, 193, 20, 0, 249, 148, 153, 0, 14, 42]
abbrev dktX10_isKept_11 : List UInt8 := dkwX10_isKept_11 ++ dktX10_isKept_12
def dkwX10_isKept_10 : List UInt8 := [180, 0, 193, 20, 1, 44, 148, 153, 0, 47, 42, 180, 0, 193, 20, 1, 46, 148, 153, 0, 36, 42]
abbrev dktX10_isKept_10 : List UInt8 := dkwX10_isKept_10 ++ dktX10_isKept_11
def dkwX10_isKept_9 : List UInt8 := [180, 0, 193, 20, 1, 40, 148, 153, 0, 69, 42, 180, 0, 193, 20, 1, 42, 148, 153, 0, 58, 42]
abbrev dktX10_isKept_9 : List UInt8 := dkwX10_isKept_9 ++ dktX10_isKept_10
def dkwX10_isKept_8 : List UInt8 := [180, 0, 193, 20, 1, 36, 148, 153, 0, 91, 42, 180, 0, 193, 20, 1, 38, 148, 153, 0, 80, 42]
abbrev dktX10_isKept_8 : List UInt8 := dkwX10_isKept_8 ++ dktX10_isKept_9
def dkwX10_isKept_7 : List UInt8 := [180, 0, 193, 20, 1, 32, 148, 153, 0, 113, 42, 180, 0, 193, 20, 1, 34, 148, 153, 0, 102, 42]
abbrev dktX10_isKept_7 : List UInt8 := dkwX10_isKept_7 ++ dktX10_isKept_8
def dkwX10_isKept_6 : List UInt8 := [180, 0, 193, 20, 1, 28, 148, 153, 0, 135, 42, 180, 0, 193, 20, 1, 30, 148, 153, 0, 124, 42]
abbrev dktX10_isKept_6 : List UInt8 := dkwX10_isKept_6 ++ dktX10_isKept_7
def dkwX10_isKept_5 : List UInt8 := [180, 0, 193, 20, 1, 24, 148, 153, 0, 157, 42, 180, 0, 193, 20, 1, 26, 148, 153, 0, 146, 42]
abbrev dktX10_isKept_5 : List UInt8 := dkwX10_isKept_5 ++ dktX10_isKept_6
def dkwX10_isKept_4 : List UInt8 := [180, 0, 193, 20, 1, 20, 148, 153, 0, 179, 42, 180, 0, 193, 20, 1, 22, 148, 153, 0, 168, 42]
abbrev dktX10_isKept_4 : List UInt8 := dkwX10_isKept_4 ++ dktX10_isKept_5
def dkwX10_isKept_3 : List UInt8 := [180, 0, 193, 20, 1, 16, 148, 153, 0, 201, 42, 180, 0, 193, 20, 1, 18, 148, 153, 0, 190, 42]
abbrev dktX10_isKept_3 : List UInt8 := dkwX10_isKept_3 ++ dktX10_isKept_4
def dkwX10_isKept_2 : List UInt8 := [180, 0, 193, 20, 1, 12, 148, 153, 0, 223, 42, 180, 0, 193, 20, 1, 14, 148, 153, 0, 212, 42]
abbrev dktX10_isKept_2 : List UInt8 := dkwX10_isKept_2 ++ dktX10_isKept_3
def dkwX10_isKept_1 : List UInt8 := [180, 0, 193, 20, 1, 8, 148, 153, 0, 245, 42, 180, 0, 193, 20, 1, 10, 148, 153, 0, 234, 42]
abbrev dktX10_isKept_1 : List UInt8 := dkwX10_isKept_1 ++ dktX10_isKept_2
def dkwX10_isKept_0 : List UInt8 := [42, 180, 0, 200, 4, 159, 0, 5, 4, 172, 42, 180, 0, 193, 20, 1, 6, 148, 153, 1, 0, 42]
abbrev dktX10_isKept_0 : List UInt8 := dkwX10_isKept_0 ++ dktX10_isKept_1
theorem dksX10_isKept_0 : cX10_isKept.data.toList.drop 0 = dktX10_isKept_0 := by decide +kernel
theorem dksX10_isKept_1 : cX10_isKept.data.toList.drop 22 = dktX10_isKept_1 := dk_seg dksX10_isKept_0 22 rfl rfl
theorem dksX10_isKept_2 : cX10_isKept.data.toList.drop 44 = dktX10_isKept_2 := dk_seg dksX10_isKept_1 22 rfl rfl
theorem dksX10_isKept_3 : cX10_isKept.data.toList.drop 66 = dktX10_isKept_3 := dk_seg dksX10_isKept_2 22 rfl rfl
theorem dksX10_isKept_4 : cX10_isKept.data.toList.drop 88 = dktX10_isKept_4 := dk_seg dksX10_isKept_3 22 rfl rfl
theorem dksX10_isKept_5 : cX10_isKept.data.toList.drop 110 = dktX10_isKept_5 := dk_seg dksX10_isKept_4 22 rfl rfl
theorem dksX10_isKept_6 : cX10_isKept.data.toList.drop 132 = dktX10_isKept_6 := dk_seg dksX10_isKept_5 22 rfl rfl
theorem dksX10_isKept_7 : cX10_isKept.data.toList.drop 154 = dktX10_isKept_7 := dk_seg dksX10_isKept_6 22 rfl rfl
theorem dksX10_isKept_8 : cX10_isKept.data.toList.drop 176 = dktX10_isKept_8 := dk_seg dksX10_isKept_7 22 rfl rfl
theorem dksX10_isKept_9 : cX10_isKept.data.toList.drop 198 = dktX10_isKept_9 := dk_seg dksX10_isKept_8 22 rfl rfl
theorem dksX10_isKept_10 : cX10_isKept.data.toList.drop 220 = dktX10_isKept_10 := dk_seg dksX10_isKept_9 22 rfl rfl
theorem dksX10_isKept_11 : cX10_isKept.data.toList.drop 242 = dktX10_isKept_11 := dk_seg dksX10_isKept_10 22 rfl rfl
theorem dksX10_isKept_12 : cX10_isKept.data.toList.drop 264 = dktX10_isKept_12 := dk_seg dksX10_isKept_11 22 rfl rfl
theorem dX10_isKept_0 : decode cX10_isKept 0 = .ok (.aload_n 0, 1) := dk_42 (dk_at dksX10_isKept_0 0 rfl rfl)
theorem dX10_isKept_1 : decode cX10_isKept 1 = .ok (.getfield 200, 3) := dk_180 0 200 (dk_at dksX10_isKept_0 1 rfl rfl)
theorem dX10_isKept_4 : decode cX10_isKept 4 = .ok (.iconst 1, 1) := dk_4 (dk_at dksX10_isKept_0 4 rfl rfl)
theorem dX10_isKept_5 : decode cX10_isKept 5 = .ok (.if_icmp .eq 5, 3) := dk_159 0 5 (dk_at dksX10_isKept_0 5 rfl rfl)
theorem dX10_isKept_8 : decode cX10_isKept 8 = .ok (.iconst 1, 1) := dk_4 (dk_at dksX10_isKept_0 8 rfl rfl)
theorem dX10_isKept_9 : decode cX10_isKept 9 = .ok (.ireturn, 1) := dk_172 (dk_at dksX10_isKept_0 9 rfl rfl)
theorem dX10_isKept_10 : decode cX10_isKept 10 = .ok (.aload_n 0, 1) := dk_42 (dk_at dksX10_isKept_0 10 rfl rfl)
theorem dX10_isKept_11 : decode cX10_isKept 11 = .ok (.getfield 193, 3) := dk_180 0 193 (dk_at dksX10_isKept_0 11 rfl rfl)
theorem dX10_isKept_14 : decode cX10_isKept 14 = .ok (.ldc2_w 262, 3) := dk_20 1 6 (dk_at dksX10_isKept_0 14 rfl rfl)
theorem dX10_isKept_17 : decode cX10_isKept 17 = .ok (.lcmp, 1) := dk_148 (dk_at dksX10_isKept_0 17 rfl rfl)
theorem dX10_isKept_18 : decode cX10_isKept 18 = .ok (.ifCond .eq 256, 3) := dk_153 1 0 (dk_at dksX10_isKept_0 18 rfl rfl)
theorem dX10_isKept_21 : decode cX10_isKept 21 = .ok (.aload_n 0, 1) := dk_42 (dk_at dksX10_isKept_0 21 rfl rfl)
theorem dX10_isKept_22 : decode cX10_isKept 22 = .ok (.getfield 193, 3) := dk_180 0 193 (dk_at dksX10_isKept_1 0 rfl rfl)
theorem dX10_isKept_25 : decode cX10_isKept 25 = .ok (.ldc2_w 264, 3) := dk_20 1 8 (dk_at dksX10_isKept_1 3 rfl rfl)
theorem dX10_isKept_28 : decode cX10_isKept 28 = .ok (.lcmp, 1) := dk_148 (dk_at dksX10_isKept_1 6 rfl rfl)
theorem dX10_isKept_29 : decode cX10_isKept 29 = .ok (.ifCond .eq 245, 3) := dk_153 0 245 (dk_at dksX10_isKept_1 7 rfl rfl)
theorem dX10_isKept_32 : decode cX10_isKept 32 = .ok (.aload_n 0, 1) := dk_42 (dk_at dksX10_isKept_1 10 rfl rfl)
theorem dX10_isKept_33 : decode cX10_isKept 33 = .ok (.getfield 193, 3) := dk_180 0 193 (dk_at dksX10_isKept_1 11 rfl rfl)
theorem dX10_isKept_36 : decode cX10_isKept 36 = .ok (.ldc2_w 266, 3) := dk_20 1 10 (dk_at dksX10_isKept_1 14 rfl rfl)
theorem dX10_isKept_39 : decode cX10_isKept 39 = .ok (.lcmp, 1) := dk_148 (dk_at dksX10_isKept_1 17 rfl rfl)
theorem dX10_isKept_40 : decode cX10_isKept 40 = .ok (.ifCond .eq 234, 3) := dk_153 0 234 (dk_at dksX10_isKept_1 18 rfl rfl)
theorem dX10_isKept_43 : decode cX10_isKept 43 = .ok (.aload_n 0, 1) := dk_42 (dk_at dksX10_isKept_1 21 rfl rfl)
theorem dX10_isKept_44 : decode cX10_isKept 44 = .ok (.getfield 193, 3) := dk_180 0 193 (dk_at dksX10_isKept_2 0 rfl rfl)
theorem dX10_isKept_47 : decode cX10_isKept 47 = .ok (.ldc2_w 268, 3) := dk_20 1 12 (dk_at dksX10_isKept_2 3 rfl rfl)
theorem dX10_isKept_50 : decode cX10_isKept 50 = .ok (.lcmp, 1) := dk_148 (dk_at dksX10_isKept_2 6 rfl rfl)
theorem dX10_isKept_51 : decode cX10_isKept 51 = .ok (.ifCond .eq 223, 3) := dk_153 0 223 (dk_at dksX10_isKept_2 7 rfl rfl)
theorem dX10_isKept_54 : decode cX10_isKept 54 = .ok (.aload_n 0, 1) := dk_42 (dk_at dksX10_isKept_2 10 rfl rfl)
theorem dX10_isKept_55 : decode cX10_isKept 55 = .ok (.getfield 193, 3) := dk_180 0 193 (dk_at dksX10_isKept_2 11 rfl rfl)
theorem dX10_isKept_58 : decode cX10_isKept 58 = .ok (.ldc2_w 270, 3) := dk_20 1 14 (dk_at dksX10_isKept_2 14 rfl rfl)
theorem dX10_isKept_61 : decode cX10_isKept 61 = .ok (.lcmp, 1) := dk_148 (dk_at dksX10_isKept_2 17 rfl rfl)
theorem dX10_isKept_62 : decode cX10_isKept 62 = .ok (.ifCond .eq 212, 3) := dk_153 0 212 (dk_at dksX10_isKept_2 18 rfl rfl)
theorem dX10_isKept_65 : decode cX10_isKept 65 = .ok (.aload_n 0, 1) := dk_42 (dk_at dksX10_isKept_2 21 rfl rfl)
theorem dX10_isKept_66 : decode cX10_isKept 66 = .ok (.getfield 193, 3) := dk_180 0 193 (dk_at dksX10_isKept_3 0 rfl rfl)
theorem dX10_isKept_69 : decode cX10_isKept 69 = .ok (.ldc2_w 272, 3) := dk_20 1 16 (dk_at dksX10_isKept_3 3 rfl rfl)
theorem dX10_isKept_72 : decode cX10_isKept 72 = .ok (.lcmp, 1) := dk_148 (dk_at dksX10_isKept_3 6 rfl rfl)
theorem dX10_isKept_73 : decode cX10_isKept 73 = .ok (.ifCond .eq 201, 3) := dk_153 0 201 (dk_at dksX10_isKept_3 7 rfl rfl)
theorem dX10_isKept_76 : decode cX10_isKept 76 = .ok (.aload_n 0, 1) := dk_42 (dk_at dksX10_isKept_3 10 rfl rfl)
theorem dX10_isKept_77 : decode cX10_isKept 77 = .ok (.getfield 193, 3) := dk_180 0 193 (dk_at dksX10_isKept_3 11 rfl rfl)
theorem dX10_isKept_80 : decode cX10_isKept 80 = .ok (.ldc2_w 274, 3) := dk_20 1 18 (dk_at dksX10_isKept_3 14 rfl rfl)
theorem dX10_isKept_83 : decode cX10_isKept 83 = .ok (.lcmp, 1) := dk_148 (dk_at dksX10_isKept_3 17 rfl rfl)
theorem dX10_isKept_84 : decode cX10_isKept 84 = .ok (.ifCond .eq 190, 3) := dk_153 0 190 (dk_at dksX10_isKept_3 18 rfl rfl)
theorem dX10_isKept_87 : decode cX10_isKept 87 = .ok (.aload_n 0, 1) := dk_42 (dk_at dksX10_isKept_3 21 rfl rfl)
theorem dX10_isKept_88 : decode cX10_isKept 88 = .ok (.getfield 193, 3) := dk_180 0 193 (dk_at dksX10_isKept_4 0 rfl rfl)
theorem dX10_isKept_91 : decode cX10_isKept 91 = .ok (.ldc2_w 276, 3) := dk_20 1 20 (dk_at dksX10_isKept_4 3 rfl rfl)
theorem dX10_isKept_94 : decode cX10_isKept 94 = .ok (.lcmp, 1) := dk_148 (dk_at dksX10_isKept_4 6 rfl rfl)
theorem dX10_isKept_95 : decode cX10_isKept 95 = .ok (.ifCond .eq 179, 3) := dk_153 0 179 (dk_at dksX10_isKept_4 7 rfl rfl)
theorem dX10_isKept_98 : decode cX10_isKept 98 = .ok (.aload_n 0, 1) := dk_42 (dk_at dksX10_isKept_4 10 rfl rfl)
theorem dX10_isKept_99 : decode cX10_isKept 99 = .ok (.getfield 193, 3) := dk_180 0 193 (dk_at dksX10_isKept_4 11 rfl rfl)
theorem dX10_isKept_102 : decode cX10_isKept 102 = .ok (.ldc2_w 278, 3) := dk_20 1 22 (dk_at dksX10_isKept_4 14 rfl rfl)
theorem dX10_isKept_105 : decode cX10_isKept 105 = .ok (.lcmp, 1) := dk_148 (dk_at dksX10_isKept_4 17 rfl rfl)
theorem dX10_isKept_106 : decode cX10_isKept 106 = .ok (.ifCond .eq 168, 3) := dk_153 0 168 (dk_at dksX10_isKept_4 18 rfl rfl)
theorem dX10_isKept_109 : decode cX10_isKept 109 = .ok (.aload_n 0, 1) := dk_42 (dk_at dksX10_isKept_4 21 rfl rfl)
theorem dX10_isKept_110 : decode cX10_isKept 110 = .ok (.getfield 193, 3) := dk_180 0 193 (dk_at dksX10_isKept_5 0 rfl rfl)
theorem dX10_isKept_113 : decode cX10_isKept 113 = .ok (.ldc2_w 280, 3) := dk_20 1 24 (dk_at dksX10_isKept_5 3 rfl rfl)
theorem dX10_isKept_116 : decode cX10_isKept 116 = .ok (.lcmp, 1) := dk_148 (dk_at dksX10_isKept_5 6 rfl rfl)
theorem dX10_isKept_117 : decode cX10_isKept 117 = .ok (.ifCond .eq 157, 3) := dk_153 0 157 (dk_at dksX10_isKept_5 7 rfl rfl)
theorem dX10_isKept_120 : decode cX10_isKept 120 = .ok (.aload_n 0, 1) := dk_42 (dk_at dksX10_isKept_5 10 rfl rfl)
theorem dX10_isKept_121 : decode cX10_isKept 121 = .ok (.getfield 193, 3) := dk_180 0 193 (dk_at dksX10_isKept_5 11 rfl rfl)
theorem dX10_isKept_124 : decode cX10_isKept 124 = .ok (.ldc2_w 282, 3) := dk_20 1 26 (dk_at dksX10_isKept_5 14 rfl rfl)
theorem dX10_isKept_127 : decode cX10_isKept 127 = .ok (.lcmp, 1) := dk_148 (dk_at dksX10_isKept_5 17 rfl rfl)
theorem dX10_isKept_128 : decode cX10_isKept 128 = .ok (.ifCond .eq 146, 3) := dk_153 0 146 (dk_at dksX10_isKept_5 18 rfl rfl)
theorem dX10_isKept_131 : decode cX10_isKept 131 = .ok (.aload_n 0, 1) := dk_42 (dk_at dksX10_isKept_5 21 rfl rfl)
theorem dX10_isKept_132 : decode cX10_isKept 132 = .ok (.getfield 193, 3) := dk_180 0 193 (dk_at dksX10_isKept_6 0 rfl rfl)
theorem dX10_isKept_135 : decode cX10_isKept 135 = .ok (.ldc2_w 284, 3) := dk_20 1 28 (dk_at dksX10_isKept_6 3 rfl rfl)
theorem dX10_isKept_138 : decode cX10_isKept 138 = .ok (.lcmp, 1) := dk_148 (dk_at dksX10_isKept_6 6 rfl rfl)
theorem dX10_isKept_139 : decode cX10_isKept 139 = .ok (.ifCond .eq 135, 3) := dk_153 0 135 (dk_at dksX10_isKept_6 7 rfl rfl)
theorem dX10_isKept_142 : decode cX10_isKept 142 = .ok (.aload_n 0, 1) := dk_42 (dk_at dksX10_isKept_6 10 rfl rfl)
theorem dX10_isKept_143 : decode cX10_isKept 143 = .ok (.getfield 193, 3) := dk_180 0 193 (dk_at dksX10_isKept_6 11 rfl rfl)
theorem dX10_isKept_146 : decode cX10_isKept 146 = .ok (.ldc2_w 286, 3) := dk_20 1 30 (dk_at dksX10_isKept_6 14 rfl rfl)
theorem dX10_isKept_149 : decode cX10_isKept 149 = .ok (.lcmp, 1) := dk_148 (dk_at dksX10_isKept_6 17 rfl rfl)
theorem dX10_isKept_150 : decode cX10_isKept 150 = .ok (.ifCond .eq 124, 3) := dk_153 0 124 (dk_at dksX10_isKept_6 18 rfl rfl)
theorem dX10_isKept_153 : decode cX10_isKept 153 = .ok (.aload_n 0, 1) := dk_42 (dk_at dksX10_isKept_6 21 rfl rfl)
theorem dX10_isKept_154 : decode cX10_isKept 154 = .ok (.getfield 193, 3) := dk_180 0 193 (dk_at dksX10_isKept_7 0 rfl rfl)
theorem dX10_isKept_157 : decode cX10_isKept 157 = .ok (.ldc2_w 288, 3) := dk_20 1 32 (dk_at dksX10_isKept_7 3 rfl rfl)
theorem dX10_isKept_160 : decode cX10_isKept 160 = .ok (.lcmp, 1) := dk_148 (dk_at dksX10_isKept_7 6 rfl rfl)
theorem dX10_isKept_161 : decode cX10_isKept 161 = .ok (.ifCond .eq 113, 3) := dk_153 0 113 (dk_at dksX10_isKept_7 7 rfl rfl)
theorem dX10_isKept_164 : decode cX10_isKept 164 = .ok (.aload_n 0, 1) := dk_42 (dk_at dksX10_isKept_7 10 rfl rfl)
theorem dX10_isKept_165 : decode cX10_isKept 165 = .ok (.getfield 193, 3) := dk_180 0 193 (dk_at dksX10_isKept_7 11 rfl rfl)
theorem dX10_isKept_168 : decode cX10_isKept 168 = .ok (.ldc2_w 290, 3) := dk_20 1 34 (dk_at dksX10_isKept_7 14 rfl rfl)
theorem dX10_isKept_171 : decode cX10_isKept 171 = .ok (.lcmp, 1) := dk_148 (dk_at dksX10_isKept_7 17 rfl rfl)
theorem dX10_isKept_172 : decode cX10_isKept 172 = .ok (.ifCond .eq 102, 3) := dk_153 0 102 (dk_at dksX10_isKept_7 18 rfl rfl)
theorem dX10_isKept_175 : decode cX10_isKept 175 = .ok (.aload_n 0, 1) := dk_42 (dk_at dksX10_isKept_7 21 rfl rfl)
theorem dX10_isKept_176 : decode cX10_isKept 176 = .ok (.getfield 193, 3) := dk_180 0 193 (dk_at dksX10_isKept_8 0 rfl rfl)
theorem dX10_isKept_179 : decode cX10_isKept 179 = .ok (.ldc2_w 292, 3) := dk_20 1 36 (dk_at dksX10_isKept_8 3 rfl rfl)
theorem dX10_isKept_182 : decode cX10_isKept 182 = .ok (.lcmp, 1) := dk_148 (dk_at dksX10_isKept_8 6 rfl rfl)
theorem dX10_isKept_183 : decode cX10_isKept 183 = .ok (.ifCond .eq 91, 3) := dk_153 0 91 (dk_at dksX10_isKept_8 7 rfl rfl)
theorem dX10_isKept_186 : decode cX10_isKept 186 = .ok (.aload_n 0, 1) := dk_42 (dk_at dksX10_isKept_8 10 rfl rfl)
theorem dX10_isKept_187 : decode cX10_isKept 187 = .ok (.getfield 193, 3) := dk_180 0 193 (dk_at dksX10_isKept_8 11 rfl rfl)
theorem dX10_isKept_190 : decode cX10_isKept 190 = .ok (.ldc2_w 294, 3) := dk_20 1 38 (dk_at dksX10_isKept_8 14 rfl rfl)
theorem dX10_isKept_193 : decode cX10_isKept 193 = .ok (.lcmp, 1) := dk_148 (dk_at dksX10_isKept_8 17 rfl rfl)
theorem dX10_isKept_194 : decode cX10_isKept 194 = .ok (.ifCond .eq 80, 3) := dk_153 0 80 (dk_at dksX10_isKept_8 18 rfl rfl)
theorem dX10_isKept_197 : decode cX10_isKept 197 = .ok (.aload_n 0, 1) := dk_42 (dk_at dksX10_isKept_8 21 rfl rfl)
theorem dX10_isKept_198 : decode cX10_isKept 198 = .ok (.getfield 193, 3) := dk_180 0 193 (dk_at dksX10_isKept_9 0 rfl rfl)
theorem dX10_isKept_201 : decode cX10_isKept 201 = .ok (.ldc2_w 296, 3) := dk_20 1 40 (dk_at dksX10_isKept_9 3 rfl rfl)
theorem dX10_isKept_204 : decode cX10_isKept 204 = .ok (.lcmp, 1) := dk_148 (dk_at dksX10_isKept_9 6 rfl rfl)
theorem dX10_isKept_205 : decode cX10_isKept 205 = .ok (.ifCond .eq 69, 3) := dk_153 0 69 (dk_at dksX10_isKept_9 7 rfl rfl)
theorem dX10_isKept_208 : decode cX10_isKept 208 = .ok (.aload_n 0, 1) := dk_42 (dk_at dksX10_isKept_9 10 rfl rfl)
theorem dX10_isKept_209 : decode cX10_isKept 209 = .ok (.getfield 193, 3) := dk_180 0 193 (dk_at dksX10_isKept_9 11 rfl rfl)
theorem dX10_isKept_212 : decode cX10_isKept 212 = .ok (.ldc2_w 298, 3) := dk_20 1 42 (dk_at dksX10_isKept_9 14 rfl rfl)
theorem dX10_isKept_215 : decode cX10_isKept 215 = .ok (.lcmp, 1) := dk_148 (dk_at dksX10_isKept_9 17 rfl rfl)
theorem dX10_isKept_216 : decode cX10_isKept 216 = .ok (.ifCond .eq 58, 3) := dk_153 0 58 (dk_at dksX10_isKept_9 18 rfl rfl)
theorem dX10_isKept_219 : decode cX10_isKept 219 = .ok (.aload_n 0, 1) := dk_42 (dk_at dksX10_isKept_9 21 rfl rfl)
theorem dX10_isKept_220 : decode cX10_isKept 220 = .ok (.getfield 193, 3) := dk_180 0 193 (dk_at dksX10_isKept_10 0 rfl rfl)
theorem dX10_isKept_223 : decode cX10_isKept 223 = .ok (.ldc2_w 300, 3) := dk_20 1 44 (dk_at dksX10_isKept_10 3 rfl rfl)
theorem dX10_isKept_226 : decode cX10_isKept 226 = .ok (.lcmp, 1) := dk_148 (dk_at dksX10_isKept_10 6 rfl rfl)
theorem dX10_isKept_227 : decode cX10_isKept 227 = .ok (.ifCond .eq 47, 3) := dk_153 0 47 (dk_at dksX10_isKept_10 7 rfl rfl)
theorem dX10_isKept_230 : decode cX10_isKept 230 = .ok (.aload_n 0, 1) := dk_42 (dk_at dksX10_isKept_10 10 rfl rfl)
theorem dX10_isKept_231 : decode cX10_isKept 231 = .ok (.getfield 193, 3) := dk_180 0 193 (dk_at dksX10_isKept_10 11 rfl rfl)
theorem dX10_isKept_234 : decode cX10_isKept 234 = .ok (.ldc2_w 302, 3) := dk_20 1 46 (dk_at dksX10_isKept_10 14 rfl rfl)
theorem dX10_isKept_237 : decode cX10_isKept 237 = .ok (.lcmp, 1) := dk_148 (dk_at dksX10_isKept_10 17 rfl rfl)
theorem dX10_isKept_238 : decode cX10_isKept 238 = .ok (.ifCond .eq 36, 3) := dk_153 0 36 (dk_at dksX10_isKept_10 18 rfl rfl)
theorem dX10_isKept_241 : decode cX10_isKept 241 = .ok (.aload_n 0, 1) := dk_42 (dk_at dksX10_isKept_10 21 rfl rfl)
theorem dX10_isKept_242 : decode cX10_isKept 242 = .ok (.getfield 193, 3) := dk_180 0 193 (dk_at dksX10_isKept_11 0 rfl rfl)
theorem dX10_isKept_245 : decode cX10_isKept 245 = .ok (.ldc2_w 229, 3) := dk_20 0 229 (dk_at dksX10_isKept_11 3 rfl rfl)
theorem dX10_isKept_248 : decode cX10_isKept 248 = .ok (.lcmp, 1) := dk_148 (dk_at dksX10_isKept_11 6 rfl rfl)
theorem dX10_isKept_249 : decode cX10_isKept 249 = .ok (.ifCond .eq 25, 3) := dk_153 0 25 (dk_at dksX10_isKept_11 7 rfl rfl)
theorem dX10_isKept_252 : decode cX10_isKept 252 = .ok (.aload_n 0, 1) := dk_42 (dk_at dksX10_isKept_11 10 rfl rfl)
theorem dX10_isKept_253 : decode cX10_isKept 253 = .ok (.getfield 193, 3) := dk_180 0 193 (dk_at dksX10_isKept_11 11 rfl rfl)
theorem dX10_isKept_256 : decode cX10_isKept 256 = .ok (.ldc2_w 249, 3) := dk_20 0 249 (dk_at dksX10_isKept_11 14 rfl rfl)
theorem dX10_isKept_259 : decode cX10_isKept 259 = .ok (.lcmp, 1) := dk_148 (dk_at dksX10_isKept_11 17 rfl rfl)
theorem dX10_isKept_260 : decode cX10_isKept 260 = .ok (.ifCond .eq 14, 3) := dk_153 0 14 (dk_at dksX10_isKept_11 18 rfl rfl)
theorem dX10_isKept_263 : decode cX10_isKept 263 = .ok (.aload_n 0, 1) := dk_42 (dk_at dksX10_isKept_11 21 rfl rfl)
theorem dX10_isKept_264 : decode cX10_isKept 264 = .ok (.getfield 193, 3) := dk_180 0 193 (dk_at dksX10_isKept_12 0 rfl rfl)
theorem dX10_isKept_267 : decode cX10_isKept 267 = .ok (.ldc2_w 251, 3) := dk_20 0 251 (dk_at dksX10_isKept_12 3 rfl rfl)
theorem dX10_isKept_270 : decode cX10_isKept 270 = .ok (.lcmp, 1) := dk_148 (dk_at dksX10_isKept_12 6 rfl rfl)
theorem dX10_isKept_271 : decode cX10_isKept 271 = .ok (.ifCond .ne 7, 3) := dk_154 0 7 (dk_at dksX10_isKept_12 7 rfl rfl)
theorem dX10_isKept_274 : decode cX10_isKept 274 = .ok (.iconst 1, 1) := dk_4 (dk_at dksX10_isKept_12 10 rfl rfl)
theorem dX10_isKept_275 : decode cX10_isKept 275 = .ok (.goto 4, 3) := dk_167 0 4 (dk_at dksX10_isKept_12 11 rfl rfl)
theorem dX10_isKept_278 : decode cX10_isKept 278 = .ok (.iconst 0, 1) := dk_3 (dk_at dksX10_isKept_12 14 rfl rfl)
theorem dX10_isKept_279 : decode cX10_isKept 279 = .ok (.ireturn, 1) := dk_172 (dk_at dksX10_isKept_12 15 rfl rfl)
abbrev cX10_personNamed : ByteArray := prog_36_method_21_code
def yX10_personNamed : MethodName := ⟨RX10, "personNamed", "(I)I"⟩
def dkwX10_personNamed_1 : List UInt8 := [184, 1, 48, 172]
abbrev dktX10_personNamed_1 : List UInt8 := dkwX10_personNamed_1 ++ []
def dkwX10_personNamed_0 : List UInt8 := [42, 180, 0, 16, 16, 6, 27, 104, 42, 180, 0, 13, 7, 27, 104, 3, 96, 46, 42, 180, 0, 193]
abbrev dktX10_personNamed_0 : List UInt8 := dkwX10_personNamed_0 ++ dktX10_personNamed_1
theorem dksX10_personNamed_0 : cX10_personNamed.data.toList.drop 0 = dktX10_personNamed_0 := by decide +kernel
theorem dksX10_personNamed_1 : cX10_personNamed.data.toList.drop 22 = dktX10_personNamed_1 := dk_seg dksX10_personNamed_0 22 rfl rfl
theorem dX10_personNamed_0 : decode cX10_personNamed 0 = .ok (.aload_n 0, 1) := dk_42 (dk_at dksX10_personNamed_0 0 rfl rfl)
theorem dX10_personNamed_1 : decode cX10_personNamed 1 = .ok (.getfield 16, 3) := dk_180 0 16 (dk_at dksX10_personNamed_0 1 rfl rfl)
theorem dX10_personNamed_4 : decode cX10_personNamed 4 = .ok (.bipush 6, 2) := dk_16 6 (dk_at dksX10_personNamed_0 4 rfl rfl)
theorem dX10_personNamed_6 : decode cX10_personNamed 6 = .ok (.iload_n 1, 1) := dk_27 (dk_at dksX10_personNamed_0 6 rfl rfl)
theorem dX10_personNamed_7 : decode cX10_personNamed 7 = .ok (.imul, 1) := dk_104 (dk_at dksX10_personNamed_0 7 rfl rfl)
theorem dX10_personNamed_8 : decode cX10_personNamed 8 = .ok (.aload_n 0, 1) := dk_42 (dk_at dksX10_personNamed_0 8 rfl rfl)
theorem dX10_personNamed_9 : decode cX10_personNamed 9 = .ok (.getfield 13, 3) := dk_180 0 13 (dk_at dksX10_personNamed_0 9 rfl rfl)
theorem dX10_personNamed_12 : decode cX10_personNamed 12 = .ok (.iconst 4, 1) := dk_7 (dk_at dksX10_personNamed_0 12 rfl rfl)
theorem dX10_personNamed_13 : decode cX10_personNamed 13 = .ok (.iload_n 1, 1) := dk_27 (dk_at dksX10_personNamed_0 13 rfl rfl)
theorem dX10_personNamed_14 : decode cX10_personNamed 14 = .ok (.imul, 1) := dk_104 (dk_at dksX10_personNamed_0 14 rfl rfl)
theorem dX10_personNamed_15 : decode cX10_personNamed 15 = .ok (.iconst 0, 1) := dk_3 (dk_at dksX10_personNamed_0 15 rfl rfl)
theorem dX10_personNamed_16 : decode cX10_personNamed 16 = .ok (.iadd, 1) := dk_96 (dk_at dksX10_personNamed_0 16 rfl rfl)
theorem dX10_personNamed_17 : decode cX10_personNamed 17 = .ok (.iaload, 1) := dk_46 (dk_at dksX10_personNamed_0 17 rfl rfl)
theorem dX10_personNamed_18 : decode cX10_personNamed 18 = .ok (.aload_n 0, 1) := dk_42 (dk_at dksX10_personNamed_0 18 rfl rfl)
theorem dX10_personNamed_19 : decode cX10_personNamed 19 = .ok (.getfield 193, 3) := dk_180 0 193 (dk_at dksX10_personNamed_0 19 rfl rfl)
theorem dX10_personNamed_22 : decode cX10_personNamed 22 = .ok (.invokestatic 304, 3) := dk_184 1 48 (dk_at dksX10_personNamed_1 0 rfl rfl)
theorem dX10_personNamed_25 : decode cX10_personNamed 25 = .ok (.ireturn, 1) := dk_172 (dk_at dksX10_personNamed_1 3 rfl rfl)
abbrev cX10_named : ByteArray := prog_36_method_20_code
def yX10_named : MethodName := ⟨RX10, "named", "([JIIJ)I"⟩
def dkwX10_named_1 : List UInt8 := [172, 132, 5, 1, 167, 255, 231, 2, 172]
abbrev dktX10_named_1 : List UInt8 := dkwX10_named_1 ++ []
def dkwX10_named_0 : List UInt8 := [27, 54, 5, 21, 5, 27, 28, 96, 162, 0, 23, 42, 21, 5, 47, 33, 148, 154, 0, 8, 21, 5, 27, 100]
abbrev dktX10_named_0 : List UInt8 := dkwX10_named_0 ++ dktX10_named_1
theorem dksX10_named_0 : cX10_named.data.toList.drop 0 = dktX10_named_0 := by decide +kernel
theorem dksX10_named_1 : cX10_named.data.toList.drop 24 = dktX10_named_1 := dk_seg dksX10_named_0 24 rfl rfl
theorem dX10_named_0 : decode cX10_named 0 = .ok (.iload_n 1, 1) := dk_27 (dk_at dksX10_named_0 0 rfl rfl)
theorem dX10_named_1 : decode cX10_named 1 = .ok (.istore 5, 2) := dk_54 5 (dk_at dksX10_named_0 1 rfl rfl)
theorem dX10_named_3 : decode cX10_named 3 = .ok (.iload 5, 2) := dk_21 5 (dk_at dksX10_named_0 3 rfl rfl)
theorem dX10_named_5 : decode cX10_named 5 = .ok (.iload_n 1, 1) := dk_27 (dk_at dksX10_named_0 5 rfl rfl)
theorem dX10_named_6 : decode cX10_named 6 = .ok (.iload_n 2, 1) := dk_28 (dk_at dksX10_named_0 6 rfl rfl)
theorem dX10_named_7 : decode cX10_named 7 = .ok (.iadd, 1) := dk_96 (dk_at dksX10_named_0 7 rfl rfl)
theorem dX10_named_8 : decode cX10_named 8 = .ok (.if_icmp .ge 23, 3) := dk_162 0 23 (dk_at dksX10_named_0 8 rfl rfl)
theorem dX10_named_11 : decode cX10_named 11 = .ok (.aload_n 0, 1) := dk_42 (dk_at dksX10_named_0 11 rfl rfl)
theorem dX10_named_12 : decode cX10_named 12 = .ok (.iload 5, 2) := dk_21 5 (dk_at dksX10_named_0 12 rfl rfl)
theorem dX10_named_14 : decode cX10_named 14 = .ok (.laload, 1) := dk_47 (dk_at dksX10_named_0 14 rfl rfl)
theorem dX10_named_15 : decode cX10_named 15 = .ok (.lload_n 3, 1) := dk_33 (dk_at dksX10_named_0 15 rfl rfl)
theorem dX10_named_16 : decode cX10_named 16 = .ok (.lcmp, 1) := dk_148 (dk_at dksX10_named_0 16 rfl rfl)
theorem dX10_named_17 : decode cX10_named 17 = .ok (.ifCond .ne 8, 3) := dk_154 0 8 (dk_at dksX10_named_0 17 rfl rfl)
theorem dX10_named_20 : decode cX10_named 20 = .ok (.iload 5, 2) := dk_21 5 (dk_at dksX10_named_0 20 rfl rfl)
theorem dX10_named_22 : decode cX10_named 22 = .ok (.iload_n 1, 1) := dk_27 (dk_at dksX10_named_0 22 rfl rfl)
theorem dX10_named_23 : decode cX10_named 23 = .ok (.isub, 1) := dk_100 (dk_at dksX10_named_0 23 rfl rfl)
theorem dX10_named_24 : decode cX10_named 24 = .ok (.ireturn, 1) := dk_172 (dk_at dksX10_named_1 0 rfl rfl)
theorem dX10_named_25 : decode cX10_named 25 = .ok (.iinc 5 1, 3) := dk_132 5 1 (dk_at dksX10_named_1 1 rfl rfl)
theorem dX10_named_28 : decode cX10_named 28 = .ok (.goto (-25), 3) := dk_167 255 231 (dk_at dksX10_named_1 4 rfl rfl)
theorem dX10_named_31 : decode cX10_named 31 = .ok (.iconst (-1), 1) := dk_2 (dk_at dksX10_named_1 7 rfl rfl)
theorem dX10_named_32 : decode cX10_named 32 = .ok (.ireturn, 1) := dk_172 (dk_at dksX10_named_1 8 rfl rfl)
abbrev cX10_secretNamed : ByteArray := prog_36_method_22_code
def yX10_secretNamed : MethodName := ⟨RX10, "secretNamed", "(I)I"⟩
def dkwX10_secretNamed_1 : List UInt8 := [184, 1, 48, 172]
abbrev dktX10_secretNamed_1 : List UInt8 := dkwX10_secretNamed_1 ++ []
def dkwX10_secretNamed_0 : List UInt8 := [42, 180, 0, 20, 16, 10, 27, 104, 42, 180, 0, 13, 7, 27, 104, 4, 96, 46, 42, 180, 0, 193]
abbrev dktX10_secretNamed_0 : List UInt8 := dkwX10_secretNamed_0 ++ dktX10_secretNamed_1
theorem dksX10_secretNamed_0 : cX10_secretNamed.data.toList.drop 0 = dktX10_secretNamed_0 := by decide +kernel
theorem dksX10_secretNamed_1 : cX10_secretNamed.data.toList.drop 22 = dktX10_secretNamed_1 := dk_seg dksX10_secretNamed_0 22 rfl rfl
theorem dX10_secretNamed_0 : decode cX10_secretNamed 0 = .ok (.aload_n 0, 1) := dk_42 (dk_at dksX10_secretNamed_0 0 rfl rfl)
theorem dX10_secretNamed_1 : decode cX10_secretNamed 1 = .ok (.getfield 20, 3) := dk_180 0 20 (dk_at dksX10_secretNamed_0 1 rfl rfl)
theorem dX10_secretNamed_4 : decode cX10_secretNamed 4 = .ok (.bipush 10, 2) := dk_16 10 (dk_at dksX10_secretNamed_0 4 rfl rfl)
theorem dX10_secretNamed_6 : decode cX10_secretNamed 6 = .ok (.iload_n 1, 1) := dk_27 (dk_at dksX10_secretNamed_0 6 rfl rfl)
theorem dX10_secretNamed_7 : decode cX10_secretNamed 7 = .ok (.imul, 1) := dk_104 (dk_at dksX10_secretNamed_0 7 rfl rfl)
theorem dX10_secretNamed_8 : decode cX10_secretNamed 8 = .ok (.aload_n 0, 1) := dk_42 (dk_at dksX10_secretNamed_0 8 rfl rfl)
theorem dX10_secretNamed_9 : decode cX10_secretNamed 9 = .ok (.getfield 13, 3) := dk_180 0 13 (dk_at dksX10_secretNamed_0 9 rfl rfl)
theorem dX10_secretNamed_12 : decode cX10_secretNamed 12 = .ok (.iconst 4, 1) := dk_7 (dk_at dksX10_secretNamed_0 12 rfl rfl)
theorem dX10_secretNamed_13 : decode cX10_secretNamed 13 = .ok (.iload_n 1, 1) := dk_27 (dk_at dksX10_secretNamed_0 13 rfl rfl)
theorem dX10_secretNamed_14 : decode cX10_secretNamed 14 = .ok (.imul, 1) := dk_104 (dk_at dksX10_secretNamed_0 14 rfl rfl)
theorem dX10_secretNamed_15 : decode cX10_secretNamed 15 = .ok (.iconst 1, 1) := dk_4 (dk_at dksX10_secretNamed_0 15 rfl rfl)
theorem dX10_secretNamed_16 : decode cX10_secretNamed 16 = .ok (.iadd, 1) := dk_96 (dk_at dksX10_secretNamed_0 16 rfl rfl)
theorem dX10_secretNamed_17 : decode cX10_secretNamed 17 = .ok (.iaload, 1) := dk_46 (dk_at dksX10_secretNamed_0 17 rfl rfl)
theorem dX10_secretNamed_18 : decode cX10_secretNamed 18 = .ok (.aload_n 0, 1) := dk_42 (dk_at dksX10_secretNamed_0 18 rfl rfl)
theorem dX10_secretNamed_19 : decode cX10_secretNamed 19 = .ok (.getfield 193, 3) := dk_180 0 193 (dk_at dksX10_secretNamed_0 19 rfl rfl)
theorem dX10_secretNamed_22 : decode cX10_secretNamed 22 = .ok (.invokestatic 304, 3) := dk_184 1 48 (dk_at dksX10_secretNamed_1 0 rfl rfl)
theorem dX10_secretNamed_25 : decode cX10_secretNamed 25 = .ok (.ireturn, 1) := dk_172 (dk_at dksX10_secretNamed_1 3 rfl rfl)
abbrev cX10_needsBoth : ByteArray := prog_36_method_25_code
def yX10_needsBoth : MethodName := ⟨RX10, "needsBoth", "(JII)Z"⟩
def dkwX10_needsBoth_0 : List UInt8 := [42, 31, 182, 1, 59, 153, 0, 17, 42, 29, 21, 4, 182, 1, 62, 153, 0, 7, 4, 167, 0, 4, 3, 172]
abbrev dktX10_needsBoth_0 : List UInt8 := dkwX10_needsBoth_0 ++ []
theorem dksX10_needsBoth_0 : cX10_needsBoth.data.toList.drop 0 = dktX10_needsBoth_0 := by decide +kernel
theorem dX10_needsBoth_0 : decode cX10_needsBoth 0 = .ok (.aload_n 0, 1) := dk_42 (dk_at dksX10_needsBoth_0 0 rfl rfl)
theorem dX10_needsBoth_1 : decode cX10_needsBoth 1 = .ok (.lload_n 1, 1) := dk_31 (dk_at dksX10_needsBoth_0 1 rfl rfl)
theorem dX10_needsBoth_2 : decode cX10_needsBoth 2 = .ok (.invokevirtual 315, 3) := dk_182 1 59 (dk_at dksX10_needsBoth_0 2 rfl rfl)
theorem dX10_needsBoth_5 : decode cX10_needsBoth 5 = .ok (.ifCond .eq 17, 3) := dk_153 0 17 (dk_at dksX10_needsBoth_0 5 rfl rfl)
theorem dX10_needsBoth_8 : decode cX10_needsBoth 8 = .ok (.aload_n 0, 1) := dk_42 (dk_at dksX10_needsBoth_0 8 rfl rfl)
theorem dX10_needsBoth_9 : decode cX10_needsBoth 9 = .ok (.iload_n 3, 1) := dk_29 (dk_at dksX10_needsBoth_0 9 rfl rfl)
theorem dX10_needsBoth_10 : decode cX10_needsBoth 10 = .ok (.iload 4, 2) := dk_21 4 (dk_at dksX10_needsBoth_0 10 rfl rfl)
theorem dX10_needsBoth_12 : decode cX10_needsBoth 12 = .ok (.invokevirtual 318, 3) := dk_182 1 62 (dk_at dksX10_needsBoth_0 12 rfl rfl)
theorem dX10_needsBoth_15 : decode cX10_needsBoth 15 = .ok (.ifCond .eq 7, 3) := dk_153 0 7 (dk_at dksX10_needsBoth_0 15 rfl rfl)
theorem dX10_needsBoth_18 : decode cX10_needsBoth 18 = .ok (.iconst 1, 1) := dk_4 (dk_at dksX10_needsBoth_0 18 rfl rfl)
theorem dX10_needsBoth_19 : decode cX10_needsBoth 19 = .ok (.goto 4, 3) := dk_167 0 4 (dk_at dksX10_needsBoth_0 19 rfl rfl)
theorem dX10_needsBoth_22 : decode cX10_needsBoth 22 = .ok (.iconst 0, 1) := dk_3 (dk_at dksX10_needsBoth_0 22 rfl rfl)
theorem dX10_needsBoth_23 : decode cX10_needsBoth 23 = .ok (.ireturn, 1) := dk_172 (dk_at dksX10_needsBoth_0 23 rfl rfl)
abbrev cX10_needsWord : ByteArray := prog_36_method_24_code
def yX10_needsWord : MethodName := ⟨RX10, "needsWord", "(J)Z"⟩
def dkwX10_needsWord_0 : List UInt8 := [42, 31, 182, 0, 231, 154, 0, 9, 42, 4, 182, 0, 239, 172, 42, 182, 0, 246, 4, 172]
abbrev dktX10_needsWord_0 : List UInt8 := dkwX10_needsWord_0 ++ []
theorem dksX10_needsWord_0 : cX10_needsWord.data.toList.drop 0 = dktX10_needsWord_0 := by decide +kernel
theorem dX10_needsWord_0 : decode cX10_needsWord 0 = .ok (.aload_n 0, 1) := dk_42 (dk_at dksX10_needsWord_0 0 rfl rfl)
theorem dX10_needsWord_1 : decode cX10_needsWord 1 = .ok (.lload_n 1, 1) := dk_31 (dk_at dksX10_needsWord_0 1 rfl rfl)
theorem dX10_needsWord_2 : decode cX10_needsWord 2 = .ok (.invokevirtual 231, 3) := dk_182 0 231 (dk_at dksX10_needsWord_0 2 rfl rfl)
theorem dX10_needsWord_5 : decode cX10_needsWord 5 = .ok (.ifCond .ne 9, 3) := dk_154 0 9 (dk_at dksX10_needsWord_0 5 rfl rfl)
theorem dX10_needsWord_8 : decode cX10_needsWord 8 = .ok (.aload_n 0, 1) := dk_42 (dk_at dksX10_needsWord_0 8 rfl rfl)
theorem dX10_needsWord_9 : decode cX10_needsWord 9 = .ok (.iconst 1, 1) := dk_4 (dk_at dksX10_needsWord_0 9 rfl rfl)
theorem dX10_needsWord_10 : decode cX10_needsWord 10 = .ok (.invokevirtual 239, 3) := dk_182 0 239 (dk_at dksX10_needsWord_0 10 rfl rfl)
theorem dX10_needsWord_13 : decode cX10_needsWord 13 = .ok (.ireturn, 1) := dk_172 (dk_at dksX10_needsWord_0 13 rfl rfl)
theorem dX10_needsWord_14 : decode cX10_needsWord 14 = .ok (.aload_n 0, 1) := dk_42 (dk_at dksX10_needsWord_0 14 rfl rfl)
theorem dX10_needsWord_15 : decode cX10_needsWord 15 = .ok (.invokevirtual 246, 3) := dk_182 0 246 (dk_at dksX10_needsWord_0 15 rfl rfl)
theorem dX10_needsWord_18 : decode cX10_needsWord 18 = .ok (.iconst 1, 1) := dk_4 (dk_at dksX10_needsWord_0 18 rfl rfl)
theorem dX10_needsWord_19 : decode cX10_needsWord 19 = .ok (.ireturn, 1) := dk_172 (dk_at dksX10_needsWord_0 19 rfl rfl)
abbrev cX10_needsNumber : ByteArray := prog_36_method_23_code
def yX10_needsNumber : MethodName := ⟨RX10, "needsNumber", "(II)Z"⟩
def dkwX10_needsNumber_1 : List UInt8 := [154, 0, 9, 42, 7, 182, 0, 239, 172, 42, 42, 180, 0, 197, 181, 1, 56, 42, 182, 0, 246, 4, 172]
abbrev dktX10_needsNumber_1 : List UInt8 := dkwX10_needsNumber_1 ++ []
def dkwX10_needsNumber_0 : List UInt8 := [42, 180, 0, 200, 5, 159, 0, 9, 42, 4, 182, 0, 239, 172, 42, 180, 0, 197, 27, 28, 184, 1, 52]
abbrev dktX10_needsNumber_0 : List UInt8 := dkwX10_needsNumber_0 ++ dktX10_needsNumber_1
theorem dksX10_needsNumber_0 : cX10_needsNumber.data.toList.drop 0 = dktX10_needsNumber_0 := by decide +kernel
theorem dksX10_needsNumber_1 : cX10_needsNumber.data.toList.drop 23 = dktX10_needsNumber_1 := dk_seg dksX10_needsNumber_0 23 rfl rfl
theorem dX10_needsNumber_0 : decode cX10_needsNumber 0 = .ok (.aload_n 0, 1) := dk_42 (dk_at dksX10_needsNumber_0 0 rfl rfl)
theorem dX10_needsNumber_1 : decode cX10_needsNumber 1 = .ok (.getfield 200, 3) := dk_180 0 200 (dk_at dksX10_needsNumber_0 1 rfl rfl)
theorem dX10_needsNumber_4 : decode cX10_needsNumber 4 = .ok (.iconst 2, 1) := dk_5 (dk_at dksX10_needsNumber_0 4 rfl rfl)
theorem dX10_needsNumber_5 : decode cX10_needsNumber 5 = .ok (.if_icmp .eq 9, 3) := dk_159 0 9 (dk_at dksX10_needsNumber_0 5 rfl rfl)
theorem dX10_needsNumber_8 : decode cX10_needsNumber 8 = .ok (.aload_n 0, 1) := dk_42 (dk_at dksX10_needsNumber_0 8 rfl rfl)
theorem dX10_needsNumber_9 : decode cX10_needsNumber 9 = .ok (.iconst 1, 1) := dk_4 (dk_at dksX10_needsNumber_0 9 rfl rfl)
theorem dX10_needsNumber_10 : decode cX10_needsNumber 10 = .ok (.invokevirtual 239, 3) := dk_182 0 239 (dk_at dksX10_needsNumber_0 10 rfl rfl)
theorem dX10_needsNumber_13 : decode cX10_needsNumber 13 = .ok (.ireturn, 1) := dk_172 (dk_at dksX10_needsNumber_0 13 rfl rfl)
theorem dX10_needsNumber_14 : decode cX10_needsNumber 14 = .ok (.aload_n 0, 1) := dk_42 (dk_at dksX10_needsNumber_0 14 rfl rfl)
theorem dX10_needsNumber_15 : decode cX10_needsNumber 15 = .ok (.getfield 197, 3) := dk_180 0 197 (dk_at dksX10_needsNumber_0 15 rfl rfl)
theorem dX10_needsNumber_18 : decode cX10_needsNumber 18 = .ok (.iload_n 1, 1) := dk_27 (dk_at dksX10_needsNumber_0 18 rfl rfl)
theorem dX10_needsNumber_19 : decode cX10_needsNumber 19 = .ok (.iload_n 2, 1) := dk_28 (dk_at dksX10_needsNumber_0 19 rfl rfl)
theorem dX10_needsNumber_20 : decode cX10_needsNumber 20 = .ok (.invokestatic 308, 3) := dk_184 1 52 (dk_at dksX10_needsNumber_0 20 rfl rfl)
theorem dX10_needsNumber_23 : decode cX10_needsNumber 23 = .ok (.ifCond .ne 9, 3) := dk_154 0 9 (dk_at dksX10_needsNumber_1 0 rfl rfl)
theorem dX10_needsNumber_26 : decode cX10_needsNumber 26 = .ok (.aload_n 0, 1) := dk_42 (dk_at dksX10_needsNumber_1 3 rfl rfl)
theorem dX10_needsNumber_27 : decode cX10_needsNumber 27 = .ok (.iconst 4, 1) := dk_7 (dk_at dksX10_needsNumber_1 4 rfl rfl)
theorem dX10_needsNumber_28 : decode cX10_needsNumber 28 = .ok (.invokevirtual 239, 3) := dk_182 0 239 (dk_at dksX10_needsNumber_1 5 rfl rfl)
theorem dX10_needsNumber_31 : decode cX10_needsNumber 31 = .ok (.ireturn, 1) := dk_172 (dk_at dksX10_needsNumber_1 8 rfl rfl)
theorem dX10_needsNumber_32 : decode cX10_needsNumber 32 = .ok (.aload_n 0, 1) := dk_42 (dk_at dksX10_needsNumber_1 9 rfl rfl)
theorem dX10_needsNumber_33 : decode cX10_needsNumber 33 = .ok (.aload_n 0, 1) := dk_42 (dk_at dksX10_needsNumber_1 10 rfl rfl)
theorem dX10_needsNumber_34 : decode cX10_needsNumber 34 = .ok (.getfield 197, 3) := dk_180 0 197 (dk_at dksX10_needsNumber_1 11 rfl rfl)
theorem dX10_needsNumber_37 : decode cX10_needsNumber 37 = .ok (.putfield 312, 3) := dk_181 1 56 (dk_at dksX10_needsNumber_1 14 rfl rfl)
theorem dX10_needsNumber_40 : decode cX10_needsNumber 40 = .ok (.aload_n 0, 1) := dk_42 (dk_at dksX10_needsNumber_1 17 rfl rfl)
theorem dX10_needsNumber_41 : decode cX10_needsNumber 41 = .ok (.invokevirtual 246, 3) := dk_182 0 246 (dk_at dksX10_needsNumber_1 18 rfl rfl)
theorem dX10_needsNumber_44 : decode cX10_needsNumber 44 = .ok (.iconst 1, 1) := dk_4 (dk_at dksX10_needsNumber_1 21 rfl rfl)
theorem dX10_needsNumber_45 : decode cX10_needsNumber 45 = .ok (.ireturn, 1) := dk_172 (dk_at dksX10_needsNumber_1 22 rfl rfl)
abbrev cX10_within : ByteArray := prog_36_method_3_code
def yX10_within : MethodName := ⟨RX10, "within", "(III)Z"⟩
def dkwX10_within_0 : List UInt8 := [26, 27, 161, 0, 12, 26, 28, 163, 0, 7, 4, 167, 0, 4, 3, 172]
abbrev dktX10_within_0 : List UInt8 := dkwX10_within_0 ++ []
theorem dksX10_within_0 : cX10_within.data.toList.drop 0 = dktX10_within_0 := by decide +kernel
theorem dX10_within_0 : decode cX10_within 0 = .ok (.iload_n 0, 1) := dk_26 (dk_at dksX10_within_0 0 rfl rfl)
theorem dX10_within_1 : decode cX10_within 1 = .ok (.iload_n 1, 1) := dk_27 (dk_at dksX10_within_0 1 rfl rfl)
theorem dX10_within_2 : decode cX10_within 2 = .ok (.if_icmp .lt 12, 3) := dk_161 0 12 (dk_at dksX10_within_0 2 rfl rfl)
theorem dX10_within_5 : decode cX10_within 5 = .ok (.iload_n 0, 1) := dk_26 (dk_at dksX10_within_0 5 rfl rfl)
theorem dX10_within_6 : decode cX10_within 6 = .ok (.iload_n 2, 1) := dk_28 (dk_at dksX10_within_0 6 rfl rfl)
theorem dX10_within_7 : decode cX10_within 7 = .ok (.if_icmp .gt 7, 3) := dk_163 0 7 (dk_at dksX10_within_0 7 rfl rfl)
theorem dX10_within_10 : decode cX10_within 10 = .ok (.iconst 1, 1) := dk_4 (dk_at dksX10_within_0 10 rfl rfl)
theorem dX10_within_11 : decode cX10_within 11 = .ok (.goto 4, 3) := dk_167 0 4 (dk_at dksX10_within_0 11 rfl rfl)
theorem dX10_within_14 : decode cX10_within 14 = .ok (.iconst 0, 1) := dk_3 (dk_at dksX10_within_0 14 rfl rfl)
theorem dX10_within_15 : decode cX10_within 15 = .ok (.ireturn, 1) := dk_172 (dk_at dksX10_within_0 15 rfl rfl)
abbrev cX10_closes : ByteArray := prog_36_method_26_code
def yX10_closes : MethodName := ⟨RX10, "closes", "()Z"⟩
def dkwX10_closes_0 : List UInt8 := [42, 16, 59, 182, 0, 235, 154, 0, 9, 42, 4, 182, 0, 239, 172, 42, 182, 0, 246, 4, 172]
abbrev dktX10_closes_0 : List UInt8 := dkwX10_closes_0 ++ []
theorem dksX10_closes_0 : cX10_closes.data.toList.drop 0 = dktX10_closes_0 := by decide +kernel
theorem dX10_closes_0 : decode cX10_closes 0 = .ok (.aload_n 0, 1) := dk_42 (dk_at dksX10_closes_0 0 rfl rfl)
theorem dX10_closes_1 : decode cX10_closes 1 = .ok (.bipush 59, 2) := dk_16 59 (dk_at dksX10_closes_0 1 rfl rfl)
theorem dX10_closes_3 : decode cX10_closes 3 = .ok (.invokevirtual 235, 3) := dk_182 0 235 (dk_at dksX10_closes_0 3 rfl rfl)
theorem dX10_closes_6 : decode cX10_closes 6 = .ok (.ifCond .ne 9, 3) := dk_154 0 9 (dk_at dksX10_closes_0 6 rfl rfl)
theorem dX10_closes_9 : decode cX10_closes 9 = .ok (.aload_n 0, 1) := dk_42 (dk_at dksX10_closes_0 9 rfl rfl)
theorem dX10_closes_10 : decode cX10_closes 10 = .ok (.iconst 1, 1) := dk_4 (dk_at dksX10_closes_0 10 rfl rfl)
theorem dX10_closes_11 : decode cX10_closes 11 = .ok (.invokevirtual 239, 3) := dk_182 0 239 (dk_at dksX10_closes_0 11 rfl rfl)
theorem dX10_closes_14 : decode cX10_closes 14 = .ok (.ireturn, 1) := dk_172 (dk_at dksX10_closes_0 14 rfl rfl)
theorem dX10_closes_15 : decode cX10_closes 15 = .ok (.aload_n 0, 1) := dk_42 (dk_at dksX10_closes_0 15 rfl rfl)
theorem dX10_closes_16 : decode cX10_closes 16 = .ok (.invokevirtual 246, 3) := dk_182 0 246 (dk_at dksX10_closes_0 16 rfl rfl)
theorem dX10_closes_19 : decode cX10_closes 19 = .ok (.iconst 1, 1) := dk_4 (dk_at dksX10_closes_0 19 rfl rfl)
theorem dX10_closes_20 : decode cX10_closes 20 = .ok (.ireturn, 1) := dk_172 (dk_at dksX10_closes_0 20 rfl rfl)
abbrev cX10_isSign : ByteArray := prog_36_method_10_code
def yX10_isSign : MethodName := ⟨RX10, "isSign", "(I)Z"⟩
def dkwX10_isSign_1 : List UInt8 := [167, 0, 4, 3, 172]
abbrev dktX10_isSign_1 : List UInt8 := dkwX10_isSign_1 ++ []
def dkwX10_isSign_0 : List UInt8 := [42, 180, 0, 200, 6, 160, 0, 20, 42, 180, 0, 7, 42, 180, 0, 190, 46, 27, 160, 0, 7, 4]
abbrev dktX10_isSign_0 : List UInt8 := dkwX10_isSign_0 ++ dktX10_isSign_1
theorem dksX10_isSign_0 : cX10_isSign.data.toList.drop 0 = dktX10_isSign_0 := by decide +kernel
theorem dksX10_isSign_1 : cX10_isSign.data.toList.drop 22 = dktX10_isSign_1 := dk_seg dksX10_isSign_0 22 rfl rfl
theorem dX10_isSign_0 : decode cX10_isSign 0 = .ok (.aload_n 0, 1) := dk_42 (dk_at dksX10_isSign_0 0 rfl rfl)
theorem dX10_isSign_1 : decode cX10_isSign 1 = .ok (.getfield 200, 3) := dk_180 0 200 (dk_at dksX10_isSign_0 1 rfl rfl)
theorem dX10_isSign_4 : decode cX10_isSign 4 = .ok (.iconst 3, 1) := dk_6 (dk_at dksX10_isSign_0 4 rfl rfl)
theorem dX10_isSign_5 : decode cX10_isSign 5 = .ok (.if_icmp .ne 20, 3) := dk_160 0 20 (dk_at dksX10_isSign_0 5 rfl rfl)
theorem dX10_isSign_8 : decode cX10_isSign 8 = .ok (.aload_n 0, 1) := dk_42 (dk_at dksX10_isSign_0 8 rfl rfl)
theorem dX10_isSign_9 : decode cX10_isSign 9 = .ok (.getfield 7, 3) := dk_180 0 7 (dk_at dksX10_isSign_0 9 rfl rfl)
theorem dX10_isSign_12 : decode cX10_isSign 12 = .ok (.aload_n 0, 1) := dk_42 (dk_at dksX10_isSign_0 12 rfl rfl)
theorem dX10_isSign_13 : decode cX10_isSign 13 = .ok (.getfield 190, 3) := dk_180 0 190 (dk_at dksX10_isSign_0 13 rfl rfl)
theorem dX10_isSign_16 : decode cX10_isSign 16 = .ok (.iaload, 1) := dk_46 (dk_at dksX10_isSign_0 16 rfl rfl)
theorem dX10_isSign_17 : decode cX10_isSign 17 = .ok (.iload_n 1, 1) := dk_27 (dk_at dksX10_isSign_0 17 rfl rfl)
theorem dX10_isSign_18 : decode cX10_isSign 18 = .ok (.if_icmp .ne 7, 3) := dk_160 0 7 (dk_at dksX10_isSign_0 18 rfl rfl)
theorem dX10_isSign_21 : decode cX10_isSign 21 = .ok (.iconst 1, 1) := dk_4 (dk_at dksX10_isSign_0 21 rfl rfl)
theorem dX10_isSign_22 : decode cX10_isSign 22 = .ok (.goto 4, 3) := dk_167 0 4 (dk_at dksX10_isSign_1 0 rfl rfl)
theorem dX10_isSign_25 : decode cX10_isSign 25 = .ok (.iconst 0, 1) := dk_3 (dk_at dksX10_isSign_1 3 rfl rfl)
theorem dX10_isSign_26 : decode cX10_isSign 26 = .ok (.ireturn, 1) := dk_172 (dk_at dksX10_isSign_1 4 rfl rfl)
abbrev cX10_readsSecret : ByteArray := prog_36_method_32_code
def yX10_readsSecret : MethodName := ⟨RX10, "readsSecret", "()Z"⟩
def dkwX10_readsSecret_10 : List UInt8 := [180, 0, 20, 27, 32, 80, 42, 180, 0, 13, 8, 92, 46, 4, 96, 79, 42, 182, 1, 83, 172]
abbrev dktX10_readsSecret_10 : List UInt8 := dkwX10_readsSecret_10 ++ []
def dkwX10_readsSecret_9 : List UInt8 := [182, 1, 59, 153, 0, 11, 42, 27, 182, 1, 92, 154, 0, 5, 3, 172, 42, 180, 0, 47, 27, 3, 79, 42]
abbrev dktX10_readsSecret_9 : List UInt8 := dkwX10_readsSecret_9 ++ dktX10_readsSecret_10
def dkwX10_readsSecret_8 : List UInt8 := [154, 0, 5, 3, 172, 42, 180, 0, 41, 27, 42, 180, 1, 56, 79, 42, 182, 0, 246, 42, 20, 1, 20]
abbrev dktX10_readsSecret_8 : List UInt8 := dkwX10_readsSecret_8 ++ dktX10_readsSecret_9
def dkwX10_readsSecret_7 : List UInt8 := [27, 2, 79, 42, 20, 1, 18, 182, 0, 231, 153, 0, 31, 42, 182, 0, 246, 42, 4, 182, 1, 89]
abbrev dktX10_readsSecret_7 : List UInt8 := dkwX10_readsSecret_7 ++ dktX10_readsSecret_8
def dkwX10_readsSecret_6 : List UInt8 := [16, 99, 182, 1, 79, 154, 0, 5, 3, 172, 42, 180, 0, 38, 27, 42, 180, 1, 56, 79, 42, 180, 0, 41]
abbrev dktX10_readsSecret_6 : List UInt8 := dkwX10_readsSecret_6 ++ dktX10_readsSecret_7
def dkwX10_readsSecret_5 : List UInt8 := [154, 0, 5, 3, 172, 42, 180, 0, 35, 27, 42, 180, 1, 56, 79, 42, 182, 0, 246, 42, 20, 1, 16, 4]
abbrev dktX10_readsSecret_5 : List UInt8 := dkwX10_readsSecret_5 ++ dktX10_readsSecret_6
def dkwX10_readsSecret_4 : List UInt8 := [182, 0, 239, 172, 42, 182, 0, 246, 42, 20, 1, 14, 182, 1, 59, 153, 0, 11, 42, 4, 182, 1, 86]
abbrev dktX10_readsSecret_4 : List UInt8 := dkwX10_readsSecret_4 ++ dktX10_readsSecret_5
def dkwX10_readsSecret_3 : List UInt8 := [182, 0, 231, 153, 0, 7, 4, 167, 0, 4, 2, 79, 42, 180, 0, 32, 27, 46, 156, 0, 9, 42, 4]
abbrev dktX10_readsSecret_3 : List UInt8 := dkwX10_readsSecret_3 ++ dktX10_readsSecret_4
def dkwX10_readsSecret_2 : List UInt8 := [180, 0, 32, 27, 42, 20, 1, 44, 182, 0, 231, 153, 0, 7, 3, 167, 0, 18, 42, 20, 1, 46]
abbrev dktX10_readsSecret_2 : List UInt8 := dkwX10_readsSecret_2 ++ dktX10_readsSecret_3
def dkwX10_readsSecret_1 : List UInt8 := [182, 0, 246, 42, 182, 1, 76, 154, 0, 5, 3, 172, 42, 180, 0, 193, 65, 42, 182, 0, 246, 42]
abbrev dktX10_readsSecret_1 : List UInt8 := dkwX10_readsSecret_1 ++ dktX10_readsSecret_2
def dkwX10_readsSecret_0 : List UInt8 := [16, 10, 42, 180, 0, 13, 8, 46, 96, 60, 27, 16, 20, 160, 0, 9, 42, 8, 182, 0, 239, 172, 42]
abbrev dktX10_readsSecret_0 : List UInt8 := dkwX10_readsSecret_0 ++ dktX10_readsSecret_1
theorem dksX10_readsSecret_0 : cX10_readsSecret.data.toList.drop 0 = dktX10_readsSecret_0 := by decide +kernel
theorem dksX10_readsSecret_1 : cX10_readsSecret.data.toList.drop 23 = dktX10_readsSecret_1 := dk_seg dksX10_readsSecret_0 23 rfl rfl
theorem dksX10_readsSecret_2 : cX10_readsSecret.data.toList.drop 45 = dktX10_readsSecret_2 := dk_seg dksX10_readsSecret_1 22 rfl rfl
theorem dksX10_readsSecret_3 : cX10_readsSecret.data.toList.drop 67 = dktX10_readsSecret_3 := dk_seg dksX10_readsSecret_2 22 rfl rfl
theorem dksX10_readsSecret_4 : cX10_readsSecret.data.toList.drop 90 = dktX10_readsSecret_4 := dk_seg dksX10_readsSecret_3 23 rfl rfl
theorem dksX10_readsSecret_5 : cX10_readsSecret.data.toList.drop 113 = dktX10_readsSecret_5 := dk_seg dksX10_readsSecret_4 23 rfl rfl
theorem dksX10_readsSecret_6 : cX10_readsSecret.data.toList.drop 137 = dktX10_readsSecret_6 := dk_seg dksX10_readsSecret_5 24 rfl rfl
theorem dksX10_readsSecret_7 : cX10_readsSecret.data.toList.drop 161 = dktX10_readsSecret_7 := dk_seg dksX10_readsSecret_6 24 rfl rfl
theorem dksX10_readsSecret_8 : cX10_readsSecret.data.toList.drop 183 = dktX10_readsSecret_8 := dk_seg dksX10_readsSecret_7 22 rfl rfl
theorem dksX10_readsSecret_9 : cX10_readsSecret.data.toList.drop 206 = dktX10_readsSecret_9 := dk_seg dksX10_readsSecret_8 23 rfl rfl
theorem dksX10_readsSecret_10 : cX10_readsSecret.data.toList.drop 230 = dktX10_readsSecret_10 := dk_seg dksX10_readsSecret_9 24 rfl rfl
theorem dX10_readsSecret_0 : decode cX10_readsSecret 0 = .ok (.bipush 10, 2) := dk_16 10 (dk_at dksX10_readsSecret_0 0 rfl rfl)
theorem dX10_readsSecret_2 : decode cX10_readsSecret 2 = .ok (.aload_n 0, 1) := dk_42 (dk_at dksX10_readsSecret_0 2 rfl rfl)
theorem dX10_readsSecret_3 : decode cX10_readsSecret 3 = .ok (.getfield 13, 3) := dk_180 0 13 (dk_at dksX10_readsSecret_0 3 rfl rfl)
theorem dX10_readsSecret_6 : decode cX10_readsSecret 6 = .ok (.iconst 5, 1) := dk_8 (dk_at dksX10_readsSecret_0 6 rfl rfl)
theorem dX10_readsSecret_7 : decode cX10_readsSecret 7 = .ok (.iaload, 1) := dk_46 (dk_at dksX10_readsSecret_0 7 rfl rfl)
theorem dX10_readsSecret_8 : decode cX10_readsSecret 8 = .ok (.iadd, 1) := dk_96 (dk_at dksX10_readsSecret_0 8 rfl rfl)
theorem dX10_readsSecret_9 : decode cX10_readsSecret 9 = .ok (.istore_n 1, 1) := dk_60 (dk_at dksX10_readsSecret_0 9 rfl rfl)
theorem dX10_readsSecret_10 : decode cX10_readsSecret 10 = .ok (.iload_n 1, 1) := dk_27 (dk_at dksX10_readsSecret_0 10 rfl rfl)
theorem dX10_readsSecret_11 : decode cX10_readsSecret 11 = .ok (.bipush 20, 2) := dk_16 20 (dk_at dksX10_readsSecret_0 11 rfl rfl)
theorem dX10_readsSecret_13 : decode cX10_readsSecret 13 = .ok (.if_icmp .ne 9, 3) := dk_160 0 9 (dk_at dksX10_readsSecret_0 13 rfl rfl)
theorem dX10_readsSecret_16 : decode cX10_readsSecret 16 = .ok (.aload_n 0, 1) := dk_42 (dk_at dksX10_readsSecret_0 16 rfl rfl)
theorem dX10_readsSecret_17 : decode cX10_readsSecret 17 = .ok (.iconst 5, 1) := dk_8 (dk_at dksX10_readsSecret_0 17 rfl rfl)
theorem dX10_readsSecret_18 : decode cX10_readsSecret 18 = .ok (.invokevirtual 239, 3) := dk_182 0 239 (dk_at dksX10_readsSecret_0 18 rfl rfl)
theorem dX10_readsSecret_21 : decode cX10_readsSecret 21 = .ok (.ireturn, 1) := dk_172 (dk_at dksX10_readsSecret_0 21 rfl rfl)
theorem dX10_readsSecret_22 : decode cX10_readsSecret 22 = .ok (.aload_n 0, 1) := dk_42 (dk_at dksX10_readsSecret_0 22 rfl rfl)
theorem dX10_readsSecret_23 : decode cX10_readsSecret 23 = .ok (.invokevirtual 246, 3) := dk_182 0 246 (dk_at dksX10_readsSecret_1 0 rfl rfl)
theorem dX10_readsSecret_26 : decode cX10_readsSecret 26 = .ok (.aload_n 0, 1) := dk_42 (dk_at dksX10_readsSecret_1 3 rfl rfl)
theorem dX10_readsSecret_27 : decode cX10_readsSecret 27 = .ok (.invokevirtual 332, 3) := dk_182 1 76 (dk_at dksX10_readsSecret_1 4 rfl rfl)
theorem dX10_readsSecret_30 : decode cX10_readsSecret 30 = .ok (.ifCond .ne 5, 3) := dk_154 0 5 (dk_at dksX10_readsSecret_1 7 rfl rfl)
theorem dX10_readsSecret_33 : decode cX10_readsSecret 33 = .ok (.iconst 0, 1) := dk_3 (dk_at dksX10_readsSecret_1 10 rfl rfl)
theorem dX10_readsSecret_34 : decode cX10_readsSecret 34 = .ok (.ireturn, 1) := dk_172 (dk_at dksX10_readsSecret_1 11 rfl rfl)
theorem dX10_readsSecret_35 : decode cX10_readsSecret 35 = .ok (.aload_n 0, 1) := dk_42 (dk_at dksX10_readsSecret_1 12 rfl rfl)
theorem dX10_readsSecret_36 : decode cX10_readsSecret 36 = .ok (.getfield 193, 3) := dk_180 0 193 (dk_at dksX10_readsSecret_1 13 rfl rfl)
theorem dX10_readsSecret_39 : decode cX10_readsSecret 39 = .ok (.lstore_n 2, 1) := dk_65 (dk_at dksX10_readsSecret_1 16 rfl rfl)
theorem dX10_readsSecret_40 : decode cX10_readsSecret 40 = .ok (.aload_n 0, 1) := dk_42 (dk_at dksX10_readsSecret_1 17 rfl rfl)
theorem dX10_readsSecret_41 : decode cX10_readsSecret 41 = .ok (.invokevirtual 246, 3) := dk_182 0 246 (dk_at dksX10_readsSecret_1 18 rfl rfl)
theorem dX10_readsSecret_44 : decode cX10_readsSecret 44 = .ok (.aload_n 0, 1) := dk_42 (dk_at dksX10_readsSecret_1 21 rfl rfl)
theorem dX10_readsSecret_45 : decode cX10_readsSecret 45 = .ok (.getfield 32, 3) := dk_180 0 32 (dk_at dksX10_readsSecret_2 0 rfl rfl)
theorem dX10_readsSecret_48 : decode cX10_readsSecret 48 = .ok (.iload_n 1, 1) := dk_27 (dk_at dksX10_readsSecret_2 3 rfl rfl)
theorem dX10_readsSecret_49 : decode cX10_readsSecret 49 = .ok (.aload_n 0, 1) := dk_42 (dk_at dksX10_readsSecret_2 4 rfl rfl)
theorem dX10_readsSecret_50 : decode cX10_readsSecret 50 = .ok (.ldc2_w 300, 3) := dk_20 1 44 (dk_at dksX10_readsSecret_2 5 rfl rfl)
theorem dX10_readsSecret_53 : decode cX10_readsSecret 53 = .ok (.invokevirtual 231, 3) := dk_182 0 231 (dk_at dksX10_readsSecret_2 8 rfl rfl)
theorem dX10_readsSecret_56 : decode cX10_readsSecret 56 = .ok (.ifCond .eq 7, 3) := dk_153 0 7 (dk_at dksX10_readsSecret_2 11 rfl rfl)
theorem dX10_readsSecret_59 : decode cX10_readsSecret 59 = .ok (.iconst 0, 1) := dk_3 (dk_at dksX10_readsSecret_2 14 rfl rfl)
theorem dX10_readsSecret_60 : decode cX10_readsSecret 60 = .ok (.goto 18, 3) := dk_167 0 18 (dk_at dksX10_readsSecret_2 15 rfl rfl)
theorem dX10_readsSecret_63 : decode cX10_readsSecret 63 = .ok (.aload_n 0, 1) := dk_42 (dk_at dksX10_readsSecret_2 18 rfl rfl)
theorem dX10_readsSecret_64 : decode cX10_readsSecret 64 = .ok (.ldc2_w 302, 3) := dk_20 1 46 (dk_at dksX10_readsSecret_2 19 rfl rfl)
theorem dX10_readsSecret_67 : decode cX10_readsSecret 67 = .ok (.invokevirtual 231, 3) := dk_182 0 231 (dk_at dksX10_readsSecret_3 0 rfl rfl)
theorem dX10_readsSecret_70 : decode cX10_readsSecret 70 = .ok (.ifCond .eq 7, 3) := dk_153 0 7 (dk_at dksX10_readsSecret_3 3 rfl rfl)
theorem dX10_readsSecret_73 : decode cX10_readsSecret 73 = .ok (.iconst 1, 1) := dk_4 (dk_at dksX10_readsSecret_3 6 rfl rfl)
theorem dX10_readsSecret_74 : decode cX10_readsSecret 74 = .ok (.goto 4, 3) := dk_167 0 4 (dk_at dksX10_readsSecret_3 7 rfl rfl)
theorem dX10_readsSecret_77 : decode cX10_readsSecret 77 = .ok (.iconst (-1), 1) := dk_2 (dk_at dksX10_readsSecret_3 10 rfl rfl)
theorem dX10_readsSecret_78 : decode cX10_readsSecret 78 = .ok (.iastore, 1) := dk_79 (dk_at dksX10_readsSecret_3 11 rfl rfl)
theorem dX10_readsSecret_79 : decode cX10_readsSecret 79 = .ok (.aload_n 0, 1) := dk_42 (dk_at dksX10_readsSecret_3 12 rfl rfl)
theorem dX10_readsSecret_80 : decode cX10_readsSecret 80 = .ok (.getfield 32, 3) := dk_180 0 32 (dk_at dksX10_readsSecret_3 13 rfl rfl)
theorem dX10_readsSecret_83 : decode cX10_readsSecret 83 = .ok (.iload_n 1, 1) := dk_27 (dk_at dksX10_readsSecret_3 16 rfl rfl)
theorem dX10_readsSecret_84 : decode cX10_readsSecret 84 = .ok (.iaload, 1) := dk_46 (dk_at dksX10_readsSecret_3 17 rfl rfl)
theorem dX10_readsSecret_85 : decode cX10_readsSecret 85 = .ok (.ifCond .ge 9, 3) := dk_156 0 9 (dk_at dksX10_readsSecret_3 18 rfl rfl)
theorem dX10_readsSecret_88 : decode cX10_readsSecret 88 = .ok (.aload_n 0, 1) := dk_42 (dk_at dksX10_readsSecret_3 21 rfl rfl)
theorem dX10_readsSecret_89 : decode cX10_readsSecret 89 = .ok (.iconst 1, 1) := dk_4 (dk_at dksX10_readsSecret_3 22 rfl rfl)
theorem dX10_readsSecret_90 : decode cX10_readsSecret 90 = .ok (.invokevirtual 239, 3) := dk_182 0 239 (dk_at dksX10_readsSecret_4 0 rfl rfl)
theorem dX10_readsSecret_93 : decode cX10_readsSecret 93 = .ok (.ireturn, 1) := dk_172 (dk_at dksX10_readsSecret_4 3 rfl rfl)
theorem dX10_readsSecret_94 : decode cX10_readsSecret 94 = .ok (.aload_n 0, 1) := dk_42 (dk_at dksX10_readsSecret_4 4 rfl rfl)
theorem dX10_readsSecret_95 : decode cX10_readsSecret 95 = .ok (.invokevirtual 246, 3) := dk_182 0 246 (dk_at dksX10_readsSecret_4 5 rfl rfl)
theorem dX10_readsSecret_98 : decode cX10_readsSecret 98 = .ok (.aload_n 0, 1) := dk_42 (dk_at dksX10_readsSecret_4 8 rfl rfl)
theorem dX10_readsSecret_99 : decode cX10_readsSecret 99 = .ok (.ldc2_w 270, 3) := dk_20 1 14 (dk_at dksX10_readsSecret_4 9 rfl rfl)
theorem dX10_readsSecret_102 : decode cX10_readsSecret 102 = .ok (.invokevirtual 315, 3) := dk_182 1 59 (dk_at dksX10_readsSecret_4 12 rfl rfl)
theorem dX10_readsSecret_105 : decode cX10_readsSecret 105 = .ok (.ifCond .eq 11, 3) := dk_153 0 11 (dk_at dksX10_readsSecret_4 15 rfl rfl)
theorem dX10_readsSecret_108 : decode cX10_readsSecret 108 = .ok (.aload_n 0, 1) := dk_42 (dk_at dksX10_readsSecret_4 18 rfl rfl)
theorem dX10_readsSecret_109 : decode cX10_readsSecret 109 = .ok (.iconst 1, 1) := dk_4 (dk_at dksX10_readsSecret_4 19 rfl rfl)
theorem dX10_readsSecret_110 : decode cX10_readsSecret 110 = .ok (.invokevirtual 342, 3) := dk_182 1 86 (dk_at dksX10_readsSecret_4 20 rfl rfl)
theorem dX10_readsSecret_113 : decode cX10_readsSecret 113 = .ok (.ifCond .ne 5, 3) := dk_154 0 5 (dk_at dksX10_readsSecret_5 0 rfl rfl)
theorem dX10_readsSecret_116 : decode cX10_readsSecret 116 = .ok (.iconst 0, 1) := dk_3 (dk_at dksX10_readsSecret_5 3 rfl rfl)
theorem dX10_readsSecret_117 : decode cX10_readsSecret 117 = .ok (.ireturn, 1) := dk_172 (dk_at dksX10_readsSecret_5 4 rfl rfl)
theorem dX10_readsSecret_118 : decode cX10_readsSecret 118 = .ok (.aload_n 0, 1) := dk_42 (dk_at dksX10_readsSecret_5 5 rfl rfl)
theorem dX10_readsSecret_119 : decode cX10_readsSecret 119 = .ok (.getfield 35, 3) := dk_180 0 35 (dk_at dksX10_readsSecret_5 6 rfl rfl)
theorem dX10_readsSecret_122 : decode cX10_readsSecret 122 = .ok (.iload_n 1, 1) := dk_27 (dk_at dksX10_readsSecret_5 9 rfl rfl)
theorem dX10_readsSecret_123 : decode cX10_readsSecret 123 = .ok (.aload_n 0, 1) := dk_42 (dk_at dksX10_readsSecret_5 10 rfl rfl)
theorem dX10_readsSecret_124 : decode cX10_readsSecret 124 = .ok (.getfield 312, 3) := dk_180 1 56 (dk_at dksX10_readsSecret_5 11 rfl rfl)
theorem dX10_readsSecret_127 : decode cX10_readsSecret 127 = .ok (.iastore, 1) := dk_79 (dk_at dksX10_readsSecret_5 14 rfl rfl)
theorem dX10_readsSecret_128 : decode cX10_readsSecret 128 = .ok (.aload_n 0, 1) := dk_42 (dk_at dksX10_readsSecret_5 15 rfl rfl)
theorem dX10_readsSecret_129 : decode cX10_readsSecret 129 = .ok (.invokevirtual 246, 3) := dk_182 0 246 (dk_at dksX10_readsSecret_5 16 rfl rfl)
theorem dX10_readsSecret_132 : decode cX10_readsSecret 132 = .ok (.aload_n 0, 1) := dk_42 (dk_at dksX10_readsSecret_5 19 rfl rfl)
theorem dX10_readsSecret_133 : decode cX10_readsSecret 133 = .ok (.ldc2_w 272, 3) := dk_20 1 16 (dk_at dksX10_readsSecret_5 20 rfl rfl)
theorem dX10_readsSecret_136 : decode cX10_readsSecret 136 = .ok (.iconst 1, 1) := dk_4 (dk_at dksX10_readsSecret_5 23 rfl rfl)
theorem dX10_readsSecret_137 : decode cX10_readsSecret 137 = .ok (.bipush 99, 2) := dk_16 99 (dk_at dksX10_readsSecret_6 0 rfl rfl)
theorem dX10_readsSecret_139 : decode cX10_readsSecret 139 = .ok (.invokevirtual 335, 3) := dk_182 1 79 (dk_at dksX10_readsSecret_6 2 rfl rfl)
theorem dX10_readsSecret_142 : decode cX10_readsSecret 142 = .ok (.ifCond .ne 5, 3) := dk_154 0 5 (dk_at dksX10_readsSecret_6 5 rfl rfl)
theorem dX10_readsSecret_145 : decode cX10_readsSecret 145 = .ok (.iconst 0, 1) := dk_3 (dk_at dksX10_readsSecret_6 8 rfl rfl)
theorem dX10_readsSecret_146 : decode cX10_readsSecret 146 = .ok (.ireturn, 1) := dk_172 (dk_at dksX10_readsSecret_6 9 rfl rfl)
theorem dX10_readsSecret_147 : decode cX10_readsSecret 147 = .ok (.aload_n 0, 1) := dk_42 (dk_at dksX10_readsSecret_6 10 rfl rfl)
theorem dX10_readsSecret_148 : decode cX10_readsSecret 148 = .ok (.getfield 38, 3) := dk_180 0 38 (dk_at dksX10_readsSecret_6 11 rfl rfl)
theorem dX10_readsSecret_151 : decode cX10_readsSecret 151 = .ok (.iload_n 1, 1) := dk_27 (dk_at dksX10_readsSecret_6 14 rfl rfl)
theorem dX10_readsSecret_152 : decode cX10_readsSecret 152 = .ok (.aload_n 0, 1) := dk_42 (dk_at dksX10_readsSecret_6 15 rfl rfl)
theorem dX10_readsSecret_153 : decode cX10_readsSecret 153 = .ok (.getfield 312, 3) := dk_180 1 56 (dk_at dksX10_readsSecret_6 16 rfl rfl)
theorem dX10_readsSecret_156 : decode cX10_readsSecret 156 = .ok (.iastore, 1) := dk_79 (dk_at dksX10_readsSecret_6 19 rfl rfl)
theorem dX10_readsSecret_157 : decode cX10_readsSecret 157 = .ok (.aload_n 0, 1) := dk_42 (dk_at dksX10_readsSecret_6 20 rfl rfl)
theorem dX10_readsSecret_158 : decode cX10_readsSecret 158 = .ok (.getfield 41, 3) := dk_180 0 41 (dk_at dksX10_readsSecret_6 21 rfl rfl)
theorem dX10_readsSecret_161 : decode cX10_readsSecret 161 = .ok (.iload_n 1, 1) := dk_27 (dk_at dksX10_readsSecret_7 0 rfl rfl)
theorem dX10_readsSecret_162 : decode cX10_readsSecret 162 = .ok (.iconst (-1), 1) := dk_2 (dk_at dksX10_readsSecret_7 1 rfl rfl)
theorem dX10_readsSecret_163 : decode cX10_readsSecret 163 = .ok (.iastore, 1) := dk_79 (dk_at dksX10_readsSecret_7 2 rfl rfl)
theorem dX10_readsSecret_164 : decode cX10_readsSecret 164 = .ok (.aload_n 0, 1) := dk_42 (dk_at dksX10_readsSecret_7 3 rfl rfl)
theorem dX10_readsSecret_165 : decode cX10_readsSecret 165 = .ok (.ldc2_w 274, 3) := dk_20 1 18 (dk_at dksX10_readsSecret_7 4 rfl rfl)
theorem dX10_readsSecret_168 : decode cX10_readsSecret 168 = .ok (.invokevirtual 231, 3) := dk_182 0 231 (dk_at dksX10_readsSecret_7 7 rfl rfl)
theorem dX10_readsSecret_171 : decode cX10_readsSecret 171 = .ok (.ifCond .eq 31, 3) := dk_153 0 31 (dk_at dksX10_readsSecret_7 10 rfl rfl)
theorem dX10_readsSecret_174 : decode cX10_readsSecret 174 = .ok (.aload_n 0, 1) := dk_42 (dk_at dksX10_readsSecret_7 13 rfl rfl)
theorem dX10_readsSecret_175 : decode cX10_readsSecret 175 = .ok (.invokevirtual 246, 3) := dk_182 0 246 (dk_at dksX10_readsSecret_7 14 rfl rfl)
theorem dX10_readsSecret_178 : decode cX10_readsSecret 178 = .ok (.aload_n 0, 1) := dk_42 (dk_at dksX10_readsSecret_7 17 rfl rfl)
theorem dX10_readsSecret_179 : decode cX10_readsSecret 179 = .ok (.iconst 1, 1) := dk_4 (dk_at dksX10_readsSecret_7 18 rfl rfl)
theorem dX10_readsSecret_180 : decode cX10_readsSecret 180 = .ok (.invokevirtual 345, 3) := dk_182 1 89 (dk_at dksX10_readsSecret_7 19 rfl rfl)
theorem dX10_readsSecret_183 : decode cX10_readsSecret 183 = .ok (.ifCond .ne 5, 3) := dk_154 0 5 (dk_at dksX10_readsSecret_8 0 rfl rfl)
theorem dX10_readsSecret_186 : decode cX10_readsSecret 186 = .ok (.iconst 0, 1) := dk_3 (dk_at dksX10_readsSecret_8 3 rfl rfl)
theorem dX10_readsSecret_187 : decode cX10_readsSecret 187 = .ok (.ireturn, 1) := dk_172 (dk_at dksX10_readsSecret_8 4 rfl rfl)
theorem dX10_readsSecret_188 : decode cX10_readsSecret 188 = .ok (.aload_n 0, 1) := dk_42 (dk_at dksX10_readsSecret_8 5 rfl rfl)
theorem dX10_readsSecret_189 : decode cX10_readsSecret 189 = .ok (.getfield 41, 3) := dk_180 0 41 (dk_at dksX10_readsSecret_8 6 rfl rfl)
theorem dX10_readsSecret_192 : decode cX10_readsSecret 192 = .ok (.iload_n 1, 1) := dk_27 (dk_at dksX10_readsSecret_8 9 rfl rfl)
theorem dX10_readsSecret_193 : decode cX10_readsSecret 193 = .ok (.aload_n 0, 1) := dk_42 (dk_at dksX10_readsSecret_8 10 rfl rfl)
theorem dX10_readsSecret_194 : decode cX10_readsSecret 194 = .ok (.getfield 312, 3) := dk_180 1 56 (dk_at dksX10_readsSecret_8 11 rfl rfl)
theorem dX10_readsSecret_197 : decode cX10_readsSecret 197 = .ok (.iastore, 1) := dk_79 (dk_at dksX10_readsSecret_8 14 rfl rfl)
theorem dX10_readsSecret_198 : decode cX10_readsSecret 198 = .ok (.aload_n 0, 1) := dk_42 (dk_at dksX10_readsSecret_8 15 rfl rfl)
theorem dX10_readsSecret_199 : decode cX10_readsSecret 199 = .ok (.invokevirtual 246, 3) := dk_182 0 246 (dk_at dksX10_readsSecret_8 16 rfl rfl)
theorem dX10_readsSecret_202 : decode cX10_readsSecret 202 = .ok (.aload_n 0, 1) := dk_42 (dk_at dksX10_readsSecret_8 19 rfl rfl)
theorem dX10_readsSecret_203 : decode cX10_readsSecret 203 = .ok (.ldc2_w 276, 3) := dk_20 1 20 (dk_at dksX10_readsSecret_8 20 rfl rfl)
theorem dX10_readsSecret_206 : decode cX10_readsSecret 206 = .ok (.invokevirtual 315, 3) := dk_182 1 59 (dk_at dksX10_readsSecret_9 0 rfl rfl)
theorem dX10_readsSecret_209 : decode cX10_readsSecret 209 = .ok (.ifCond .eq 11, 3) := dk_153 0 11 (dk_at dksX10_readsSecret_9 3 rfl rfl)
theorem dX10_readsSecret_212 : decode cX10_readsSecret 212 = .ok (.aload_n 0, 1) := dk_42 (dk_at dksX10_readsSecret_9 6 rfl rfl)
theorem dX10_readsSecret_213 : decode cX10_readsSecret 213 = .ok (.iload_n 1, 1) := dk_27 (dk_at dksX10_readsSecret_9 7 rfl rfl)
theorem dX10_readsSecret_214 : decode cX10_readsSecret 214 = .ok (.invokevirtual 348, 3) := dk_182 1 92 (dk_at dksX10_readsSecret_9 8 rfl rfl)
theorem dX10_readsSecret_217 : decode cX10_readsSecret 217 = .ok (.ifCond .ne 5, 3) := dk_154 0 5 (dk_at dksX10_readsSecret_9 11 rfl rfl)
theorem dX10_readsSecret_220 : decode cX10_readsSecret 220 = .ok (.iconst 0, 1) := dk_3 (dk_at dksX10_readsSecret_9 14 rfl rfl)
theorem dX10_readsSecret_221 : decode cX10_readsSecret 221 = .ok (.ireturn, 1) := dk_172 (dk_at dksX10_readsSecret_9 15 rfl rfl)
theorem dX10_readsSecret_222 : decode cX10_readsSecret 222 = .ok (.aload_n 0, 1) := dk_42 (dk_at dksX10_readsSecret_9 16 rfl rfl)
theorem dX10_readsSecret_223 : decode cX10_readsSecret 223 = .ok (.getfield 47, 3) := dk_180 0 47 (dk_at dksX10_readsSecret_9 17 rfl rfl)
theorem dX10_readsSecret_226 : decode cX10_readsSecret 226 = .ok (.iload_n 1, 1) := dk_27 (dk_at dksX10_readsSecret_9 20 rfl rfl)
theorem dX10_readsSecret_227 : decode cX10_readsSecret 227 = .ok (.iconst 0, 1) := dk_3 (dk_at dksX10_readsSecret_9 21 rfl rfl)
theorem dX10_readsSecret_228 : decode cX10_readsSecret 228 = .ok (.iastore, 1) := dk_79 (dk_at dksX10_readsSecret_9 22 rfl rfl)
theorem dX10_readsSecret_229 : decode cX10_readsSecret 229 = .ok (.aload_n 0, 1) := dk_42 (dk_at dksX10_readsSecret_9 23 rfl rfl)
theorem dX10_readsSecret_230 : decode cX10_readsSecret 230 = .ok (.getfield 20, 3) := dk_180 0 20 (dk_at dksX10_readsSecret_10 0 rfl rfl)
theorem dX10_readsSecret_233 : decode cX10_readsSecret 233 = .ok (.iload_n 1, 1) := dk_27 (dk_at dksX10_readsSecret_10 3 rfl rfl)
theorem dX10_readsSecret_234 : decode cX10_readsSecret 234 = .ok (.lload_n 2, 1) := dk_32 (dk_at dksX10_readsSecret_10 4 rfl rfl)
theorem dX10_readsSecret_235 : decode cX10_readsSecret 235 = .ok (.lastore, 1) := dk_80 (dk_at dksX10_readsSecret_10 5 rfl rfl)
theorem dX10_readsSecret_236 : decode cX10_readsSecret 236 = .ok (.aload_n 0, 1) := dk_42 (dk_at dksX10_readsSecret_10 6 rfl rfl)
theorem dX10_readsSecret_237 : decode cX10_readsSecret 237 = .ok (.getfield 13, 3) := dk_180 0 13 (dk_at dksX10_readsSecret_10 7 rfl rfl)
theorem dX10_readsSecret_240 : decode cX10_readsSecret 240 = .ok (.iconst 5, 1) := dk_8 (dk_at dksX10_readsSecret_10 10 rfl rfl)
theorem dX10_readsSecret_241 : decode cX10_readsSecret 241 = .ok (.dup2, 1) := dk_92 (dk_at dksX10_readsSecret_10 11 rfl rfl)
theorem dX10_readsSecret_242 : decode cX10_readsSecret 242 = .ok (.iaload, 1) := dk_46 (dk_at dksX10_readsSecret_10 12 rfl rfl)
theorem dX10_readsSecret_243 : decode cX10_readsSecret 243 = .ok (.iconst 1, 1) := dk_4 (dk_at dksX10_readsSecret_10 13 rfl rfl)
theorem dX10_readsSecret_244 : decode cX10_readsSecret 244 = .ok (.iadd, 1) := dk_96 (dk_at dksX10_readsSecret_10 14 rfl rfl)
theorem dX10_readsSecret_245 : decode cX10_readsSecret 245 = .ok (.iastore, 1) := dk_79 (dk_at dksX10_readsSecret_10 15 rfl rfl)
theorem dX10_readsSecret_246 : decode cX10_readsSecret 246 = .ok (.aload_n 0, 1) := dk_42 (dk_at dksX10_readsSecret_10 16 rfl rfl)
theorem dX10_readsSecret_247 : decode cX10_readsSecret 247 = .ok (.invokevirtual 339, 3) := dk_182 1 83 (dk_at dksX10_readsSecret_10 17 rfl rfl)
theorem dX10_readsSecret_250 : decode cX10_readsSecret 250 = .ok (.ireturn, 1) := dk_172 (dk_at dksX10_readsSecret_10 20 rfl rfl)
abbrev cX10_needsPerson : ByteArray := prog_36_method_28_code
def yX10_needsPerson : MethodName := ⟨RX10, "needsPerson", "(I)Z"⟩
def dkwX10_needsPerson_1 : List UInt8 := [180, 1, 56, 156, 0, 11, 42, 5, 182, 0, 239, 153, 0, 7, 4, 167, 0, 4, 3, 172]
abbrev dktX10_needsPerson_1 : List UInt8 := dkwX10_needsPerson_1 ++ []
def dkwX10_needsPerson_0 : List UInt8 := [42, 182, 1, 66, 153, 0, 9, 42, 4, 182, 0, 239, 172, 42, 42, 27, 182, 1, 70, 181, 1, 56, 42]
abbrev dktX10_needsPerson_0 : List UInt8 := dkwX10_needsPerson_0 ++ dktX10_needsPerson_1
theorem dksX10_needsPerson_0 : cX10_needsPerson.data.toList.drop 0 = dktX10_needsPerson_0 := by decide +kernel
theorem dksX10_needsPerson_1 : cX10_needsPerson.data.toList.drop 23 = dktX10_needsPerson_1 := dk_seg dksX10_needsPerson_0 23 rfl rfl
theorem dX10_needsPerson_0 : decode cX10_needsPerson 0 = .ok (.aload_n 0, 1) := dk_42 (dk_at dksX10_needsPerson_0 0 rfl rfl)
theorem dX10_needsPerson_1 : decode cX10_needsPerson 1 = .ok (.invokevirtual 322, 3) := dk_182 1 66 (dk_at dksX10_needsPerson_0 1 rfl rfl)
theorem dX10_needsPerson_4 : decode cX10_needsPerson 4 = .ok (.ifCond .eq 9, 3) := dk_153 0 9 (dk_at dksX10_needsPerson_0 4 rfl rfl)
theorem dX10_needsPerson_7 : decode cX10_needsPerson 7 = .ok (.aload_n 0, 1) := dk_42 (dk_at dksX10_needsPerson_0 7 rfl rfl)
theorem dX10_needsPerson_8 : decode cX10_needsPerson 8 = .ok (.iconst 1, 1) := dk_4 (dk_at dksX10_needsPerson_0 8 rfl rfl)
theorem dX10_needsPerson_9 : decode cX10_needsPerson 9 = .ok (.invokevirtual 239, 3) := dk_182 0 239 (dk_at dksX10_needsPerson_0 9 rfl rfl)
theorem dX10_needsPerson_12 : decode cX10_needsPerson 12 = .ok (.ireturn, 1) := dk_172 (dk_at dksX10_needsPerson_0 12 rfl rfl)
theorem dX10_needsPerson_13 : decode cX10_needsPerson 13 = .ok (.aload_n 0, 1) := dk_42 (dk_at dksX10_needsPerson_0 13 rfl rfl)
theorem dX10_needsPerson_14 : decode cX10_needsPerson 14 = .ok (.aload_n 0, 1) := dk_42 (dk_at dksX10_needsPerson_0 14 rfl rfl)
theorem dX10_needsPerson_15 : decode cX10_needsPerson 15 = .ok (.iload_n 1, 1) := dk_27 (dk_at dksX10_needsPerson_0 15 rfl rfl)
theorem dX10_needsPerson_16 : decode cX10_needsPerson 16 = .ok (.invokevirtual 326, 3) := dk_182 1 70 (dk_at dksX10_needsPerson_0 16 rfl rfl)
theorem dX10_needsPerson_19 : decode cX10_needsPerson 19 = .ok (.putfield 312, 3) := dk_181 1 56 (dk_at dksX10_needsPerson_0 19 rfl rfl)
theorem dX10_needsPerson_22 : decode cX10_needsPerson 22 = .ok (.aload_n 0, 1) := dk_42 (dk_at dksX10_needsPerson_0 22 rfl rfl)
theorem dX10_needsPerson_23 : decode cX10_needsPerson 23 = .ok (.getfield 312, 3) := dk_180 1 56 (dk_at dksX10_needsPerson_1 0 rfl rfl)
theorem dX10_needsPerson_26 : decode cX10_needsPerson 26 = .ok (.ifCond .ge 11, 3) := dk_156 0 11 (dk_at dksX10_needsPerson_1 3 rfl rfl)
theorem dX10_needsPerson_29 : decode cX10_needsPerson 29 = .ok (.aload_n 0, 1) := dk_42 (dk_at dksX10_needsPerson_1 6 rfl rfl)
theorem dX10_needsPerson_30 : decode cX10_needsPerson 30 = .ok (.iconst 2, 1) := dk_5 (dk_at dksX10_needsPerson_1 7 rfl rfl)
theorem dX10_needsPerson_31 : decode cX10_needsPerson 31 = .ok (.invokevirtual 239, 3) := dk_182 0 239 (dk_at dksX10_needsPerson_1 8 rfl rfl)
theorem dX10_needsPerson_34 : decode cX10_needsPerson 34 = .ok (.ifCond .eq 7, 3) := dk_153 0 7 (dk_at dksX10_needsPerson_1 11 rfl rfl)
theorem dX10_needsPerson_37 : decode cX10_needsPerson 37 = .ok (.iconst 1, 1) := dk_4 (dk_at dksX10_needsPerson_1 14 rfl rfl)
theorem dX10_needsPerson_38 : decode cX10_needsPerson 38 = .ok (.goto 4, 3) := dk_167 0 4 (dk_at dksX10_needsPerson_1 15 rfl rfl)
theorem dX10_needsPerson_41 : decode cX10_needsPerson 41 = .ok (.iconst 0, 1) := dk_3 (dk_at dksX10_needsPerson_1 18 rfl rfl)
theorem dX10_needsPerson_42 : decode cX10_needsPerson 42 = .ok (.ireturn, 1) := dk_172 (dk_at dksX10_needsPerson_1 19 rfl rfl)
abbrev cX10_needsSecret : ByteArray := prog_36_method_29_code
def yX10_needsSecret : MethodName := ⟨RX10, "needsSecret", "(I)Z"⟩
def dkwX10_needsSecret_1 : List UInt8 := [180, 1, 56, 156, 0, 11, 42, 5, 182, 0, 239, 153, 0, 7, 4, 167, 0, 4, 3, 172]
abbrev dktX10_needsSecret_1 : List UInt8 := dkwX10_needsSecret_1 ++ []
def dkwX10_needsSecret_0 : List UInt8 := [42, 182, 1, 66, 153, 0, 9, 42, 4, 182, 0, 239, 172, 42, 42, 27, 182, 1, 73, 181, 1, 56, 42]
abbrev dktX10_needsSecret_0 : List UInt8 := dkwX10_needsSecret_0 ++ dktX10_needsSecret_1
theorem dksX10_needsSecret_0 : cX10_needsSecret.data.toList.drop 0 = dktX10_needsSecret_0 := by decide +kernel
theorem dksX10_needsSecret_1 : cX10_needsSecret.data.toList.drop 23 = dktX10_needsSecret_1 := dk_seg dksX10_needsSecret_0 23 rfl rfl
theorem dX10_needsSecret_0 : decode cX10_needsSecret 0 = .ok (.aload_n 0, 1) := dk_42 (dk_at dksX10_needsSecret_0 0 rfl rfl)
theorem dX10_needsSecret_1 : decode cX10_needsSecret 1 = .ok (.invokevirtual 322, 3) := dk_182 1 66 (dk_at dksX10_needsSecret_0 1 rfl rfl)
theorem dX10_needsSecret_4 : decode cX10_needsSecret 4 = .ok (.ifCond .eq 9, 3) := dk_153 0 9 (dk_at dksX10_needsSecret_0 4 rfl rfl)
theorem dX10_needsSecret_7 : decode cX10_needsSecret 7 = .ok (.aload_n 0, 1) := dk_42 (dk_at dksX10_needsSecret_0 7 rfl rfl)
theorem dX10_needsSecret_8 : decode cX10_needsSecret 8 = .ok (.iconst 1, 1) := dk_4 (dk_at dksX10_needsSecret_0 8 rfl rfl)
theorem dX10_needsSecret_9 : decode cX10_needsSecret 9 = .ok (.invokevirtual 239, 3) := dk_182 0 239 (dk_at dksX10_needsSecret_0 9 rfl rfl)
theorem dX10_needsSecret_12 : decode cX10_needsSecret 12 = .ok (.ireturn, 1) := dk_172 (dk_at dksX10_needsSecret_0 12 rfl rfl)
theorem dX10_needsSecret_13 : decode cX10_needsSecret 13 = .ok (.aload_n 0, 1) := dk_42 (dk_at dksX10_needsSecret_0 13 rfl rfl)
theorem dX10_needsSecret_14 : decode cX10_needsSecret 14 = .ok (.aload_n 0, 1) := dk_42 (dk_at dksX10_needsSecret_0 14 rfl rfl)
theorem dX10_needsSecret_15 : decode cX10_needsSecret 15 = .ok (.iload_n 1, 1) := dk_27 (dk_at dksX10_needsSecret_0 15 rfl rfl)
theorem dX10_needsSecret_16 : decode cX10_needsSecret 16 = .ok (.invokevirtual 329, 3) := dk_182 1 73 (dk_at dksX10_needsSecret_0 16 rfl rfl)
theorem dX10_needsSecret_19 : decode cX10_needsSecret 19 = .ok (.putfield 312, 3) := dk_181 1 56 (dk_at dksX10_needsSecret_0 19 rfl rfl)
theorem dX10_needsSecret_22 : decode cX10_needsSecret 22 = .ok (.aload_n 0, 1) := dk_42 (dk_at dksX10_needsSecret_0 22 rfl rfl)
theorem dX10_needsSecret_23 : decode cX10_needsSecret 23 = .ok (.getfield 312, 3) := dk_180 1 56 (dk_at dksX10_needsSecret_1 0 rfl rfl)
theorem dX10_needsSecret_26 : decode cX10_needsSecret 26 = .ok (.ifCond .ge 11, 3) := dk_156 0 11 (dk_at dksX10_needsSecret_1 3 rfl rfl)
theorem dX10_needsSecret_29 : decode cX10_needsSecret 29 = .ok (.aload_n 0, 1) := dk_42 (dk_at dksX10_needsSecret_1 6 rfl rfl)
theorem dX10_needsSecret_30 : decode cX10_needsSecret 30 = .ok (.iconst 2, 1) := dk_5 (dk_at dksX10_needsSecret_1 7 rfl rfl)
theorem dX10_needsSecret_31 : decode cX10_needsSecret 31 = .ok (.invokevirtual 239, 3) := dk_182 0 239 (dk_at dksX10_needsSecret_1 8 rfl rfl)
theorem dX10_needsSecret_34 : decode cX10_needsSecret 34 = .ok (.ifCond .eq 7, 3) := dk_153 0 7 (dk_at dksX10_needsSecret_1 11 rfl rfl)
theorem dX10_needsSecret_37 : decode cX10_needsSecret 37 = .ok (.iconst 1, 1) := dk_4 (dk_at dksX10_needsSecret_1 14 rfl rfl)
theorem dX10_needsSecret_38 : decode cX10_needsSecret 38 = .ok (.goto 4, 3) := dk_167 0 4 (dk_at dksX10_needsSecret_1 15 rfl rfl)
theorem dX10_needsSecret_41 : decode cX10_needsSecret 41 = .ok (.iconst 0, 1) := dk_3 (dk_at dksX10_needsSecret_1 18 rfl rfl)
theorem dX10_needsSecret_42 : decode cX10_needsSecret 42 = .ok (.ireturn, 1) := dk_172 (dk_at dksX10_needsSecret_1 19 rfl rfl)
abbrev cX10_readsKnowers : ByteArray := prog_36_method_31_code
def yX10_readsKnowers : MethodName := ⟨RX10, "readsKnowers", "(I)Z"⟩
def dkwX10_readsKnowers_3 : List UInt8 := [120, 128, 79, 42, 182, 0, 246, 167, 255, 186, 4, 172]
abbrev dktX10_readsKnowers_3 : List UInt8 := dkwX10_readsKnowers_3 ++ []
def dkwX10_readsKnowers_2 : List UInt8 := [4, 126, 4, 160, 0, 9, 42, 6, 182, 0, 239, 172, 42, 180, 0, 44, 27, 92, 46, 4, 42, 180, 1, 56]
abbrev dktX10_readsKnowers_2 : List UInt8 := dkwX10_readsKnowers_2 ++ dktX10_readsKnowers_3
def dkwX10_readsKnowers_1 : List UInt8 := [154, 0, 58, 42, 4, 182, 1, 86, 154, 0, 5, 3, 172, 42, 180, 0, 44, 27, 46, 42, 180, 1, 56, 122]
abbrev dktX10_readsKnowers_1 : List UInt8 := dkwX10_readsKnowers_1 ++ dktX10_readsKnowers_2
def dkwX10_readsKnowers_0 : List UInt8 := [42, 180, 0, 44, 27, 3, 79, 42, 180, 0, 44, 27, 46, 153, 0, 12, 42, 16, 59, 182, 0, 235]
abbrev dktX10_readsKnowers_0 : List UInt8 := dkwX10_readsKnowers_0 ++ dktX10_readsKnowers_1
theorem dksX10_readsKnowers_0 : cX10_readsKnowers.data.toList.drop 0 = dktX10_readsKnowers_0 := by decide +kernel
theorem dksX10_readsKnowers_1 : cX10_readsKnowers.data.toList.drop 22 = dktX10_readsKnowers_1 := dk_seg dksX10_readsKnowers_0 22 rfl rfl
theorem dksX10_readsKnowers_2 : cX10_readsKnowers.data.toList.drop 46 = dktX10_readsKnowers_2 := dk_seg dksX10_readsKnowers_1 24 rfl rfl
theorem dksX10_readsKnowers_3 : cX10_readsKnowers.data.toList.drop 70 = dktX10_readsKnowers_3 := dk_seg dksX10_readsKnowers_2 24 rfl rfl
theorem dX10_readsKnowers_0 : decode cX10_readsKnowers 0 = .ok (.aload_n 0, 1) := dk_42 (dk_at dksX10_readsKnowers_0 0 rfl rfl)
theorem dX10_readsKnowers_1 : decode cX10_readsKnowers 1 = .ok (.getfield 44, 3) := dk_180 0 44 (dk_at dksX10_readsKnowers_0 1 rfl rfl)
theorem dX10_readsKnowers_4 : decode cX10_readsKnowers 4 = .ok (.iload_n 1, 1) := dk_27 (dk_at dksX10_readsKnowers_0 4 rfl rfl)
theorem dX10_readsKnowers_5 : decode cX10_readsKnowers 5 = .ok (.iconst 0, 1) := dk_3 (dk_at dksX10_readsKnowers_0 5 rfl rfl)
theorem dX10_readsKnowers_6 : decode cX10_readsKnowers 6 = .ok (.iastore, 1) := dk_79 (dk_at dksX10_readsKnowers_0 6 rfl rfl)
theorem dX10_readsKnowers_7 : decode cX10_readsKnowers 7 = .ok (.aload_n 0, 1) := dk_42 (dk_at dksX10_readsKnowers_0 7 rfl rfl)
theorem dX10_readsKnowers_8 : decode cX10_readsKnowers 8 = .ok (.getfield 44, 3) := dk_180 0 44 (dk_at dksX10_readsKnowers_0 8 rfl rfl)
theorem dX10_readsKnowers_11 : decode cX10_readsKnowers 11 = .ok (.iload_n 1, 1) := dk_27 (dk_at dksX10_readsKnowers_0 11 rfl rfl)
theorem dX10_readsKnowers_12 : decode cX10_readsKnowers 12 = .ok (.iaload, 1) := dk_46 (dk_at dksX10_readsKnowers_0 12 rfl rfl)
theorem dX10_readsKnowers_13 : decode cX10_readsKnowers 13 = .ok (.ifCond .eq 12, 3) := dk_153 0 12 (dk_at dksX10_readsKnowers_0 13 rfl rfl)
theorem dX10_readsKnowers_16 : decode cX10_readsKnowers 16 = .ok (.aload_n 0, 1) := dk_42 (dk_at dksX10_readsKnowers_0 16 rfl rfl)
theorem dX10_readsKnowers_17 : decode cX10_readsKnowers 17 = .ok (.bipush 59, 2) := dk_16 59 (dk_at dksX10_readsKnowers_0 17 rfl rfl)
theorem dX10_readsKnowers_19 : decode cX10_readsKnowers 19 = .ok (.invokevirtual 235, 3) := dk_182 0 235 (dk_at dksX10_readsKnowers_0 19 rfl rfl)
theorem dX10_readsKnowers_22 : decode cX10_readsKnowers 22 = .ok (.ifCond .ne 58, 3) := dk_154 0 58 (dk_at dksX10_readsKnowers_1 0 rfl rfl)
theorem dX10_readsKnowers_25 : decode cX10_readsKnowers 25 = .ok (.aload_n 0, 1) := dk_42 (dk_at dksX10_readsKnowers_1 3 rfl rfl)
theorem dX10_readsKnowers_26 : decode cX10_readsKnowers 26 = .ok (.iconst 1, 1) := dk_4 (dk_at dksX10_readsKnowers_1 4 rfl rfl)
theorem dX10_readsKnowers_27 : decode cX10_readsKnowers 27 = .ok (.invokevirtual 342, 3) := dk_182 1 86 (dk_at dksX10_readsKnowers_1 5 rfl rfl)
theorem dX10_readsKnowers_30 : decode cX10_readsKnowers 30 = .ok (.ifCond .ne 5, 3) := dk_154 0 5 (dk_at dksX10_readsKnowers_1 8 rfl rfl)
theorem dX10_readsKnowers_33 : decode cX10_readsKnowers 33 = .ok (.iconst 0, 1) := dk_3 (dk_at dksX10_readsKnowers_1 11 rfl rfl)
theorem dX10_readsKnowers_34 : decode cX10_readsKnowers 34 = .ok (.ireturn, 1) := dk_172 (dk_at dksX10_readsKnowers_1 12 rfl rfl)
theorem dX10_readsKnowers_35 : decode cX10_readsKnowers 35 = .ok (.aload_n 0, 1) := dk_42 (dk_at dksX10_readsKnowers_1 13 rfl rfl)
theorem dX10_readsKnowers_36 : decode cX10_readsKnowers 36 = .ok (.getfield 44, 3) := dk_180 0 44 (dk_at dksX10_readsKnowers_1 14 rfl rfl)
theorem dX10_readsKnowers_39 : decode cX10_readsKnowers 39 = .ok (.iload_n 1, 1) := dk_27 (dk_at dksX10_readsKnowers_1 17 rfl rfl)
theorem dX10_readsKnowers_40 : decode cX10_readsKnowers 40 = .ok (.iaload, 1) := dk_46 (dk_at dksX10_readsKnowers_1 18 rfl rfl)
theorem dX10_readsKnowers_41 : decode cX10_readsKnowers 41 = .ok (.aload_n 0, 1) := dk_42 (dk_at dksX10_readsKnowers_1 19 rfl rfl)
theorem dX10_readsKnowers_42 : decode cX10_readsKnowers 42 = .ok (.getfield 312, 3) := dk_180 1 56 (dk_at dksX10_readsKnowers_1 20 rfl rfl)
theorem dX10_readsKnowers_45 : decode cX10_readsKnowers 45 = .ok (.ishr, 1) := dk_122 (dk_at dksX10_readsKnowers_1 23 rfl rfl)
theorem dX10_readsKnowers_46 : decode cX10_readsKnowers 46 = .ok (.iconst 1, 1) := dk_4 (dk_at dksX10_readsKnowers_2 0 rfl rfl)
theorem dX10_readsKnowers_47 : decode cX10_readsKnowers 47 = .ok (.iand, 1) := dk_126 (dk_at dksX10_readsKnowers_2 1 rfl rfl)
theorem dX10_readsKnowers_48 : decode cX10_readsKnowers 48 = .ok (.iconst 1, 1) := dk_4 (dk_at dksX10_readsKnowers_2 2 rfl rfl)
theorem dX10_readsKnowers_49 : decode cX10_readsKnowers 49 = .ok (.if_icmp .ne 9, 3) := dk_160 0 9 (dk_at dksX10_readsKnowers_2 3 rfl rfl)
theorem dX10_readsKnowers_52 : decode cX10_readsKnowers 52 = .ok (.aload_n 0, 1) := dk_42 (dk_at dksX10_readsKnowers_2 6 rfl rfl)
theorem dX10_readsKnowers_53 : decode cX10_readsKnowers 53 = .ok (.iconst 3, 1) := dk_6 (dk_at dksX10_readsKnowers_2 7 rfl rfl)
theorem dX10_readsKnowers_54 : decode cX10_readsKnowers 54 = .ok (.invokevirtual 239, 3) := dk_182 0 239 (dk_at dksX10_readsKnowers_2 8 rfl rfl)
theorem dX10_readsKnowers_57 : decode cX10_readsKnowers 57 = .ok (.ireturn, 1) := dk_172 (dk_at dksX10_readsKnowers_2 11 rfl rfl)
theorem dX10_readsKnowers_58 : decode cX10_readsKnowers 58 = .ok (.aload_n 0, 1) := dk_42 (dk_at dksX10_readsKnowers_2 12 rfl rfl)
theorem dX10_readsKnowers_59 : decode cX10_readsKnowers 59 = .ok (.getfield 44, 3) := dk_180 0 44 (dk_at dksX10_readsKnowers_2 13 rfl rfl)
theorem dX10_readsKnowers_62 : decode cX10_readsKnowers 62 = .ok (.iload_n 1, 1) := dk_27 (dk_at dksX10_readsKnowers_2 16 rfl rfl)
theorem dX10_readsKnowers_63 : decode cX10_readsKnowers 63 = .ok (.dup2, 1) := dk_92 (dk_at dksX10_readsKnowers_2 17 rfl rfl)
theorem dX10_readsKnowers_64 : decode cX10_readsKnowers 64 = .ok (.iaload, 1) := dk_46 (dk_at dksX10_readsKnowers_2 18 rfl rfl)
theorem dX10_readsKnowers_65 : decode cX10_readsKnowers 65 = .ok (.iconst 1, 1) := dk_4 (dk_at dksX10_readsKnowers_2 19 rfl rfl)
theorem dX10_readsKnowers_66 : decode cX10_readsKnowers 66 = .ok (.aload_n 0, 1) := dk_42 (dk_at dksX10_readsKnowers_2 20 rfl rfl)
theorem dX10_readsKnowers_67 : decode cX10_readsKnowers 67 = .ok (.getfield 312, 3) := dk_180 1 56 (dk_at dksX10_readsKnowers_2 21 rfl rfl)
theorem dX10_readsKnowers_70 : decode cX10_readsKnowers 70 = .ok (.ishl, 1) := dk_120 (dk_at dksX10_readsKnowers_3 0 rfl rfl)
theorem dX10_readsKnowers_71 : decode cX10_readsKnowers 71 = .ok (.ior, 1) := dk_128 (dk_at dksX10_readsKnowers_3 1 rfl rfl)
theorem dX10_readsKnowers_72 : decode cX10_readsKnowers 72 = .ok (.iastore, 1) := dk_79 (dk_at dksX10_readsKnowers_3 2 rfl rfl)
theorem dX10_readsKnowers_73 : decode cX10_readsKnowers 73 = .ok (.aload_n 0, 1) := dk_42 (dk_at dksX10_readsKnowers_3 3 rfl rfl)
theorem dX10_readsKnowers_74 : decode cX10_readsKnowers 74 = .ok (.invokevirtual 246, 3) := dk_182 0 246 (dk_at dksX10_readsKnowers_3 4 rfl rfl)
theorem dX10_readsKnowers_77 : decode cX10_readsKnowers 77 = .ok (.goto (-70), 3) := dk_167 255 186 (dk_at dksX10_readsKnowers_3 7 rfl rfl)
theorem dX10_readsKnowers_80 : decode cX10_readsKnowers 80 = .ok (.iconst 1, 1) := dk_4 (dk_at dksX10_readsKnowers_3 10 rfl rfl)
theorem dX10_readsKnowers_81 : decode cX10_readsKnowers 81 = .ok (.ireturn, 1) := dk_172 (dk_at dksX10_readsKnowers_3 11 rfl rfl)
abbrev cX10_readsEar : ByteArray := prog_36_method_33_code
def yX10_readsEar : MethodName := ⟨RX10, "readsEar", "()Z"⟩
def dkwX10_readsEar_6 : List UInt8 := [180, 1, 56, 79, 42, 180, 0, 13, 16, 6, 92, 46, 4, 96, 79, 42, 182, 1, 83, 172]
abbrev dktX10_readsEar_6 : List UInt8 := dkwX10_readsEar_6 ++ []
def dkwX10_readsEar_5 : List UInt8 := [3, 172, 42, 180, 0, 50, 29, 27, 79, 42, 180, 0, 53, 29, 28, 79, 42, 180, 0, 56, 29, 42]
abbrev dktX10_readsEar_5 : List UInt8 := dkwX10_readsEar_5 ++ dktX10_readsEar_6
def dkwX10_readsEar_4 : List UInt8 := [182, 0, 239, 172, 132, 4, 1, 167, 255, 219, 42, 182, 0, 246, 42, 3, 16, 10, 182, 1, 62, 154, 0, 5]
abbrev dktX10_readsEar_4 : List UInt8 := dkwX10_readsEar_4 ++ dktX10_readsEar_5
def dkwX10_readsEar_3 : List UInt8 := [180, 0, 50, 21, 4, 46, 27, 160, 0, 20, 42, 180, 0, 53, 21, 4, 46, 28, 160, 0, 9, 42, 6]
abbrev dktX10_readsEar_3 : List UInt8 := dkwX10_readsEar_3 ++ dktX10_readsEar_4
def dkwX10_readsEar_2 : List UInt8 := [172, 16, 30, 42, 180, 0, 13, 16, 6, 46, 96, 62, 16, 30, 54, 4, 21, 4, 29, 162, 0, 37, 42]
abbrev dktX10_readsEar_2 : List UInt8 := dkwX10_readsEar_2 ++ dktX10_readsEar_3
def dkwX10_readsEar_1 : List UInt8 := [4, 182, 1, 86, 154, 0, 5, 3, 172, 42, 180, 1, 56, 61, 27, 28, 160, 0, 9, 42, 6, 182, 0, 239]
abbrev dktX10_readsEar_1 : List UInt8 := dkwX10_readsEar_1 ++ dktX10_readsEar_2
def dkwX10_readsEar_0 : List UInt8 := [42, 182, 0, 246, 42, 4, 182, 1, 86, 154, 0, 5, 3, 172, 42, 180, 1, 56, 60, 42, 182, 0, 246, 42]
abbrev dktX10_readsEar_0 : List UInt8 := dkwX10_readsEar_0 ++ dktX10_readsEar_1
theorem dksX10_readsEar_0 : cX10_readsEar.data.toList.drop 0 = dktX10_readsEar_0 := by decide +kernel
theorem dksX10_readsEar_1 : cX10_readsEar.data.toList.drop 24 = dktX10_readsEar_1 := dk_seg dksX10_readsEar_0 24 rfl rfl
theorem dksX10_readsEar_2 : cX10_readsEar.data.toList.drop 48 = dktX10_readsEar_2 := dk_seg dksX10_readsEar_1 24 rfl rfl
theorem dksX10_readsEar_3 : cX10_readsEar.data.toList.drop 71 = dktX10_readsEar_3 := dk_seg dksX10_readsEar_2 23 rfl rfl
theorem dksX10_readsEar_4 : cX10_readsEar.data.toList.drop 94 = dktX10_readsEar_4 := dk_seg dksX10_readsEar_3 23 rfl rfl
theorem dksX10_readsEar_5 : cX10_readsEar.data.toList.drop 118 = dktX10_readsEar_5 := dk_seg dksX10_readsEar_4 24 rfl rfl
theorem dksX10_readsEar_6 : cX10_readsEar.data.toList.drop 140 = dktX10_readsEar_6 := dk_seg dksX10_readsEar_5 22 rfl rfl
theorem dX10_readsEar_0 : decode cX10_readsEar 0 = .ok (.aload_n 0, 1) := dk_42 (dk_at dksX10_readsEar_0 0 rfl rfl)
theorem dX10_readsEar_1 : decode cX10_readsEar 1 = .ok (.invokevirtual 246, 3) := dk_182 0 246 (dk_at dksX10_readsEar_0 1 rfl rfl)
theorem dX10_readsEar_4 : decode cX10_readsEar 4 = .ok (.aload_n 0, 1) := dk_42 (dk_at dksX10_readsEar_0 4 rfl rfl)
theorem dX10_readsEar_5 : decode cX10_readsEar 5 = .ok (.iconst 1, 1) := dk_4 (dk_at dksX10_readsEar_0 5 rfl rfl)
theorem dX10_readsEar_6 : decode cX10_readsEar 6 = .ok (.invokevirtual 342, 3) := dk_182 1 86 (dk_at dksX10_readsEar_0 6 rfl rfl)
theorem dX10_readsEar_9 : decode cX10_readsEar 9 = .ok (.ifCond .ne 5, 3) := dk_154 0 5 (dk_at dksX10_readsEar_0 9 rfl rfl)
theorem dX10_readsEar_12 : decode cX10_readsEar 12 = .ok (.iconst 0, 1) := dk_3 (dk_at dksX10_readsEar_0 12 rfl rfl)
theorem dX10_readsEar_13 : decode cX10_readsEar 13 = .ok (.ireturn, 1) := dk_172 (dk_at dksX10_readsEar_0 13 rfl rfl)
theorem dX10_readsEar_14 : decode cX10_readsEar 14 = .ok (.aload_n 0, 1) := dk_42 (dk_at dksX10_readsEar_0 14 rfl rfl)
theorem dX10_readsEar_15 : decode cX10_readsEar 15 = .ok (.getfield 312, 3) := dk_180 1 56 (dk_at dksX10_readsEar_0 15 rfl rfl)
theorem dX10_readsEar_18 : decode cX10_readsEar 18 = .ok (.istore_n 1, 1) := dk_60 (dk_at dksX10_readsEar_0 18 rfl rfl)
theorem dX10_readsEar_19 : decode cX10_readsEar 19 = .ok (.aload_n 0, 1) := dk_42 (dk_at dksX10_readsEar_0 19 rfl rfl)
theorem dX10_readsEar_20 : decode cX10_readsEar 20 = .ok (.invokevirtual 246, 3) := dk_182 0 246 (dk_at dksX10_readsEar_0 20 rfl rfl)
theorem dX10_readsEar_23 : decode cX10_readsEar 23 = .ok (.aload_n 0, 1) := dk_42 (dk_at dksX10_readsEar_0 23 rfl rfl)
theorem dX10_readsEar_24 : decode cX10_readsEar 24 = .ok (.iconst 1, 1) := dk_4 (dk_at dksX10_readsEar_1 0 rfl rfl)
theorem dX10_readsEar_25 : decode cX10_readsEar 25 = .ok (.invokevirtual 342, 3) := dk_182 1 86 (dk_at dksX10_readsEar_1 1 rfl rfl)
theorem dX10_readsEar_28 : decode cX10_readsEar 28 = .ok (.ifCond .ne 5, 3) := dk_154 0 5 (dk_at dksX10_readsEar_1 4 rfl rfl)
theorem dX10_readsEar_31 : decode cX10_readsEar 31 = .ok (.iconst 0, 1) := dk_3 (dk_at dksX10_readsEar_1 7 rfl rfl)
theorem dX10_readsEar_32 : decode cX10_readsEar 32 = .ok (.ireturn, 1) := dk_172 (dk_at dksX10_readsEar_1 8 rfl rfl)
theorem dX10_readsEar_33 : decode cX10_readsEar 33 = .ok (.aload_n 0, 1) := dk_42 (dk_at dksX10_readsEar_1 9 rfl rfl)
theorem dX10_readsEar_34 : decode cX10_readsEar 34 = .ok (.getfield 312, 3) := dk_180 1 56 (dk_at dksX10_readsEar_1 10 rfl rfl)
theorem dX10_readsEar_37 : decode cX10_readsEar 37 = .ok (.istore_n 2, 1) := dk_61 (dk_at dksX10_readsEar_1 13 rfl rfl)
theorem dX10_readsEar_38 : decode cX10_readsEar 38 = .ok (.iload_n 1, 1) := dk_27 (dk_at dksX10_readsEar_1 14 rfl rfl)
theorem dX10_readsEar_39 : decode cX10_readsEar 39 = .ok (.iload_n 2, 1) := dk_28 (dk_at dksX10_readsEar_1 15 rfl rfl)
theorem dX10_readsEar_40 : decode cX10_readsEar 40 = .ok (.if_icmp .ne 9, 3) := dk_160 0 9 (dk_at dksX10_readsEar_1 16 rfl rfl)
theorem dX10_readsEar_43 : decode cX10_readsEar 43 = .ok (.aload_n 0, 1) := dk_42 (dk_at dksX10_readsEar_1 19 rfl rfl)
theorem dX10_readsEar_44 : decode cX10_readsEar 44 = .ok (.iconst 3, 1) := dk_6 (dk_at dksX10_readsEar_1 20 rfl rfl)
theorem dX10_readsEar_45 : decode cX10_readsEar 45 = .ok (.invokevirtual 239, 3) := dk_182 0 239 (dk_at dksX10_readsEar_1 21 rfl rfl)
theorem dX10_readsEar_48 : decode cX10_readsEar 48 = .ok (.ireturn, 1) := dk_172 (dk_at dksX10_readsEar_2 0 rfl rfl)
theorem dX10_readsEar_49 : decode cX10_readsEar 49 = .ok (.bipush 30, 2) := dk_16 30 (dk_at dksX10_readsEar_2 1 rfl rfl)
theorem dX10_readsEar_51 : decode cX10_readsEar 51 = .ok (.aload_n 0, 1) := dk_42 (dk_at dksX10_readsEar_2 3 rfl rfl)
theorem dX10_readsEar_52 : decode cX10_readsEar 52 = .ok (.getfield 13, 3) := dk_180 0 13 (dk_at dksX10_readsEar_2 4 rfl rfl)
theorem dX10_readsEar_55 : decode cX10_readsEar 55 = .ok (.bipush 6, 2) := dk_16 6 (dk_at dksX10_readsEar_2 7 rfl rfl)
theorem dX10_readsEar_57 : decode cX10_readsEar 57 = .ok (.iaload, 1) := dk_46 (dk_at dksX10_readsEar_2 9 rfl rfl)
theorem dX10_readsEar_58 : decode cX10_readsEar 58 = .ok (.iadd, 1) := dk_96 (dk_at dksX10_readsEar_2 10 rfl rfl)
theorem dX10_readsEar_59 : decode cX10_readsEar 59 = .ok (.istore_n 3, 1) := dk_62 (dk_at dksX10_readsEar_2 11 rfl rfl)
theorem dX10_readsEar_60 : decode cX10_readsEar 60 = .ok (.bipush 30, 2) := dk_16 30 (dk_at dksX10_readsEar_2 12 rfl rfl)
theorem dX10_readsEar_62 : decode cX10_readsEar 62 = .ok (.istore 4, 2) := dk_54 4 (dk_at dksX10_readsEar_2 14 rfl rfl)
theorem dX10_readsEar_64 : decode cX10_readsEar 64 = .ok (.iload 4, 2) := dk_21 4 (dk_at dksX10_readsEar_2 16 rfl rfl)
theorem dX10_readsEar_66 : decode cX10_readsEar 66 = .ok (.iload_n 3, 1) := dk_29 (dk_at dksX10_readsEar_2 18 rfl rfl)
theorem dX10_readsEar_67 : decode cX10_readsEar 67 = .ok (.if_icmp .ge 37, 3) := dk_162 0 37 (dk_at dksX10_readsEar_2 19 rfl rfl)
theorem dX10_readsEar_70 : decode cX10_readsEar 70 = .ok (.aload_n 0, 1) := dk_42 (dk_at dksX10_readsEar_2 22 rfl rfl)
theorem dX10_readsEar_71 : decode cX10_readsEar 71 = .ok (.getfield 50, 3) := dk_180 0 50 (dk_at dksX10_readsEar_3 0 rfl rfl)
theorem dX10_readsEar_74 : decode cX10_readsEar 74 = .ok (.iload 4, 2) := dk_21 4 (dk_at dksX10_readsEar_3 3 rfl rfl)
theorem dX10_readsEar_76 : decode cX10_readsEar 76 = .ok (.iaload, 1) := dk_46 (dk_at dksX10_readsEar_3 5 rfl rfl)
theorem dX10_readsEar_77 : decode cX10_readsEar 77 = .ok (.iload_n 1, 1) := dk_27 (dk_at dksX10_readsEar_3 6 rfl rfl)
theorem dX10_readsEar_78 : decode cX10_readsEar 78 = .ok (.if_icmp .ne 20, 3) := dk_160 0 20 (dk_at dksX10_readsEar_3 7 rfl rfl)
theorem dX10_readsEar_81 : decode cX10_readsEar 81 = .ok (.aload_n 0, 1) := dk_42 (dk_at dksX10_readsEar_3 10 rfl rfl)
theorem dX10_readsEar_82 : decode cX10_readsEar 82 = .ok (.getfield 53, 3) := dk_180 0 53 (dk_at dksX10_readsEar_3 11 rfl rfl)
theorem dX10_readsEar_85 : decode cX10_readsEar 85 = .ok (.iload 4, 2) := dk_21 4 (dk_at dksX10_readsEar_3 14 rfl rfl)
theorem dX10_readsEar_87 : decode cX10_readsEar 87 = .ok (.iaload, 1) := dk_46 (dk_at dksX10_readsEar_3 16 rfl rfl)
theorem dX10_readsEar_88 : decode cX10_readsEar 88 = .ok (.iload_n 2, 1) := dk_28 (dk_at dksX10_readsEar_3 17 rfl rfl)
theorem dX10_readsEar_89 : decode cX10_readsEar 89 = .ok (.if_icmp .ne 9, 3) := dk_160 0 9 (dk_at dksX10_readsEar_3 18 rfl rfl)
theorem dX10_readsEar_92 : decode cX10_readsEar 92 = .ok (.aload_n 0, 1) := dk_42 (dk_at dksX10_readsEar_3 21 rfl rfl)
theorem dX10_readsEar_93 : decode cX10_readsEar 93 = .ok (.iconst 3, 1) := dk_6 (dk_at dksX10_readsEar_3 22 rfl rfl)
theorem dX10_readsEar_94 : decode cX10_readsEar 94 = .ok (.invokevirtual 239, 3) := dk_182 0 239 (dk_at dksX10_readsEar_4 0 rfl rfl)
theorem dX10_readsEar_97 : decode cX10_readsEar 97 = .ok (.ireturn, 1) := dk_172 (dk_at dksX10_readsEar_4 3 rfl rfl)
theorem dX10_readsEar_98 : decode cX10_readsEar 98 = .ok (.iinc 4 1, 3) := dk_132 4 1 (dk_at dksX10_readsEar_4 4 rfl rfl)
theorem dX10_readsEar_101 : decode cX10_readsEar 101 = .ok (.goto (-37), 3) := dk_167 255 219 (dk_at dksX10_readsEar_4 7 rfl rfl)
theorem dX10_readsEar_104 : decode cX10_readsEar 104 = .ok (.aload_n 0, 1) := dk_42 (dk_at dksX10_readsEar_4 10 rfl rfl)
theorem dX10_readsEar_105 : decode cX10_readsEar 105 = .ok (.invokevirtual 246, 3) := dk_182 0 246 (dk_at dksX10_readsEar_4 11 rfl rfl)
theorem dX10_readsEar_108 : decode cX10_readsEar 108 = .ok (.aload_n 0, 1) := dk_42 (dk_at dksX10_readsEar_4 14 rfl rfl)
theorem dX10_readsEar_109 : decode cX10_readsEar 109 = .ok (.iconst 0, 1) := dk_3 (dk_at dksX10_readsEar_4 15 rfl rfl)
theorem dX10_readsEar_110 : decode cX10_readsEar 110 = .ok (.bipush 10, 2) := dk_16 10 (dk_at dksX10_readsEar_4 16 rfl rfl)
theorem dX10_readsEar_112 : decode cX10_readsEar 112 = .ok (.invokevirtual 318, 3) := dk_182 1 62 (dk_at dksX10_readsEar_4 18 rfl rfl)
theorem dX10_readsEar_115 : decode cX10_readsEar 115 = .ok (.ifCond .ne 5, 3) := dk_154 0 5 (dk_at dksX10_readsEar_4 21 rfl rfl)
theorem dX10_readsEar_118 : decode cX10_readsEar 118 = .ok (.iconst 0, 1) := dk_3 (dk_at dksX10_readsEar_5 0 rfl rfl)
theorem dX10_readsEar_119 : decode cX10_readsEar 119 = .ok (.ireturn, 1) := dk_172 (dk_at dksX10_readsEar_5 1 rfl rfl)
theorem dX10_readsEar_120 : decode cX10_readsEar 120 = .ok (.aload_n 0, 1) := dk_42 (dk_at dksX10_readsEar_5 2 rfl rfl)
theorem dX10_readsEar_121 : decode cX10_readsEar 121 = .ok (.getfield 50, 3) := dk_180 0 50 (dk_at dksX10_readsEar_5 3 rfl rfl)
theorem dX10_readsEar_124 : decode cX10_readsEar 124 = .ok (.iload_n 3, 1) := dk_29 (dk_at dksX10_readsEar_5 6 rfl rfl)
theorem dX10_readsEar_125 : decode cX10_readsEar 125 = .ok (.iload_n 1, 1) := dk_27 (dk_at dksX10_readsEar_5 7 rfl rfl)
theorem dX10_readsEar_126 : decode cX10_readsEar 126 = .ok (.iastore, 1) := dk_79 (dk_at dksX10_readsEar_5 8 rfl rfl)
theorem dX10_readsEar_127 : decode cX10_readsEar 127 = .ok (.aload_n 0, 1) := dk_42 (dk_at dksX10_readsEar_5 9 rfl rfl)
theorem dX10_readsEar_128 : decode cX10_readsEar 128 = .ok (.getfield 53, 3) := dk_180 0 53 (dk_at dksX10_readsEar_5 10 rfl rfl)
theorem dX10_readsEar_131 : decode cX10_readsEar 131 = .ok (.iload_n 3, 1) := dk_29 (dk_at dksX10_readsEar_5 13 rfl rfl)
theorem dX10_readsEar_132 : decode cX10_readsEar 132 = .ok (.iload_n 2, 1) := dk_28 (dk_at dksX10_readsEar_5 14 rfl rfl)
theorem dX10_readsEar_133 : decode cX10_readsEar 133 = .ok (.iastore, 1) := dk_79 (dk_at dksX10_readsEar_5 15 rfl rfl)
theorem dX10_readsEar_134 : decode cX10_readsEar 134 = .ok (.aload_n 0, 1) := dk_42 (dk_at dksX10_readsEar_5 16 rfl rfl)
theorem dX10_readsEar_135 : decode cX10_readsEar 135 = .ok (.getfield 56, 3) := dk_180 0 56 (dk_at dksX10_readsEar_5 17 rfl rfl)
theorem dX10_readsEar_138 : decode cX10_readsEar 138 = .ok (.iload_n 3, 1) := dk_29 (dk_at dksX10_readsEar_5 20 rfl rfl)
theorem dX10_readsEar_139 : decode cX10_readsEar 139 = .ok (.aload_n 0, 1) := dk_42 (dk_at dksX10_readsEar_5 21 rfl rfl)
theorem dX10_readsEar_140 : decode cX10_readsEar 140 = .ok (.getfield 312, 3) := dk_180 1 56 (dk_at dksX10_readsEar_6 0 rfl rfl)
theorem dX10_readsEar_143 : decode cX10_readsEar 143 = .ok (.iastore, 1) := dk_79 (dk_at dksX10_readsEar_6 3 rfl rfl)
theorem dX10_readsEar_144 : decode cX10_readsEar 144 = .ok (.aload_n 0, 1) := dk_42 (dk_at dksX10_readsEar_6 4 rfl rfl)
theorem dX10_readsEar_145 : decode cX10_readsEar 145 = .ok (.getfield 13, 3) := dk_180 0 13 (dk_at dksX10_readsEar_6 5 rfl rfl)
theorem dX10_readsEar_148 : decode cX10_readsEar 148 = .ok (.bipush 6, 2) := dk_16 6 (dk_at dksX10_readsEar_6 8 rfl rfl)
theorem dX10_readsEar_150 : decode cX10_readsEar 150 = .ok (.dup2, 1) := dk_92 (dk_at dksX10_readsEar_6 10 rfl rfl)
theorem dX10_readsEar_151 : decode cX10_readsEar 151 = .ok (.iaload, 1) := dk_46 (dk_at dksX10_readsEar_6 11 rfl rfl)
theorem dX10_readsEar_152 : decode cX10_readsEar 152 = .ok (.iconst 1, 1) := dk_4 (dk_at dksX10_readsEar_6 12 rfl rfl)
theorem dX10_readsEar_153 : decode cX10_readsEar 153 = .ok (.iadd, 1) := dk_96 (dk_at dksX10_readsEar_6 13 rfl rfl)
theorem dX10_readsEar_154 : decode cX10_readsEar 154 = .ok (.iastore, 1) := dk_79 (dk_at dksX10_readsEar_6 14 rfl rfl)
theorem dX10_readsEar_155 : decode cX10_readsEar 155 = .ok (.aload_n 0, 1) := dk_42 (dk_at dksX10_readsEar_6 15 rfl rfl)
theorem dX10_readsEar_156 : decode cX10_readsEar 156 = .ok (.invokevirtual 339, 3) := dk_182 1 83 (dk_at dksX10_readsEar_6 16 rfl rfl)
theorem dX10_readsEar_159 : decode cX10_readsEar 159 = .ok (.ireturn, 1) := dk_172 (dk_at dksX10_readsEar_6 19 rfl rfl)
abbrev cX10_readsClash : ByteArray := prog_36_method_34_code
def yX10_readsClash : MethodName := ⟨RX10, "readsClash", "()Z"⟩
def dkwX10_readsClash_4 : List UInt8 := [4, 27, 120, 128, 79, 42, 180, 0, 13, 16, 7, 92, 46, 4, 96, 79, 42, 182, 1, 83, 172]
abbrev dktX10_readsClash_4 : List UInt8 := dkwX10_readsClash_4 ++ []
def dkwX10_readsClash_3 : List UInt8 := [180, 0, 47, 16, 10, 27, 96, 92, 46, 4, 28, 120, 128, 79, 42, 180, 0, 47, 16, 10, 28, 96, 92, 46]
abbrev dktX10_readsClash_3 : List UInt8 := dkwX10_readsClash_3 ++ dktX10_readsClash_4
def dkwX10_readsClash_2 : List UInt8 := [16, 10, 27, 96, 46, 28, 122, 4, 126, 4, 160, 0, 9, 42, 6, 182, 0, 239, 172, 42, 182, 0, 246, 42]
abbrev dktX10_readsClash_2 : List UInt8 := dkwX10_readsClash_2 ++ dktX10_readsClash_3
def dkwX10_readsClash_1 : List UInt8 := [4, 182, 1, 89, 154, 0, 5, 3, 172, 42, 180, 1, 56, 61, 27, 28, 159, 0, 20, 42, 180, 0, 47]
abbrev dktX10_readsClash_1 : List UInt8 := dkwX10_readsClash_1 ++ dktX10_readsClash_2
def dkwX10_readsClash_0 : List UInt8 := [42, 182, 0, 246, 42, 4, 182, 1, 89, 154, 0, 5, 3, 172, 42, 180, 1, 56, 60, 42, 182, 0, 246, 42]
abbrev dktX10_readsClash_0 : List UInt8 := dkwX10_readsClash_0 ++ dktX10_readsClash_1
theorem dksX10_readsClash_0 : cX10_readsClash.data.toList.drop 0 = dktX10_readsClash_0 := by decide +kernel
theorem dksX10_readsClash_1 : cX10_readsClash.data.toList.drop 24 = dktX10_readsClash_1 := dk_seg dksX10_readsClash_0 24 rfl rfl
theorem dksX10_readsClash_2 : cX10_readsClash.data.toList.drop 47 = dktX10_readsClash_2 := dk_seg dksX10_readsClash_1 23 rfl rfl
theorem dksX10_readsClash_3 : cX10_readsClash.data.toList.drop 71 = dktX10_readsClash_3 := dk_seg dksX10_readsClash_2 24 rfl rfl
theorem dksX10_readsClash_4 : cX10_readsClash.data.toList.drop 95 = dktX10_readsClash_4 := dk_seg dksX10_readsClash_3 24 rfl rfl
theorem dX10_readsClash_0 : decode cX10_readsClash 0 = .ok (.aload_n 0, 1) := dk_42 (dk_at dksX10_readsClash_0 0 rfl rfl)
theorem dX10_readsClash_1 : decode cX10_readsClash 1 = .ok (.invokevirtual 246, 3) := dk_182 0 246 (dk_at dksX10_readsClash_0 1 rfl rfl)
theorem dX10_readsClash_4 : decode cX10_readsClash 4 = .ok (.aload_n 0, 1) := dk_42 (dk_at dksX10_readsClash_0 4 rfl rfl)
theorem dX10_readsClash_5 : decode cX10_readsClash 5 = .ok (.iconst 1, 1) := dk_4 (dk_at dksX10_readsClash_0 5 rfl rfl)
theorem dX10_readsClash_6 : decode cX10_readsClash 6 = .ok (.invokevirtual 345, 3) := dk_182 1 89 (dk_at dksX10_readsClash_0 6 rfl rfl)
theorem dX10_readsClash_9 : decode cX10_readsClash 9 = .ok (.ifCond .ne 5, 3) := dk_154 0 5 (dk_at dksX10_readsClash_0 9 rfl rfl)
theorem dX10_readsClash_12 : decode cX10_readsClash 12 = .ok (.iconst 0, 1) := dk_3 (dk_at dksX10_readsClash_0 12 rfl rfl)
theorem dX10_readsClash_13 : decode cX10_readsClash 13 = .ok (.ireturn, 1) := dk_172 (dk_at dksX10_readsClash_0 13 rfl rfl)
theorem dX10_readsClash_14 : decode cX10_readsClash 14 = .ok (.aload_n 0, 1) := dk_42 (dk_at dksX10_readsClash_0 14 rfl rfl)
theorem dX10_readsClash_15 : decode cX10_readsClash 15 = .ok (.getfield 312, 3) := dk_180 1 56 (dk_at dksX10_readsClash_0 15 rfl rfl)
theorem dX10_readsClash_18 : decode cX10_readsClash 18 = .ok (.istore_n 1, 1) := dk_60 (dk_at dksX10_readsClash_0 18 rfl rfl)
theorem dX10_readsClash_19 : decode cX10_readsClash 19 = .ok (.aload_n 0, 1) := dk_42 (dk_at dksX10_readsClash_0 19 rfl rfl)
theorem dX10_readsClash_20 : decode cX10_readsClash 20 = .ok (.invokevirtual 246, 3) := dk_182 0 246 (dk_at dksX10_readsClash_0 20 rfl rfl)
theorem dX10_readsClash_23 : decode cX10_readsClash 23 = .ok (.aload_n 0, 1) := dk_42 (dk_at dksX10_readsClash_0 23 rfl rfl)
theorem dX10_readsClash_24 : decode cX10_readsClash 24 = .ok (.iconst 1, 1) := dk_4 (dk_at dksX10_readsClash_1 0 rfl rfl)
theorem dX10_readsClash_25 : decode cX10_readsClash 25 = .ok (.invokevirtual 345, 3) := dk_182 1 89 (dk_at dksX10_readsClash_1 1 rfl rfl)
theorem dX10_readsClash_28 : decode cX10_readsClash 28 = .ok (.ifCond .ne 5, 3) := dk_154 0 5 (dk_at dksX10_readsClash_1 4 rfl rfl)
theorem dX10_readsClash_31 : decode cX10_readsClash 31 = .ok (.iconst 0, 1) := dk_3 (dk_at dksX10_readsClash_1 7 rfl rfl)
theorem dX10_readsClash_32 : decode cX10_readsClash 32 = .ok (.ireturn, 1) := dk_172 (dk_at dksX10_readsClash_1 8 rfl rfl)
theorem dX10_readsClash_33 : decode cX10_readsClash 33 = .ok (.aload_n 0, 1) := dk_42 (dk_at dksX10_readsClash_1 9 rfl rfl)
theorem dX10_readsClash_34 : decode cX10_readsClash 34 = .ok (.getfield 312, 3) := dk_180 1 56 (dk_at dksX10_readsClash_1 10 rfl rfl)
theorem dX10_readsClash_37 : decode cX10_readsClash 37 = .ok (.istore_n 2, 1) := dk_61 (dk_at dksX10_readsClash_1 13 rfl rfl)
theorem dX10_readsClash_38 : decode cX10_readsClash 38 = .ok (.iload_n 1, 1) := dk_27 (dk_at dksX10_readsClash_1 14 rfl rfl)
theorem dX10_readsClash_39 : decode cX10_readsClash 39 = .ok (.iload_n 2, 1) := dk_28 (dk_at dksX10_readsClash_1 15 rfl rfl)
theorem dX10_readsClash_40 : decode cX10_readsClash 40 = .ok (.if_icmp .eq 20, 3) := dk_159 0 20 (dk_at dksX10_readsClash_1 16 rfl rfl)
theorem dX10_readsClash_43 : decode cX10_readsClash 43 = .ok (.aload_n 0, 1) := dk_42 (dk_at dksX10_readsClash_1 19 rfl rfl)
theorem dX10_readsClash_44 : decode cX10_readsClash 44 = .ok (.getfield 47, 3) := dk_180 0 47 (dk_at dksX10_readsClash_1 20 rfl rfl)
theorem dX10_readsClash_47 : decode cX10_readsClash 47 = .ok (.bipush 10, 2) := dk_16 10 (dk_at dksX10_readsClash_2 0 rfl rfl)
theorem dX10_readsClash_49 : decode cX10_readsClash 49 = .ok (.iload_n 1, 1) := dk_27 (dk_at dksX10_readsClash_2 2 rfl rfl)
theorem dX10_readsClash_50 : decode cX10_readsClash 50 = .ok (.iadd, 1) := dk_96 (dk_at dksX10_readsClash_2 3 rfl rfl)
theorem dX10_readsClash_51 : decode cX10_readsClash 51 = .ok (.iaload, 1) := dk_46 (dk_at dksX10_readsClash_2 4 rfl rfl)
theorem dX10_readsClash_52 : decode cX10_readsClash 52 = .ok (.iload_n 2, 1) := dk_28 (dk_at dksX10_readsClash_2 5 rfl rfl)
theorem dX10_readsClash_53 : decode cX10_readsClash 53 = .ok (.ishr, 1) := dk_122 (dk_at dksX10_readsClash_2 6 rfl rfl)
theorem dX10_readsClash_54 : decode cX10_readsClash 54 = .ok (.iconst 1, 1) := dk_4 (dk_at dksX10_readsClash_2 7 rfl rfl)
theorem dX10_readsClash_55 : decode cX10_readsClash 55 = .ok (.iand, 1) := dk_126 (dk_at dksX10_readsClash_2 8 rfl rfl)
theorem dX10_readsClash_56 : decode cX10_readsClash 56 = .ok (.iconst 1, 1) := dk_4 (dk_at dksX10_readsClash_2 9 rfl rfl)
theorem dX10_readsClash_57 : decode cX10_readsClash 57 = .ok (.if_icmp .ne 9, 3) := dk_160 0 9 (dk_at dksX10_readsClash_2 10 rfl rfl)
theorem dX10_readsClash_60 : decode cX10_readsClash 60 = .ok (.aload_n 0, 1) := dk_42 (dk_at dksX10_readsClash_2 13 rfl rfl)
theorem dX10_readsClash_61 : decode cX10_readsClash 61 = .ok (.iconst 3, 1) := dk_6 (dk_at dksX10_readsClash_2 14 rfl rfl)
theorem dX10_readsClash_62 : decode cX10_readsClash 62 = .ok (.invokevirtual 239, 3) := dk_182 0 239 (dk_at dksX10_readsClash_2 15 rfl rfl)
theorem dX10_readsClash_65 : decode cX10_readsClash 65 = .ok (.ireturn, 1) := dk_172 (dk_at dksX10_readsClash_2 18 rfl rfl)
theorem dX10_readsClash_66 : decode cX10_readsClash 66 = .ok (.aload_n 0, 1) := dk_42 (dk_at dksX10_readsClash_2 19 rfl rfl)
theorem dX10_readsClash_67 : decode cX10_readsClash 67 = .ok (.invokevirtual 246, 3) := dk_182 0 246 (dk_at dksX10_readsClash_2 20 rfl rfl)
theorem dX10_readsClash_70 : decode cX10_readsClash 70 = .ok (.aload_n 0, 1) := dk_42 (dk_at dksX10_readsClash_2 23 rfl rfl)
theorem dX10_readsClash_71 : decode cX10_readsClash 71 = .ok (.getfield 47, 3) := dk_180 0 47 (dk_at dksX10_readsClash_3 0 rfl rfl)
theorem dX10_readsClash_74 : decode cX10_readsClash 74 = .ok (.bipush 10, 2) := dk_16 10 (dk_at dksX10_readsClash_3 3 rfl rfl)
theorem dX10_readsClash_76 : decode cX10_readsClash 76 = .ok (.iload_n 1, 1) := dk_27 (dk_at dksX10_readsClash_3 5 rfl rfl)
theorem dX10_readsClash_77 : decode cX10_readsClash 77 = .ok (.iadd, 1) := dk_96 (dk_at dksX10_readsClash_3 6 rfl rfl)
theorem dX10_readsClash_78 : decode cX10_readsClash 78 = .ok (.dup2, 1) := dk_92 (dk_at dksX10_readsClash_3 7 rfl rfl)
theorem dX10_readsClash_79 : decode cX10_readsClash 79 = .ok (.iaload, 1) := dk_46 (dk_at dksX10_readsClash_3 8 rfl rfl)
theorem dX10_readsClash_80 : decode cX10_readsClash 80 = .ok (.iconst 1, 1) := dk_4 (dk_at dksX10_readsClash_3 9 rfl rfl)
theorem dX10_readsClash_81 : decode cX10_readsClash 81 = .ok (.iload_n 2, 1) := dk_28 (dk_at dksX10_readsClash_3 10 rfl rfl)
theorem dX10_readsClash_82 : decode cX10_readsClash 82 = .ok (.ishl, 1) := dk_120 (dk_at dksX10_readsClash_3 11 rfl rfl)
theorem dX10_readsClash_83 : decode cX10_readsClash 83 = .ok (.ior, 1) := dk_128 (dk_at dksX10_readsClash_3 12 rfl rfl)
theorem dX10_readsClash_84 : decode cX10_readsClash 84 = .ok (.iastore, 1) := dk_79 (dk_at dksX10_readsClash_3 13 rfl rfl)
theorem dX10_readsClash_85 : decode cX10_readsClash 85 = .ok (.aload_n 0, 1) := dk_42 (dk_at dksX10_readsClash_3 14 rfl rfl)
theorem dX10_readsClash_86 : decode cX10_readsClash 86 = .ok (.getfield 47, 3) := dk_180 0 47 (dk_at dksX10_readsClash_3 15 rfl rfl)
theorem dX10_readsClash_89 : decode cX10_readsClash 89 = .ok (.bipush 10, 2) := dk_16 10 (dk_at dksX10_readsClash_3 18 rfl rfl)
theorem dX10_readsClash_91 : decode cX10_readsClash 91 = .ok (.iload_n 2, 1) := dk_28 (dk_at dksX10_readsClash_3 20 rfl rfl)
theorem dX10_readsClash_92 : decode cX10_readsClash 92 = .ok (.iadd, 1) := dk_96 (dk_at dksX10_readsClash_3 21 rfl rfl)
theorem dX10_readsClash_93 : decode cX10_readsClash 93 = .ok (.dup2, 1) := dk_92 (dk_at dksX10_readsClash_3 22 rfl rfl)
theorem dX10_readsClash_94 : decode cX10_readsClash 94 = .ok (.iaload, 1) := dk_46 (dk_at dksX10_readsClash_3 23 rfl rfl)
theorem dX10_readsClash_95 : decode cX10_readsClash 95 = .ok (.iconst 1, 1) := dk_4 (dk_at dksX10_readsClash_4 0 rfl rfl)
theorem dX10_readsClash_96 : decode cX10_readsClash 96 = .ok (.iload_n 1, 1) := dk_27 (dk_at dksX10_readsClash_4 1 rfl rfl)
theorem dX10_readsClash_97 : decode cX10_readsClash 97 = .ok (.ishl, 1) := dk_120 (dk_at dksX10_readsClash_4 2 rfl rfl)
theorem dX10_readsClash_98 : decode cX10_readsClash 98 = .ok (.ior, 1) := dk_128 (dk_at dksX10_readsClash_4 3 rfl rfl)
theorem dX10_readsClash_99 : decode cX10_readsClash 99 = .ok (.iastore, 1) := dk_79 (dk_at dksX10_readsClash_4 4 rfl rfl)
theorem dX10_readsClash_100 : decode cX10_readsClash 100 = .ok (.aload_n 0, 1) := dk_42 (dk_at dksX10_readsClash_4 5 rfl rfl)
theorem dX10_readsClash_101 : decode cX10_readsClash 101 = .ok (.getfield 13, 3) := dk_180 0 13 (dk_at dksX10_readsClash_4 6 rfl rfl)
theorem dX10_readsClash_104 : decode cX10_readsClash 104 = .ok (.bipush 7, 2) := dk_16 7 (dk_at dksX10_readsClash_4 9 rfl rfl)
theorem dX10_readsClash_106 : decode cX10_readsClash 106 = .ok (.dup2, 1) := dk_92 (dk_at dksX10_readsClash_4 11 rfl rfl)
theorem dX10_readsClash_107 : decode cX10_readsClash 107 = .ok (.iaload, 1) := dk_46 (dk_at dksX10_readsClash_4 12 rfl rfl)
theorem dX10_readsClash_108 : decode cX10_readsClash 108 = .ok (.iconst 1, 1) := dk_4 (dk_at dksX10_readsClash_4 13 rfl rfl)
theorem dX10_readsClash_109 : decode cX10_readsClash 109 = .ok (.iadd, 1) := dk_96 (dk_at dksX10_readsClash_4 14 rfl rfl)
theorem dX10_readsClash_110 : decode cX10_readsClash 110 = .ok (.iastore, 1) := dk_79 (dk_at dksX10_readsClash_4 15 rfl rfl)
theorem dX10_readsClash_111 : decode cX10_readsClash 111 = .ok (.aload_n 0, 1) := dk_42 (dk_at dksX10_readsClash_4 16 rfl rfl)
theorem dX10_readsClash_112 : decode cX10_readsClash 112 = .ok (.invokevirtual 339, 3) := dk_182 1 83 (dk_at dksX10_readsClash_4 17 rfl rfl)
theorem dX10_readsClash_115 : decode cX10_readsClash 115 = .ok (.ireturn, 1) := dk_172 (dk_at dksX10_readsClash_4 20 rfl rfl)
abbrev cX10_readsWorth : ByteArray := prog_36_method_35_code
def yX10_readsWorth : MethodName := ⟨RX10, "readsWorth", "()Z"⟩
def dkwX10_readsWorth_2 : List UInt8 := [180, 0, 62, 4, 42, 180, 0, 214, 79, 4, 172]
abbrev dktX10_readsWorth_2 : List UInt8 := dkwX10_readsWorth_2 ++ []
def dkwX10_readsWorth_1 : List UInt8 := [182, 0, 246, 42, 180, 0, 59, 4, 42, 180, 0, 214, 79, 42, 182, 1, 95, 154, 0, 5, 3, 172, 42]
abbrev dktX10_readsWorth_1 : List UInt8 := dkwX10_readsWorth_1 ++ dktX10_readsWorth_2
def dkwX10_readsWorth_0 : List UInt8 := [42, 180, 0, 62, 4, 46, 42, 180, 0, 59, 4, 46, 164, 0, 9, 42, 6, 182, 0, 239, 172, 42]
abbrev dktX10_readsWorth_0 : List UInt8 := dkwX10_readsWorth_0 ++ dktX10_readsWorth_1
theorem dksX10_readsWorth_0 : cX10_readsWorth.data.toList.drop 0 = dktX10_readsWorth_0 := by decide +kernel
theorem dksX10_readsWorth_1 : cX10_readsWorth.data.toList.drop 22 = dktX10_readsWorth_1 := dk_seg dksX10_readsWorth_0 22 rfl rfl
theorem dksX10_readsWorth_2 : cX10_readsWorth.data.toList.drop 45 = dktX10_readsWorth_2 := dk_seg dksX10_readsWorth_1 23 rfl rfl
theorem dX10_readsWorth_0 : decode cX10_readsWorth 0 = .ok (.aload_n 0, 1) := dk_42 (dk_at dksX10_readsWorth_0 0 rfl rfl)
theorem dX10_readsWorth_1 : decode cX10_readsWorth 1 = .ok (.getfield 62, 3) := dk_180 0 62 (dk_at dksX10_readsWorth_0 1 rfl rfl)
theorem dX10_readsWorth_4 : decode cX10_readsWorth 4 = .ok (.iconst 1, 1) := dk_4 (dk_at dksX10_readsWorth_0 4 rfl rfl)
theorem dX10_readsWorth_5 : decode cX10_readsWorth 5 = .ok (.iaload, 1) := dk_46 (dk_at dksX10_readsWorth_0 5 rfl rfl)
theorem dX10_readsWorth_6 : decode cX10_readsWorth 6 = .ok (.aload_n 0, 1) := dk_42 (dk_at dksX10_readsWorth_0 6 rfl rfl)
theorem dX10_readsWorth_7 : decode cX10_readsWorth 7 = .ok (.getfield 59, 3) := dk_180 0 59 (dk_at dksX10_readsWorth_0 7 rfl rfl)
theorem dX10_readsWorth_10 : decode cX10_readsWorth 10 = .ok (.iconst 1, 1) := dk_4 (dk_at dksX10_readsWorth_0 10 rfl rfl)
theorem dX10_readsWorth_11 : decode cX10_readsWorth 11 = .ok (.iaload, 1) := dk_46 (dk_at dksX10_readsWorth_0 11 rfl rfl)
theorem dX10_readsWorth_12 : decode cX10_readsWorth 12 = .ok (.if_icmp .le 9, 3) := dk_164 0 9 (dk_at dksX10_readsWorth_0 12 rfl rfl)
theorem dX10_readsWorth_15 : decode cX10_readsWorth 15 = .ok (.aload_n 0, 1) := dk_42 (dk_at dksX10_readsWorth_0 15 rfl rfl)
theorem dX10_readsWorth_16 : decode cX10_readsWorth 16 = .ok (.iconst 3, 1) := dk_6 (dk_at dksX10_readsWorth_0 16 rfl rfl)
theorem dX10_readsWorth_17 : decode cX10_readsWorth 17 = .ok (.invokevirtual 239, 3) := dk_182 0 239 (dk_at dksX10_readsWorth_0 17 rfl rfl)
theorem dX10_readsWorth_20 : decode cX10_readsWorth 20 = .ok (.ireturn, 1) := dk_172 (dk_at dksX10_readsWorth_0 20 rfl rfl)
theorem dX10_readsWorth_21 : decode cX10_readsWorth 21 = .ok (.aload_n 0, 1) := dk_42 (dk_at dksX10_readsWorth_0 21 rfl rfl)
theorem dX10_readsWorth_22 : decode cX10_readsWorth 22 = .ok (.invokevirtual 246, 3) := dk_182 0 246 (dk_at dksX10_readsWorth_1 0 rfl rfl)
theorem dX10_readsWorth_25 : decode cX10_readsWorth 25 = .ok (.aload_n 0, 1) := dk_42 (dk_at dksX10_readsWorth_1 3 rfl rfl)
theorem dX10_readsWorth_26 : decode cX10_readsWorth 26 = .ok (.getfield 59, 3) := dk_180 0 59 (dk_at dksX10_readsWorth_1 4 rfl rfl)
theorem dX10_readsWorth_29 : decode cX10_readsWorth 29 = .ok (.iconst 1, 1) := dk_4 (dk_at dksX10_readsWorth_1 7 rfl rfl)
theorem dX10_readsWorth_30 : decode cX10_readsWorth 30 = .ok (.aload_n 0, 1) := dk_42 (dk_at dksX10_readsWorth_1 8 rfl rfl)
theorem dX10_readsWorth_31 : decode cX10_readsWorth 31 = .ok (.getfield 214, 3) := dk_180 0 214 (dk_at dksX10_readsWorth_1 9 rfl rfl)
theorem dX10_readsWorth_34 : decode cX10_readsWorth 34 = .ok (.iastore, 1) := dk_79 (dk_at dksX10_readsWorth_1 12 rfl rfl)
theorem dX10_readsWorth_35 : decode cX10_readsWorth 35 = .ok (.aload_n 0, 1) := dk_42 (dk_at dksX10_readsWorth_1 13 rfl rfl)
theorem dX10_readsWorth_36 : decode cX10_readsWorth 36 = .ok (.invokevirtual 351, 3) := dk_182 1 95 (dk_at dksX10_readsWorth_1 14 rfl rfl)
theorem dX10_readsWorth_39 : decode cX10_readsWorth 39 = .ok (.ifCond .ne 5, 3) := dk_154 0 5 (dk_at dksX10_readsWorth_1 17 rfl rfl)
theorem dX10_readsWorth_42 : decode cX10_readsWorth 42 = .ok (.iconst 0, 1) := dk_3 (dk_at dksX10_readsWorth_1 20 rfl rfl)
theorem dX10_readsWorth_43 : decode cX10_readsWorth 43 = .ok (.ireturn, 1) := dk_172 (dk_at dksX10_readsWorth_1 21 rfl rfl)
theorem dX10_readsWorth_44 : decode cX10_readsWorth 44 = .ok (.aload_n 0, 1) := dk_42 (dk_at dksX10_readsWorth_1 22 rfl rfl)
theorem dX10_readsWorth_45 : decode cX10_readsWorth 45 = .ok (.getfield 62, 3) := dk_180 0 62 (dk_at dksX10_readsWorth_2 0 rfl rfl)
theorem dX10_readsWorth_48 : decode cX10_readsWorth 48 = .ok (.iconst 1, 1) := dk_4 (dk_at dksX10_readsWorth_2 3 rfl rfl)
theorem dX10_readsWorth_49 : decode cX10_readsWorth 49 = .ok (.aload_n 0, 1) := dk_42 (dk_at dksX10_readsWorth_2 4 rfl rfl)
theorem dX10_readsWorth_50 : decode cX10_readsWorth 50 = .ok (.getfield 214, 3) := dk_180 0 214 (dk_at dksX10_readsWorth_2 5 rfl rfl)
theorem dX10_readsWorth_53 : decode cX10_readsWorth 53 = .ok (.iastore, 1) := dk_79 (dk_at dksX10_readsWorth_2 8 rfl rfl)
theorem dX10_readsWorth_54 : decode cX10_readsWorth 54 = .ok (.iconst 1, 1) := dk_4 (dk_at dksX10_readsWorth_2 9 rfl rfl)
theorem dX10_readsWorth_55 : decode cX10_readsWorth 55 = .ok (.ireturn, 1) := dk_172 (dk_at dksX10_readsWorth_2 10 rfl rfl)
abbrev cX10_reads : ByteArray := prog_36_method_14_code
def yX10_reads : MethodName := ⟨RX10, "reads", "()Z"⟩
def dkwX10_reads_18 : List UInt8 := [182, 0, 239, 172, 42, 182, 0, 246, 167, 254, 95]
abbrev dktX10_reads_18 : List UInt8 := dkwX10_reads_18 ++ []
def dkwX10_reads_17 : List UInt8 := [167, 255, 239, 27, 154, 0, 18, 42, 16, 59, 182, 0, 235, 153, 0, 9, 42, 182, 0, 246, 4, 172, 42, 4]
abbrev dktX10_reads_17 : List UInt8 := dkwX10_reads_17 ++ dktX10_reads_18
def dkwX10_reads_16 : List UInt8 := [182, 0, 242, 132, 1, 255, 27, 158, 0, 44, 42, 180, 0, 68, 27, 46, 4, 160, 0, 34, 132, 1, 255]
abbrev dktX10_reads_16 : List UInt8 := dkwX10_reads_16 ++ dktX10_reads_17
def dkwX10_reads_15 : List UInt8 := [27, 3, 84, 4, 61, 167, 0, 70, 42, 16, 41, 182, 0, 235, 153, 0, 36, 27, 158, 0, 32, 42, 16, 29]
abbrev dktX10_reads_15 : List UInt8 := dkwX10_reads_15 ++ dktX10_reads_16
def dkwX10_reads_14 : List UInt8 := [42, 20, 0, 249, 182, 0, 231, 153, 0, 8, 16, 26, 167, 0, 5, 16, 27, 182, 0, 242, 42, 180, 0, 71]
abbrev dktX10_reads_14 : List UInt8 := dkwX10_reads_14 ++ dktX10_reads_15
def dkwX10_reads_13 : List UInt8 := [167, 0, 123, 42, 20, 0, 249, 182, 0, 231, 154, 0, 13, 42, 20, 0, 251, 182, 0, 231, 153, 0, 36, 42]
abbrev dktX10_reads_13 : List UInt8 := dkwX10_reads_13 ++ dktX10_reads_14
def dkwX10_reads_12 : List UInt8 := [153, 0, 8, 16, 24, 167, 0, 5, 16, 25, 182, 0, 242, 42, 180, 0, 71, 27, 4, 84, 4, 61]
abbrev dktX10_reads_12 : List UInt8 := dkwX10_reads_12 ++ dktX10_reads_13
def dkwX10_reads_11 : List UInt8 := [16, 61, 182, 0, 235, 153, 0, 44, 42, 180, 0, 71, 27, 51, 154, 0, 35, 42, 42, 16, 60, 182, 0, 235]
abbrev dktX10_reads_11 : List UInt8 := dkwX10_reads_11 ++ dktX10_reads_12
def dkwX10_reads_10 : List UInt8 := [167, 0, 5, 16, 22, 182, 0, 242, 4, 61, 167, 0, 182, 42, 16, 60, 182, 0, 235, 154, 0, 12, 42]
abbrev dktX10_reads_10 : List UInt8 := dkwX10_reads_10 ++ dktX10_reads_11
def dkwX10_reads_9 : List UInt8 := [16, 43, 182, 0, 235, 153, 0, 8, 16, 20, 167, 0, 19, 42, 16, 45, 182, 0, 235, 153, 0, 8, 16, 21]
abbrev dktX10_reads_9 : List UInt8 := dkwX10_reads_9 ++ dktX10_reads_10
def dkwX10_reads_8 : List UInt8 := [154, 0, 21, 42, 16, 45, 182, 0, 235, 154, 0, 12, 42, 16, 42, 182, 0, 235, 153, 0, 42, 42, 42]
abbrev dktX10_reads_8 : List UInt8 := dkwX10_reads_8 ++ dktX10_reads_9
def dkwX10_reads_7 : List UInt8 := [160, 0, 9, 132, 1, 255, 167, 255, 239, 42, 182, 0, 246, 167, 255, 91, 42, 16, 43, 182, 0, 235]
abbrev dktX10_reads_7 : List UInt8 := dkwX10_reads_7 ++ dktX10_reads_8
def dkwX10_reads_6 : List UInt8 := [16, 100, 42, 180, 0, 197, 96, 182, 0, 242, 3, 61, 27, 158, 0, 19, 42, 180, 0, 68, 27, 46, 4]
abbrev dktX10_reads_6 : List UInt8 := dkwX10_reads_6 ++ dktX10_reads_7
def dkwX10_reads_5 : List UInt8 := [167, 0, 4, 5, 79, 42, 180, 0, 71, 27, 3, 84, 167, 0, 44, 42, 29, 158, 0, 7, 29, 167, 0, 10]
abbrev dktX10_reads_5 : List UInt8 := dkwX10_reads_5 ++ dktX10_reads_6
def dkwX10_reads_4 : List UInt8 := [167, 0, 5, 16, 28, 182, 0, 242, 132, 1, 1, 42, 180, 0, 68, 27, 21, 4, 153, 0, 7, 4]
abbrev dktX10_reads_4 : List UInt8 := dkwX10_reads_4 ++ dktX10_reads_5
def dkwX10_reads_3 : List UInt8 := [182, 0, 239, 172, 21, 4, 154, 0, 8, 21, 5, 153, 0, 48, 42, 21, 4, 153, 0, 8, 16, 30]
abbrev dktX10_reads_3 : List UInt8 := dkwX10_reads_3 ++ dktX10_reads_4
def dkwX10_reads_2 : List UInt8 := [154, 0, 17, 42, 180, 0, 200, 5, 159, 0, 9, 42, 4, 182, 0, 239, 172, 27, 8, 160, 0, 9, 42, 8]
abbrev dktX10_reads_2 : List UInt8 := dkwX10_reads_2 ++ dktX10_reads_3
def dkwX10_reads_1 : List UInt8 := [182, 0, 231, 54, 4, 42, 16, 40, 182, 0, 235, 54, 5, 29, 154, 0, 27, 21, 4, 154, 0, 22, 21, 5]
abbrev dktX10_reads_1 : List UInt8 := dkwX10_reads_1 ++ dktX10_reads_2
def dkwX10_reads_0 : List UInt8 := [3, 60, 4, 61, 42, 180, 0, 71, 3, 3, 84, 28, 153, 0, 167, 42, 182, 0, 225, 62, 42, 20, 0, 229]
abbrev dktX10_reads_0 : List UInt8 := dkwX10_reads_0 ++ dktX10_reads_1
theorem dksX10_reads_0 : cX10_reads.data.toList.drop 0 = dktX10_reads_0 := by decide +kernel
theorem dksX10_reads_1 : cX10_reads.data.toList.drop 24 = dktX10_reads_1 := dk_seg dksX10_reads_0 24 rfl rfl
theorem dksX10_reads_2 : cX10_reads.data.toList.drop 48 = dktX10_reads_2 := dk_seg dksX10_reads_1 24 rfl rfl
theorem dksX10_reads_3 : cX10_reads.data.toList.drop 72 = dktX10_reads_3 := dk_seg dksX10_reads_2 24 rfl rfl
theorem dksX10_reads_4 : cX10_reads.data.toList.drop 94 = dktX10_reads_4 := dk_seg dksX10_reads_3 22 rfl rfl
theorem dksX10_reads_5 : cX10_reads.data.toList.drop 116 = dktX10_reads_5 := dk_seg dksX10_reads_4 22 rfl rfl
theorem dksX10_reads_6 : cX10_reads.data.toList.drop 140 = dktX10_reads_6 := dk_seg dksX10_reads_5 24 rfl rfl
theorem dksX10_reads_7 : cX10_reads.data.toList.drop 163 = dktX10_reads_7 := dk_seg dksX10_reads_6 23 rfl rfl
theorem dksX10_reads_8 : cX10_reads.data.toList.drop 185 = dktX10_reads_8 := dk_seg dksX10_reads_7 22 rfl rfl
theorem dksX10_reads_9 : cX10_reads.data.toList.drop 208 = dktX10_reads_9 := dk_seg dksX10_reads_8 23 rfl rfl
theorem dksX10_reads_10 : cX10_reads.data.toList.drop 232 = dktX10_reads_10 := dk_seg dksX10_reads_9 24 rfl rfl
theorem dksX10_reads_11 : cX10_reads.data.toList.drop 255 = dktX10_reads_11 := dk_seg dksX10_reads_10 23 rfl rfl
theorem dksX10_reads_12 : cX10_reads.data.toList.drop 279 = dktX10_reads_12 := dk_seg dksX10_reads_11 24 rfl rfl
theorem dksX10_reads_13 : cX10_reads.data.toList.drop 301 = dktX10_reads_13 := dk_seg dksX10_reads_12 22 rfl rfl
theorem dksX10_reads_14 : cX10_reads.data.toList.drop 325 = dktX10_reads_14 := dk_seg dksX10_reads_13 24 rfl rfl
theorem dksX10_reads_15 : cX10_reads.data.toList.drop 349 = dktX10_reads_15 := dk_seg dksX10_reads_14 24 rfl rfl
theorem dksX10_reads_16 : cX10_reads.data.toList.drop 373 = dktX10_reads_16 := dk_seg dksX10_reads_15 24 rfl rfl
theorem dksX10_reads_17 : cX10_reads.data.toList.drop 396 = dktX10_reads_17 := dk_seg dksX10_reads_16 23 rfl rfl
theorem dksX10_reads_18 : cX10_reads.data.toList.drop 420 = dktX10_reads_18 := dk_seg dksX10_reads_17 24 rfl rfl
theorem dX10_reads_0 : decode cX10_reads 0 = .ok (.iconst 0, 1) := dk_3 (dk_at dksX10_reads_0 0 rfl rfl)
theorem dX10_reads_1 : decode cX10_reads 1 = .ok (.istore_n 1, 1) := dk_60 (dk_at dksX10_reads_0 1 rfl rfl)
theorem dX10_reads_2 : decode cX10_reads 2 = .ok (.iconst 1, 1) := dk_4 (dk_at dksX10_reads_0 2 rfl rfl)
theorem dX10_reads_3 : decode cX10_reads 3 = .ok (.istore_n 2, 1) := dk_61 (dk_at dksX10_reads_0 3 rfl rfl)
theorem dX10_reads_4 : decode cX10_reads 4 = .ok (.aload_n 0, 1) := dk_42 (dk_at dksX10_reads_0 4 rfl rfl)
theorem dX10_reads_5 : decode cX10_reads 5 = .ok (.getfield 71, 3) := dk_180 0 71 (dk_at dksX10_reads_0 5 rfl rfl)
theorem dX10_reads_8 : decode cX10_reads 8 = .ok (.iconst 0, 1) := dk_3 (dk_at dksX10_reads_0 8 rfl rfl)
theorem dX10_reads_9 : decode cX10_reads 9 = .ok (.iconst 0, 1) := dk_3 (dk_at dksX10_reads_0 9 rfl rfl)
theorem dX10_reads_10 : decode cX10_reads 10 = .ok (.bastore, 1) := dk_84 (dk_at dksX10_reads_0 10 rfl rfl)
theorem dX10_reads_11 : decode cX10_reads 11 = .ok (.iload_n 2, 1) := dk_28 (dk_at dksX10_reads_0 11 rfl rfl)
theorem dX10_reads_12 : decode cX10_reads 12 = .ok (.ifCond .eq 167, 3) := dk_153 0 167 (dk_at dksX10_reads_0 12 rfl rfl)
theorem dX10_reads_15 : decode cX10_reads 15 = .ok (.aload_n 0, 1) := dk_42 (dk_at dksX10_reads_0 15 rfl rfl)
theorem dX10_reads_16 : decode cX10_reads 16 = .ok (.invokevirtual 225, 3) := dk_182 0 225 (dk_at dksX10_reads_0 16 rfl rfl)
theorem dX10_reads_19 : decode cX10_reads 19 = .ok (.istore_n 3, 1) := dk_62 (dk_at dksX10_reads_0 19 rfl rfl)
theorem dX10_reads_20 : decode cX10_reads 20 = .ok (.aload_n 0, 1) := dk_42 (dk_at dksX10_reads_0 20 rfl rfl)
theorem dX10_reads_21 : decode cX10_reads 21 = .ok (.ldc2_w 229, 3) := dk_20 0 229 (dk_at dksX10_reads_0 21 rfl rfl)
theorem dX10_reads_24 : decode cX10_reads 24 = .ok (.invokevirtual 231, 3) := dk_182 0 231 (dk_at dksX10_reads_1 0 rfl rfl)
theorem dX10_reads_27 : decode cX10_reads 27 = .ok (.istore 4, 2) := dk_54 4 (dk_at dksX10_reads_1 3 rfl rfl)
theorem dX10_reads_29 : decode cX10_reads 29 = .ok (.aload_n 0, 1) := dk_42 (dk_at dksX10_reads_1 5 rfl rfl)
theorem dX10_reads_30 : decode cX10_reads 30 = .ok (.bipush 40, 2) := dk_16 40 (dk_at dksX10_reads_1 6 rfl rfl)
theorem dX10_reads_32 : decode cX10_reads 32 = .ok (.invokevirtual 235, 3) := dk_182 0 235 (dk_at dksX10_reads_1 8 rfl rfl)
theorem dX10_reads_35 : decode cX10_reads 35 = .ok (.istore 5, 2) := dk_54 5 (dk_at dksX10_reads_1 11 rfl rfl)
theorem dX10_reads_37 : decode cX10_reads 37 = .ok (.iload_n 3, 1) := dk_29 (dk_at dksX10_reads_1 13 rfl rfl)
theorem dX10_reads_38 : decode cX10_reads 38 = .ok (.ifCond .ne 27, 3) := dk_154 0 27 (dk_at dksX10_reads_1 14 rfl rfl)
theorem dX10_reads_41 : decode cX10_reads 41 = .ok (.iload 4, 2) := dk_21 4 (dk_at dksX10_reads_1 17 rfl rfl)
theorem dX10_reads_43 : decode cX10_reads 43 = .ok (.ifCond .ne 22, 3) := dk_154 0 22 (dk_at dksX10_reads_1 19 rfl rfl)
theorem dX10_reads_46 : decode cX10_reads 46 = .ok (.iload 5, 2) := dk_21 5 (dk_at dksX10_reads_1 22 rfl rfl)
theorem dX10_reads_48 : decode cX10_reads 48 = .ok (.ifCond .ne 17, 3) := dk_154 0 17 (dk_at dksX10_reads_2 0 rfl rfl)
theorem dX10_reads_51 : decode cX10_reads 51 = .ok (.aload_n 0, 1) := dk_42 (dk_at dksX10_reads_2 3 rfl rfl)
theorem dX10_reads_52 : decode cX10_reads 52 = .ok (.getfield 200, 3) := dk_180 0 200 (dk_at dksX10_reads_2 4 rfl rfl)
theorem dX10_reads_55 : decode cX10_reads 55 = .ok (.iconst 2, 1) := dk_5 (dk_at dksX10_reads_2 7 rfl rfl)
theorem dX10_reads_56 : decode cX10_reads 56 = .ok (.if_icmp .eq 9, 3) := dk_159 0 9 (dk_at dksX10_reads_2 8 rfl rfl)
theorem dX10_reads_59 : decode cX10_reads 59 = .ok (.aload_n 0, 1) := dk_42 (dk_at dksX10_reads_2 11 rfl rfl)
theorem dX10_reads_60 : decode cX10_reads 60 = .ok (.iconst 1, 1) := dk_4 (dk_at dksX10_reads_2 12 rfl rfl)
theorem dX10_reads_61 : decode cX10_reads 61 = .ok (.invokevirtual 239, 3) := dk_182 0 239 (dk_at dksX10_reads_2 13 rfl rfl)
theorem dX10_reads_64 : decode cX10_reads 64 = .ok (.ireturn, 1) := dk_172 (dk_at dksX10_reads_2 16 rfl rfl)
theorem dX10_reads_65 : decode cX10_reads 65 = .ok (.iload_n 1, 1) := dk_27 (dk_at dksX10_reads_2 17 rfl rfl)
theorem dX10_reads_66 : decode cX10_reads 66 = .ok (.iconst 5, 1) := dk_8 (dk_at dksX10_reads_2 18 rfl rfl)
theorem dX10_reads_67 : decode cX10_reads 67 = .ok (.if_icmp .ne 9, 3) := dk_160 0 9 (dk_at dksX10_reads_2 19 rfl rfl)
theorem dX10_reads_70 : decode cX10_reads 70 = .ok (.aload_n 0, 1) := dk_42 (dk_at dksX10_reads_2 22 rfl rfl)
theorem dX10_reads_71 : decode cX10_reads 71 = .ok (.iconst 5, 1) := dk_8 (dk_at dksX10_reads_2 23 rfl rfl)
theorem dX10_reads_72 : decode cX10_reads 72 = .ok (.invokevirtual 239, 3) := dk_182 0 239 (dk_at dksX10_reads_3 0 rfl rfl)
theorem dX10_reads_75 : decode cX10_reads 75 = .ok (.ireturn, 1) := dk_172 (dk_at dksX10_reads_3 3 rfl rfl)
theorem dX10_reads_76 : decode cX10_reads 76 = .ok (.iload 4, 2) := dk_21 4 (dk_at dksX10_reads_3 4 rfl rfl)
theorem dX10_reads_78 : decode cX10_reads 78 = .ok (.ifCond .ne 8, 3) := dk_154 0 8 (dk_at dksX10_reads_3 6 rfl rfl)
theorem dX10_reads_81 : decode cX10_reads 81 = .ok (.iload 5, 2) := dk_21 5 (dk_at dksX10_reads_3 9 rfl rfl)
theorem dX10_reads_83 : decode cX10_reads 83 = .ok (.ifCond .eq 48, 3) := dk_153 0 48 (dk_at dksX10_reads_3 11 rfl rfl)
theorem dX10_reads_86 : decode cX10_reads 86 = .ok (.aload_n 0, 1) := dk_42 (dk_at dksX10_reads_3 14 rfl rfl)
theorem dX10_reads_87 : decode cX10_reads 87 = .ok (.iload 4, 2) := dk_21 4 (dk_at dksX10_reads_3 15 rfl rfl)
theorem dX10_reads_89 : decode cX10_reads 89 = .ok (.ifCond .eq 8, 3) := dk_153 0 8 (dk_at dksX10_reads_3 17 rfl rfl)
theorem dX10_reads_92 : decode cX10_reads 92 = .ok (.bipush 30, 2) := dk_16 30 (dk_at dksX10_reads_3 20 rfl rfl)
theorem dX10_reads_94 : decode cX10_reads 94 = .ok (.goto 5, 3) := dk_167 0 5 (dk_at dksX10_reads_4 0 rfl rfl)
theorem dX10_reads_97 : decode cX10_reads 97 = .ok (.bipush 28, 2) := dk_16 28 (dk_at dksX10_reads_4 3 rfl rfl)
theorem dX10_reads_99 : decode cX10_reads 99 = .ok (.invokevirtual 242, 3) := dk_182 0 242 (dk_at dksX10_reads_4 5 rfl rfl)
theorem dX10_reads_102 : decode cX10_reads 102 = .ok (.iinc 1 1, 3) := dk_132 1 1 (dk_at dksX10_reads_4 8 rfl rfl)
theorem dX10_reads_105 : decode cX10_reads 105 = .ok (.aload_n 0, 1) := dk_42 (dk_at dksX10_reads_4 11 rfl rfl)
theorem dX10_reads_106 : decode cX10_reads 106 = .ok (.getfield 68, 3) := dk_180 0 68 (dk_at dksX10_reads_4 12 rfl rfl)
theorem dX10_reads_109 : decode cX10_reads 109 = .ok (.iload_n 1, 1) := dk_27 (dk_at dksX10_reads_4 15 rfl rfl)
theorem dX10_reads_110 : decode cX10_reads 110 = .ok (.iload 4, 2) := dk_21 4 (dk_at dksX10_reads_4 16 rfl rfl)
theorem dX10_reads_112 : decode cX10_reads 112 = .ok (.ifCond .eq 7, 3) := dk_153 0 7 (dk_at dksX10_reads_4 18 rfl rfl)
theorem dX10_reads_115 : decode cX10_reads 115 = .ok (.iconst 1, 1) := dk_4 (dk_at dksX10_reads_4 21 rfl rfl)
theorem dX10_reads_116 : decode cX10_reads 116 = .ok (.goto 4, 3) := dk_167 0 4 (dk_at dksX10_reads_5 0 rfl rfl)
theorem dX10_reads_119 : decode cX10_reads 119 = .ok (.iconst 2, 1) := dk_5 (dk_at dksX10_reads_5 3 rfl rfl)
theorem dX10_reads_120 : decode cX10_reads 120 = .ok (.iastore, 1) := dk_79 (dk_at dksX10_reads_5 4 rfl rfl)
theorem dX10_reads_121 : decode cX10_reads 121 = .ok (.aload_n 0, 1) := dk_42 (dk_at dksX10_reads_5 5 rfl rfl)
theorem dX10_reads_122 : decode cX10_reads 122 = .ok (.getfield 71, 3) := dk_180 0 71 (dk_at dksX10_reads_5 6 rfl rfl)
theorem dX10_reads_125 : decode cX10_reads 125 = .ok (.iload_n 1, 1) := dk_27 (dk_at dksX10_reads_5 9 rfl rfl)
theorem dX10_reads_126 : decode cX10_reads 126 = .ok (.iconst 0, 1) := dk_3 (dk_at dksX10_reads_5 10 rfl rfl)
theorem dX10_reads_127 : decode cX10_reads 127 = .ok (.bastore, 1) := dk_84 (dk_at dksX10_reads_5 11 rfl rfl)
theorem dX10_reads_128 : decode cX10_reads 128 = .ok (.goto 44, 3) := dk_167 0 44 (dk_at dksX10_reads_5 12 rfl rfl)
theorem dX10_reads_131 : decode cX10_reads 131 = .ok (.aload_n 0, 1) := dk_42 (dk_at dksX10_reads_5 15 rfl rfl)
theorem dX10_reads_132 : decode cX10_reads 132 = .ok (.iload_n 3, 1) := dk_29 (dk_at dksX10_reads_5 16 rfl rfl)
theorem dX10_reads_133 : decode cX10_reads 133 = .ok (.ifCond .le 7, 3) := dk_158 0 7 (dk_at dksX10_reads_5 17 rfl rfl)
theorem dX10_reads_136 : decode cX10_reads 136 = .ok (.iload_n 3, 1) := dk_29 (dk_at dksX10_reads_5 20 rfl rfl)
theorem dX10_reads_137 : decode cX10_reads 137 = .ok (.goto 10, 3) := dk_167 0 10 (dk_at dksX10_reads_5 21 rfl rfl)
theorem dX10_reads_140 : decode cX10_reads 140 = .ok (.bipush 100, 2) := dk_16 100 (dk_at dksX10_reads_6 0 rfl rfl)
theorem dX10_reads_142 : decode cX10_reads 142 = .ok (.aload_n 0, 1) := dk_42 (dk_at dksX10_reads_6 2 rfl rfl)
theorem dX10_reads_143 : decode cX10_reads 143 = .ok (.getfield 197, 3) := dk_180 0 197 (dk_at dksX10_reads_6 3 rfl rfl)
theorem dX10_reads_146 : decode cX10_reads 146 = .ok (.iadd, 1) := dk_96 (dk_at dksX10_reads_6 6 rfl rfl)
theorem dX10_reads_147 : decode cX10_reads 147 = .ok (.invokevirtual 242, 3) := dk_182 0 242 (dk_at dksX10_reads_6 7 rfl rfl)
theorem dX10_reads_150 : decode cX10_reads 150 = .ok (.iconst 0, 1) := dk_3 (dk_at dksX10_reads_6 10 rfl rfl)
theorem dX10_reads_151 : decode cX10_reads 151 = .ok (.istore_n 2, 1) := dk_61 (dk_at dksX10_reads_6 11 rfl rfl)
theorem dX10_reads_152 : decode cX10_reads 152 = .ok (.iload_n 1, 1) := dk_27 (dk_at dksX10_reads_6 12 rfl rfl)
theorem dX10_reads_153 : decode cX10_reads 153 = .ok (.ifCond .le 19, 3) := dk_158 0 19 (dk_at dksX10_reads_6 13 rfl rfl)
theorem dX10_reads_156 : decode cX10_reads 156 = .ok (.aload_n 0, 1) := dk_42 (dk_at dksX10_reads_6 16 rfl rfl)
theorem dX10_reads_157 : decode cX10_reads 157 = .ok (.getfield 68, 3) := dk_180 0 68 (dk_at dksX10_reads_6 17 rfl rfl)
theorem dX10_reads_160 : decode cX10_reads 160 = .ok (.iload_n 1, 1) := dk_27 (dk_at dksX10_reads_6 20 rfl rfl)
theorem dX10_reads_161 : decode cX10_reads 161 = .ok (.iaload, 1) := dk_46 (dk_at dksX10_reads_6 21 rfl rfl)
theorem dX10_reads_162 : decode cX10_reads 162 = .ok (.iconst 1, 1) := dk_4 (dk_at dksX10_reads_6 22 rfl rfl)
theorem dX10_reads_163 : decode cX10_reads 163 = .ok (.if_icmp .ne 9, 3) := dk_160 0 9 (dk_at dksX10_reads_7 0 rfl rfl)
theorem dX10_reads_166 : decode cX10_reads 166 = .ok (.iinc 1 (-1), 3) := dk_132 1 255 (dk_at dksX10_reads_7 3 rfl rfl)
theorem dX10_reads_169 : decode cX10_reads 169 = .ok (.goto (-17), 3) := dk_167 255 239 (dk_at dksX10_reads_7 6 rfl rfl)
theorem dX10_reads_172 : decode cX10_reads 172 = .ok (.aload_n 0, 1) := dk_42 (dk_at dksX10_reads_7 9 rfl rfl)
theorem dX10_reads_173 : decode cX10_reads 173 = .ok (.invokevirtual 246, 3) := dk_182 0 246 (dk_at dksX10_reads_7 10 rfl rfl)
theorem dX10_reads_176 : decode cX10_reads 176 = .ok (.goto (-165), 3) := dk_167 255 91 (dk_at dksX10_reads_7 13 rfl rfl)
theorem dX10_reads_179 : decode cX10_reads 179 = .ok (.aload_n 0, 1) := dk_42 (dk_at dksX10_reads_7 16 rfl rfl)
theorem dX10_reads_180 : decode cX10_reads 180 = .ok (.bipush 43, 2) := dk_16 43 (dk_at dksX10_reads_7 17 rfl rfl)
theorem dX10_reads_182 : decode cX10_reads 182 = .ok (.invokevirtual 235, 3) := dk_182 0 235 (dk_at dksX10_reads_7 19 rfl rfl)
theorem dX10_reads_185 : decode cX10_reads 185 = .ok (.ifCond .ne 21, 3) := dk_154 0 21 (dk_at dksX10_reads_8 0 rfl rfl)
theorem dX10_reads_188 : decode cX10_reads 188 = .ok (.aload_n 0, 1) := dk_42 (dk_at dksX10_reads_8 3 rfl rfl)
theorem dX10_reads_189 : decode cX10_reads 189 = .ok (.bipush 45, 2) := dk_16 45 (dk_at dksX10_reads_8 4 rfl rfl)
theorem dX10_reads_191 : decode cX10_reads 191 = .ok (.invokevirtual 235, 3) := dk_182 0 235 (dk_at dksX10_reads_8 6 rfl rfl)
theorem dX10_reads_194 : decode cX10_reads 194 = .ok (.ifCond .ne 12, 3) := dk_154 0 12 (dk_at dksX10_reads_8 9 rfl rfl)
theorem dX10_reads_197 : decode cX10_reads 197 = .ok (.aload_n 0, 1) := dk_42 (dk_at dksX10_reads_8 12 rfl rfl)
theorem dX10_reads_198 : decode cX10_reads 198 = .ok (.bipush 42, 2) := dk_16 42 (dk_at dksX10_reads_8 13 rfl rfl)
theorem dX10_reads_200 : decode cX10_reads 200 = .ok (.invokevirtual 235, 3) := dk_182 0 235 (dk_at dksX10_reads_8 15 rfl rfl)
theorem dX10_reads_203 : decode cX10_reads 203 = .ok (.ifCond .eq 42, 3) := dk_153 0 42 (dk_at dksX10_reads_8 18 rfl rfl)
theorem dX10_reads_206 : decode cX10_reads 206 = .ok (.aload_n 0, 1) := dk_42 (dk_at dksX10_reads_8 21 rfl rfl)
theorem dX10_reads_207 : decode cX10_reads 207 = .ok (.aload_n 0, 1) := dk_42 (dk_at dksX10_reads_8 22 rfl rfl)
theorem dX10_reads_208 : decode cX10_reads 208 = .ok (.bipush 43, 2) := dk_16 43 (dk_at dksX10_reads_9 0 rfl rfl)
theorem dX10_reads_210 : decode cX10_reads 210 = .ok (.invokevirtual 235, 3) := dk_182 0 235 (dk_at dksX10_reads_9 2 rfl rfl)
theorem dX10_reads_213 : decode cX10_reads 213 = .ok (.ifCond .eq 8, 3) := dk_153 0 8 (dk_at dksX10_reads_9 5 rfl rfl)
theorem dX10_reads_216 : decode cX10_reads 216 = .ok (.bipush 20, 2) := dk_16 20 (dk_at dksX10_reads_9 8 rfl rfl)
theorem dX10_reads_218 : decode cX10_reads 218 = .ok (.goto 19, 3) := dk_167 0 19 (dk_at dksX10_reads_9 10 rfl rfl)
theorem dX10_reads_221 : decode cX10_reads 221 = .ok (.aload_n 0, 1) := dk_42 (dk_at dksX10_reads_9 13 rfl rfl)
theorem dX10_reads_222 : decode cX10_reads 222 = .ok (.bipush 45, 2) := dk_16 45 (dk_at dksX10_reads_9 14 rfl rfl)
theorem dX10_reads_224 : decode cX10_reads 224 = .ok (.invokevirtual 235, 3) := dk_182 0 235 (dk_at dksX10_reads_9 16 rfl rfl)
theorem dX10_reads_227 : decode cX10_reads 227 = .ok (.ifCond .eq 8, 3) := dk_153 0 8 (dk_at dksX10_reads_9 19 rfl rfl)
theorem dX10_reads_230 : decode cX10_reads 230 = .ok (.bipush 21, 2) := dk_16 21 (dk_at dksX10_reads_9 22 rfl rfl)
theorem dX10_reads_232 : decode cX10_reads 232 = .ok (.goto 5, 3) := dk_167 0 5 (dk_at dksX10_reads_10 0 rfl rfl)
theorem dX10_reads_235 : decode cX10_reads 235 = .ok (.bipush 22, 2) := dk_16 22 (dk_at dksX10_reads_10 3 rfl rfl)
theorem dX10_reads_237 : decode cX10_reads 237 = .ok (.invokevirtual 242, 3) := dk_182 0 242 (dk_at dksX10_reads_10 5 rfl rfl)
theorem dX10_reads_240 : decode cX10_reads 240 = .ok (.iconst 1, 1) := dk_4 (dk_at dksX10_reads_10 8 rfl rfl)
theorem dX10_reads_241 : decode cX10_reads 241 = .ok (.istore_n 2, 1) := dk_61 (dk_at dksX10_reads_10 9 rfl rfl)
theorem dX10_reads_242 : decode cX10_reads 242 = .ok (.goto 182, 3) := dk_167 0 182 (dk_at dksX10_reads_10 10 rfl rfl)
theorem dX10_reads_245 : decode cX10_reads 245 = .ok (.aload_n 0, 1) := dk_42 (dk_at dksX10_reads_10 13 rfl rfl)
theorem dX10_reads_246 : decode cX10_reads 246 = .ok (.bipush 60, 2) := dk_16 60 (dk_at dksX10_reads_10 14 rfl rfl)
theorem dX10_reads_248 : decode cX10_reads 248 = .ok (.invokevirtual 235, 3) := dk_182 0 235 (dk_at dksX10_reads_10 16 rfl rfl)
theorem dX10_reads_251 : decode cX10_reads 251 = .ok (.ifCond .ne 12, 3) := dk_154 0 12 (dk_at dksX10_reads_10 19 rfl rfl)
theorem dX10_reads_254 : decode cX10_reads 254 = .ok (.aload_n 0, 1) := dk_42 (dk_at dksX10_reads_10 22 rfl rfl)
theorem dX10_reads_255 : decode cX10_reads 255 = .ok (.bipush 61, 2) := dk_16 61 (dk_at dksX10_reads_11 0 rfl rfl)
theorem dX10_reads_257 : decode cX10_reads 257 = .ok (.invokevirtual 235, 3) := dk_182 0 235 (dk_at dksX10_reads_11 2 rfl rfl)
theorem dX10_reads_260 : decode cX10_reads 260 = .ok (.ifCond .eq 44, 3) := dk_153 0 44 (dk_at dksX10_reads_11 5 rfl rfl)
theorem dX10_reads_263 : decode cX10_reads 263 = .ok (.aload_n 0, 1) := dk_42 (dk_at dksX10_reads_11 8 rfl rfl)
theorem dX10_reads_264 : decode cX10_reads 264 = .ok (.getfield 71, 3) := dk_180 0 71 (dk_at dksX10_reads_11 9 rfl rfl)
theorem dX10_reads_267 : decode cX10_reads 267 = .ok (.iload_n 1, 1) := dk_27 (dk_at dksX10_reads_11 12 rfl rfl)
theorem dX10_reads_268 : decode cX10_reads 268 = .ok (.baload, 1) := dk_51 (dk_at dksX10_reads_11 13 rfl rfl)
theorem dX10_reads_269 : decode cX10_reads 269 = .ok (.ifCond .ne 35, 3) := dk_154 0 35 (dk_at dksX10_reads_11 14 rfl rfl)
theorem dX10_reads_272 : decode cX10_reads 272 = .ok (.aload_n 0, 1) := dk_42 (dk_at dksX10_reads_11 17 rfl rfl)
theorem dX10_reads_273 : decode cX10_reads 273 = .ok (.aload_n 0, 1) := dk_42 (dk_at dksX10_reads_11 18 rfl rfl)
theorem dX10_reads_274 : decode cX10_reads 274 = .ok (.bipush 60, 2) := dk_16 60 (dk_at dksX10_reads_11 19 rfl rfl)
theorem dX10_reads_276 : decode cX10_reads 276 = .ok (.invokevirtual 235, 3) := dk_182 0 235 (dk_at dksX10_reads_11 21 rfl rfl)
theorem dX10_reads_279 : decode cX10_reads 279 = .ok (.ifCond .eq 8, 3) := dk_153 0 8 (dk_at dksX10_reads_12 0 rfl rfl)
theorem dX10_reads_282 : decode cX10_reads 282 = .ok (.bipush 24, 2) := dk_16 24 (dk_at dksX10_reads_12 3 rfl rfl)
theorem dX10_reads_284 : decode cX10_reads 284 = .ok (.goto 5, 3) := dk_167 0 5 (dk_at dksX10_reads_12 5 rfl rfl)
theorem dX10_reads_287 : decode cX10_reads 287 = .ok (.bipush 25, 2) := dk_16 25 (dk_at dksX10_reads_12 8 rfl rfl)
theorem dX10_reads_289 : decode cX10_reads 289 = .ok (.invokevirtual 242, 3) := dk_182 0 242 (dk_at dksX10_reads_12 10 rfl rfl)
theorem dX10_reads_292 : decode cX10_reads 292 = .ok (.aload_n 0, 1) := dk_42 (dk_at dksX10_reads_12 13 rfl rfl)
theorem dX10_reads_293 : decode cX10_reads 293 = .ok (.getfield 71, 3) := dk_180 0 71 (dk_at dksX10_reads_12 14 rfl rfl)
theorem dX10_reads_296 : decode cX10_reads 296 = .ok (.iload_n 1, 1) := dk_27 (dk_at dksX10_reads_12 17 rfl rfl)
theorem dX10_reads_297 : decode cX10_reads 297 = .ok (.iconst 1, 1) := dk_4 (dk_at dksX10_reads_12 18 rfl rfl)
theorem dX10_reads_298 : decode cX10_reads 298 = .ok (.bastore, 1) := dk_84 (dk_at dksX10_reads_12 19 rfl rfl)
theorem dX10_reads_299 : decode cX10_reads 299 = .ok (.iconst 1, 1) := dk_4 (dk_at dksX10_reads_12 20 rfl rfl)
theorem dX10_reads_300 : decode cX10_reads 300 = .ok (.istore_n 2, 1) := dk_61 (dk_at dksX10_reads_12 21 rfl rfl)
theorem dX10_reads_301 : decode cX10_reads 301 = .ok (.goto 123, 3) := dk_167 0 123 (dk_at dksX10_reads_13 0 rfl rfl)
theorem dX10_reads_304 : decode cX10_reads 304 = .ok (.aload_n 0, 1) := dk_42 (dk_at dksX10_reads_13 3 rfl rfl)
theorem dX10_reads_305 : decode cX10_reads 305 = .ok (.ldc2_w 249, 3) := dk_20 0 249 (dk_at dksX10_reads_13 4 rfl rfl)
theorem dX10_reads_308 : decode cX10_reads 308 = .ok (.invokevirtual 231, 3) := dk_182 0 231 (dk_at dksX10_reads_13 7 rfl rfl)
theorem dX10_reads_311 : decode cX10_reads 311 = .ok (.ifCond .ne 13, 3) := dk_154 0 13 (dk_at dksX10_reads_13 10 rfl rfl)
theorem dX10_reads_314 : decode cX10_reads 314 = .ok (.aload_n 0, 1) := dk_42 (dk_at dksX10_reads_13 13 rfl rfl)
theorem dX10_reads_315 : decode cX10_reads 315 = .ok (.ldc2_w 251, 3) := dk_20 0 251 (dk_at dksX10_reads_13 14 rfl rfl)
theorem dX10_reads_318 : decode cX10_reads 318 = .ok (.invokevirtual 231, 3) := dk_182 0 231 (dk_at dksX10_reads_13 17 rfl rfl)
theorem dX10_reads_321 : decode cX10_reads 321 = .ok (.ifCond .eq 36, 3) := dk_153 0 36 (dk_at dksX10_reads_13 20 rfl rfl)
theorem dX10_reads_324 : decode cX10_reads 324 = .ok (.aload_n 0, 1) := dk_42 (dk_at dksX10_reads_13 23 rfl rfl)
theorem dX10_reads_325 : decode cX10_reads 325 = .ok (.aload_n 0, 1) := dk_42 (dk_at dksX10_reads_14 0 rfl rfl)
theorem dX10_reads_326 : decode cX10_reads 326 = .ok (.ldc2_w 249, 3) := dk_20 0 249 (dk_at dksX10_reads_14 1 rfl rfl)
theorem dX10_reads_329 : decode cX10_reads 329 = .ok (.invokevirtual 231, 3) := dk_182 0 231 (dk_at dksX10_reads_14 4 rfl rfl)
theorem dX10_reads_332 : decode cX10_reads 332 = .ok (.ifCond .eq 8, 3) := dk_153 0 8 (dk_at dksX10_reads_14 7 rfl rfl)
theorem dX10_reads_335 : decode cX10_reads 335 = .ok (.bipush 26, 2) := dk_16 26 (dk_at dksX10_reads_14 10 rfl rfl)
theorem dX10_reads_337 : decode cX10_reads 337 = .ok (.goto 5, 3) := dk_167 0 5 (dk_at dksX10_reads_14 12 rfl rfl)
theorem dX10_reads_340 : decode cX10_reads 340 = .ok (.bipush 27, 2) := dk_16 27 (dk_at dksX10_reads_14 15 rfl rfl)
theorem dX10_reads_342 : decode cX10_reads 342 = .ok (.invokevirtual 242, 3) := dk_182 0 242 (dk_at dksX10_reads_14 17 rfl rfl)
theorem dX10_reads_345 : decode cX10_reads 345 = .ok (.aload_n 0, 1) := dk_42 (dk_at dksX10_reads_14 20 rfl rfl)
theorem dX10_reads_346 : decode cX10_reads 346 = .ok (.getfield 71, 3) := dk_180 0 71 (dk_at dksX10_reads_14 21 rfl rfl)
theorem dX10_reads_349 : decode cX10_reads 349 = .ok (.iload_n 1, 1) := dk_27 (dk_at dksX10_reads_15 0 rfl rfl)
theorem dX10_reads_350 : decode cX10_reads 350 = .ok (.iconst 0, 1) := dk_3 (dk_at dksX10_reads_15 1 rfl rfl)
theorem dX10_reads_351 : decode cX10_reads 351 = .ok (.bastore, 1) := dk_84 (dk_at dksX10_reads_15 2 rfl rfl)
theorem dX10_reads_352 : decode cX10_reads 352 = .ok (.iconst 1, 1) := dk_4 (dk_at dksX10_reads_15 3 rfl rfl)
theorem dX10_reads_353 : decode cX10_reads 353 = .ok (.istore_n 2, 1) := dk_61 (dk_at dksX10_reads_15 4 rfl rfl)
theorem dX10_reads_354 : decode cX10_reads 354 = .ok (.goto 70, 3) := dk_167 0 70 (dk_at dksX10_reads_15 5 rfl rfl)
theorem dX10_reads_357 : decode cX10_reads 357 = .ok (.aload_n 0, 1) := dk_42 (dk_at dksX10_reads_15 8 rfl rfl)
theorem dX10_reads_358 : decode cX10_reads 358 = .ok (.bipush 41, 2) := dk_16 41 (dk_at dksX10_reads_15 9 rfl rfl)
theorem dX10_reads_360 : decode cX10_reads 360 = .ok (.invokevirtual 235, 3) := dk_182 0 235 (dk_at dksX10_reads_15 11 rfl rfl)
theorem dX10_reads_363 : decode cX10_reads 363 = .ok (.ifCond .eq 36, 3) := dk_153 0 36 (dk_at dksX10_reads_15 14 rfl rfl)
theorem dX10_reads_366 : decode cX10_reads 366 = .ok (.iload_n 1, 1) := dk_27 (dk_at dksX10_reads_15 17 rfl rfl)
theorem dX10_reads_367 : decode cX10_reads 367 = .ok (.ifCond .le 32, 3) := dk_158 0 32 (dk_at dksX10_reads_15 18 rfl rfl)
theorem dX10_reads_370 : decode cX10_reads 370 = .ok (.aload_n 0, 1) := dk_42 (dk_at dksX10_reads_15 21 rfl rfl)
theorem dX10_reads_371 : decode cX10_reads 371 = .ok (.bipush 29, 2) := dk_16 29 (dk_at dksX10_reads_15 22 rfl rfl)
theorem dX10_reads_373 : decode cX10_reads 373 = .ok (.invokevirtual 242, 3) := dk_182 0 242 (dk_at dksX10_reads_16 0 rfl rfl)
theorem dX10_reads_376 : decode cX10_reads 376 = .ok (.iinc 1 (-1), 3) := dk_132 1 255 (dk_at dksX10_reads_16 3 rfl rfl)
theorem dX10_reads_379 : decode cX10_reads 379 = .ok (.iload_n 1, 1) := dk_27 (dk_at dksX10_reads_16 6 rfl rfl)
theorem dX10_reads_380 : decode cX10_reads 380 = .ok (.ifCond .le 44, 3) := dk_158 0 44 (dk_at dksX10_reads_16 7 rfl rfl)
theorem dX10_reads_383 : decode cX10_reads 383 = .ok (.aload_n 0, 1) := dk_42 (dk_at dksX10_reads_16 10 rfl rfl)
theorem dX10_reads_384 : decode cX10_reads 384 = .ok (.getfield 68, 3) := dk_180 0 68 (dk_at dksX10_reads_16 11 rfl rfl)
theorem dX10_reads_387 : decode cX10_reads 387 = .ok (.iload_n 1, 1) := dk_27 (dk_at dksX10_reads_16 14 rfl rfl)
theorem dX10_reads_388 : decode cX10_reads 388 = .ok (.iaload, 1) := dk_46 (dk_at dksX10_reads_16 15 rfl rfl)
theorem dX10_reads_389 : decode cX10_reads 389 = .ok (.iconst 1, 1) := dk_4 (dk_at dksX10_reads_16 16 rfl rfl)
theorem dX10_reads_390 : decode cX10_reads 390 = .ok (.if_icmp .ne 34, 3) := dk_160 0 34 (dk_at dksX10_reads_16 17 rfl rfl)
theorem dX10_reads_393 : decode cX10_reads 393 = .ok (.iinc 1 (-1), 3) := dk_132 1 255 (dk_at dksX10_reads_16 20 rfl rfl)
theorem dX10_reads_396 : decode cX10_reads 396 = .ok (.goto (-17), 3) := dk_167 255 239 (dk_at dksX10_reads_17 0 rfl rfl)
theorem dX10_reads_399 : decode cX10_reads 399 = .ok (.iload_n 1, 1) := dk_27 (dk_at dksX10_reads_17 3 rfl rfl)
theorem dX10_reads_400 : decode cX10_reads 400 = .ok (.ifCond .ne 18, 3) := dk_154 0 18 (dk_at dksX10_reads_17 4 rfl rfl)
theorem dX10_reads_403 : decode cX10_reads 403 = .ok (.aload_n 0, 1) := dk_42 (dk_at dksX10_reads_17 7 rfl rfl)
theorem dX10_reads_404 : decode cX10_reads 404 = .ok (.bipush 59, 2) := dk_16 59 (dk_at dksX10_reads_17 8 rfl rfl)
theorem dX10_reads_406 : decode cX10_reads 406 = .ok (.invokevirtual 235, 3) := dk_182 0 235 (dk_at dksX10_reads_17 10 rfl rfl)
theorem dX10_reads_409 : decode cX10_reads 409 = .ok (.ifCond .eq 9, 3) := dk_153 0 9 (dk_at dksX10_reads_17 13 rfl rfl)
theorem dX10_reads_412 : decode cX10_reads 412 = .ok (.aload_n 0, 1) := dk_42 (dk_at dksX10_reads_17 16 rfl rfl)
theorem dX10_reads_413 : decode cX10_reads 413 = .ok (.invokevirtual 246, 3) := dk_182 0 246 (dk_at dksX10_reads_17 17 rfl rfl)
theorem dX10_reads_416 : decode cX10_reads 416 = .ok (.iconst 1, 1) := dk_4 (dk_at dksX10_reads_17 20 rfl rfl)
theorem dX10_reads_417 : decode cX10_reads 417 = .ok (.ireturn, 1) := dk_172 (dk_at dksX10_reads_17 21 rfl rfl)
theorem dX10_reads_418 : decode cX10_reads 418 = .ok (.aload_n 0, 1) := dk_42 (dk_at dksX10_reads_17 22 rfl rfl)
theorem dX10_reads_419 : decode cX10_reads 419 = .ok (.iconst 1, 1) := dk_4 (dk_at dksX10_reads_17 23 rfl rfl)
theorem dX10_reads_420 : decode cX10_reads 420 = .ok (.invokevirtual 239, 3) := dk_182 0 239 (dk_at dksX10_reads_18 0 rfl rfl)
theorem dX10_reads_423 : decode cX10_reads 423 = .ok (.ireturn, 1) := dk_172 (dk_at dksX10_reads_18 3 rfl rfl)
theorem dX10_reads_424 : decode cX10_reads 424 = .ok (.aload_n 0, 1) := dk_42 (dk_at dksX10_reads_18 4 rfl rfl)
theorem dX10_reads_425 : decode cX10_reads 425 = .ok (.invokevirtual 246, 3) := dk_182 0 246 (dk_at dksX10_reads_18 5 rfl rfl)
theorem dX10_reads_428 : decode cX10_reads 428 = .ok (.goto (-417), 3) := dk_167 254 95 (dk_at dksX10_reads_18 8 rfl rfl)
abbrev cX10_fact : ByteArray := prog_36_method_13_code
def yX10_fact : MethodName := ⟨RX10, "fact", "()I"⟩
def dkwX10_fact_3 : List UInt8 := [167, 0, 4, 3, 172]
abbrev dktX10_fact_3 : List UInt8 := dkwX10_fact_3 ++ []
def dkwX10_fact_2 : List UInt8 := [20, 0, 221, 148, 154, 0, 7, 6, 167, 0, 19, 42, 180, 0, 193, 20, 0, 223, 148, 154, 0, 7, 7]
abbrev dktX10_fact_2 : List UInt8 := dkwX10_fact_2 ++ dktX10_fact_3
def dkwX10_fact_1 : List UInt8 := [167, 0, 49, 42, 180, 0, 193, 20, 0, 219, 148, 154, 0, 7, 5, 167, 0, 34, 42, 180, 0, 193]
abbrev dktX10_fact_1 : List UInt8 := dkwX10_fact_1 ++ dktX10_fact_2
def dkwX10_fact_0 : List UInt8 := [42, 180, 0, 200, 4, 159, 0, 5, 3, 172, 42, 180, 0, 193, 20, 0, 217, 148, 154, 0, 7, 4]
abbrev dktX10_fact_0 : List UInt8 := dkwX10_fact_0 ++ dktX10_fact_1
theorem dksX10_fact_0 : cX10_fact.data.toList.drop 0 = dktX10_fact_0 := by decide +kernel
theorem dksX10_fact_1 : cX10_fact.data.toList.drop 22 = dktX10_fact_1 := dk_seg dksX10_fact_0 22 rfl rfl
theorem dksX10_fact_2 : cX10_fact.data.toList.drop 44 = dktX10_fact_2 := dk_seg dksX10_fact_1 22 rfl rfl
theorem dksX10_fact_3 : cX10_fact.data.toList.drop 67 = dktX10_fact_3 := dk_seg dksX10_fact_2 23 rfl rfl
theorem dX10_fact_0 : decode cX10_fact 0 = .ok (.aload_n 0, 1) := dk_42 (dk_at dksX10_fact_0 0 rfl rfl)
theorem dX10_fact_1 : decode cX10_fact 1 = .ok (.getfield 200, 3) := dk_180 0 200 (dk_at dksX10_fact_0 1 rfl rfl)
theorem dX10_fact_4 : decode cX10_fact 4 = .ok (.iconst 1, 1) := dk_4 (dk_at dksX10_fact_0 4 rfl rfl)
theorem dX10_fact_5 : decode cX10_fact 5 = .ok (.if_icmp .eq 5, 3) := dk_159 0 5 (dk_at dksX10_fact_0 5 rfl rfl)
theorem dX10_fact_8 : decode cX10_fact 8 = .ok (.iconst 0, 1) := dk_3 (dk_at dksX10_fact_0 8 rfl rfl)
theorem dX10_fact_9 : decode cX10_fact 9 = .ok (.ireturn, 1) := dk_172 (dk_at dksX10_fact_0 9 rfl rfl)
theorem dX10_fact_10 : decode cX10_fact 10 = .ok (.aload_n 0, 1) := dk_42 (dk_at dksX10_fact_0 10 rfl rfl)
theorem dX10_fact_11 : decode cX10_fact 11 = .ok (.getfield 193, 3) := dk_180 0 193 (dk_at dksX10_fact_0 11 rfl rfl)
theorem dX10_fact_14 : decode cX10_fact 14 = .ok (.ldc2_w 217, 3) := dk_20 0 217 (dk_at dksX10_fact_0 14 rfl rfl)
theorem dX10_fact_17 : decode cX10_fact 17 = .ok (.lcmp, 1) := dk_148 (dk_at dksX10_fact_0 17 rfl rfl)
theorem dX10_fact_18 : decode cX10_fact 18 = .ok (.ifCond .ne 7, 3) := dk_154 0 7 (dk_at dksX10_fact_0 18 rfl rfl)
theorem dX10_fact_21 : decode cX10_fact 21 = .ok (.iconst 1, 1) := dk_4 (dk_at dksX10_fact_0 21 rfl rfl)
theorem dX10_fact_22 : decode cX10_fact 22 = .ok (.goto 49, 3) := dk_167 0 49 (dk_at dksX10_fact_1 0 rfl rfl)
theorem dX10_fact_25 : decode cX10_fact 25 = .ok (.aload_n 0, 1) := dk_42 (dk_at dksX10_fact_1 3 rfl rfl)
theorem dX10_fact_26 : decode cX10_fact 26 = .ok (.getfield 193, 3) := dk_180 0 193 (dk_at dksX10_fact_1 4 rfl rfl)
theorem dX10_fact_29 : decode cX10_fact 29 = .ok (.ldc2_w 219, 3) := dk_20 0 219 (dk_at dksX10_fact_1 7 rfl rfl)
theorem dX10_fact_32 : decode cX10_fact 32 = .ok (.lcmp, 1) := dk_148 (dk_at dksX10_fact_1 10 rfl rfl)
theorem dX10_fact_33 : decode cX10_fact 33 = .ok (.ifCond .ne 7, 3) := dk_154 0 7 (dk_at dksX10_fact_1 11 rfl rfl)
theorem dX10_fact_36 : decode cX10_fact 36 = .ok (.iconst 2, 1) := dk_5 (dk_at dksX10_fact_1 14 rfl rfl)
theorem dX10_fact_37 : decode cX10_fact 37 = .ok (.goto 34, 3) := dk_167 0 34 (dk_at dksX10_fact_1 15 rfl rfl)
theorem dX10_fact_40 : decode cX10_fact 40 = .ok (.aload_n 0, 1) := dk_42 (dk_at dksX10_fact_1 18 rfl rfl)
theorem dX10_fact_41 : decode cX10_fact 41 = .ok (.getfield 193, 3) := dk_180 0 193 (dk_at dksX10_fact_1 19 rfl rfl)
theorem dX10_fact_44 : decode cX10_fact 44 = .ok (.ldc2_w 221, 3) := dk_20 0 221 (dk_at dksX10_fact_2 0 rfl rfl)
theorem dX10_fact_47 : decode cX10_fact 47 = .ok (.lcmp, 1) := dk_148 (dk_at dksX10_fact_2 3 rfl rfl)
theorem dX10_fact_48 : decode cX10_fact 48 = .ok (.ifCond .ne 7, 3) := dk_154 0 7 (dk_at dksX10_fact_2 4 rfl rfl)
theorem dX10_fact_51 : decode cX10_fact 51 = .ok (.iconst 3, 1) := dk_6 (dk_at dksX10_fact_2 7 rfl rfl)
theorem dX10_fact_52 : decode cX10_fact 52 = .ok (.goto 19, 3) := dk_167 0 19 (dk_at dksX10_fact_2 8 rfl rfl)
theorem dX10_fact_55 : decode cX10_fact 55 = .ok (.aload_n 0, 1) := dk_42 (dk_at dksX10_fact_2 11 rfl rfl)
theorem dX10_fact_56 : decode cX10_fact 56 = .ok (.getfield 193, 3) := dk_180 0 193 (dk_at dksX10_fact_2 12 rfl rfl)
theorem dX10_fact_59 : decode cX10_fact 59 = .ok (.ldc2_w 223, 3) := dk_20 0 223 (dk_at dksX10_fact_2 15 rfl rfl)
theorem dX10_fact_62 : decode cX10_fact 62 = .ok (.lcmp, 1) := dk_148 (dk_at dksX10_fact_2 18 rfl rfl)
theorem dX10_fact_63 : decode cX10_fact 63 = .ok (.ifCond .ne 7, 3) := dk_154 0 7 (dk_at dksX10_fact_2 19 rfl rfl)
theorem dX10_fact_66 : decode cX10_fact 66 = .ok (.iconst 4, 1) := dk_7 (dk_at dksX10_fact_2 22 rfl rfl)
theorem dX10_fact_67 : decode cX10_fact 67 = .ok (.goto 4, 3) := dk_167 0 4 (dk_at dksX10_fact_3 0 rfl rfl)
theorem dX10_fact_70 : decode cX10_fact 70 = .ok (.iconst 0, 1) := dk_3 (dk_at dksX10_fact_3 3 rfl rfl)
theorem dX10_fact_71 : decode cX10_fact 71 = .ok (.ireturn, 1) := dk_172 (dk_at dksX10_fact_3 4 rfl rfl)
abbrev cX10_puts : ByteArray := prog_36_method_12_code
def yX10_puts : MethodName := ⟨RX10, "puts", "(I)V"⟩
def dkwX10_puts_0 : List UInt8 := [42, 180, 0, 65, 42, 180, 0, 214, 27, 79, 42, 89, 180, 0, 214, 4, 96, 181, 0, 214, 177]
abbrev dktX10_puts_0 : List UInt8 := dkwX10_puts_0 ++ []
theorem dksX10_puts_0 : cX10_puts.data.toList.drop 0 = dktX10_puts_0 := by decide +kernel
theorem dX10_puts_0 : decode cX10_puts 0 = .ok (.aload_n 0, 1) := dk_42 (dk_at dksX10_puts_0 0 rfl rfl)
theorem dX10_puts_1 : decode cX10_puts 1 = .ok (.getfield 65, 3) := dk_180 0 65 (dk_at dksX10_puts_0 1 rfl rfl)
theorem dX10_puts_4 : decode cX10_puts 4 = .ok (.aload_n 0, 1) := dk_42 (dk_at dksX10_puts_0 4 rfl rfl)
theorem dX10_puts_5 : decode cX10_puts 5 = .ok (.getfield 214, 3) := dk_180 0 214 (dk_at dksX10_puts_0 5 rfl rfl)
theorem dX10_puts_8 : decode cX10_puts 8 = .ok (.iload_n 1, 1) := dk_27 (dk_at dksX10_puts_0 8 rfl rfl)
theorem dX10_puts_9 : decode cX10_puts 9 = .ok (.iastore, 1) := dk_79 (dk_at dksX10_puts_0 9 rfl rfl)
theorem dX10_puts_10 : decode cX10_puts 10 = .ok (.aload_n 0, 1) := dk_42 (dk_at dksX10_puts_0 10 rfl rfl)
theorem dX10_puts_11 : decode cX10_puts 11 = .ok (.dup, 1) := dk_89 (dk_at dksX10_puts_0 11 rfl rfl)
theorem dX10_puts_12 : decode cX10_puts 12 = .ok (.getfield 214, 3) := dk_180 0 214 (dk_at dksX10_puts_0 12 rfl rfl)
theorem dX10_puts_15 : decode cX10_puts 15 = .ok (.iconst 1, 1) := dk_4 (dk_at dksX10_puts_0 15 rfl rfl)
theorem dX10_puts_16 : decode cX10_puts 16 = .ok (.iadd, 1) := dk_96 (dk_at dksX10_puts_0 16 rfl rfl)
theorem dX10_puts_17 : decode cX10_puts 17 = .ok (.putfield 214, 3) := dk_181 0 214 (dk_at dksX10_puts_0 17 rfl rfl)
theorem dX10_puts_20 : decode cX10_puts 20 = .ok (.return_, 1) := dk_177 (dk_at dksX10_puts_0 20 rfl rfl)
abbrev cX10_lays : ByteArray := prog_36_method_40_code
def yX10_lays : MethodName := ⟨RX10, "lays", "()V"⟩
def dkwX10_lays_7 : List UInt8 := [79, 42, 180, 0, 62, 3, 42, 180, 0, 62, 4, 46, 17, 3, 232, 100, 79, 177]
abbrev dktX10_lays_7 : List UInt8 := dkwX10_lays_7 ++ []
def dkwX10_lays_6 : List UInt8 := [180, 0, 65, 17, 3, 232, 184, 1, 116, 42, 180, 0, 59, 3, 42, 180, 0, 59, 4, 46, 17, 3, 232, 100]
abbrev dktX10_lays_6 : List UInt8 := dkwX10_lays_6 ++ dktX10_lays_7
def dkwX10_lays_5 : List UInt8 := [184, 1, 116, 42, 180, 0, 53, 16, 30, 184, 1, 116, 42, 180, 0, 56, 16, 30, 184, 1, 116, 42]
abbrev dktX10_lays_5 : List UInt8 := dkwX10_lays_5 ++ dktX10_lays_6
def dkwX10_lays_4 : List UInt8 := [180, 0, 44, 16, 10, 184, 1, 116, 42, 180, 0, 47, 16, 10, 184, 1, 116, 42, 180, 0, 50, 16, 30]
abbrev dktX10_lays_4 : List UInt8 := dkwX10_lays_4 ++ dktX10_lays_5
def dkwX10_lays_3 : List UInt8 := [184, 1, 116, 42, 180, 0, 38, 16, 10, 184, 1, 116, 42, 180, 0, 41, 16, 10, 184, 1, 116, 42]
abbrev dktX10_lays_3 : List UInt8 := dkwX10_lays_3 ++ dktX10_lays_4
def dkwX10_lays_2 : List UInt8 := [180, 0, 29, 16, 6, 184, 1, 116, 42, 180, 0, 32, 16, 10, 184, 1, 116, 42, 180, 0, 35, 16, 10]
abbrev dktX10_lays_2 : List UInt8 := dkwX10_lays_2 ++ dktX10_lays_3
def dkwX10_lays_1 : List UInt8 := [184, 1, 120, 42, 180, 0, 23, 16, 6, 184, 1, 116, 42, 180, 0, 26, 16, 6, 184, 1, 116, 42]
abbrev dktX10_lays_1 : List UInt8 := dkwX10_lays_1 ++ dktX10_lays_2
def dkwX10_lays_0 : List UInt8 := [42, 180, 0, 13, 7, 184, 1, 116, 42, 180, 0, 16, 16, 6, 184, 1, 120, 42, 180, 0, 20, 16, 10]
abbrev dktX10_lays_0 : List UInt8 := dkwX10_lays_0 ++ dktX10_lays_1
theorem dksX10_lays_0 : cX10_lays.data.toList.drop 0 = dktX10_lays_0 := by decide +kernel
theorem dksX10_lays_1 : cX10_lays.data.toList.drop 23 = dktX10_lays_1 := dk_seg dksX10_lays_0 23 rfl rfl
theorem dksX10_lays_2 : cX10_lays.data.toList.drop 45 = dktX10_lays_2 := dk_seg dksX10_lays_1 22 rfl rfl
theorem dksX10_lays_3 : cX10_lays.data.toList.drop 68 = dktX10_lays_3 := dk_seg dksX10_lays_2 23 rfl rfl
theorem dksX10_lays_4 : cX10_lays.data.toList.drop 90 = dktX10_lays_4 := dk_seg dksX10_lays_3 22 rfl rfl
theorem dksX10_lays_5 : cX10_lays.data.toList.drop 113 = dktX10_lays_5 := dk_seg dksX10_lays_4 23 rfl rfl
theorem dksX10_lays_6 : cX10_lays.data.toList.drop 135 = dktX10_lays_6 := dk_seg dksX10_lays_5 22 rfl rfl
theorem dksX10_lays_7 : cX10_lays.data.toList.drop 159 = dktX10_lays_7 := dk_seg dksX10_lays_6 24 rfl rfl
theorem dX10_lays_0 : decode cX10_lays 0 = .ok (.aload_n 0, 1) := dk_42 (dk_at dksX10_lays_0 0 rfl rfl)
theorem dX10_lays_1 : decode cX10_lays 1 = .ok (.getfield 13, 3) := dk_180 0 13 (dk_at dksX10_lays_0 1 rfl rfl)
theorem dX10_lays_4 : decode cX10_lays 4 = .ok (.iconst 4, 1) := dk_7 (dk_at dksX10_lays_0 4 rfl rfl)
theorem dX10_lays_5 : decode cX10_lays 5 = .ok (.invokestatic 372, 3) := dk_184 1 116 (dk_at dksX10_lays_0 5 rfl rfl)
theorem dX10_lays_8 : decode cX10_lays 8 = .ok (.aload_n 0, 1) := dk_42 (dk_at dksX10_lays_0 8 rfl rfl)
theorem dX10_lays_9 : decode cX10_lays 9 = .ok (.getfield 16, 3) := dk_180 0 16 (dk_at dksX10_lays_0 9 rfl rfl)
theorem dX10_lays_12 : decode cX10_lays 12 = .ok (.bipush 6, 2) := dk_16 6 (dk_at dksX10_lays_0 12 rfl rfl)
theorem dX10_lays_14 : decode cX10_lays 14 = .ok (.invokestatic 376, 3) := dk_184 1 120 (dk_at dksX10_lays_0 14 rfl rfl)
theorem dX10_lays_17 : decode cX10_lays 17 = .ok (.aload_n 0, 1) := dk_42 (dk_at dksX10_lays_0 17 rfl rfl)
theorem dX10_lays_18 : decode cX10_lays 18 = .ok (.getfield 20, 3) := dk_180 0 20 (dk_at dksX10_lays_0 18 rfl rfl)
theorem dX10_lays_21 : decode cX10_lays 21 = .ok (.bipush 10, 2) := dk_16 10 (dk_at dksX10_lays_0 21 rfl rfl)
theorem dX10_lays_23 : decode cX10_lays 23 = .ok (.invokestatic 376, 3) := dk_184 1 120 (dk_at dksX10_lays_1 0 rfl rfl)
theorem dX10_lays_26 : decode cX10_lays 26 = .ok (.aload_n 0, 1) := dk_42 (dk_at dksX10_lays_1 3 rfl rfl)
theorem dX10_lays_27 : decode cX10_lays 27 = .ok (.getfield 23, 3) := dk_180 0 23 (dk_at dksX10_lays_1 4 rfl rfl)
theorem dX10_lays_30 : decode cX10_lays 30 = .ok (.bipush 6, 2) := dk_16 6 (dk_at dksX10_lays_1 7 rfl rfl)
theorem dX10_lays_32 : decode cX10_lays 32 = .ok (.invokestatic 372, 3) := dk_184 1 116 (dk_at dksX10_lays_1 9 rfl rfl)
theorem dX10_lays_35 : decode cX10_lays 35 = .ok (.aload_n 0, 1) := dk_42 (dk_at dksX10_lays_1 12 rfl rfl)
theorem dX10_lays_36 : decode cX10_lays 36 = .ok (.getfield 26, 3) := dk_180 0 26 (dk_at dksX10_lays_1 13 rfl rfl)
theorem dX10_lays_39 : decode cX10_lays 39 = .ok (.bipush 6, 2) := dk_16 6 (dk_at dksX10_lays_1 16 rfl rfl)
theorem dX10_lays_41 : decode cX10_lays 41 = .ok (.invokestatic 372, 3) := dk_184 1 116 (dk_at dksX10_lays_1 18 rfl rfl)
theorem dX10_lays_44 : decode cX10_lays 44 = .ok (.aload_n 0, 1) := dk_42 (dk_at dksX10_lays_1 21 rfl rfl)
theorem dX10_lays_45 : decode cX10_lays 45 = .ok (.getfield 29, 3) := dk_180 0 29 (dk_at dksX10_lays_2 0 rfl rfl)
theorem dX10_lays_48 : decode cX10_lays 48 = .ok (.bipush 6, 2) := dk_16 6 (dk_at dksX10_lays_2 3 rfl rfl)
theorem dX10_lays_50 : decode cX10_lays 50 = .ok (.invokestatic 372, 3) := dk_184 1 116 (dk_at dksX10_lays_2 5 rfl rfl)
theorem dX10_lays_53 : decode cX10_lays 53 = .ok (.aload_n 0, 1) := dk_42 (dk_at dksX10_lays_2 8 rfl rfl)
theorem dX10_lays_54 : decode cX10_lays 54 = .ok (.getfield 32, 3) := dk_180 0 32 (dk_at dksX10_lays_2 9 rfl rfl)
theorem dX10_lays_57 : decode cX10_lays 57 = .ok (.bipush 10, 2) := dk_16 10 (dk_at dksX10_lays_2 12 rfl rfl)
theorem dX10_lays_59 : decode cX10_lays 59 = .ok (.invokestatic 372, 3) := dk_184 1 116 (dk_at dksX10_lays_2 14 rfl rfl)
theorem dX10_lays_62 : decode cX10_lays 62 = .ok (.aload_n 0, 1) := dk_42 (dk_at dksX10_lays_2 17 rfl rfl)
theorem dX10_lays_63 : decode cX10_lays 63 = .ok (.getfield 35, 3) := dk_180 0 35 (dk_at dksX10_lays_2 18 rfl rfl)
theorem dX10_lays_66 : decode cX10_lays 66 = .ok (.bipush 10, 2) := dk_16 10 (dk_at dksX10_lays_2 21 rfl rfl)
theorem dX10_lays_68 : decode cX10_lays 68 = .ok (.invokestatic 372, 3) := dk_184 1 116 (dk_at dksX10_lays_3 0 rfl rfl)
theorem dX10_lays_71 : decode cX10_lays 71 = .ok (.aload_n 0, 1) := dk_42 (dk_at dksX10_lays_3 3 rfl rfl)
theorem dX10_lays_72 : decode cX10_lays 72 = .ok (.getfield 38, 3) := dk_180 0 38 (dk_at dksX10_lays_3 4 rfl rfl)
theorem dX10_lays_75 : decode cX10_lays 75 = .ok (.bipush 10, 2) := dk_16 10 (dk_at dksX10_lays_3 7 rfl rfl)
theorem dX10_lays_77 : decode cX10_lays 77 = .ok (.invokestatic 372, 3) := dk_184 1 116 (dk_at dksX10_lays_3 9 rfl rfl)
theorem dX10_lays_80 : decode cX10_lays 80 = .ok (.aload_n 0, 1) := dk_42 (dk_at dksX10_lays_3 12 rfl rfl)
theorem dX10_lays_81 : decode cX10_lays 81 = .ok (.getfield 41, 3) := dk_180 0 41 (dk_at dksX10_lays_3 13 rfl rfl)
theorem dX10_lays_84 : decode cX10_lays 84 = .ok (.bipush 10, 2) := dk_16 10 (dk_at dksX10_lays_3 16 rfl rfl)
theorem dX10_lays_86 : decode cX10_lays 86 = .ok (.invokestatic 372, 3) := dk_184 1 116 (dk_at dksX10_lays_3 18 rfl rfl)
theorem dX10_lays_89 : decode cX10_lays 89 = .ok (.aload_n 0, 1) := dk_42 (dk_at dksX10_lays_3 21 rfl rfl)
theorem dX10_lays_90 : decode cX10_lays 90 = .ok (.getfield 44, 3) := dk_180 0 44 (dk_at dksX10_lays_4 0 rfl rfl)
theorem dX10_lays_93 : decode cX10_lays 93 = .ok (.bipush 10, 2) := dk_16 10 (dk_at dksX10_lays_4 3 rfl rfl)
theorem dX10_lays_95 : decode cX10_lays 95 = .ok (.invokestatic 372, 3) := dk_184 1 116 (dk_at dksX10_lays_4 5 rfl rfl)
theorem dX10_lays_98 : decode cX10_lays 98 = .ok (.aload_n 0, 1) := dk_42 (dk_at dksX10_lays_4 8 rfl rfl)
theorem dX10_lays_99 : decode cX10_lays 99 = .ok (.getfield 47, 3) := dk_180 0 47 (dk_at dksX10_lays_4 9 rfl rfl)
theorem dX10_lays_102 : decode cX10_lays 102 = .ok (.bipush 10, 2) := dk_16 10 (dk_at dksX10_lays_4 12 rfl rfl)
theorem dX10_lays_104 : decode cX10_lays 104 = .ok (.invokestatic 372, 3) := dk_184 1 116 (dk_at dksX10_lays_4 14 rfl rfl)
theorem dX10_lays_107 : decode cX10_lays 107 = .ok (.aload_n 0, 1) := dk_42 (dk_at dksX10_lays_4 17 rfl rfl)
theorem dX10_lays_108 : decode cX10_lays 108 = .ok (.getfield 50, 3) := dk_180 0 50 (dk_at dksX10_lays_4 18 rfl rfl)
theorem dX10_lays_111 : decode cX10_lays 111 = .ok (.bipush 30, 2) := dk_16 30 (dk_at dksX10_lays_4 21 rfl rfl)
theorem dX10_lays_113 : decode cX10_lays 113 = .ok (.invokestatic 372, 3) := dk_184 1 116 (dk_at dksX10_lays_5 0 rfl rfl)
theorem dX10_lays_116 : decode cX10_lays 116 = .ok (.aload_n 0, 1) := dk_42 (dk_at dksX10_lays_5 3 rfl rfl)
theorem dX10_lays_117 : decode cX10_lays 117 = .ok (.getfield 53, 3) := dk_180 0 53 (dk_at dksX10_lays_5 4 rfl rfl)
theorem dX10_lays_120 : decode cX10_lays 120 = .ok (.bipush 30, 2) := dk_16 30 (dk_at dksX10_lays_5 7 rfl rfl)
theorem dX10_lays_122 : decode cX10_lays 122 = .ok (.invokestatic 372, 3) := dk_184 1 116 (dk_at dksX10_lays_5 9 rfl rfl)
theorem dX10_lays_125 : decode cX10_lays 125 = .ok (.aload_n 0, 1) := dk_42 (dk_at dksX10_lays_5 12 rfl rfl)
theorem dX10_lays_126 : decode cX10_lays 126 = .ok (.getfield 56, 3) := dk_180 0 56 (dk_at dksX10_lays_5 13 rfl rfl)
theorem dX10_lays_129 : decode cX10_lays 129 = .ok (.bipush 30, 2) := dk_16 30 (dk_at dksX10_lays_5 16 rfl rfl)
theorem dX10_lays_131 : decode cX10_lays 131 = .ok (.invokestatic 372, 3) := dk_184 1 116 (dk_at dksX10_lays_5 18 rfl rfl)
theorem dX10_lays_134 : decode cX10_lays 134 = .ok (.aload_n 0, 1) := dk_42 (dk_at dksX10_lays_5 21 rfl rfl)
theorem dX10_lays_135 : decode cX10_lays 135 = .ok (.getfield 65, 3) := dk_180 0 65 (dk_at dksX10_lays_6 0 rfl rfl)
theorem dX10_lays_138 : decode cX10_lays 138 = .ok (.sipush 1000, 3) := dk_17 3 232 (dk_at dksX10_lays_6 3 rfl rfl)
theorem dX10_lays_141 : decode cX10_lays 141 = .ok (.invokestatic 372, 3) := dk_184 1 116 (dk_at dksX10_lays_6 6 rfl rfl)
theorem dX10_lays_144 : decode cX10_lays 144 = .ok (.aload_n 0, 1) := dk_42 (dk_at dksX10_lays_6 9 rfl rfl)
theorem dX10_lays_145 : decode cX10_lays 145 = .ok (.getfield 59, 3) := dk_180 0 59 (dk_at dksX10_lays_6 10 rfl rfl)
theorem dX10_lays_148 : decode cX10_lays 148 = .ok (.iconst 0, 1) := dk_3 (dk_at dksX10_lays_6 13 rfl rfl)
theorem dX10_lays_149 : decode cX10_lays 149 = .ok (.aload_n 0, 1) := dk_42 (dk_at dksX10_lays_6 14 rfl rfl)
theorem dX10_lays_150 : decode cX10_lays 150 = .ok (.getfield 59, 3) := dk_180 0 59 (dk_at dksX10_lays_6 15 rfl rfl)
theorem dX10_lays_153 : decode cX10_lays 153 = .ok (.iconst 1, 1) := dk_4 (dk_at dksX10_lays_6 18 rfl rfl)
theorem dX10_lays_154 : decode cX10_lays 154 = .ok (.iaload, 1) := dk_46 (dk_at dksX10_lays_6 19 rfl rfl)
theorem dX10_lays_155 : decode cX10_lays 155 = .ok (.sipush 1000, 3) := dk_17 3 232 (dk_at dksX10_lays_6 20 rfl rfl)
theorem dX10_lays_158 : decode cX10_lays 158 = .ok (.isub, 1) := dk_100 (dk_at dksX10_lays_6 23 rfl rfl)
theorem dX10_lays_159 : decode cX10_lays 159 = .ok (.iastore, 1) := dk_79 (dk_at dksX10_lays_7 0 rfl rfl)
theorem dX10_lays_160 : decode cX10_lays 160 = .ok (.aload_n 0, 1) := dk_42 (dk_at dksX10_lays_7 1 rfl rfl)
theorem dX10_lays_161 : decode cX10_lays 161 = .ok (.getfield 62, 3) := dk_180 0 62 (dk_at dksX10_lays_7 2 rfl rfl)
theorem dX10_lays_164 : decode cX10_lays 164 = .ok (.iconst 0, 1) := dk_3 (dk_at dksX10_lays_7 5 rfl rfl)
theorem dX10_lays_165 : decode cX10_lays 165 = .ok (.aload_n 0, 1) := dk_42 (dk_at dksX10_lays_7 6 rfl rfl)
theorem dX10_lays_166 : decode cX10_lays 166 = .ok (.getfield 62, 3) := dk_180 0 62 (dk_at dksX10_lays_7 7 rfl rfl)
theorem dX10_lays_169 : decode cX10_lays 169 = .ok (.iconst 1, 1) := dk_4 (dk_at dksX10_lays_7 10 rfl rfl)
theorem dX10_lays_170 : decode cX10_lays 170 = .ok (.iaload, 1) := dk_46 (dk_at dksX10_lays_7 11 rfl rfl)
theorem dX10_lays_171 : decode cX10_lays 171 = .ok (.sipush 1000, 3) := dk_17 3 232 (dk_at dksX10_lays_7 12 rfl rfl)
theorem dX10_lays_174 : decode cX10_lays 174 = .ok (.isub, 1) := dk_100 (dk_at dksX10_lays_7 15 rfl rfl)
theorem dX10_lays_175 : decode cX10_lays 175 = .ok (.iastore, 1) := dk_79 (dk_at dksX10_lays_7 16 rfl rfl)
theorem dX10_lays_176 : decode cX10_lays 176 = .ok (.return_, 1) := dk_177 (dk_at dksX10_lays_7 17 rfl rfl)
abbrev cX10_moves : ByteArray := prog_36_method_38_code
def yX10_moves : MethodName := ⟨RX10, "moves", "([II)V"⟩
def dkwX10_moves_0 : List UInt8 := [3, 61, 28, 27, 162, 0, 17, 42, 28, 42, 27, 28, 96, 46, 79, 132, 2, 1, 167, 255, 240, 177]
abbrev dktX10_moves_0 : List UInt8 := dkwX10_moves_0 ++ []
theorem dksX10_moves_0 : cX10_moves.data.toList.drop 0 = dktX10_moves_0 := by decide +kernel
theorem dX10_moves_0 : decode cX10_moves 0 = .ok (.iconst 0, 1) := dk_3 (dk_at dksX10_moves_0 0 rfl rfl)
theorem dX10_moves_1 : decode cX10_moves 1 = .ok (.istore_n 2, 1) := dk_61 (dk_at dksX10_moves_0 1 rfl rfl)
theorem dX10_moves_2 : decode cX10_moves 2 = .ok (.iload_n 2, 1) := dk_28 (dk_at dksX10_moves_0 2 rfl rfl)
theorem dX10_moves_3 : decode cX10_moves 3 = .ok (.iload_n 1, 1) := dk_27 (dk_at dksX10_moves_0 3 rfl rfl)
theorem dX10_moves_4 : decode cX10_moves 4 = .ok (.if_icmp .ge 17, 3) := dk_162 0 17 (dk_at dksX10_moves_0 4 rfl rfl)
theorem dX10_moves_7 : decode cX10_moves 7 = .ok (.aload_n 0, 1) := dk_42 (dk_at dksX10_moves_0 7 rfl rfl)
theorem dX10_moves_8 : decode cX10_moves 8 = .ok (.iload_n 2, 1) := dk_28 (dk_at dksX10_moves_0 8 rfl rfl)
theorem dX10_moves_9 : decode cX10_moves 9 = .ok (.aload_n 0, 1) := dk_42 (dk_at dksX10_moves_0 9 rfl rfl)
theorem dX10_moves_10 : decode cX10_moves 10 = .ok (.iload_n 1, 1) := dk_27 (dk_at dksX10_moves_0 10 rfl rfl)
theorem dX10_moves_11 : decode cX10_moves 11 = .ok (.iload_n 2, 1) := dk_28 (dk_at dksX10_moves_0 11 rfl rfl)
theorem dX10_moves_12 : decode cX10_moves 12 = .ok (.iadd, 1) := dk_96 (dk_at dksX10_moves_0 12 rfl rfl)
theorem dX10_moves_13 : decode cX10_moves 13 = .ok (.iaload, 1) := dk_46 (dk_at dksX10_moves_0 13 rfl rfl)
theorem dX10_moves_14 : decode cX10_moves 14 = .ok (.iastore, 1) := dk_79 (dk_at dksX10_moves_0 14 rfl rfl)
theorem dX10_moves_15 : decode cX10_moves 15 = .ok (.iinc 2 1, 3) := dk_132 2 1 (dk_at dksX10_moves_0 15 rfl rfl)
theorem dX10_moves_18 : decode cX10_moves 18 = .ok (.goto (-16), 3) := dk_167 255 240 (dk_at dksX10_moves_0 18 rfl rfl)
theorem dX10_moves_21 : decode cX10_moves 21 = .ok (.return_, 1) := dk_177 (dk_at dksX10_moves_0 21 rfl rfl)
abbrev cX10_movesNames : ByteArray := prog_36_method_39_code
def yX10_movesNames : MethodName := ⟨RX10, "movesNames", "([JI)V"⟩
def dkwX10_movesNames_0 : List UInt8 := [3, 61, 28, 27, 162, 0, 17, 42, 28, 42, 27, 28, 96, 47, 80, 132, 2, 1, 167, 255, 240, 177]
abbrev dktX10_movesNames_0 : List UInt8 := dkwX10_movesNames_0 ++ []
theorem dksX10_movesNames_0 : cX10_movesNames.data.toList.drop 0 = dktX10_movesNames_0 := by decide +kernel
theorem dX10_movesNames_0 : decode cX10_movesNames 0 = .ok (.iconst 0, 1) := dk_3 (dk_at dksX10_movesNames_0 0 rfl rfl)
theorem dX10_movesNames_1 : decode cX10_movesNames 1 = .ok (.istore_n 2, 1) := dk_61 (dk_at dksX10_movesNames_0 1 rfl rfl)
theorem dX10_movesNames_2 : decode cX10_movesNames 2 = .ok (.iload_n 2, 1) := dk_28 (dk_at dksX10_movesNames_0 2 rfl rfl)
theorem dX10_movesNames_3 : decode cX10_movesNames 3 = .ok (.iload_n 1, 1) := dk_27 (dk_at dksX10_movesNames_0 3 rfl rfl)
theorem dX10_movesNames_4 : decode cX10_movesNames 4 = .ok (.if_icmp .ge 17, 3) := dk_162 0 17 (dk_at dksX10_movesNames_0 4 rfl rfl)
theorem dX10_movesNames_7 : decode cX10_movesNames 7 = .ok (.aload_n 0, 1) := dk_42 (dk_at dksX10_movesNames_0 7 rfl rfl)
theorem dX10_movesNames_8 : decode cX10_movesNames 8 = .ok (.iload_n 2, 1) := dk_28 (dk_at dksX10_movesNames_0 8 rfl rfl)
theorem dX10_movesNames_9 : decode cX10_movesNames 9 = .ok (.aload_n 0, 1) := dk_42 (dk_at dksX10_movesNames_0 9 rfl rfl)
theorem dX10_movesNames_10 : decode cX10_movesNames 10 = .ok (.iload_n 1, 1) := dk_27 (dk_at dksX10_movesNames_0 10 rfl rfl)
theorem dX10_movesNames_11 : decode cX10_movesNames 11 = .ok (.iload_n 2, 1) := dk_28 (dk_at dksX10_movesNames_0 11 rfl rfl)
theorem dX10_movesNames_12 : decode cX10_movesNames 12 = .ok (.iadd, 1) := dk_96 (dk_at dksX10_movesNames_0 12 rfl rfl)
theorem dX10_movesNames_13 : decode cX10_movesNames 13 = .ok (.laload, 1) := dk_47 (dk_at dksX10_movesNames_0 13 rfl rfl)
theorem dX10_movesNames_14 : decode cX10_movesNames 14 = .ok (.lastore, 1) := dk_80 (dk_at dksX10_movesNames_0 14 rfl rfl)
theorem dX10_movesNames_15 : decode cX10_movesNames 15 = .ok (.iinc 2 1, 3) := dk_132 2 1 (dk_at dksX10_movesNames_0 15 rfl rfl)
theorem dX10_movesNames_18 : decode cX10_movesNames 18 = .ok (.goto (-16), 3) := dk_167 255 240 (dk_at dksX10_movesNames_0 18 rfl rfl)
theorem dX10_movesNames_21 : decode cX10_movesNames 21 = .ok (.return_, 1) := dk_177 (dk_at dksX10_movesNames_0 21 rfl rfl)
abbrev cX10_fresh : ByteArray := prog_36_method_48_code
def yX10_fresh : MethodName := ⟨RX10, "fresh", "()V"⟩
def dkwX10_fresh_3 : List UInt8 := [180, 0, 26, 27, 46, 79, 132, 1, 1, 167, 255, 228, 177]
abbrev dktX10_fresh_3 : List UInt8 := dkwX10_fresh_3 ++ []
def dkwX10_fresh_2 : List UInt8 := [167, 255, 231, 3, 60, 27, 42, 180, 0, 13, 3, 46, 162, 0, 24, 42, 180, 0, 129, 16, 70, 27, 96, 42]
abbrev dktX10_fresh_2 : List UInt8 := dkwX10_fresh_2 ++ dktX10_fresh_3
def dkwX10_fresh_1 : List UInt8 := [42, 180, 0, 13, 4, 46, 162, 0, 21, 42, 180, 0, 129, 27, 42, 180, 0, 44, 27, 46, 79, 132, 1, 1]
abbrev dktX10_fresh_1 : List UInt8 := dkwX10_fresh_1 ++ dktX10_fresh_2
def dkwX10_fresh_0 : List UInt8 := [3, 60, 27, 16, 123, 162, 0, 16, 42, 180, 0, 129, 27, 3, 79, 132, 1, 1, 167, 255, 240, 3, 60, 27]
abbrev dktX10_fresh_0 : List UInt8 := dkwX10_fresh_0 ++ dktX10_fresh_1
theorem dksX10_fresh_0 : cX10_fresh.data.toList.drop 0 = dktX10_fresh_0 := by decide +kernel
theorem dksX10_fresh_1 : cX10_fresh.data.toList.drop 24 = dktX10_fresh_1 := dk_seg dksX10_fresh_0 24 rfl rfl
theorem dksX10_fresh_2 : cX10_fresh.data.toList.drop 48 = dktX10_fresh_2 := dk_seg dksX10_fresh_1 24 rfl rfl
theorem dksX10_fresh_3 : cX10_fresh.data.toList.drop 72 = dktX10_fresh_3 := dk_seg dksX10_fresh_2 24 rfl rfl
theorem dX10_fresh_0 : decode cX10_fresh 0 = .ok (.iconst 0, 1) := dk_3 (dk_at dksX10_fresh_0 0 rfl rfl)
theorem dX10_fresh_1 : decode cX10_fresh 1 = .ok (.istore_n 1, 1) := dk_60 (dk_at dksX10_fresh_0 1 rfl rfl)
theorem dX10_fresh_2 : decode cX10_fresh 2 = .ok (.iload_n 1, 1) := dk_27 (dk_at dksX10_fresh_0 2 rfl rfl)
theorem dX10_fresh_3 : decode cX10_fresh 3 = .ok (.bipush 123, 2) := dk_16 123 (dk_at dksX10_fresh_0 3 rfl rfl)
theorem dX10_fresh_5 : decode cX10_fresh 5 = .ok (.if_icmp .ge 16, 3) := dk_162 0 16 (dk_at dksX10_fresh_0 5 rfl rfl)
theorem dX10_fresh_8 : decode cX10_fresh 8 = .ok (.aload_n 0, 1) := dk_42 (dk_at dksX10_fresh_0 8 rfl rfl)
theorem dX10_fresh_9 : decode cX10_fresh 9 = .ok (.getfield 129, 3) := dk_180 0 129 (dk_at dksX10_fresh_0 9 rfl rfl)
theorem dX10_fresh_12 : decode cX10_fresh 12 = .ok (.iload_n 1, 1) := dk_27 (dk_at dksX10_fresh_0 12 rfl rfl)
theorem dX10_fresh_13 : decode cX10_fresh 13 = .ok (.iconst 0, 1) := dk_3 (dk_at dksX10_fresh_0 13 rfl rfl)
theorem dX10_fresh_14 : decode cX10_fresh 14 = .ok (.iastore, 1) := dk_79 (dk_at dksX10_fresh_0 14 rfl rfl)
theorem dX10_fresh_15 : decode cX10_fresh 15 = .ok (.iinc 1 1, 3) := dk_132 1 1 (dk_at dksX10_fresh_0 15 rfl rfl)
theorem dX10_fresh_18 : decode cX10_fresh 18 = .ok (.goto (-16), 3) := dk_167 255 240 (dk_at dksX10_fresh_0 18 rfl rfl)
theorem dX10_fresh_21 : decode cX10_fresh 21 = .ok (.iconst 0, 1) := dk_3 (dk_at dksX10_fresh_0 21 rfl rfl)
theorem dX10_fresh_22 : decode cX10_fresh 22 = .ok (.istore_n 1, 1) := dk_60 (dk_at dksX10_fresh_0 22 rfl rfl)
theorem dX10_fresh_23 : decode cX10_fresh 23 = .ok (.iload_n 1, 1) := dk_27 (dk_at dksX10_fresh_0 23 rfl rfl)
theorem dX10_fresh_24 : decode cX10_fresh 24 = .ok (.aload_n 0, 1) := dk_42 (dk_at dksX10_fresh_1 0 rfl rfl)
theorem dX10_fresh_25 : decode cX10_fresh 25 = .ok (.getfield 13, 3) := dk_180 0 13 (dk_at dksX10_fresh_1 1 rfl rfl)
theorem dX10_fresh_28 : decode cX10_fresh 28 = .ok (.iconst 1, 1) := dk_4 (dk_at dksX10_fresh_1 4 rfl rfl)
theorem dX10_fresh_29 : decode cX10_fresh 29 = .ok (.iaload, 1) := dk_46 (dk_at dksX10_fresh_1 5 rfl rfl)
theorem dX10_fresh_30 : decode cX10_fresh 30 = .ok (.if_icmp .ge 21, 3) := dk_162 0 21 (dk_at dksX10_fresh_1 6 rfl rfl)
theorem dX10_fresh_33 : decode cX10_fresh 33 = .ok (.aload_n 0, 1) := dk_42 (dk_at dksX10_fresh_1 9 rfl rfl)
theorem dX10_fresh_34 : decode cX10_fresh 34 = .ok (.getfield 129, 3) := dk_180 0 129 (dk_at dksX10_fresh_1 10 rfl rfl)
theorem dX10_fresh_37 : decode cX10_fresh 37 = .ok (.iload_n 1, 1) := dk_27 (dk_at dksX10_fresh_1 13 rfl rfl)
theorem dX10_fresh_38 : decode cX10_fresh 38 = .ok (.aload_n 0, 1) := dk_42 (dk_at dksX10_fresh_1 14 rfl rfl)
theorem dX10_fresh_39 : decode cX10_fresh 39 = .ok (.getfield 44, 3) := dk_180 0 44 (dk_at dksX10_fresh_1 15 rfl rfl)
theorem dX10_fresh_42 : decode cX10_fresh 42 = .ok (.iload_n 1, 1) := dk_27 (dk_at dksX10_fresh_1 18 rfl rfl)
theorem dX10_fresh_43 : decode cX10_fresh 43 = .ok (.iaload, 1) := dk_46 (dk_at dksX10_fresh_1 19 rfl rfl)
theorem dX10_fresh_44 : decode cX10_fresh 44 = .ok (.iastore, 1) := dk_79 (dk_at dksX10_fresh_1 20 rfl rfl)
theorem dX10_fresh_45 : decode cX10_fresh 45 = .ok (.iinc 1 1, 3) := dk_132 1 1 (dk_at dksX10_fresh_1 21 rfl rfl)
theorem dX10_fresh_48 : decode cX10_fresh 48 = .ok (.goto (-25), 3) := dk_167 255 231 (dk_at dksX10_fresh_2 0 rfl rfl)
theorem dX10_fresh_51 : decode cX10_fresh 51 = .ok (.iconst 0, 1) := dk_3 (dk_at dksX10_fresh_2 3 rfl rfl)
theorem dX10_fresh_52 : decode cX10_fresh 52 = .ok (.istore_n 1, 1) := dk_60 (dk_at dksX10_fresh_2 4 rfl rfl)
theorem dX10_fresh_53 : decode cX10_fresh 53 = .ok (.iload_n 1, 1) := dk_27 (dk_at dksX10_fresh_2 5 rfl rfl)
theorem dX10_fresh_54 : decode cX10_fresh 54 = .ok (.aload_n 0, 1) := dk_42 (dk_at dksX10_fresh_2 6 rfl rfl)
theorem dX10_fresh_55 : decode cX10_fresh 55 = .ok (.getfield 13, 3) := dk_180 0 13 (dk_at dksX10_fresh_2 7 rfl rfl)
theorem dX10_fresh_58 : decode cX10_fresh 58 = .ok (.iconst 0, 1) := dk_3 (dk_at dksX10_fresh_2 10 rfl rfl)
theorem dX10_fresh_59 : decode cX10_fresh 59 = .ok (.iaload, 1) := dk_46 (dk_at dksX10_fresh_2 11 rfl rfl)
theorem dX10_fresh_60 : decode cX10_fresh 60 = .ok (.if_icmp .ge 24, 3) := dk_162 0 24 (dk_at dksX10_fresh_2 12 rfl rfl)
theorem dX10_fresh_63 : decode cX10_fresh 63 = .ok (.aload_n 0, 1) := dk_42 (dk_at dksX10_fresh_2 15 rfl rfl)
theorem dX10_fresh_64 : decode cX10_fresh 64 = .ok (.getfield 129, 3) := dk_180 0 129 (dk_at dksX10_fresh_2 16 rfl rfl)
theorem dX10_fresh_67 : decode cX10_fresh 67 = .ok (.bipush 70, 2) := dk_16 70 (dk_at dksX10_fresh_2 19 rfl rfl)
theorem dX10_fresh_69 : decode cX10_fresh 69 = .ok (.iload_n 1, 1) := dk_27 (dk_at dksX10_fresh_2 21 rfl rfl)
theorem dX10_fresh_70 : decode cX10_fresh 70 = .ok (.iadd, 1) := dk_96 (dk_at dksX10_fresh_2 22 rfl rfl)
theorem dX10_fresh_71 : decode cX10_fresh 71 = .ok (.aload_n 0, 1) := dk_42 (dk_at dksX10_fresh_2 23 rfl rfl)
theorem dX10_fresh_72 : decode cX10_fresh 72 = .ok (.getfield 26, 3) := dk_180 0 26 (dk_at dksX10_fresh_3 0 rfl rfl)
theorem dX10_fresh_75 : decode cX10_fresh 75 = .ok (.iload_n 1, 1) := dk_27 (dk_at dksX10_fresh_3 3 rfl rfl)
theorem dX10_fresh_76 : decode cX10_fresh 76 = .ok (.iaload, 1) := dk_46 (dk_at dksX10_fresh_3 4 rfl rfl)
theorem dX10_fresh_77 : decode cX10_fresh 77 = .ok (.iastore, 1) := dk_79 (dk_at dksX10_fresh_3 5 rfl rfl)
theorem dX10_fresh_78 : decode cX10_fresh 78 = .ok (.iinc 1 1, 3) := dk_132 1 1 (dk_at dksX10_fresh_3 6 rfl rfl)
theorem dX10_fresh_81 : decode cX10_fresh 81 = .ok (.goto (-28), 3) := dk_167 255 228 (dk_at dksX10_fresh_3 9 rfl rfl)
theorem dX10_fresh_84 : decode cX10_fresh 84 = .ok (.return_, 1) := dk_177 (dk_at dksX10_fresh_3 12 rfl rfl)
abbrev cX10_gossip : ByteArray := prog_36_method_50_code
def yX10_gossip : MethodName := ⟨RX10, "gossip", "()I"⟩
def dkwX10_gossip_1 : List UInt8 := [182, 1, 145, 154, 255, 245, 42, 180, 0, 211, 172, 42, 8, 3, 182, 1, 148, 3, 172]
abbrev dktX10_gossip_1 : List UInt8 := dkwX10_gossip_1 ++ []
def dkwX10_gossip_0 : List UInt8 := [42, 3, 181, 0, 175, 42, 180, 0, 105, 8, 3, 79, 42, 182, 1, 98, 42, 180, 0, 200, 153, 0, 15, 42]
abbrev dktX10_gossip_0 : List UInt8 := dkwX10_gossip_0 ++ dktX10_gossip_1
theorem dksX10_gossip_0 : cX10_gossip.data.toList.drop 0 = dktX10_gossip_0 := by decide +kernel
theorem dksX10_gossip_1 : cX10_gossip.data.toList.drop 24 = dktX10_gossip_1 := dk_seg dksX10_gossip_0 24 rfl rfl
theorem dX10_gossip_0 : decode cX10_gossip 0 = .ok (.aload_n 0, 1) := dk_42 (dk_at dksX10_gossip_0 0 rfl rfl)
theorem dX10_gossip_1 : decode cX10_gossip 1 = .ok (.iconst 0, 1) := dk_3 (dk_at dksX10_gossip_0 1 rfl rfl)
theorem dX10_gossip_2 : decode cX10_gossip 2 = .ok (.putfield 175, 3) := dk_181 0 175 (dk_at dksX10_gossip_0 2 rfl rfl)
theorem dX10_gossip_5 : decode cX10_gossip 5 = .ok (.aload_n 0, 1) := dk_42 (dk_at dksX10_gossip_0 5 rfl rfl)
theorem dX10_gossip_6 : decode cX10_gossip 6 = .ok (.getfield 105, 3) := dk_180 0 105 (dk_at dksX10_gossip_0 6 rfl rfl)
theorem dX10_gossip_9 : decode cX10_gossip 9 = .ok (.iconst 5, 1) := dk_8 (dk_at dksX10_gossip_0 9 rfl rfl)
theorem dX10_gossip_10 : decode cX10_gossip 10 = .ok (.iconst 0, 1) := dk_3 (dk_at dksX10_gossip_0 10 rfl rfl)
theorem dX10_gossip_11 : decode cX10_gossip 11 = .ok (.iastore, 1) := dk_79 (dk_at dksX10_gossip_0 11 rfl rfl)
theorem dX10_gossip_12 : decode cX10_gossip 12 = .ok (.aload_n 0, 1) := dk_42 (dk_at dksX10_gossip_0 12 rfl rfl)
theorem dX10_gossip_13 : decode cX10_gossip 13 = .ok (.invokevirtual 354, 3) := dk_182 1 98 (dk_at dksX10_gossip_0 13 rfl rfl)
theorem dX10_gossip_16 : decode cX10_gossip 16 = .ok (.aload_n 0, 1) := dk_42 (dk_at dksX10_gossip_0 16 rfl rfl)
theorem dX10_gossip_17 : decode cX10_gossip 17 = .ok (.getfield 200, 3) := dk_180 0 200 (dk_at dksX10_gossip_0 17 rfl rfl)
theorem dX10_gossip_20 : decode cX10_gossip 20 = .ok (.ifCond .eq 15, 3) := dk_153 0 15 (dk_at dksX10_gossip_0 20 rfl rfl)
theorem dX10_gossip_23 : decode cX10_gossip 23 = .ok (.aload_n 0, 1) := dk_42 (dk_at dksX10_gossip_0 23 rfl rfl)
theorem dX10_gossip_24 : decode cX10_gossip 24 = .ok (.invokevirtual 401, 3) := dk_182 1 145 (dk_at dksX10_gossip_1 0 rfl rfl)
theorem dX10_gossip_27 : decode cX10_gossip 27 = .ok (.ifCond .ne (-11), 3) := dk_154 255 245 (dk_at dksX10_gossip_1 3 rfl rfl)
theorem dX10_gossip_30 : decode cX10_gossip 30 = .ok (.aload_n 0, 1) := dk_42 (dk_at dksX10_gossip_1 6 rfl rfl)
theorem dX10_gossip_31 : decode cX10_gossip 31 = .ok (.getfield 211, 3) := dk_180 0 211 (dk_at dksX10_gossip_1 7 rfl rfl)
theorem dX10_gossip_34 : decode cX10_gossip 34 = .ok (.ireturn, 1) := dk_172 (dk_at dksX10_gossip_1 10 rfl rfl)
theorem dX10_gossip_35 : decode cX10_gossip 35 = .ok (.aload_n 0, 1) := dk_42 (dk_at dksX10_gossip_1 11 rfl rfl)
theorem dX10_gossip_36 : decode cX10_gossip 36 = .ok (.iconst 5, 1) := dk_8 (dk_at dksX10_gossip_1 12 rfl rfl)
theorem dX10_gossip_37 : decode cX10_gossip 37 = .ok (.iconst 0, 1) := dk_3 (dk_at dksX10_gossip_1 13 rfl rfl)
theorem dX10_gossip_38 : decode cX10_gossip 38 = .ok (.invokevirtual 404, 3) := dk_182 1 148 (dk_at dksX10_gossip_1 14 rfl rfl)
theorem dX10_gossip_41 : decode cX10_gossip 41 = .ok (.iconst 0, 1) := dk_3 (dk_at dksX10_gossip_1 17 rfl rfl)
theorem dX10_gossip_42 : decode cX10_gossip 42 = .ok (.ireturn, 1) := dk_172 (dk_at dksX10_gossip_1 18 rfl rfl)
