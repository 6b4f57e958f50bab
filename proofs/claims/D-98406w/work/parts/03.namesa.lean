set_option maxRecDepth 100000
/-! java/util/AbstractCollection -/
set_option maxRecDepth 100000
def RJ0 : String := "java/util/AbstractCollection"
abbrev cJ0_init : ByteArray := prog_58_method_1_code
def yJ0_init : MethodName := ⟨RJ0, "<init>", "()V"⟩
theorem dJ0_init_0 : decode cJ0_init 0 = .ok (.aload_n 0, 1) := by decide +kernel
theorem dJ0_init_1 : decode cJ0_init 1 = .ok (.invokespecial 1, 3) := by decide +kernel
theorem dJ0_init_4 : decode cJ0_init 4 = .ok (.return_, 1) := by decide +kernel
theorem q133 : (Jvm.Cond.initialized "java/util/AbstractCollection") ∈ lw_all := lw_g (lw_at lw_m1 5 rfl) rfl
theorem q337 : (Jvm.Cond.instanceMethod ({ cls := "java/util/AbstractCollection", name := "<init>", desc := "()V" } : Jvm.MethodName)) ∈ lw_all := lw_g (lw_at lw_m1 209 rfl) rfl
theorem q338 : (Jvm.Cond.code ({ cls := "java/util/AbstractCollection", name := "<init>", desc := "()V" } : Jvm.MethodName) prog_58_method_1_code (1 : Nat) (Option.none : Option Jvm.ClassFile.FieldType)) ∈ lw_all := lw_g (lw_at lw_m1 210 rfl) rfl
theorem q339 : (Jvm.Cond.methodLink "java/util/AbstractCollection" (1 : Nat) ({ cls := "java/lang/Object", name := "<init>", desc := "()V" } : Jvm.MethodName)) ∈ lw_all := lw_g (lw_at lw_m1 211 rfl) rfl
/-! java/util/AbstractList -/
set_option maxRecDepth 100000
def RJ1 : String := "java/util/AbstractList"
abbrev cJ1_init : ByteArray := prog_59_method_1_code
def yJ1_init : MethodName := ⟨RJ1, "<init>", "()V"⟩
def dkwJ1_init_0 : List UInt8 := [42, 183, 0, 1, 42, 3, 181, 0, 7, 177]
abbrev dktJ1_init_0 : List UInt8 := dkwJ1_init_0 ++ []
theorem dksJ1_init_0 : cJ1_init.data.toList.drop 0 = dktJ1_init_0 := by decide +kernel
theorem dJ1_init_0 : decode cJ1_init 0 = .ok (.aload_n 0, 1) := dk_42 (dk_at dksJ1_init_0 0 rfl rfl)
theorem dJ1_init_1 : decode cJ1_init 1 = .ok (.invokespecial 1, 3) := dk_183 0 1 (dk_at dksJ1_init_0 1 rfl rfl)
theorem dJ1_init_4 : decode cJ1_init 4 = .ok (.aload_n 0, 1) := dk_42 (dk_at dksJ1_init_0 4 rfl rfl)
theorem dJ1_init_5 : decode cJ1_init 5 = .ok (.iconst 0, 1) := dk_3 (dk_at dksJ1_init_0 5 rfl rfl)
theorem dJ1_init_6 : decode cJ1_init 6 = .ok (.putfield 7, 3) := dk_181 0 7 (dk_at dksJ1_init_0 6 rfl rfl)
theorem dJ1_init_9 : decode cJ1_init 9 = .ok (.return_, 1) := dk_177 (dk_at dksJ1_init_0 9 rfl rfl)
theorem q134 : (Jvm.Cond.initialized "java/util/AbstractList") ∈ lw_all := lw_g (lw_at lw_m1 6 rfl) rfl
theorem q334 : (Jvm.Cond.instanceMethod ({ cls := "java/util/AbstractList", name := "<init>", desc := "()V" } : Jvm.MethodName)) ∈ lw_all := lw_g (lw_at lw_m1 206 rfl) rfl
theorem q335 : (Jvm.Cond.code ({ cls := "java/util/AbstractList", name := "<init>", desc := "()V" } : Jvm.MethodName) prog_59_method_1_code (1 : Nat) (Option.none : Option Jvm.ClassFile.FieldType)) ∈ lw_all := lw_g (lw_at lw_m1 207 rfl) rfl
theorem q336 : (Jvm.Cond.methodLink "java/util/AbstractList" (1 : Nat) ({ cls := "java/util/AbstractCollection", name := "<init>", desc := "()V" } : Jvm.MethodName)) ∈ lw_all := lw_g (lw_at lw_m1 208 rfl) rfl
theorem q346 : (Jvm.Cond.fieldLink "java/util/AbstractList" (7 : Nat) "java/util/AbstractList" "modCount" "I") ∈ lw_all := lw_g (lw_at lw_m1 218 rfl) rfl
theorem q354 : (Jvm.Cond.soleField "java/util/AbstractList" "modCount") ∈ lw_all := lw_g (lw_at lw_m1 226 rfl) rfl
/-! java/lang/Throwable -/
set_option maxRecDepth 100000
def RJ10 : String := "java/lang/Throwable"
def TJ10 : u_T := fun k => match k with
  | 0 => ("java/lang/Throwable", "cause", "Ljava/lang/Throwable;", false)
  | 1 => ("java/lang/Throwable", "stackTrace", "[Ljava/lang/StackTraceElement;", false)
  | 2 => ("java/lang/Throwable", "suppressedExceptions", "Ljava/util/List;", false)
  | 3 => ("java/lang/Throwable", "detailMessage", "Ljava/lang/String;", false)
  | _ => ("java/lang/Throwable", "backtrace", "Ljava/lang/Object;", false)
def tyJ10 : Nat → FieldType := fun k => match k with
  | 0 => .object "java/lang/Throwable"
  | 1 => .array (.object "java/lang/StackTraceElement")
  | 2 => .object "java/util/List"
  | 3 => .object "java/lang/String"
  | _ => .object "java/lang/Object"
abbrev wsJ100 : List Cond := u_ws RJ10 TJ10 5
theorem nmJ10 : ∀ a, a < 5 → ∀ b, b < 5 → a ≠ b → (TJ10 a).2.1 ≠ (TJ10 b).2.1 := by decide +kernel
theorem tyJ10_ok : ∀ k, k < 5 → parseFieldDescriptor (TJ10 k).2.2.1 = some (tyJ10 k) := by decide +kernel
abbrev cJ10_init : ByteArray := prog_55_method_1_code
def yJ10_init : MethodName := ⟨RJ10, "<init>", "()V"⟩
def dkwJ10_init_1 : List UInt8 := [182, 0, 27, 87, 177]
abbrev dktJ10_init_1 : List UInt8 := dkwJ10_init_1 ++ []
def dkwJ10_init_0 : List UInt8 := [42, 183, 0, 1, 42, 42, 181, 0, 7, 42, 178, 0, 13, 181, 0, 17, 42, 178, 0, 20, 181, 0, 24, 42]
abbrev dktJ10_init_0 : List UInt8 := dkwJ10_init_0 ++ dktJ10_init_1
theorem dksJ10_init_0 : cJ10_init.data.toList.drop 0 = dktJ10_init_0 := by decide +kernel
theorem dksJ10_init_1 : cJ10_init.data.toList.drop 24 = dktJ10_init_1 := dk_seg dksJ10_init_0 24 rfl rfl
theorem dJ10_init_0 : decode cJ10_init 0 = .ok (.aload_n 0, 1) := dk_42 (dk_at dksJ10_init_0 0 rfl rfl)
theorem dJ10_init_1 : decode cJ10_init 1 = .ok (.invokespecial 1, 3) := dk_183 0 1 (dk_at dksJ10_init_0 1 rfl rfl)
theorem dJ10_init_4 : decode cJ10_init 4 = .ok (.aload_n 0, 1) := dk_42 (dk_at dksJ10_init_0 4 rfl rfl)
theorem dJ10_init_5 : decode cJ10_init 5 = .ok (.aload_n 0, 1) := dk_42 (dk_at dksJ10_init_0 5 rfl rfl)
theorem dJ10_init_6 : decode cJ10_init 6 = .ok (.putfield 7, 3) := dk_181 0 7 (dk_at dksJ10_init_0 6 rfl rfl)
theorem dJ10_init_9 : decode cJ10_init 9 = .ok (.aload_n 0, 1) := dk_42 (dk_at dksJ10_init_0 9 rfl rfl)
theorem dJ10_init_10 : decode cJ10_init 10 = .ok (.getstatic 13, 3) := dk_178 0 13 (dk_at dksJ10_init_0 10 rfl rfl)
theorem dJ10_init_13 : decode cJ10_init 13 = .ok (.putfield 17, 3) := dk_181 0 17 (dk_at dksJ10_init_0 13 rfl rfl)
theorem dJ10_init_16 : decode cJ10_init 16 = .ok (.aload_n 0, 1) := dk_42 (dk_at dksJ10_init_0 16 rfl rfl)
theorem dJ10_init_17 : decode cJ10_init 17 = .ok (.getstatic 20, 3) := dk_178 0 20 (dk_at dksJ10_init_0 17 rfl rfl)
theorem dJ10_init_20 : decode cJ10_init 20 = .ok (.putfield 24, 3) := dk_181 0 24 (dk_at dksJ10_init_0 20 rfl rfl)
theorem dJ10_init_23 : decode cJ10_init 23 = .ok (.aload_n 0, 1) := dk_42 (dk_at dksJ10_init_0 23 rfl rfl)
theorem dJ10_init_24 : decode cJ10_init 24 = .ok (.invokevirtual 27, 3) := dk_182 0 27 (dk_at dksJ10_init_1 0 rfl rfl)
theorem dJ10_init_27 : decode cJ10_init 27 = .ok (.pop, 1) := dk_87 (dk_at dksJ10_init_1 3 rfl rfl)
theorem dJ10_init_28 : decode cJ10_init 28 = .ok (.return_, 1) := dk_177 (dk_at dksJ10_init_1 4 rfl rfl)
theorem q149 : (Jvm.Cond.initialized "java/lang/Throwable") ∈ lw_all := lw_g (lw_at lw_m1 21 rfl) rfl
theorem q745 : (Jvm.Cond.declares ({ cls := "java/lang/Throwable", name := "<init>", desc := "()V" } : Jvm.MethodName)) ∈ lw_tbl := lw_at lw_m3 137 rfl
theorem q746 : (Jvm.Cond.declares ({ cls := "java/lang/Throwable", name := "<init>", desc := "(Ljava/lang/String;)V" } : Jvm.MethodName)) ∈ lw_tbl := lw_at lw_m3 138 rfl
theorem q750 : (Jvm.Cond.lays "java/lang/Throwable" "java/lang/Throwable" "cause" "Ljava/lang/Throwable;") ∈ lw_all := lw_g (lw_at lw_m3 142 rfl) rfl
theorem q752 : (Jvm.Cond.lays "java/lang/Throwable" "java/lang/Throwable" "stackTrace" "[Ljava/lang/StackTraceElement;") ∈ lw_all := lw_g (lw_at lw_m3 144 rfl) rfl
theorem q754 : (Jvm.Cond.lays "java/lang/Throwable" "java/lang/Throwable" "suppressedExceptions" "Ljava/util/List;") ∈ lw_all := lw_g (lw_at lw_m3 146 rfl) rfl
theorem q756 : (Jvm.Cond.lays "java/lang/Throwable" "java/lang/Throwable" "detailMessage" "Ljava/lang/String;") ∈ lw_all := lw_g (lw_at lw_m3 148 rfl) rfl
theorem q758 : (Jvm.Cond.lays "java/lang/Throwable" "java/lang/Throwable" "backtrace" "Ljava/lang/Object;") ∈ lw_all := lw_g (lw_at lw_m3 150 rfl) rfl
theorem q759 : (Jvm.Cond.fieldLink "java/lang/Throwable" (198 : Nat) "java/lang/Throwable" "backtrace" "Ljava/lang/Object;") ∈ lw_all := lw_g (lw_at lw_m3 151 rfl) rfl
theorem q760 : (Jvm.Cond.superclass "java/lang/Throwable" "java/lang/Object") ∈ lw_all := lw_g (lw_at lw_m3 152 rfl) rfl
theorem q761 : (Jvm.Cond.instanceMethod ({ cls := "java/lang/Throwable", name := "<init>", desc := "()V" } : Jvm.MethodName)) ∈ lw_all := lw_g (lw_at lw_m3 153 rfl) rfl
theorem q762 : (Jvm.Cond.code ({ cls := "java/lang/Throwable", name := "<init>", desc := "()V" } : Jvm.MethodName) prog_55_method_1_code (1 : Nat) (Option.none : Option Jvm.ClassFile.FieldType)) ∈ lw_all := lw_g (lw_at lw_m3 154 rfl) rfl
theorem q763 : (Jvm.Cond.methodLink "java/lang/Throwable" (1 : Nat) ({ cls := "java/lang/Object", name := "<init>", desc := "()V" } : Jvm.MethodName)) ∈ lw_all := lw_g (lw_at lw_m3 155 rfl) rfl
theorem q764 : (Jvm.Cond.fieldLink "java/lang/Throwable" (13 : Nat) "java/lang/Throwable" "UNASSIGNED_STACK" "[Ljava/lang/StackTraceElement;") ∈ lw_all := lw_g (lw_at lw_m3 156 rfl) rfl
theorem q765 : (Jvm.Cond.laysStatic "java/lang/Throwable" "UNASSIGNED_STACK" "[Ljava/lang/StackTraceElement;") ∈ lw_tbl := lw_at lw_m3 157 rfl
theorem q766 : (Jvm.Cond.fieldLink "java/lang/Throwable" (20 : Nat) "java/lang/Throwable" "SUPPRESSED_SENTINEL" "Ljava/util/List;") ∈ lw_all := lw_g (lw_at lw_m3 158 rfl) rfl
theorem q767 : (Jvm.Cond.laysStatic "java/lang/Throwable" "SUPPRESSED_SENTINEL" "Ljava/util/List;") ∈ lw_tbl := lw_at lw_m3 159 rfl
theorem q768 : (Jvm.Cond.methodLink "java/lang/Throwable" (27 : Nat) ({ cls := "java/lang/Throwable", name := "fillInStackTrace", desc := "()Ljava/lang/Throwable;" } : Jvm.MethodName)) ∈ lw_all := lw_g (lw_at lw_m3 160 rfl) rfl
theorem q769 : (Jvm.Cond.instanceMethod ({ cls := "java/lang/Throwable", name := "fillInStackTrace", desc := "()Ljava/lang/Throwable;" } : Jvm.MethodName)) ∈ lw_all := lw_g (lw_at lw_m3 161 rfl) rfl
theorem q770 : (Jvm.Cond.sameMethod "java/lang/Throwable" "java/lang/Throwable" "fillInStackTrace" "()Ljava/lang/Throwable;") ∈ lw_all := lw_g (lw_at lw_m3 162 rfl) rfl
theorem q772 : (Jvm.Cond.codeSync ({ cls := "java/lang/Throwable", name := "fillInStackTrace", desc := "()Ljava/lang/Throwable;" } : Jvm.MethodName) prog_55_method_18_code (1 : Nat) (Option.some (Jvm.ClassFile.FieldType.object "java/lang/Throwable"))) ∈ lw_all := lw_g (lw_at lw_m3 164 rfl) rfl
theorem q773 : (Jvm.Cond.methodLink "java/lang/Throwable" (202 : Nat) ({ cls := "java/lang/Throwable", name := "fillInStackTrace", desc := "(I)Ljava/lang/Throwable;" } : Jvm.MethodName)) ∈ lw_all := lw_g (lw_at lw_m3 165 rfl) rfl
theorem q774 : (Jvm.Cond.privateMethod ({ cls := "java/lang/Throwable", name := "fillInStackTrace", desc := "(I)Ljava/lang/Throwable;" } : Jvm.MethodName)) ∈ lw_tbl := lw_at lw_m3 166 rfl
theorem q775 : (Jvm.Cond.instanceMethod ({ cls := "java/lang/Throwable", name := "fillInStackTrace", desc := "(I)Ljava/lang/Throwable;" } : Jvm.MethodName)) ∈ lw_all := lw_g (lw_at lw_m3 167 rfl) rfl
theorem q776 : (Jvm.Cond.instantiable "java/lang/Throwable" (6 : Nat)) ∈ lw_all := lw_g (lw_at lw_m3 168 rfl) rfl
theorem q777 : (Jvm.Cond.native ({ cls := "java/lang/Throwable", name := "fillInStackTrace", desc := "(I)Ljava/lang/Throwable;" } : Jvm.MethodName)) ∈ lw_all := lw_g (lw_at lw_m3 169 rfl) rfl
theorem q787 : (Jvm.Cond.fieldLink "java/lang/Throwable" (198 : Nat) "java/lang/Throwable" "backtrace" "Ljava/lang/Object;") ∈ lw_all := lw_g (lw_at lw_m3 179 rfl) rfl
theorem q788 : (Jvm.Cond.fieldLink "java/lang/Throwable" (7 : Nat) "java/lang/Throwable" "cause" "Ljava/lang/Throwable;") ∈ lw_all := lw_g (lw_at lw_m3 180 rfl) rfl
theorem q789 : (Jvm.Cond.fieldLink "java/lang/Throwable" (17 : Nat) "java/lang/Throwable" "stackTrace" "[Ljava/lang/StackTraceElement;") ∈ lw_all := lw_g (lw_at lw_m3 181 rfl) rfl
theorem q790 : (Jvm.Cond.fieldLink "java/lang/Throwable" (24 : Nat) "java/lang/Throwable" "suppressedExceptions" "Ljava/util/List;") ∈ lw_all := lw_g (lw_at lw_m3 182 rfl) rfl
theorem q793 : (Jvm.Cond.soleField "java/lang/Throwable" "backtrace") ∈ lw_all := lw_g (lw_at lw_m3 185 rfl) rfl
theorem q794 : (Jvm.Cond.soleField "java/lang/Throwable" "detailMessage") ∈ lw_all := lw_g (lw_at lw_m3 186 rfl) rfl
theorem q795 : (Jvm.Cond.soleField "java/lang/Throwable" "cause") ∈ lw_all := lw_g (lw_at lw_m3 187 rfl) rfl
theorem q796 : (Jvm.Cond.soleField "java/lang/Throwable" "stackTrace") ∈ lw_all := lw_g (lw_at lw_m3 188 rfl) rfl
theorem q798 : (Jvm.Cond.soleField "java/lang/Throwable" "depth") ∈ lw_all := lw_g (lw_at lw_m3 190 rfl) rfl
theorem q799 : (Jvm.Cond.soleField "java/lang/Throwable" "suppressedExceptions") ∈ lw_all := lw_g (lw_at lw_m3 191 rfl) rfl
theorem q2516 : (Jvm.Cond.sameMethod "java/lang/Throwable" "java/lang/Throwable" "fillInStackTrace" "(I)Ljava/lang/Throwable;") ∈ lw_all := lw_g (lw_at lw_m10 228 rfl) rfl
theorem q2568 : (Jvm.Cond.castable "java/lang/Throwable" "java/lang/Object") ∈ lw_tbl := lw_at lw_m11 40 rfl
theorem in_J10 : ∀ w ∈ wsJ100, w ∈ lw_all := lw_in wsJ100 [750, 752, 754, 756, 758] (by decide +kernel) (by decide +kernel)
/-! java/lang/Exception -/
set_option maxRecDepth 100000
def RJ11 : String := "java/lang/Exception"
abbrev cJ11_init : ByteArray := prog_42_method_1_code
def yJ11_init : MethodName := ⟨RJ11, "<init>", "()V"⟩
theorem dJ11_init_0 : decode cJ11_init 0 = .ok (.aload_n 0, 1) := by decide +kernel
theorem dJ11_init_1 : decode cJ11_init 1 = .ok (.invokespecial 1, 3) := by decide +kernel
theorem dJ11_init_4 : decode cJ11_init 4 = .ok (.return_, 1) := by decide +kernel
theorem q150 : (Jvm.Cond.initialized "java/lang/Exception") ∈ lw_all := lw_g (lw_at lw_m1 22 rfl) rfl
theorem q743 : (Jvm.Cond.declares ({ cls := "java/lang/Exception", name := "<init>", desc := "()V" } : Jvm.MethodName)) ∈ lw_tbl := lw_at lw_m3 135 rfl
theorem q744 : (Jvm.Cond.declares ({ cls := "java/lang/Exception", name := "<init>", desc := "(Ljava/lang/String;)V" } : Jvm.MethodName)) ∈ lw_tbl := lw_at lw_m3 136 rfl
theorem q782 : (Jvm.Cond.instanceMethod ({ cls := "java/lang/Exception", name := "<init>", desc := "()V" } : Jvm.MethodName)) ∈ lw_all := lw_g (lw_at lw_m3 174 rfl) rfl
theorem q783 : (Jvm.Cond.code ({ cls := "java/lang/Exception", name := "<init>", desc := "()V" } : Jvm.MethodName) prog_42_method_1_code (1 : Nat) (Option.none : Option Jvm.ClassFile.FieldType)) ∈ lw_all := lw_g (lw_at lw_m3 175 rfl) rfl
theorem q784 : (Jvm.Cond.methodLink "java/lang/Exception" (1 : Nat) ({ cls := "java/lang/Throwable", name := "<init>", desc := "()V" } : Jvm.MethodName)) ∈ lw_all := lw_g (lw_at lw_m3 176 rfl) rfl
/-! java/lang/Number -/
set_option maxRecDepth 100000
def RJ12 : String := "java/lang/Number"
abbrev cJ12_init : ByteArray := prog_49_method_1_code
def yJ12_init : MethodName := ⟨RJ12, "<init>", "()V"⟩
theorem dJ12_init_0 : decode cJ12_init 0 = .ok (.aload_n 0, 1) := by decide +kernel
theorem dJ12_init_1 : decode cJ12_init 1 = .ok (.invokespecial 1, 3) := by decide +kernel
theorem dJ12_init_4 : decode cJ12_init 4 = .ok (.return_, 1) := by decide +kernel
theorem q152 : (Jvm.Cond.initialized "java/lang/Number") ∈ lw_all := lw_g (lw_at lw_m1 24 rfl) rfl
theorem q838 : (Jvm.Cond.instanceMethod ({ cls := "java/lang/Number", name := "<init>", desc := "()V" } : Jvm.MethodName)) ∈ lw_all := lw_g (lw_at lw_m3 230 rfl) rfl
theorem q839 : (Jvm.Cond.code ({ cls := "java/lang/Number", name := "<init>", desc := "()V" } : Jvm.MethodName) prog_49_method_1_code (1 : Nat) (Option.none : Option Jvm.ClassFile.FieldType)) ∈ lw_all := lw_g (lw_at lw_m3 231 rfl) rfl
theorem q840 : (Jvm.Cond.methodLink "java/lang/Number" (1 : Nat) ({ cls := "java/lang/Object", name := "<init>", desc := "()V" } : Jvm.MethodName)) ∈ lw_all := lw_g (lw_at lw_m3 232 rfl) rfl
/-! java/lang/Long -/
set_option maxRecDepth 100000
def RJ13 : String := "java/lang/Long"
def TJ13 : u_T := fun k => match k with
  | _ => ("java/lang/Long", "value", "J", true)
def tyJ13 : Nat → FieldType := fun k => match k with
  | _ => .long
abbrev wsJ130 : List Cond := u_ws RJ13 TJ13 1
theorem nmJ13 : ∀ a, a < 1 → ∀ b, b < 1 → a ≠ b → (TJ13 a).2.1 ≠ (TJ13 b).2.1 := by decide +kernel
theorem tyJ13_ok : ∀ k, k < 1 → parseFieldDescriptor (TJ13 k).2.2.1 = some (tyJ13 k) := by decide +kernel
abbrev cJ13_longValue : ByteArray := prog_46_method_31_code
def yJ13_longValue : MethodName := ⟨RJ13, "longValue", "()J"⟩
theorem dJ13_longValue_0 : decode cJ13_longValue 0 = .ok (.aload_n 0, 1) := by decide +kernel
theorem dJ13_longValue_1 : decode cJ13_longValue 1 = .ok (.getfield 273, 3) := by decide +kernel
theorem dJ13_longValue_4 : decode cJ13_longValue 4 = .ok (.lreturn, 1) := by decide +kernel
abbrev cJ13_valueOf : ByteArray := prog_46_method_24_code
def yJ13_valueOf : MethodName := ⟨RJ13, "valueOf", "(J)Ljava/lang/Long;"⟩
def dkwJ13_valueOf_1 : List UInt8 := [136, 17, 0, 128, 96, 50, 176, 187, 0, 1, 89, 30, 183, 0, 240, 176]
abbrev dktJ13_valueOf_1 : List UInt8 := dkwJ13_valueOf_1 ++ []
def dkwJ13_valueOf_0 : List UInt8 := [17, 0, 128, 61, 30, 20, 0, 230, 148, 155, 0, 22, 30, 20, 0, 232, 148, 157, 0, 14, 178, 0, 234, 30]
abbrev dktJ13_valueOf_0 : List UInt8 := dkwJ13_valueOf_0 ++ dktJ13_valueOf_1
theorem dksJ13_valueOf_0 : cJ13_valueOf.data.toList.drop 0 = dktJ13_valueOf_0 := by decide +kernel
theorem dksJ13_valueOf_1 : cJ13_valueOf.data.toList.drop 24 = dktJ13_valueOf_1 := dk_seg dksJ13_valueOf_0 24 rfl rfl
theorem dJ13_valueOf_0 : decode cJ13_valueOf 0 = .ok (.sipush 128, 3) := dk_17 0 128 (dk_at dksJ13_valueOf_0 0 rfl rfl)
theorem dJ13_valueOf_3 : decode cJ13_valueOf 3 = .ok (.istore_n 2, 1) := dk_61 (dk_at dksJ13_valueOf_0 3 rfl rfl)
theorem dJ13_valueOf_4 : decode cJ13_valueOf 4 = .ok (.lload_n 0, 1) := dk_30 (dk_at dksJ13_valueOf_0 4 rfl rfl)
theorem dJ13_valueOf_5 : decode cJ13_valueOf 5 = .ok (.ldc2_w 230, 3) := dk_20 0 230 (dk_at dksJ13_valueOf_0 5 rfl rfl)
theorem dJ13_valueOf_8 : decode cJ13_valueOf 8 = .ok (.lcmp, 1) := dk_148 (dk_at dksJ13_valueOf_0 8 rfl rfl)
theorem dJ13_valueOf_9 : decode cJ13_valueOf 9 = .ok (.ifCond .lt 22, 3) := dk_155 0 22 (dk_at dksJ13_valueOf_0 9 rfl rfl)
theorem dJ13_valueOf_12 : decode cJ13_valueOf 12 = .ok (.lload_n 0, 1) := dk_30 (dk_at dksJ13_valueOf_0 12 rfl rfl)
theorem dJ13_valueOf_13 : decode cJ13_valueOf 13 = .ok (.ldc2_w 232, 3) := dk_20 0 232 (dk_at dksJ13_valueOf_0 13 rfl rfl)
theorem dJ13_valueOf_16 : decode cJ13_valueOf 16 = .ok (.lcmp, 1) := dk_148 (dk_at dksJ13_valueOf_0 16 rfl rfl)
theorem dJ13_valueOf_17 : decode cJ13_valueOf 17 = .ok (.ifCond .gt 14, 3) := dk_157 0 14 (dk_at dksJ13_valueOf_0 17 rfl rfl)
theorem dJ13_valueOf_20 : decode cJ13_valueOf 20 = .ok (.getstatic 234, 3) := dk_178 0 234 (dk_at dksJ13_valueOf_0 20 rfl rfl)
theorem dJ13_valueOf_23 : decode cJ13_valueOf 23 = .ok (.lload_n 0, 1) := dk_30 (dk_at dksJ13_valueOf_0 23 rfl rfl)
theorem dJ13_valueOf_24 : decode cJ13_valueOf 24 = .ok (.l2i, 1) := dk_136 (dk_at dksJ13_valueOf_1 0 rfl rfl)
theorem dJ13_valueOf_25 : decode cJ13_valueOf 25 = .ok (.sipush 128, 3) := dk_17 0 128 (dk_at dksJ13_valueOf_1 1 rfl rfl)
theorem dJ13_valueOf_28 : decode cJ13_valueOf 28 = .ok (.iadd, 1) := dk_96 (dk_at dksJ13_valueOf_1 4 rfl rfl)
theorem dJ13_valueOf_29 : decode cJ13_valueOf 29 = .ok (.aaload, 1) := dk_50 (dk_at dksJ13_valueOf_1 5 rfl rfl)
theorem dJ13_valueOf_30 : decode cJ13_valueOf 30 = .ok (.areturn, 1) := dk_176 (dk_at dksJ13_valueOf_1 6 rfl rfl)
theorem dJ13_valueOf_31 : decode cJ13_valueOf 31 = .ok (.new 1, 3) := dk_187 0 1 (dk_at dksJ13_valueOf_1 7 rfl rfl)
theorem dJ13_valueOf_34 : decode cJ13_valueOf 34 = .ok (.dup, 1) := dk_89 (dk_at dksJ13_valueOf_1 10 rfl rfl)
theorem dJ13_valueOf_35 : decode cJ13_valueOf 35 = .ok (.lload_n 0, 1) := dk_30 (dk_at dksJ13_valueOf_1 11 rfl rfl)
theorem dJ13_valueOf_36 : decode cJ13_valueOf 36 = .ok (.invokespecial 240, 3) := dk_183 0 240 (dk_at dksJ13_valueOf_1 12 rfl rfl)
theorem dJ13_valueOf_39 : decode cJ13_valueOf 39 = .ok (.areturn, 1) := dk_176 (dk_at dksJ13_valueOf_1 15 rfl rfl)
abbrev cJ13_init : ByteArray := prog_46_method_26_code
def yJ13_init : MethodName := ⟨RJ13, "<init>", "(J)V"⟩
def dkwJ13_init_0 : List UInt8 := [42, 183, 1, 14, 42, 31, 181, 1, 17, 177]
abbrev dktJ13_init_0 : List UInt8 := dkwJ13_init_0 ++ []
theorem dksJ13_init_0 : cJ13_init.data.toList.drop 0 = dktJ13_init_0 := by decide +kernel
theorem dJ13_init_0 : decode cJ13_init 0 = .ok (.aload_n 0, 1) := dk_42 (dk_at dksJ13_init_0 0 rfl rfl)
theorem dJ13_init_1 : decode cJ13_init 1 = .ok (.invokespecial 270, 3) := dk_183 1 14 (dk_at dksJ13_init_0 1 rfl rfl)
theorem dJ13_init_4 : decode cJ13_init 4 = .ok (.aload_n 0, 1) := dk_42 (dk_at dksJ13_init_0 4 rfl rfl)
theorem dJ13_init_5 : decode cJ13_init 5 = .ok (.lload_n 1, 1) := dk_31 (dk_at dksJ13_init_0 5 rfl rfl)
theorem dJ13_init_6 : decode cJ13_init 6 = .ok (.putfield 273, 3) := dk_181 1 17 (dk_at dksJ13_init_0 6 rfl rfl)
theorem dJ13_init_9 : decode cJ13_init 9 = .ok (.return_, 1) := dk_177 (dk_at dksJ13_init_0 9 rfl rfl)
theorem q153 : (Jvm.Cond.initialized "java/lang/Long") ∈ lw_all := lw_g (lw_at lw_m1 25 rfl) rfl
theorem q817 : (Jvm.Cond.instanceMethod ({ cls := "java/lang/Long", name := "longValue", desc := "()J" } : Jvm.MethodName)) ∈ lw_all := lw_g (lw_at lw_m3 209 rfl) rfl
theorem q818 : (Jvm.Cond.selects "java/lang/Long" ({ cls := "java/lang/Long", name := "longValue", desc := "()J" } : Jvm.MethodName) ({ cls := "java/lang/Long", name := "longValue", desc := "()J" } : Jvm.MethodName)) ∈ lw_all := lw_g (lw_at lw_m3 210 rfl) rfl
theorem q819 : (Jvm.Cond.code ({ cls := "java/lang/Long", name := "longValue", desc := "()J" } : Jvm.MethodName) prog_46_method_31_code (1 : Nat) (Option.some Jvm.ClassFile.FieldType.long)) ∈ lw_all := lw_g (lw_at lw_m3 211 rfl) rfl
theorem q826 : (Jvm.Cond.static ({ cls := "java/lang/Long", name := "valueOf", desc := "(J)Ljava/lang/Long;" } : Jvm.MethodName)) ∈ lw_all := lw_g (lw_at lw_m3 218 rfl) rfl
theorem q827 : (Jvm.Cond.code ({ cls := "java/lang/Long", name := "valueOf", desc := "(J)Ljava/lang/Long;" } : Jvm.MethodName) prog_46_method_24_code (3 : Nat) (Option.some (Jvm.ClassFile.FieldType.object "java/lang/Long"))) ∈ lw_all := lw_g (lw_at lw_m3 219 rfl) rfl
theorem q828 : (Jvm.Cond.constantLong "java/lang/Long" (230 : Nat) (-128 : Int64)) ∈ lw_all := lw_g (lw_at lw_m3 220 rfl) rfl
theorem q829 : (Jvm.Cond.constantLong "java/lang/Long" (232 : Nat) (127 : Int64)) ∈ lw_all := lw_g (lw_at lw_m3 221 rfl) rfl
theorem q830 : (Jvm.Cond.fieldLink "java/lang/Long" (234 : Nat) "java/lang/Long$LongCache" "cache" "[Ljava/lang/Long;") ∈ lw_all := lw_g (lw_at lw_m3 222 rfl) rfl
theorem q832 : (Jvm.Cond.classLink "java/lang/Long" (1 : Nat) "java/lang/Long") ∈ lw_all := lw_g (lw_at lw_m3 224 rfl) rfl
theorem q833 : (Jvm.Cond.instantiable "java/lang/Long" (1 : Nat)) ∈ lw_all := lw_g (lw_at lw_m3 225 rfl) rfl
theorem q834 : (Jvm.Cond.methodLink "java/lang/Long" (240 : Nat) ({ cls := "java/lang/Long", name := "<init>", desc := "(J)V" } : Jvm.MethodName)) ∈ lw_all := lw_g (lw_at lw_m3 226 rfl) rfl
theorem q835 : (Jvm.Cond.instanceMethod ({ cls := "java/lang/Long", name := "<init>", desc := "(J)V" } : Jvm.MethodName)) ∈ lw_all := lw_g (lw_at lw_m3 227 rfl) rfl
theorem q836 : (Jvm.Cond.code ({ cls := "java/lang/Long", name := "<init>", desc := "(J)V" } : Jvm.MethodName) prog_46_method_26_code (3 : Nat) (Option.none : Option Jvm.ClassFile.FieldType)) ∈ lw_all := lw_g (lw_at lw_m3 228 rfl) rfl
theorem q837 : (Jvm.Cond.methodLink "java/lang/Long" (270 : Nat) ({ cls := "java/lang/Number", name := "<init>", desc := "()V" } : Jvm.MethodName)) ∈ lw_all := lw_g (lw_at lw_m3 229 rfl) rfl
theorem q841 : (Jvm.Cond.fieldLink "java/lang/Long" (273 : Nat) "java/lang/Long" "value" "J") ∈ lw_all := lw_g (lw_at lw_m3 233 rfl) rfl
theorem q842 : (Jvm.Cond.laysFinal "java/lang/Long" "java/lang/Long" "value" "J") ∈ lw_all := lw_g (lw_at lw_m3 234 rfl) rfl
theorem q843 : (Jvm.Cond.soleField "java/lang/Long" "value") ∈ lw_all := lw_g (lw_at lw_m3 235 rfl) rfl
theorem q844 : (Jvm.Cond.superclass "java/lang/Long" "java/lang/Number") ∈ lw_all := lw_g (lw_at lw_m3 236 rfl) rfl
theorem q908 : (Jvm.Cond.selects "java/lang/Long" ({ cls := "java/lang/Object", name := "getClass", desc := "()Ljava/lang/Class;" } : Jvm.MethodName) ({ cls := "java/lang/Object", name := "getClass", desc := "()Ljava/lang/Class;" } : Jvm.MethodName)) ∈ lw_all := lw_g (lw_at lw_m4 60 rfl) rfl
theorem q2545 : (Jvm.Cond.castable "java/lang/Long" "java/lang/Object") ∈ lw_tbl := lw_at lw_m11 17 rfl
theorem in_J13 : ∀ w ∈ wsJ130, w ∈ lw_all := lw_in wsJ130 [842] (by decide +kernel) (by decide +kernel)
/-! jdk/internal/util/ArraysSupport -/
set_option maxRecDepth 100000
def RJ14 : String := "jdk/internal/util/ArraysSupport"
abbrev cJ14_newLength : ByteArray := prog_68_method_27_code
def yJ14_newLength : MethodName := ⟨RJ14, "newLength", "(III)I"⟩
def dkwJ14_newLength_1 : List UInt8 := [184, 0, 201, 172]
abbrev dktJ14_newLength_1 : List UInt8 := dkwJ14_newLength_1 ++ []
def dkwJ14_newLength_0 : List UInt8 := [26, 27, 28, 184, 0, 194, 96, 62, 3, 29, 162, 0, 11, 29, 18, 200, 163, 0, 5, 29, 172, 26, 27]
abbrev dktJ14_newLength_0 : List UInt8 := dkwJ14_newLength_0 ++ dktJ14_newLength_1
theorem dksJ14_newLength_0 : cJ14_newLength.data.toList.drop 0 = dktJ14_newLength_0 := by decide +kernel
theorem dksJ14_newLength_1 : cJ14_newLength.data.toList.drop 23 = dktJ14_newLength_1 := dk_seg dksJ14_newLength_0 23 rfl rfl
theorem dJ14_newLength_0 : decode cJ14_newLength 0 = .ok (.iload_n 0, 1) := dk_26 (dk_at dksJ14_newLength_0 0 rfl rfl)
theorem dJ14_newLength_1 : decode cJ14_newLength 1 = .ok (.iload_n 1, 1) := dk_27 (dk_at dksJ14_newLength_0 1 rfl rfl)
theorem dJ14_newLength_2 : decode cJ14_newLength 2 = .ok (.iload_n 2, 1) := dk_28 (dk_at dksJ14_newLength_0 2 rfl rfl)
theorem dJ14_newLength_3 : decode cJ14_newLength 3 = .ok (.invokestatic 194, 3) := dk_184 0 194 (dk_at dksJ14_newLength_0 3 rfl rfl)
theorem dJ14_newLength_6 : decode cJ14_newLength 6 = .ok (.iadd, 1) := dk_96 (dk_at dksJ14_newLength_0 6 rfl rfl)
theorem dJ14_newLength_7 : decode cJ14_newLength 7 = .ok (.istore_n 3, 1) := dk_62 (dk_at dksJ14_newLength_0 7 rfl rfl)
theorem dJ14_newLength_8 : decode cJ14_newLength 8 = .ok (.iconst 0, 1) := dk_3 (dk_at dksJ14_newLength_0 8 rfl rfl)
theorem dJ14_newLength_9 : decode cJ14_newLength 9 = .ok (.iload_n 3, 1) := dk_29 (dk_at dksJ14_newLength_0 9 rfl rfl)
theorem dJ14_newLength_10 : decode cJ14_newLength 10 = .ok (.if_icmp .ge 11, 3) := dk_162 0 11 (dk_at dksJ14_newLength_0 10 rfl rfl)
theorem dJ14_newLength_13 : decode cJ14_newLength 13 = .ok (.iload_n 3, 1) := dk_29 (dk_at dksJ14_newLength_0 13 rfl rfl)
theorem dJ14_newLength_14 : decode cJ14_newLength 14 = .ok (.ldc 200, 2) := dk_18 200 (dk_at dksJ14_newLength_0 14 rfl rfl)
theorem dJ14_newLength_16 : decode cJ14_newLength 16 = .ok (.if_icmp .gt 5, 3) := dk_163 0 5 (dk_at dksJ14_newLength_0 16 rfl rfl)
theorem dJ14_newLength_19 : decode cJ14_newLength 19 = .ok (.iload_n 3, 1) := dk_29 (dk_at dksJ14_newLength_0 19 rfl rfl)
theorem dJ14_newLength_20 : decode cJ14_newLength 20 = .ok (.ireturn, 1) := dk_172 (dk_at dksJ14_newLength_0 20 rfl rfl)
theorem dJ14_newLength_21 : decode cJ14_newLength 21 = .ok (.iload_n 0, 1) := dk_26 (dk_at dksJ14_newLength_0 21 rfl rfl)
theorem dJ14_newLength_22 : decode cJ14_newLength 22 = .ok (.iload_n 1, 1) := dk_27 (dk_at dksJ14_newLength_0 22 rfl rfl)
theorem dJ14_newLength_23 : decode cJ14_newLength 23 = .ok (.invokestatic 201, 3) := dk_184 0 201 (dk_at dksJ14_newLength_1 0 rfl rfl)
theorem dJ14_newLength_26 : decode cJ14_newLength 26 = .ok (.ireturn, 1) := dk_172 (dk_at dksJ14_newLength_1 3 rfl rfl)
abbrev cJ14_hugeLength : ByteArray := prog_68_method_28_code
def yJ14_hugeLength : MethodName := ⟨RJ14, "hugeLength", "(II)I"⟩
def dkwJ14_hugeLength_2 : List UInt8 := [191, 28, 18, 200, 163, 0, 6, 18, 200, 172, 28, 172]
abbrev dktJ14_hugeLength_2 : List UInt8 := dkwJ14_hugeLength_2 ++ []
def dkwJ14_hugeLength_1 : List UInt8 := [26, 182, 0, 98, 18, 208, 182, 0, 94, 27, 182, 0, 98, 18, 210, 182, 0, 94, 182, 0, 101, 183, 0, 212]
abbrev dktJ14_hugeLength_1 : List UInt8 := dkwJ14_hugeLength_1 ++ dktJ14_hugeLength_2
def dkwJ14_hugeLength_0 : List UInt8 := [26, 27, 96, 61, 28, 156, 0, 44, 187, 0, 204, 89, 187, 0, 89, 89, 183, 0, 91, 18, 206, 182, 0, 94]
abbrev dktJ14_hugeLength_0 : List UInt8 := dkwJ14_hugeLength_0 ++ dktJ14_hugeLength_1
theorem dksJ14_hugeLength_0 : cJ14_hugeLength.data.toList.drop 0 = dktJ14_hugeLength_0 := by decide +kernel
theorem dksJ14_hugeLength_1 : cJ14_hugeLength.data.toList.drop 24 = dktJ14_hugeLength_1 := dk_seg dksJ14_hugeLength_0 24 rfl rfl
theorem dksJ14_hugeLength_2 : cJ14_hugeLength.data.toList.drop 48 = dktJ14_hugeLength_2 := dk_seg dksJ14_hugeLength_1 24 rfl rfl
theorem dJ14_hugeLength_0 : decode cJ14_hugeLength 0 = .ok (.iload_n 0, 1) := dk_26 (dk_at dksJ14_hugeLength_0 0 rfl rfl)
theorem dJ14_hugeLength_1 : decode cJ14_hugeLength 1 = .ok (.iload_n 1, 1) := dk_27 (dk_at dksJ14_hugeLength_0 1 rfl rfl)
theorem dJ14_hugeLength_2 : decode cJ14_hugeLength 2 = .ok (.iadd, 1) := dk_96 (dk_at dksJ14_hugeLength_0 2 rfl rfl)
theorem dJ14_hugeLength_3 : decode cJ14_hugeLength 3 = .ok (.istore_n 2, 1) := dk_61 (dk_at dksJ14_hugeLength_0 3 rfl rfl)
theorem dJ14_hugeLength_4 : decode cJ14_hugeLength 4 = .ok (.iload_n 2, 1) := dk_28 (dk_at dksJ14_hugeLength_0 4 rfl rfl)
theorem dJ14_hugeLength_5 : decode cJ14_hugeLength 5 = .ok (.ifCond .ge 44, 3) := dk_156 0 44 (dk_at dksJ14_hugeLength_0 5 rfl rfl)
theorem dJ14_hugeLength_8 : decode cJ14_hugeLength 8 = .ok (.new 204, 3) := dk_187 0 204 (dk_at dksJ14_hugeLength_0 8 rfl rfl)
theorem dJ14_hugeLength_11 : decode cJ14_hugeLength 11 = .ok (.dup, 1) := dk_89 (dk_at dksJ14_hugeLength_0 11 rfl rfl)
theorem dJ14_hugeLength_12 : decode cJ14_hugeLength 12 = .ok (.new 89, 3) := dk_187 0 89 (dk_at dksJ14_hugeLength_0 12 rfl rfl)
theorem dJ14_hugeLength_15 : decode cJ14_hugeLength 15 = .ok (.dup, 1) := dk_89 (dk_at dksJ14_hugeLength_0 15 rfl rfl)
theorem dJ14_hugeLength_16 : decode cJ14_hugeLength 16 = .ok (.invokespecial 91, 3) := dk_183 0 91 (dk_at dksJ14_hugeLength_0 16 rfl rfl)
theorem dJ14_hugeLength_19 : decode cJ14_hugeLength 19 = .ok (.ldc 206, 2) := dk_18 206 (dk_at dksJ14_hugeLength_0 19 rfl rfl)
theorem dJ14_hugeLength_21 : decode cJ14_hugeLength 21 = .ok (.invokevirtual 94, 3) := dk_182 0 94 (dk_at dksJ14_hugeLength_0 21 rfl rfl)
theorem dJ14_hugeLength_24 : decode cJ14_hugeLength 24 = .ok (.iload_n 0, 1) := dk_26 (dk_at dksJ14_hugeLength_1 0 rfl rfl)
theorem dJ14_hugeLength_25 : decode cJ14_hugeLength 25 = .ok (.invokevirtual 98, 3) := dk_182 0 98 (dk_at dksJ14_hugeLength_1 1 rfl rfl)
theorem dJ14_hugeLength_28 : decode cJ14_hugeLength 28 = .ok (.ldc 208, 2) := dk_18 208 (dk_at dksJ14_hugeLength_1 4 rfl rfl)
theorem dJ14_hugeLength_30 : decode cJ14_hugeLength 30 = .ok (.invokevirtual 94, 3) := dk_182 0 94 (dk_at dksJ14_hugeLength_1 6 rfl rfl)
theorem dJ14_hugeLength_33 : decode cJ14_hugeLength 33 = .ok (.iload_n 1, 1) := dk_27 (dk_at dksJ14_hugeLength_1 9 rfl rfl)
theorem dJ14_hugeLength_34 : decode cJ14_hugeLength 34 = .ok (.invokevirtual 98, 3) := dk_182 0 98 (dk_at dksJ14_hugeLength_1 10 rfl rfl)
theorem dJ14_hugeLength_37 : decode cJ14_hugeLength 37 = .ok (.ldc 210, 2) := dk_18 210 (dk_at dksJ14_hugeLength_1 13 rfl rfl)
theorem dJ14_hugeLength_39 : decode cJ14_hugeLength 39 = .ok (.invokevirtual 94, 3) := dk_182 0 94 (dk_at dksJ14_hugeLength_1 15 rfl rfl)
theorem dJ14_hugeLength_42 : decode cJ14_hugeLength 42 = .ok (.invokevirtual 101, 3) := dk_182 0 101 (dk_at dksJ14_hugeLength_1 18 rfl rfl)
theorem dJ14_hugeLength_45 : decode cJ14_hugeLength 45 = .ok (.invokespecial 212, 3) := dk_183 0 212 (dk_at dksJ14_hugeLength_1 21 rfl rfl)
theorem dJ14_hugeLength_48 : decode cJ14_hugeLength 48 = .ok (.athrow, 1) := dk_191 (dk_at dksJ14_hugeLength_2 0 rfl rfl)
theorem dJ14_hugeLength_49 : decode cJ14_hugeLength 49 = .ok (.iload_n 2, 1) := dk_28 (dk_at dksJ14_hugeLength_2 1 rfl rfl)
theorem dJ14_hugeLength_50 : decode cJ14_hugeLength 50 = .ok (.ldc 200, 2) := dk_18 200 (dk_at dksJ14_hugeLength_2 2 rfl rfl)
theorem dJ14_hugeLength_52 : decode cJ14_hugeLength 52 = .ok (.if_icmp .gt 6, 3) := dk_163 0 6 (dk_at dksJ14_hugeLength_2 4 rfl rfl)
theorem dJ14_hugeLength_55 : decode cJ14_hugeLength 55 = .ok (.ldc 200, 2) := dk_18 200 (dk_at dksJ14_hugeLength_2 7 rfl rfl)
theorem dJ14_hugeLength_57 : decode cJ14_hugeLength 57 = .ok (.ireturn, 1) := dk_172 (dk_at dksJ14_hugeLength_2 9 rfl rfl)
theorem dJ14_hugeLength_58 : decode cJ14_hugeLength 58 = .ok (.iload_n 2, 1) := dk_28 (dk_at dksJ14_hugeLength_2 10 rfl rfl)
theorem dJ14_hugeLength_59 : decode cJ14_hugeLength 59 = .ok (.ireturn, 1) := dk_172 (dk_at dksJ14_hugeLength_2 11 rfl rfl)
theorem q155 : (Jvm.Cond.initialized "jdk/internal/util/ArraysSupport") ∈ lw_all := lw_g (lw_at lw_m1 27 rfl) rfl
theorem q862 : (Jvm.Cond.static ({ cls := "jdk/internal/util/ArraysSupport", name := "newLength", desc := "(III)I" } : Jvm.MethodName)) ∈ lw_all := lw_g (lw_at lw_m4 14 rfl) rfl
theorem q863 : (Jvm.Cond.code ({ cls := "jdk/internal/util/ArraysSupport", name := "newLength", desc := "(III)I" } : Jvm.MethodName) prog_68_method_27_code (4 : Nat) (Option.some Jvm.ClassFile.FieldType.int)) ∈ lw_all := lw_g (lw_at lw_m4 15 rfl) rfl
theorem q864 : (Jvm.Cond.methodLink "jdk/internal/util/ArraysSupport" (194 : Nat) ({ cls := "java/lang/Math", name := "max", desc := "(II)I" } : Jvm.MethodName)) ∈ lw_all := lw_g (lw_at lw_m4 16 rfl) rfl
theorem q865 : (Jvm.Cond.constant "jdk/internal/util/ArraysSupport" (200 : Nat) (2147483639 : Int32)) ∈ lw_all := lw_g (lw_at lw_m4 17 rfl) rfl
theorem q866 : (Jvm.Cond.methodLink "jdk/internal/util/ArraysSupport" (201 : Nat) ({ cls := "jdk/internal/util/ArraysSupport", name := "hugeLength", desc := "(II)I" } : Jvm.MethodName)) ∈ lw_all := lw_g (lw_at lw_m4 18 rfl) rfl
theorem q867 : (Jvm.Cond.static ({ cls := "jdk/internal/util/ArraysSupport", name := "hugeLength", desc := "(II)I" } : Jvm.MethodName)) ∈ lw_all := lw_g (lw_at lw_m4 19 rfl) rfl
theorem q868 : (Jvm.Cond.code ({ cls := "jdk/internal/util/ArraysSupport", name := "hugeLength", desc := "(II)I" } : Jvm.MethodName) prog_68_method_28_code (3 : Nat) (Option.some Jvm.ClassFile.FieldType.int)) ∈ lw_all := lw_g (lw_at lw_m4 20 rfl) rfl
/-! java/util/Arrays -/
set_option maxRecDepth 100000
def RJ15 : String := "java/util/Arrays"
abbrev cJ15_copyOf : ByteArray := prog_61_method_119_code
def yJ15_copyOf : MethodName := ⟨RJ15, "copyOf", "([Ljava/lang/Object;I)[Ljava/lang/Object;"⟩
def dkwJ15_copyOf_0 : List UInt8 := [42, 27, 42, 182, 0, 86, 184, 1, 44, 176]
abbrev dktJ15_copyOf_0 : List UInt8 := dkwJ15_copyOf_0 ++ []
theorem dksJ15_copyOf_0 : cJ15_copyOf.data.toList.drop 0 = dktJ15_copyOf_0 := by decide +kernel
theorem dJ15_copyOf_0 : decode cJ15_copyOf 0 = .ok (.aload_n 0, 1) := dk_42 (dk_at dksJ15_copyOf_0 0 rfl rfl)
theorem dJ15_copyOf_1 : decode cJ15_copyOf 1 = .ok (.iload_n 1, 1) := dk_27 (dk_at dksJ15_copyOf_0 1 rfl rfl)
theorem dJ15_copyOf_2 : decode cJ15_copyOf 2 = .ok (.aload_n 0, 1) := dk_42 (dk_at dksJ15_copyOf_0 2 rfl rfl)
theorem dJ15_copyOf_3 : decode cJ15_copyOf 3 = .ok (.invokevirtual 86, 3) := dk_182 0 86 (dk_at dksJ15_copyOf_0 3 rfl rfl)
theorem dJ15_copyOf_6 : decode cJ15_copyOf 6 = .ok (.invokestatic 300, 3) := dk_184 1 44 (dk_at dksJ15_copyOf_0 6 rfl rfl)
theorem dJ15_copyOf_9 : decode cJ15_copyOf 9 = .ok (.areturn, 1) := dk_176 (dk_at dksJ15_copyOf_0 9 rfl rfl)
abbrev cJ15_copyOf_2 : ByteArray := prog_61_method_120_code
def yJ15_copyOf_2 : MethodName := ⟨RJ15, "copyOf", "([Ljava/lang/Object;ILjava/lang/Class;)[Ljava/lang/Object;"⟩
def dkwJ15_copyOf_2_1 : List UInt8 := [78, 42, 3, 45, 3, 42, 190, 27, 184, 1, 48, 184, 0, 150, 45, 176]
abbrev dktJ15_copyOf_2_1 : List UInt8 := dkwJ15_copyOf_2_1 ++ []
def dkwJ15_copyOf_2_0 : List UInt8 := [44, 18, 110, 166, 0, 10, 27, 189, 0, 2, 167, 0, 14, 44, 182, 0, 90, 27, 184, 0, 95, 192, 0, 110]
abbrev dktJ15_copyOf_2_0 : List UInt8 := dkwJ15_copyOf_2_0 ++ dktJ15_copyOf_2_1
theorem dksJ15_copyOf_2_0 : cJ15_copyOf_2.data.toList.drop 0 = dktJ15_copyOf_2_0 := by decide +kernel
theorem dksJ15_copyOf_2_1 : cJ15_copyOf_2.data.toList.drop 24 = dktJ15_copyOf_2_1 := dk_seg dksJ15_copyOf_2_0 24 rfl rfl
theorem dJ15_copyOf_2_0 : decode cJ15_copyOf_2 0 = .ok (.aload_n 2, 1) := dk_44 (dk_at dksJ15_copyOf_2_0 0 rfl rfl)
theorem dJ15_copyOf_2_1 : decode cJ15_copyOf_2 1 = .ok (.ldc 110, 2) := dk_18 110 (dk_at dksJ15_copyOf_2_0 1 rfl rfl)
theorem dJ15_copyOf_2_3 : decode cJ15_copyOf_2 3 = .ok (.if_acmp .ne 10, 3) := dk_166 0 10 (dk_at dksJ15_copyOf_2_0 3 rfl rfl)
theorem dJ15_copyOf_2_6 : decode cJ15_copyOf_2 6 = .ok (.iload_n 1, 1) := dk_27 (dk_at dksJ15_copyOf_2_0 6 rfl rfl)
theorem dJ15_copyOf_2_7 : decode cJ15_copyOf_2 7 = .ok (.anewarray 2, 3) := dk_189 0 2 (dk_at dksJ15_copyOf_2_0 7 rfl rfl)
theorem dJ15_copyOf_2_10 : decode cJ15_copyOf_2 10 = .ok (.goto 14, 3) := dk_167 0 14 (dk_at dksJ15_copyOf_2_0 10 rfl rfl)
theorem dJ15_copyOf_2_13 : decode cJ15_copyOf_2 13 = .ok (.aload_n 2, 1) := dk_44 (dk_at dksJ15_copyOf_2_0 13 rfl rfl)
theorem dJ15_copyOf_2_14 : decode cJ15_copyOf_2 14 = .ok (.invokevirtual 90, 3) := dk_182 0 90 (dk_at dksJ15_copyOf_2_0 14 rfl rfl)
theorem dJ15_copyOf_2_17 : decode cJ15_copyOf_2 17 = .ok (.iload_n 1, 1) := dk_27 (dk_at dksJ15_copyOf_2_0 17 rfl rfl)
theorem dJ15_copyOf_2_18 : decode cJ15_copyOf_2 18 = .ok (.invokestatic 95, 3) := dk_184 0 95 (dk_at dksJ15_copyOf_2_0 18 rfl rfl)
theorem dJ15_copyOf_2_21 : decode cJ15_copyOf_2 21 = .ok (.checkcast 110, 3) := dk_192 0 110 (dk_at dksJ15_copyOf_2_0 21 rfl rfl)
theorem dJ15_copyOf_2_24 : decode cJ15_copyOf_2 24 = .ok (.astore_n 3, 1) := dk_78 (dk_at dksJ15_copyOf_2_1 0 rfl rfl)
theorem dJ15_copyOf_2_25 : decode cJ15_copyOf_2 25 = .ok (.aload_n 0, 1) := dk_42 (dk_at dksJ15_copyOf_2_1 1 rfl rfl)
theorem dJ15_copyOf_2_26 : decode cJ15_copyOf_2 26 = .ok (.iconst 0, 1) := dk_3 (dk_at dksJ15_copyOf_2_1 2 rfl rfl)
theorem dJ15_copyOf_2_27 : decode cJ15_copyOf_2 27 = .ok (.aload_n 3, 1) := dk_45 (dk_at dksJ15_copyOf_2_1 3 rfl rfl)
theorem dJ15_copyOf_2_28 : decode cJ15_copyOf_2 28 = .ok (.iconst 0, 1) := dk_3 (dk_at dksJ15_copyOf_2_1 4 rfl rfl)
theorem dJ15_copyOf_2_29 : decode cJ15_copyOf_2 29 = .ok (.aload_n 0, 1) := dk_42 (dk_at dksJ15_copyOf_2_1 5 rfl rfl)
theorem dJ15_copyOf_2_30 : decode cJ15_copyOf_2 30 = .ok (.arraylength, 1) := dk_190 (dk_at dksJ15_copyOf_2_1 6 rfl rfl)
theorem dJ15_copyOf_2_31 : decode cJ15_copyOf_2 31 = .ok (.iload_n 1, 1) := dk_27 (dk_at dksJ15_copyOf_2_1 7 rfl rfl)
theorem dJ15_copyOf_2_32 : decode cJ15_copyOf_2 32 = .ok (.invokestatic 304, 3) := dk_184 1 48 (dk_at dksJ15_copyOf_2_1 8 rfl rfl)
theorem dJ15_copyOf_2_35 : decode cJ15_copyOf_2 35 = .ok (.invokestatic 150, 3) := dk_184 0 150 (dk_at dksJ15_copyOf_2_1 11 rfl rfl)
theorem dJ15_copyOf_2_38 : decode cJ15_copyOf_2 38 = .ok (.aload_n 3, 1) := dk_45 (dk_at dksJ15_copyOf_2_1 14 rfl rfl)
theorem dJ15_copyOf_2_39 : decode cJ15_copyOf_2 39 = .ok (.areturn, 1) := dk_176 (dk_at dksJ15_copyOf_2_1 15 rfl rfl)
theorem q156 : (Jvm.Cond.initialized "java/util/Arrays") ∈ lw_all := lw_g (lw_at lw_m1 28 rfl) rfl
theorem q870 : (Jvm.Cond.static ({ cls := "java/util/Arrays", name := "copyOf", desc := "([Ljava/lang/Object;I)[Ljava/lang/Object;" } : Jvm.MethodName)) ∈ lw_all := lw_g (lw_at lw_m4 22 rfl) rfl
theorem q871 : (Jvm.Cond.code ({ cls := "java/util/Arrays", name := "copyOf", desc := "([Ljava/lang/Object;I)[Ljava/lang/Object;" } : Jvm.MethodName) prog_61_method_119_code (2 : Nat) (Option.some (Jvm.ClassFile.FieldType.array (Jvm.ClassFile.FieldType.object "java/lang/Object")))) ∈ lw_all := lw_g (lw_at lw_m4 23 rfl) rfl
theorem q872 : (Jvm.Cond.methodLink "java/util/Arrays" (86 : Nat) ({ cls := "java/lang/Object", name := "getClass", desc := "()Ljava/lang/Class;" } : Jvm.MethodName)) ∈ lw_all := lw_g (lw_at lw_m4 24 rfl) rfl
theorem q912 : (Jvm.Cond.methodLink "java/util/Arrays" (300 : Nat) ({ cls := "java/util/Arrays", name := "copyOf", desc := "([Ljava/lang/Object;ILjava/lang/Class;)[Ljava/lang/Object;" } : Jvm.MethodName)) ∈ lw_all := lw_g (lw_at lw_m4 64 rfl) rfl
theorem q913 : (Jvm.Cond.static ({ cls := "java/util/Arrays", name := "copyOf", desc := "([Ljava/lang/Object;ILjava/lang/Class;)[Ljava/lang/Object;" } : Jvm.MethodName)) ∈ lw_all := lw_g (lw_at lw_m4 65 rfl) rfl
theorem q914 : (Jvm.Cond.code ({ cls := "java/util/Arrays", name := "copyOf", desc := "([Ljava/lang/Object;ILjava/lang/Class;)[Ljava/lang/Object;" } : Jvm.MethodName) prog_61_method_120_code (4 : Nat) (Option.some (Jvm.ClassFile.FieldType.array (Jvm.ClassFile.FieldType.object "java/lang/Object")))) ∈ lw_all := lw_g (lw_at lw_m4 66 rfl) rfl
theorem q915 : (Jvm.Cond.classLink "java/util/Arrays" (110 : Nat) "[Ljava/lang/Object;") ∈ lw_all := lw_g (lw_at lw_m4 67 rfl) rfl
theorem q916 : (Jvm.Cond.classLink "java/util/Arrays" (2 : Nat) "java/lang/Object") ∈ lw_all := lw_g (lw_at lw_m4 68 rfl) rfl
theorem q917 : (Jvm.Cond.methodLink "java/util/Arrays" (304 : Nat) ({ cls := "java/lang/Math", name := "min", desc := "(II)I" } : Jvm.MethodName)) ∈ lw_all := lw_g (lw_at lw_m4 69 rfl) rfl
theorem q918 : (Jvm.Cond.methodLink "java/util/Arrays" (150 : Nat) ({ cls := "java/lang/System", name := "arraycopy", desc := "(Ljava/lang/Object;ILjava/lang/Object;II)V" } : Jvm.MethodName)) ∈ lw_all := lw_g (lw_at lw_m4 70 rfl) rfl
/-! java/lang/Integer -/
set_option maxRecDepth 100000
def RJ16 : String := "java/lang/Integer"
def TJ16 : u_T := fun k => match k with
  | _ => ("java/lang/Integer", "value", "I", true)
def tyJ16 : Nat → FieldType := fun k => match k with
  | _ => .int
abbrev wsJ160 : List Cond := u_ws RJ16 TJ16 1
theorem nmJ16 : ∀ a, a < 1 → ∀ b, b < 1 → a ≠ b → (TJ16 a).2.1 ≠ (TJ16 b).2.1 := by decide +kernel
theorem tyJ16_ok : ∀ k, k < 1 → parseFieldDescriptor (TJ16 k).2.2.1 = some (tyJ16 k) := by decide +kernel
abbrev cJ16_intValue : ByteArray := prog_43_method_27_code
def yJ16_intValue : MethodName := ⟨RJ16, "intValue", "()I"⟩
theorem dJ16_intValue_0 : decode cJ16_intValue 0 = .ok (.aload_n 0, 1) := by decide +kernel
theorem dJ16_intValue_1 : decode cJ16_intValue 1 = .ok (.getfield 205, 3) := by decide +kernel
theorem dJ16_intValue_4 : decode cJ16_intValue 4 = .ok (.ireturn, 1) := by decide +kernel
abbrev cJ16_valueOf : ByteArray := prog_43_method_22_code
def yJ16_valueOf : MethodName := ⟨RJ16, "valueOf", "(I)Ljava/lang/Integer;"⟩
def dkwJ16_valueOf_1 : List UInt8 := [187, 0, 1, 89, 26, 183, 0, 199, 176]
abbrev dktJ16_valueOf_1 : List UInt8 := dkwJ16_valueOf_1 ++ []
def dkwJ16_valueOf_0 : List UInt8 := [26, 16, 128, 161, 0, 20, 26, 178, 0, 191, 163, 0, 13, 178, 0, 195, 26, 17, 0, 128, 96, 50, 176]
abbrev dktJ16_valueOf_0 : List UInt8 := dkwJ16_valueOf_0 ++ dktJ16_valueOf_1
theorem dksJ16_valueOf_0 : cJ16_valueOf.data.toList.drop 0 = dktJ16_valueOf_0 := by decide +kernel
theorem dksJ16_valueOf_1 : cJ16_valueOf.data.toList.drop 23 = dktJ16_valueOf_1 := dk_seg dksJ16_valueOf_0 23 rfl rfl
theorem dJ16_valueOf_0 : decode cJ16_valueOf 0 = .ok (.iload_n 0, 1) := dk_26 (dk_at dksJ16_valueOf_0 0 rfl rfl)
theorem dJ16_valueOf_1 : decode cJ16_valueOf 1 = .ok (.bipush (-128), 2) := dk_16 128 (dk_at dksJ16_valueOf_0 1 rfl rfl)
theorem dJ16_valueOf_3 : decode cJ16_valueOf 3 = .ok (.if_icmp .lt 20, 3) := dk_161 0 20 (dk_at dksJ16_valueOf_0 3 rfl rfl)
theorem dJ16_valueOf_6 : decode cJ16_valueOf 6 = .ok (.iload_n 0, 1) := dk_26 (dk_at dksJ16_valueOf_0 6 rfl rfl)
theorem dJ16_valueOf_7 : decode cJ16_valueOf 7 = .ok (.getstatic 191, 3) := dk_178 0 191 (dk_at dksJ16_valueOf_0 7 rfl rfl)
theorem dJ16_valueOf_10 : decode cJ16_valueOf 10 = .ok (.if_icmp .gt 13, 3) := dk_163 0 13 (dk_at dksJ16_valueOf_0 10 rfl rfl)
theorem dJ16_valueOf_13 : decode cJ16_valueOf 13 = .ok (.getstatic 195, 3) := dk_178 0 195 (dk_at dksJ16_valueOf_0 13 rfl rfl)
theorem dJ16_valueOf_16 : decode cJ16_valueOf 16 = .ok (.iload_n 0, 1) := dk_26 (dk_at dksJ16_valueOf_0 16 rfl rfl)
theorem dJ16_valueOf_17 : decode cJ16_valueOf 17 = .ok (.sipush 128, 3) := dk_17 0 128 (dk_at dksJ16_valueOf_0 17 rfl rfl)
theorem dJ16_valueOf_20 : decode cJ16_valueOf 20 = .ok (.iadd, 1) := dk_96 (dk_at dksJ16_valueOf_0 20 rfl rfl)
theorem dJ16_valueOf_21 : decode cJ16_valueOf 21 = .ok (.aaload, 1) := dk_50 (dk_at dksJ16_valueOf_0 21 rfl rfl)
theorem dJ16_valueOf_22 : decode cJ16_valueOf 22 = .ok (.areturn, 1) := dk_176 (dk_at dksJ16_valueOf_0 22 rfl rfl)
theorem dJ16_valueOf_23 : decode cJ16_valueOf 23 = .ok (.new 1, 3) := dk_187 0 1 (dk_at dksJ16_valueOf_1 0 rfl rfl)
theorem dJ16_valueOf_26 : decode cJ16_valueOf 26 = .ok (.dup, 1) := dk_89 (dk_at dksJ16_valueOf_1 3 rfl rfl)
theorem dJ16_valueOf_27 : decode cJ16_valueOf 27 = .ok (.iload_n 0, 1) := dk_26 (dk_at dksJ16_valueOf_1 4 rfl rfl)
theorem dJ16_valueOf_28 : decode cJ16_valueOf 28 = .ok (.invokespecial 199, 3) := dk_183 0 199 (dk_at dksJ16_valueOf_1 5 rfl rfl)
theorem dJ16_valueOf_31 : decode cJ16_valueOf 31 = .ok (.areturn, 1) := dk_176 (dk_at dksJ16_valueOf_1 8 rfl rfl)
abbrev cJ16_init : ByteArray := prog_43_method_23_code
def yJ16_init : MethodName := ⟨RJ16, "<init>", "(I)V"⟩
def dkwJ16_init_0 : List UInt8 := [42, 183, 0, 202, 42, 27, 181, 0, 205, 177]
abbrev dktJ16_init_0 : List UInt8 := dkwJ16_init_0 ++ []
theorem dksJ16_init_0 : cJ16_init.data.toList.drop 0 = dktJ16_init_0 := by decide +kernel
theorem dJ16_init_0 : decode cJ16_init 0 = .ok (.aload_n 0, 1) := dk_42 (dk_at dksJ16_init_0 0 rfl rfl)
theorem dJ16_init_1 : decode cJ16_init 1 = .ok (.invokespecial 202, 3) := dk_183 0 202 (dk_at dksJ16_init_0 1 rfl rfl)
theorem dJ16_init_4 : decode cJ16_init 4 = .ok (.aload_n 0, 1) := dk_42 (dk_at dksJ16_init_0 4 rfl rfl)
theorem dJ16_init_5 : decode cJ16_init 5 = .ok (.iload_n 1, 1) := dk_27 (dk_at dksJ16_init_0 5 rfl rfl)
theorem dJ16_init_6 : decode cJ16_init 6 = .ok (.putfield 205, 3) := dk_181 0 205 (dk_at dksJ16_init_0 6 rfl rfl)
theorem dJ16_init_9 : decode cJ16_init 9 = .ok (.return_, 1) := dk_177 (dk_at dksJ16_init_0 9 rfl rfl)
theorem q158 : (Jvm.Cond.initialized "java/lang/Integer") ∈ lw_all := lw_g (lw_at lw_m1 30 rfl) rfl
theorem q822 : (Jvm.Cond.instanceMethod ({ cls := "java/lang/Integer", name := "intValue", desc := "()I" } : Jvm.MethodName)) ∈ lw_all := lw_g (lw_at lw_m3 214 rfl) rfl
theorem q823 : (Jvm.Cond.selects "java/lang/Integer" ({ cls := "java/lang/Integer", name := "intValue", desc := "()I" } : Jvm.MethodName) ({ cls := "java/lang/Integer", name := "intValue", desc := "()I" } : Jvm.MethodName)) ∈ lw_all := lw_g (lw_at lw_m3 215 rfl) rfl
theorem q824 : (Jvm.Cond.code ({ cls := "java/lang/Integer", name := "intValue", desc := "()I" } : Jvm.MethodName) prog_43_method_27_code (1 : Nat) (Option.some Jvm.ClassFile.FieldType.int)) ∈ lw_all := lw_g (lw_at lw_m3 216 rfl) rfl
theorem q907 : (Jvm.Cond.selects "java/lang/Integer" ({ cls := "java/lang/Object", name := "getClass", desc := "()Ljava/lang/Class;" } : Jvm.MethodName) ({ cls := "java/lang/Object", name := "getClass", desc := "()Ljava/lang/Class;" } : Jvm.MethodName)) ∈ lw_all := lw_g (lw_at lw_m4 59 rfl) rfl
theorem q923 : (Jvm.Cond.static ({ cls := "java/lang/Integer", name := "valueOf", desc := "(I)Ljava/lang/Integer;" } : Jvm.MethodName)) ∈ lw_all := lw_g (lw_at lw_m4 75 rfl) rfl
theorem q924 : (Jvm.Cond.code ({ cls := "java/lang/Integer", name := "valueOf", desc := "(I)Ljava/lang/Integer;" } : Jvm.MethodName) prog_43_method_22_code (1 : Nat) (Option.some (Jvm.ClassFile.FieldType.object "java/lang/Integer"))) ∈ lw_all := lw_g (lw_at lw_m4 76 rfl) rfl
theorem q925 : (Jvm.Cond.fieldLink "java/lang/Integer" (191 : Nat) "java/lang/Integer$IntegerCache" "high" "I") ∈ lw_all := lw_g (lw_at lw_m4 77 rfl) rfl
theorem q927 : (Jvm.Cond.fieldLink "java/lang/Integer" (195 : Nat) "java/lang/Integer$IntegerCache" "cache" "[Ljava/lang/Integer;") ∈ lw_all := lw_g (lw_at lw_m4 79 rfl) rfl
theorem q929 : (Jvm.Cond.classLink "java/lang/Integer" (1 : Nat) "java/lang/Integer") ∈ lw_all := lw_g (lw_at lw_m4 81 rfl) rfl
theorem q930 : (Jvm.Cond.instantiable "java/lang/Integer" (1 : Nat)) ∈ lw_all := lw_g (lw_at lw_m4 82 rfl) rfl
theorem q931 : (Jvm.Cond.methodLink "java/lang/Integer" (199 : Nat) ({ cls := "java/lang/Integer", name := "<init>", desc := "(I)V" } : Jvm.MethodName)) ∈ lw_all := lw_g (lw_at lw_m4 83 rfl) rfl
theorem q932 : (Jvm.Cond.instanceMethod ({ cls := "java/lang/Integer", name := "<init>", desc := "(I)V" } : Jvm.MethodName)) ∈ lw_all := lw_g (lw_at lw_m4 84 rfl) rfl
theorem q933 : (Jvm.Cond.code ({ cls := "java/lang/Integer", name := "<init>", desc := "(I)V" } : Jvm.MethodName) prog_43_method_23_code (2 : Nat) (Option.none : Option Jvm.ClassFile.FieldType)) ∈ lw_all := lw_g (lw_at lw_m4 85 rfl) rfl
theorem q934 : (Jvm.Cond.methodLink "java/lang/Integer" (202 : Nat) ({ cls := "java/lang/Number", name := "<init>", desc := "()V" } : Jvm.MethodName)) ∈ lw_all := lw_g (lw_at lw_m4 86 rfl) rfl
theorem q935 : (Jvm.Cond.fieldLink "java/lang/Integer" (205 : Nat) "java/lang/Integer" "value" "I") ∈ lw_all := lw_g (lw_at lw_m4 87 rfl) rfl
theorem q936 : (Jvm.Cond.laysFinal "java/lang/Integer" "java/lang/Integer" "value" "I") ∈ lw_all := lw_g (lw_at lw_m4 88 rfl) rfl
theorem q937 : (Jvm.Cond.soleField "java/lang/Integer" "value") ∈ lw_all := lw_g (lw_at lw_m4 89 rfl) rfl
theorem q938 : (Jvm.Cond.superclass "java/lang/Integer" "java/lang/Number") ∈ lw_all := lw_g (lw_at lw_m4 90 rfl) rfl
theorem q2546 : (Jvm.Cond.castable "java/lang/Integer" "java/lang/Object") ∈ lw_tbl := lw_at lw_m11 18 rfl
theorem in_J16 : ∀ w ∈ wsJ160, w ∈ lw_all := lw_in wsJ160 [936] (by decide +kernel) (by decide +kernel)
/-! java/lang/RuntimeException -/
set_option maxRecDepth 100000
def RJ17 : String := "java/lang/RuntimeException"
abbrev cJ17_init : ByteArray := prog_50_method_1_code
def yJ17_init : MethodName := ⟨RJ17, "<init>", "()V"⟩
theorem dJ17_init_0 : decode cJ17_init 0 = .ok (.aload_n 0, 1) := by decide +kernel
theorem dJ17_init_1 : decode cJ17_init 1 = .ok (.invokespecial 1, 3) := by decide +kernel
theorem dJ17_init_4 : decode cJ17_init 4 = .ok (.return_, 1) := by decide +kernel
theorem q183 : (Jvm.Cond.initialized "java/lang/RuntimeException") ∈ lw_all := lw_g (lw_at lw_m1 55 rfl) rfl
theorem q1778 : (Jvm.Cond.declares ({ cls := "java/lang/RuntimeException", name := "<init>", desc := "()V" } : Jvm.MethodName)) ∈ lw_tbl := lw_at lw_m7 210 rfl
theorem q1779 : (Jvm.Cond.declares ({ cls := "java/lang/RuntimeException", name := "<init>", desc := "(Ljava/lang/String;)V" } : Jvm.MethodName)) ∈ lw_tbl := lw_at lw_m7 211 rfl
theorem q1790 : (Jvm.Cond.instanceMethod ({ cls := "java/lang/RuntimeException", name := "<init>", desc := "()V" } : Jvm.MethodName)) ∈ lw_all := lw_g (lw_at lw_m7 222 rfl) rfl
theorem q1791 : (Jvm.Cond.code ({ cls := "java/lang/RuntimeException", name := "<init>", desc := "()V" } : Jvm.MethodName) prog_50_method_1_code (1 : Nat) (Option.none : Option Jvm.ClassFile.FieldType)) ∈ lw_all := lw_g (lw_at lw_m7 223 rfl) rfl
theorem q1792 : (Jvm.Cond.methodLink "java/lang/RuntimeException" (1 : Nat) ({ cls := "java/lang/Exception", name := "<init>", desc := "()V" } : Jvm.MethodName)) ∈ lw_all := lw_g (lw_at lw_m7 224 rfl) rfl
/-! java/util/NoSuchElementException -/
set_option maxRecDepth 100000
def RJ18 : String := "java/util/NoSuchElementException"
def TJ18 : u_T := fun k => match k with
  | 0 => ("java/lang/Throwable", "cause", "Ljava/lang/Throwable;", false)
  | 1 => ("java/lang/Throwable", "stackTrace", "[Ljava/lang/StackTraceElement;", false)
  | 2 => ("java/lang/Throwable", "suppressedExceptions", "Ljava/util/List;", false)
  | 3 => ("java/lang/Throwable", "detailMessage", "Ljava/lang/String;", false)
  | 4 => ("java/lang/Throwable", "backtrace", "Ljava/lang/Object;", false)
  | _ => ("java/lang/Throwable", "depth", "I", false)
def tyJ18 : Nat → FieldType := fun k => match k with
  | 0 => .object "java/lang/Throwable"
  | 1 => .array (.object "java/lang/StackTraceElement")
  | 2 => .object "java/util/List"
  | 3 => .object "java/lang/String"
  | 4 => .object "java/lang/Object"
  | _ => .int
abbrev wsJ180 : List Cond := u_ws RJ18 TJ18 6
theorem nmJ18 : ∀ a, a < 6 → ∀ b, b < 6 → a ≠ b → (TJ18 a).2.1 ≠ (TJ18 b).2.1 := by decide +kernel
theorem tyJ18_ok : ∀ k, k < 6 → parseFieldDescriptor (TJ18 k).2.2.1 = some (tyJ18 k) := by decide +kernel
abbrev cJ18_init : ByteArray := prog_64_method_1_code
def yJ18_init : MethodName := ⟨RJ18, "<init>", "()V"⟩
theorem dJ18_init_0 : decode cJ18_init 0 = .ok (.aload_n 0, 1) := by decide +kernel
theorem dJ18_init_1 : decode cJ18_init 1 = .ok (.invokespecial 1, 3) := by decide +kernel
theorem dJ18_init_4 : decode cJ18_init 4 = .ok (.return_, 1) := by decide +kernel
theorem q184 : (Jvm.Cond.initialized "java/util/NoSuchElementException") ∈ lw_all := lw_g (lw_at lw_m1 56 rfl) rfl
theorem q771 : (Jvm.Cond.selects "java/util/NoSuchElementException" ({ cls := "java/lang/Throwable", name := "fillInStackTrace", desc := "()Ljava/lang/Throwable;" } : Jvm.MethodName) ({ cls := "java/lang/Throwable", name := "fillInStackTrace", desc := "()Ljava/lang/Throwable;" } : Jvm.MethodName)) ∈ lw_all := lw_g (lw_at lw_m3 163 rfl) rfl
theorem q910 : (Jvm.Cond.selects "java/util/NoSuchElementException" ({ cls := "java/lang/Object", name := "getClass", desc := "()Ljava/lang/Class;" } : Jvm.MethodName) ({ cls := "java/lang/Object", name := "getClass", desc := "()Ljava/lang/Class;" } : Jvm.MethodName)) ∈ lw_all := lw_g (lw_at lw_m4 62 rfl) rfl
theorem q1776 : (Jvm.Cond.instantiable "java/util/NoSuchElementException" (6 : Nat)) ∈ lw_all := lw_g (lw_at lw_m7 208 rfl) rfl
theorem q1777 : (Jvm.Cond.castable "java/util/NoSuchElementException" "java/util/NoSuchElementException") ∈ lw_tbl := lw_at lw_m7 209 rfl
theorem q1780 : (Jvm.Cond.selects "java/util/NoSuchElementException" ({ cls := "java/lang/Throwable", name := "fillInStackTrace", desc := "(I)Ljava/lang/Throwable;" } : Jvm.MethodName) ({ cls := "java/lang/Throwable", name := "fillInStackTrace", desc := "(I)Ljava/lang/Throwable;" } : Jvm.MethodName)) ∈ lw_all := lw_g (lw_at lw_m7 212 rfl) rfl
theorem q1781 : (Jvm.Cond.lays "java/util/NoSuchElementException" "java/lang/Throwable" "cause" "Ljava/lang/Throwable;") ∈ lw_all := lw_g (lw_at lw_m7 213 rfl) rfl
theorem q1782 : (Jvm.Cond.lays "java/util/NoSuchElementException" "java/lang/Throwable" "stackTrace" "[Ljava/lang/StackTraceElement;") ∈ lw_all := lw_g (lw_at lw_m7 214 rfl) rfl
theorem q1783 : (Jvm.Cond.lays "java/util/NoSuchElementException" "java/lang/Throwable" "suppressedExceptions" "Ljava/util/List;") ∈ lw_all := lw_g (lw_at lw_m7 215 rfl) rfl
theorem q1784 : (Jvm.Cond.lays "java/util/NoSuchElementException" "java/lang/Throwable" "detailMessage" "Ljava/lang/String;") ∈ lw_all := lw_g (lw_at lw_m7 216 rfl) rfl
theorem q1785 : (Jvm.Cond.lays "java/util/NoSuchElementException" "java/lang/Throwable" "backtrace" "Ljava/lang/Object;") ∈ lw_all := lw_g (lw_at lw_m7 217 rfl) rfl
theorem q1787 : (Jvm.Cond.instanceMethod ({ cls := "java/util/NoSuchElementException", name := "<init>", desc := "()V" } : Jvm.MethodName)) ∈ lw_all := lw_g (lw_at lw_m7 219 rfl) rfl
theorem q1788 : (Jvm.Cond.code ({ cls := "java/util/NoSuchElementException", name := "<init>", desc := "()V" } : Jvm.MethodName) prog_64_method_1_code (1 : Nat) (Option.none : Option Jvm.ClassFile.FieldType)) ∈ lw_all := lw_g (lw_at lw_m7 220 rfl) rfl
theorem q1789 : (Jvm.Cond.methodLink "java/util/NoSuchElementException" (1 : Nat) ({ cls := "java/lang/RuntimeException", name := "<init>", desc := "()V" } : Jvm.MethodName)) ∈ lw_all := lw_g (lw_at lw_m7 221 rfl) rfl
theorem q1793 : (Jvm.Cond.lays "java/util/NoSuchElementException" "java/lang/Throwable" "depth" "I") ∈ lw_all := lw_g (lw_at lw_m7 225 rfl) rfl
theorem q1794 : (Jvm.Cond.superclass "java/util/NoSuchElementException" "java/lang/RuntimeException") ∈ lw_all := lw_g (lw_at lw_m7 226 rfl) rfl
theorem q2567 : (Jvm.Cond.castable "java/util/NoSuchElementException" "java/lang/Object") ∈ lw_tbl := lw_at lw_m11 39 rfl
theorem in_J18 : ∀ w ∈ wsJ180, w ∈ lw_all := lw_in wsJ180 [1781, 1782, 1783, 1784, 1785, 1793] (by decide +kernel) (by decide +kernel)
/-! java/lang/Object -/
set_option maxRecDepth 100000
def RJ19 : String := "java/lang/Object"
abbrev cJ19_init : ByteArray := object_method_1_code
def yJ19_init : MethodName := ⟨RJ19, "<init>", "()V"⟩
theorem dJ19_init_0 : decode cJ19_init 0 = .ok (.return_, 1) := by decide +kernel
theorem q192 : (Jvm.Cond.instanceMethod ({ cls := "java/lang/Object", name := "<init>", desc := "()V" } : Jvm.MethodName)) ∈ lw_all := lw_g (lw_at lw_m1 64 rfl) rfl
theorem q193 : (Jvm.Cond.code ({ cls := "java/lang/Object", name := "<init>", desc := "()V" } : Jvm.MethodName) object_method_1_code (1 : Nat) (Option.none : Option Jvm.ClassFile.FieldType)) ∈ lw_all := lw_g (lw_at lw_m1 65 rfl) rfl
theorem q873 : (Jvm.Cond.instanceMethod ({ cls := "java/lang/Object", name := "getClass", desc := "()Ljava/lang/Class;" } : Jvm.MethodName)) ∈ lw_all := lw_g (lw_at lw_m4 25 rfl) rfl
theorem q874 : (Jvm.Cond.sameMethod "java/lang/Object" "java/lang/Object" "getClass" "()Ljava/lang/Class;") ∈ lw_all := lw_g (lw_at lw_m4 26 rfl) rfl
theorem q911 : (Jvm.Cond.native ({ cls := "java/lang/Object", name := "getClass", desc := "()Ljava/lang/Class;" } : Jvm.MethodName)) ∈ lw_all := lw_g (lw_at lw_m4 63 rfl) rfl
theorem q2571 : (Jvm.Cond.declares ({ cls := "java/lang/Object", name := "getClass", desc := "()Ljava/lang/Class;" } : Jvm.MethodName)) ∈ lw_tbl := lw_at lw_m11 43 rfl
/-! java/util/ArrayList -/
set_option maxRecDepth 100000
def RJ2 : String := "java/util/ArrayList"
def TJ2 : u_T := fun k => match k with
  | 0 => ("java/util/AbstractList", "modCount", "I", false)
  | 1 => ("java/util/ArrayList", "elementData", "[Ljava/lang/Object;", false)
  | _ => ("java/util/ArrayList", "size", "I", false)
def tyJ2 : Nat → FieldType := fun k => match k with
  | 0 => .int
  | 1 => .array (.object "java/lang/Object")
  | _ => .int
abbrev wsJ20 : List Cond := u_ws RJ2 TJ2 3
theorem nmJ2 : ∀ a, a < 3 → ∀ b, b < 3 → a ≠ b → (TJ2 a).2.1 ≠ (TJ2 b).2.1 := by decide +kernel
theorem tyJ2_ok : ∀ k, k < 3 → parseFieldDescriptor (TJ2 k).2.2.1 = some (tyJ2 k) := by decide +kernel
abbrev cJ2_init : ByteArray := prog_60_method_1_code
def yJ2_init : MethodName := ⟨RJ2, "<init>", "(I)V"⟩
def dkwJ2_init_2 : List UInt8 := [182, 0, 25, 27, 182, 0, 29, 182, 0, 32, 183, 0, 36, 191, 177]
abbrev dktJ2_init_2 : List UInt8 := dkwJ2_init_2 ++ []
def dkwJ2_init_1 : List UInt8 := [178, 0, 15, 181, 0, 9, 167, 0, 30, 187, 0, 18, 89, 187, 0, 20, 89, 183, 0, 22, 18, 23]
abbrev dktJ2_init_1 : List UInt8 := dkwJ2_init_1 ++ dktJ2_init_2
def dkwJ2_init_0 : List UInt8 := [42, 183, 0, 1, 27, 158, 0, 14, 42, 27, 189, 0, 7, 181, 0, 9, 167, 0, 44, 27, 154, 0, 13, 42]
abbrev dktJ2_init_0 : List UInt8 := dkwJ2_init_0 ++ dktJ2_init_1
theorem dksJ2_init_0 : cJ2_init.data.toList.drop 0 = dktJ2_init_0 := by decide +kernel
theorem dksJ2_init_1 : cJ2_init.data.toList.drop 24 = dktJ2_init_1 := dk_seg dksJ2_init_0 24 rfl rfl
theorem dksJ2_init_2 : cJ2_init.data.toList.drop 46 = dktJ2_init_2 := dk_seg dksJ2_init_1 22 rfl rfl
theorem dJ2_init_0 : decode cJ2_init 0 = .ok (.aload_n 0, 1) := dk_42 (dk_at dksJ2_init_0 0 rfl rfl)
theorem dJ2_init_1 : decode cJ2_init 1 = .ok (.invokespecial 1, 3) := dk_183 0 1 (dk_at dksJ2_init_0 1 rfl rfl)
theorem dJ2_init_4 : decode cJ2_init 4 = .ok (.iload_n 1, 1) := dk_27 (dk_at dksJ2_init_0 4 rfl rfl)
theorem dJ2_init_5 : decode cJ2_init 5 = .ok (.ifCond .le 14, 3) := dk_158 0 14 (dk_at dksJ2_init_0 5 rfl rfl)
theorem dJ2_init_8 : decode cJ2_init 8 = .ok (.aload_n 0, 1) := dk_42 (dk_at dksJ2_init_0 8 rfl rfl)
theorem dJ2_init_9 : decode cJ2_init 9 = .ok (.iload_n 1, 1) := dk_27 (dk_at dksJ2_init_0 9 rfl rfl)
theorem dJ2_init_10 : decode cJ2_init 10 = .ok (.anewarray 7, 3) := dk_189 0 7 (dk_at dksJ2_init_0 10 rfl rfl)
theorem dJ2_init_13 : decode cJ2_init 13 = .ok (.putfield 9, 3) := dk_181 0 9 (dk_at dksJ2_init_0 13 rfl rfl)
theorem dJ2_init_16 : decode cJ2_init 16 = .ok (.goto 44, 3) := dk_167 0 44 (dk_at dksJ2_init_0 16 rfl rfl)
theorem dJ2_init_19 : decode cJ2_init 19 = .ok (.iload_n 1, 1) := dk_27 (dk_at dksJ2_init_0 19 rfl rfl)
theorem dJ2_init_20 : decode cJ2_init 20 = .ok (.ifCond .ne 13, 3) := dk_154 0 13 (dk_at dksJ2_init_0 20 rfl rfl)
theorem dJ2_init_23 : decode cJ2_init 23 = .ok (.aload_n 0, 1) := dk_42 (dk_at dksJ2_init_0 23 rfl rfl)
theorem dJ2_init_24 : decode cJ2_init 24 = .ok (.getstatic 15, 3) := dk_178 0 15 (dk_at dksJ2_init_1 0 rfl rfl)
theorem dJ2_init_27 : decode cJ2_init 27 = .ok (.putfield 9, 3) := dk_181 0 9 (dk_at dksJ2_init_1 3 rfl rfl)
theorem dJ2_init_30 : decode cJ2_init 30 = .ok (.goto 30, 3) := dk_167 0 30 (dk_at dksJ2_init_1 6 rfl rfl)
theorem dJ2_init_33 : decode cJ2_init 33 = .ok (.new 18, 3) := dk_187 0 18 (dk_at dksJ2_init_1 9 rfl rfl)
theorem dJ2_init_36 : decode cJ2_init 36 = .ok (.dup, 1) := dk_89 (dk_at dksJ2_init_1 12 rfl rfl)
theorem dJ2_init_37 : decode cJ2_init 37 = .ok (.new 20, 3) := dk_187 0 20 (dk_at dksJ2_init_1 13 rfl rfl)
theorem dJ2_init_40 : decode cJ2_init 40 = .ok (.dup, 1) := dk_89 (dk_at dksJ2_init_1 16 rfl rfl)
theorem dJ2_init_41 : decode cJ2_init 41 = .ok (.invokespecial 22, 3) := dk_183 0 22 (dk_at dksJ2_init_1 17 rfl rfl)
theorem dJ2_init_44 : decode cJ2_init 44 = .ok (.ldc 23, 2) := dk_18 23 (dk_at dksJ2_init_1 20 rfl rfl)
theorem dJ2_init_46 : decode cJ2_init 46 = .ok (.invokevirtual 25, 3) := dk_182 0 25 (dk_at dksJ2_init_2 0 rfl rfl)
theorem dJ2_init_49 : decode cJ2_init 49 = .ok (.iload_n 1, 1) := dk_27 (dk_at dksJ2_init_2 3 rfl rfl)
theorem dJ2_init_50 : decode cJ2_init 50 = .ok (.invokevirtual 29, 3) := dk_182 0 29 (dk_at dksJ2_init_2 4 rfl rfl)
theorem dJ2_init_53 : decode cJ2_init 53 = .ok (.invokevirtual 32, 3) := dk_182 0 32 (dk_at dksJ2_init_2 7 rfl rfl)
theorem dJ2_init_56 : decode cJ2_init 56 = .ok (.invokespecial 36, 3) := dk_183 0 36 (dk_at dksJ2_init_2 10 rfl rfl)
theorem dJ2_init_59 : decode cJ2_init 59 = .ok (.athrow, 1) := dk_191 (dk_at dksJ2_init_2 13 rfl rfl)
theorem dJ2_init_60 : decode cJ2_init 60 = .ok (.return_, 1) := dk_177 (dk_at dksJ2_init_2 14 rfl rfl)
abbrev cJ2_size : ByteArray := prog_60_method_8_code
def yJ2_size : MethodName := ⟨RJ2, "size", "()I"⟩
theorem dJ2_size_0 : decode cJ2_size 0 = .ok (.aload_n 0, 1) := by decide +kernel
theorem dJ2_size_1 : decode cJ2_size 1 = .ok (.getfield 48, 3) := by decide +kernel
theorem dJ2_size_4 : decode cJ2_size 4 = .ok (.ireturn, 1) := by decide +kernel
abbrev cJ2_get : ByteArray := prog_60_method_20_code
def yJ2_get : MethodName := ⟨RJ2, "get", "(I)Ljava/lang/Object;"⟩
def dkwJ2_get_0 : List UInt8 := [27, 42, 180, 0, 48, 184, 0, 118, 87, 42, 27, 182, 0, 123, 176]
abbrev dktJ2_get_0 : List UInt8 := dkwJ2_get_0 ++ []
theorem dksJ2_get_0 : cJ2_get.data.toList.drop 0 = dktJ2_get_0 := by decide +kernel
theorem dJ2_get_0 : decode cJ2_get 0 = .ok (.iload_n 1, 1) := dk_27 (dk_at dksJ2_get_0 0 rfl rfl)
theorem dJ2_get_1 : decode cJ2_get 1 = .ok (.aload_n 0, 1) := dk_42 (dk_at dksJ2_get_0 1 rfl rfl)
theorem dJ2_get_2 : decode cJ2_get 2 = .ok (.getfield 48, 3) := dk_180 0 48 (dk_at dksJ2_get_0 2 rfl rfl)
theorem dJ2_get_5 : decode cJ2_get 5 = .ok (.invokestatic 118, 3) := dk_184 0 118 (dk_at dksJ2_get_0 5 rfl rfl)
theorem dJ2_get_8 : decode cJ2_get 8 = .ok (.pop, 1) := dk_87 (dk_at dksJ2_get_0 8 rfl rfl)
theorem dJ2_get_9 : decode cJ2_get 9 = .ok (.aload_n 0, 1) := dk_42 (dk_at dksJ2_get_0 9 rfl rfl)
theorem dJ2_get_10 : decode cJ2_get 10 = .ok (.iload_n 1, 1) := dk_27 (dk_at dksJ2_get_0 10 rfl rfl)
theorem dJ2_get_11 : decode cJ2_get 11 = .ok (.invokevirtual 123, 3) := dk_182 0 123 (dk_at dksJ2_get_0 11 rfl rfl)
theorem dJ2_get_14 : decode cJ2_get 14 = .ok (.areturn, 1) := dk_176 (dk_at dksJ2_get_0 14 rfl rfl)
abbrev cJ2_elementData : ByteArray := prog_60_method_18_code
def yJ2_elementData : MethodName := ⟨RJ2, "elementData", "(I)Ljava/lang/Object;"⟩
def dkwJ2_elementData_0 : List UInt8 := [42, 180, 0, 9, 27, 50, 176]
abbrev dktJ2_elementData_0 : List UInt8 := dkwJ2_elementData_0 ++ []
theorem dksJ2_elementData_0 : cJ2_elementData.data.toList.drop 0 = dktJ2_elementData_0 := by decide +kernel
theorem dJ2_elementData_0 : decode cJ2_elementData 0 = .ok (.aload_n 0, 1) := dk_42 (dk_at dksJ2_elementData_0 0 rfl rfl)
theorem dJ2_elementData_1 : decode cJ2_elementData 1 = .ok (.getfield 9, 3) := dk_180 0 9 (dk_at dksJ2_elementData_0 1 rfl rfl)
theorem dJ2_elementData_4 : decode cJ2_elementData 4 = .ok (.iload_n 1, 1) := dk_27 (dk_at dksJ2_elementData_0 4 rfl rfl)
theorem dJ2_elementData_5 : decode cJ2_elementData 5 = .ok (.aaload, 1) := dk_50 (dk_at dksJ2_elementData_0 5 rfl rfl)
theorem dJ2_elementData_6 : decode cJ2_elementData 6 = .ok (.areturn, 1) := dk_176 (dk_at dksJ2_elementData_0 6 rfl rfl)
abbrev cJ2_init_2 : ByteArray := prog_60_method_2_code
def yJ2_init_2 : MethodName := ⟨RJ2, "<init>", "()V"⟩
def dkwJ2_init_2_0 : List UInt8 := [42, 183, 0, 1, 42, 178, 0, 39, 181, 0, 9, 177]
abbrev dktJ2_init_2_0 : List UInt8 := dkwJ2_init_2_0 ++ []
theorem dksJ2_init_2_0 : cJ2_init_2.data.toList.drop 0 = dktJ2_init_2_0 := by decide +kernel
theorem dJ2_init_2_0 : decode cJ2_init_2 0 = .ok (.aload_n 0, 1) := dk_42 (dk_at dksJ2_init_2_0 0 rfl rfl)
theorem dJ2_init_2_1 : decode cJ2_init_2 1 = .ok (.invokespecial 1, 3) := dk_183 0 1 (dk_at dksJ2_init_2_0 1 rfl rfl)
theorem dJ2_init_2_4 : decode cJ2_init_2 4 = .ok (.aload_n 0, 1) := dk_42 (dk_at dksJ2_init_2_0 4 rfl rfl)
theorem dJ2_init_2_5 : decode cJ2_init_2 5 = .ok (.getstatic 39, 3) := dk_178 0 39 (dk_at dksJ2_init_2_0 5 rfl rfl)
theorem dJ2_init_2_8 : decode cJ2_init_2 8 = .ok (.putfield 9, 3) := dk_181 0 9 (dk_at dksJ2_init_2_0 8 rfl rfl)
theorem dJ2_init_2_11 : decode cJ2_init_2 11 = .ok (.return_, 1) := dk_177 (dk_at dksJ2_init_2_0 11 rfl rfl)
abbrev cJ2_add : ByteArray := prog_60_method_25_code
def yJ2_add : MethodName := ⟨RJ2, "add", "(Ljava/lang/Object;)Z"⟩
def dkwJ2_add_1 : List UInt8 := [172]
abbrev dktJ2_add_1 : List UInt8 := dkwJ2_add_1 ++ []
def dkwJ2_add_0 : List UInt8 := [42, 89, 180, 0, 63, 4, 96, 181, 0, 63, 42, 43, 42, 180, 0, 9, 42, 180, 0, 48, 182, 0, 131, 4]
abbrev dktJ2_add_0 : List UInt8 := dkwJ2_add_0 ++ dktJ2_add_1
theorem dksJ2_add_0 : cJ2_add.data.toList.drop 0 = dktJ2_add_0 := by decide +kernel
theorem dksJ2_add_1 : cJ2_add.data.toList.drop 24 = dktJ2_add_1 := dk_seg dksJ2_add_0 24 rfl rfl
theorem dJ2_add_0 : decode cJ2_add 0 = .ok (.aload_n 0, 1) := dk_42 (dk_at dksJ2_add_0 0 rfl rfl)
theorem dJ2_add_1 : decode cJ2_add 1 = .ok (.dup, 1) := dk_89 (dk_at dksJ2_add_0 1 rfl rfl)
theorem dJ2_add_2 : decode cJ2_add 2 = .ok (.getfield 63, 3) := dk_180 0 63 (dk_at dksJ2_add_0 2 rfl rfl)
theorem dJ2_add_5 : decode cJ2_add 5 = .ok (.iconst 1, 1) := dk_4 (dk_at dksJ2_add_0 5 rfl rfl)
theorem dJ2_add_6 : decode cJ2_add 6 = .ok (.iadd, 1) := dk_96 (dk_at dksJ2_add_0 6 rfl rfl)
theorem dJ2_add_7 : decode cJ2_add 7 = .ok (.putfield 63, 3) := dk_181 0 63 (dk_at dksJ2_add_0 7 rfl rfl)
theorem dJ2_add_10 : decode cJ2_add 10 = .ok (.aload_n 0, 1) := dk_42 (dk_at dksJ2_add_0 10 rfl rfl)
theorem dJ2_add_11 : decode cJ2_add 11 = .ok (.aload_n 1, 1) := dk_43 (dk_at dksJ2_add_0 11 rfl rfl)
theorem dJ2_add_12 : decode cJ2_add 12 = .ok (.aload_n 0, 1) := dk_42 (dk_at dksJ2_add_0 12 rfl rfl)
theorem dJ2_add_13 : decode cJ2_add 13 = .ok (.getfield 9, 3) := dk_180 0 9 (dk_at dksJ2_add_0 13 rfl rfl)
theorem dJ2_add_16 : decode cJ2_add 16 = .ok (.aload_n 0, 1) := dk_42 (dk_at dksJ2_add_0 16 rfl rfl)
theorem dJ2_add_17 : decode cJ2_add 17 = .ok (.getfield 48, 3) := dk_180 0 48 (dk_at dksJ2_add_0 17 rfl rfl)
theorem dJ2_add_20 : decode cJ2_add 20 = .ok (.invokevirtual 131, 3) := dk_182 0 131 (dk_at dksJ2_add_0 20 rfl rfl)
theorem dJ2_add_23 : decode cJ2_add 23 = .ok (.iconst 1, 1) := dk_4 (dk_at dksJ2_add_0 23 rfl rfl)
theorem dJ2_add_24 : decode cJ2_add 24 = .ok (.ireturn, 1) := dk_172 (dk_at dksJ2_add_1 0 rfl rfl)
abbrev cJ2_add_2 : ByteArray := prog_60_method_24_code
def yJ2_add_2 : MethodName := ⟨RJ2, "add", "(Ljava/lang/Object;[Ljava/lang/Object;I)V"⟩
def dkwJ2_add_2_0 : List UInt8 := [29, 44, 190, 160, 0, 8, 42, 182, 0, 129, 77, 44, 29, 43, 83, 42, 29, 4, 96, 181, 0, 48, 177]
abbrev dktJ2_add_2_0 : List UInt8 := dkwJ2_add_2_0 ++ []
theorem dksJ2_add_2_0 : cJ2_add_2.data.toList.drop 0 = dktJ2_add_2_0 := by decide +kernel
theorem dJ2_add_2_0 : decode cJ2_add_2 0 = .ok (.iload_n 3, 1) := dk_29 (dk_at dksJ2_add_2_0 0 rfl rfl)
theorem dJ2_add_2_1 : decode cJ2_add_2 1 = .ok (.aload_n 2, 1) := dk_44 (dk_at dksJ2_add_2_0 1 rfl rfl)
theorem dJ2_add_2_2 : decode cJ2_add_2 2 = .ok (.arraylength, 1) := dk_190 (dk_at dksJ2_add_2_0 2 rfl rfl)
theorem dJ2_add_2_3 : decode cJ2_add_2 3 = .ok (.if_icmp .ne 8, 3) := dk_160 0 8 (dk_at dksJ2_add_2_0 3 rfl rfl)
theorem dJ2_add_2_6 : decode cJ2_add_2 6 = .ok (.aload_n 0, 1) := dk_42 (dk_at dksJ2_add_2_0 6 rfl rfl)
theorem dJ2_add_2_7 : decode cJ2_add_2 7 = .ok (.invokevirtual 129, 3) := dk_182 0 129 (dk_at dksJ2_add_2_0 7 rfl rfl)
theorem dJ2_add_2_10 : decode cJ2_add_2 10 = .ok (.astore_n 2, 1) := dk_77 (dk_at dksJ2_add_2_0 10 rfl rfl)
theorem dJ2_add_2_11 : decode cJ2_add_2 11 = .ok (.aload_n 2, 1) := dk_44 (dk_at dksJ2_add_2_0 11 rfl rfl)
theorem dJ2_add_2_12 : decode cJ2_add_2 12 = .ok (.iload_n 3, 1) := dk_29 (dk_at dksJ2_add_2_0 12 rfl rfl)
theorem dJ2_add_2_13 : decode cJ2_add_2 13 = .ok (.aload_n 1, 1) := dk_43 (dk_at dksJ2_add_2_0 13 rfl rfl)
theorem dJ2_add_2_14 : decode cJ2_add_2 14 = .ok (.aastore, 1) := dk_83 (dk_at dksJ2_add_2_0 14 rfl rfl)
theorem dJ2_add_2_15 : decode cJ2_add_2 15 = .ok (.aload_n 0, 1) := dk_42 (dk_at dksJ2_add_2_0 15 rfl rfl)
theorem dJ2_add_2_16 : decode cJ2_add_2 16 = .ok (.iload_n 3, 1) := dk_29 (dk_at dksJ2_add_2_0 16 rfl rfl)
theorem dJ2_add_2_17 : decode cJ2_add_2 17 = .ok (.iconst 1, 1) := dk_4 (dk_at dksJ2_add_2_0 17 rfl rfl)
theorem dJ2_add_2_18 : decode cJ2_add_2 18 = .ok (.iadd, 1) := dk_96 (dk_at dksJ2_add_2_0 18 rfl rfl)
theorem dJ2_add_2_19 : decode cJ2_add_2 19 = .ok (.putfield 48, 3) := dk_181 0 48 (dk_at dksJ2_add_2_0 19 rfl rfl)
theorem dJ2_add_2_22 : decode cJ2_add_2 22 = .ok (.return_, 1) := dk_177 (dk_at dksJ2_add_2_0 22 rfl rfl)
abbrev cJ2_grow : ByteArray := prog_60_method_7_code
def yJ2_grow : MethodName := ⟨RJ2, "grow", "()[Ljava/lang/Object;"⟩
def dkwJ2_grow_0 : List UInt8 := [42, 42, 180, 0, 48, 4, 96, 182, 0, 69, 176]
abbrev dktJ2_grow_0 : List UInt8 := dkwJ2_grow_0 ++ []
theorem dksJ2_grow_0 : cJ2_grow.data.toList.drop 0 = dktJ2_grow_0 := by decide +kernel
theorem dJ2_grow_0 : decode cJ2_grow 0 = .ok (.aload_n 0, 1) := dk_42 (dk_at dksJ2_grow_0 0 rfl rfl)
theorem dJ2_grow_1 : decode cJ2_grow 1 = .ok (.aload_n 0, 1) := dk_42 (dk_at dksJ2_grow_0 1 rfl rfl)
theorem dJ2_grow_2 : decode cJ2_grow 2 = .ok (.getfield 48, 3) := dk_180 0 48 (dk_at dksJ2_grow_0 2 rfl rfl)
theorem dJ2_grow_5 : decode cJ2_grow 5 = .ok (.iconst 1, 1) := dk_4 (dk_at dksJ2_grow_0 5 rfl rfl)
theorem dJ2_grow_6 : decode cJ2_grow 6 = .ok (.iadd, 1) := dk_96 (dk_at dksJ2_grow_0 6 rfl rfl)
theorem dJ2_grow_7 : decode cJ2_grow 7 = .ok (.invokevirtual 69, 3) := dk_182 0 69 (dk_at dksJ2_grow_0 7 rfl rfl)
theorem dJ2_grow_10 : decode cJ2_grow 10 = .ok (.areturn, 1) := dk_176 (dk_at dksJ2_grow_0 10 rfl rfl)
abbrev cJ2_grow_2 : ByteArray := prog_60_method_6_code
def yJ2_grow_2 : MethodName := ⟨RJ2, "grow", "(I)[Ljava/lang/Object;"⟩
def dkwJ2_grow_2_2 : List UInt8 := [27, 184, 0, 79, 189, 0, 7, 90, 181, 0, 9, 176]
abbrev dktJ2_grow_2_2 : List UInt8 := dkwJ2_grow_2_2 ++ []
def dkwJ2_grow_2_1 : List UInt8 := [28, 4, 122, 184, 0, 73, 62, 42, 42, 180, 0, 9, 29, 184, 0, 66, 90, 181, 0, 9, 176, 42, 16, 10]
abbrev dktJ2_grow_2_1 : List UInt8 := dkwJ2_grow_2_1 ++ dktJ2_grow_2_2
def dkwJ2_grow_2_0 : List UInt8 := [42, 180, 0, 9, 190, 61, 28, 157, 0, 13, 42, 180, 0, 9, 178, 0, 39, 165, 0, 28, 28, 27, 28, 100]
abbrev dktJ2_grow_2_0 : List UInt8 := dkwJ2_grow_2_0 ++ dktJ2_grow_2_1
theorem dksJ2_grow_2_0 : cJ2_grow_2.data.toList.drop 0 = dktJ2_grow_2_0 := by decide +kernel
theorem dksJ2_grow_2_1 : cJ2_grow_2.data.toList.drop 24 = dktJ2_grow_2_1 := dk_seg dksJ2_grow_2_0 24 rfl rfl
theorem dksJ2_grow_2_2 : cJ2_grow_2.data.toList.drop 48 = dktJ2_grow_2_2 := dk_seg dksJ2_grow_2_1 24 rfl rfl
theorem dJ2_grow_2_0 : decode cJ2_grow_2 0 = .ok (.aload_n 0, 1) := dk_42 (dk_at dksJ2_grow_2_0 0 rfl rfl)
theorem dJ2_grow_2_1 : decode cJ2_grow_2 1 = .ok (.getfield 9, 3) := dk_180 0 9 (dk_at dksJ2_grow_2_0 1 rfl rfl)
theorem dJ2_grow_2_4 : decode cJ2_grow_2 4 = .ok (.arraylength, 1) := dk_190 (dk_at dksJ2_grow_2_0 4 rfl rfl)
theorem dJ2_grow_2_5 : decode cJ2_grow_2 5 = .ok (.istore_n 2, 1) := dk_61 (dk_at dksJ2_grow_2_0 5 rfl rfl)
theorem dJ2_grow_2_6 : decode cJ2_grow_2 6 = .ok (.iload_n 2, 1) := dk_28 (dk_at dksJ2_grow_2_0 6 rfl rfl)
theorem dJ2_grow_2_7 : decode cJ2_grow_2 7 = .ok (.ifCond .gt 13, 3) := dk_157 0 13 (dk_at dksJ2_grow_2_0 7 rfl rfl)
theorem dJ2_grow_2_10 : decode cJ2_grow_2 10 = .ok (.aload_n 0, 1) := dk_42 (dk_at dksJ2_grow_2_0 10 rfl rfl)
theorem dJ2_grow_2_11 : decode cJ2_grow_2 11 = .ok (.getfield 9, 3) := dk_180 0 9 (dk_at dksJ2_grow_2_0 11 rfl rfl)
theorem dJ2_grow_2_14 : decode cJ2_grow_2 14 = .ok (.getstatic 39, 3) := dk_178 0 39 (dk_at dksJ2_grow_2_0 14 rfl rfl)
theorem dJ2_grow_2_17 : decode cJ2_grow_2 17 = .ok (.if_acmp .eq 28, 3) := dk_165 0 28 (dk_at dksJ2_grow_2_0 17 rfl rfl)
theorem dJ2_grow_2_20 : decode cJ2_grow_2 20 = .ok (.iload_n 2, 1) := dk_28 (dk_at dksJ2_grow_2_0 20 rfl rfl)
theorem dJ2_grow_2_21 : decode cJ2_grow_2 21 = .ok (.iload_n 1, 1) := dk_27 (dk_at dksJ2_grow_2_0 21 rfl rfl)
theorem dJ2_grow_2_22 : decode cJ2_grow_2 22 = .ok (.iload_n 2, 1) := dk_28 (dk_at dksJ2_grow_2_0 22 rfl rfl)
theorem dJ2_grow_2_23 : decode cJ2_grow_2 23 = .ok (.isub, 1) := dk_100 (dk_at dksJ2_grow_2_0 23 rfl rfl)
theorem dJ2_grow_2_24 : decode cJ2_grow_2 24 = .ok (.iload_n 2, 1) := dk_28 (dk_at dksJ2_grow_2_1 0 rfl rfl)
theorem dJ2_grow_2_25 : decode cJ2_grow_2 25 = .ok (.iconst 1, 1) := dk_4 (dk_at dksJ2_grow_2_1 1 rfl rfl)
theorem dJ2_grow_2_26 : decode cJ2_grow_2 26 = .ok (.ishr, 1) := dk_122 (dk_at dksJ2_grow_2_1 2 rfl rfl)
theorem dJ2_grow_2_27 : decode cJ2_grow_2 27 = .ok (.invokestatic 73, 3) := dk_184 0 73 (dk_at dksJ2_grow_2_1 3 rfl rfl)
theorem dJ2_grow_2_30 : decode cJ2_grow_2 30 = .ok (.istore_n 3, 1) := dk_62 (dk_at dksJ2_grow_2_1 6 rfl rfl)
theorem dJ2_grow_2_31 : decode cJ2_grow_2 31 = .ok (.aload_n 0, 1) := dk_42 (dk_at dksJ2_grow_2_1 7 rfl rfl)
theorem dJ2_grow_2_32 : decode cJ2_grow_2 32 = .ok (.aload_n 0, 1) := dk_42 (dk_at dksJ2_grow_2_1 8 rfl rfl)
theorem dJ2_grow_2_33 : decode cJ2_grow_2 33 = .ok (.getfield 9, 3) := dk_180 0 9 (dk_at dksJ2_grow_2_1 9 rfl rfl)
theorem dJ2_grow_2_36 : decode cJ2_grow_2 36 = .ok (.iload_n 3, 1) := dk_29 (dk_at dksJ2_grow_2_1 12 rfl rfl)
theorem dJ2_grow_2_37 : decode cJ2_grow_2 37 = .ok (.invokestatic 66, 3) := dk_184 0 66 (dk_at dksJ2_grow_2_1 13 rfl rfl)
theorem dJ2_grow_2_40 : decode cJ2_grow_2 40 = .ok (.dup_x1, 1) := dk_90 (dk_at dksJ2_grow_2_1 16 rfl rfl)
theorem dJ2_grow_2_41 : decode cJ2_grow_2 41 = .ok (.putfield 9, 3) := dk_181 0 9 (dk_at dksJ2_grow_2_1 17 rfl rfl)
theorem dJ2_grow_2_44 : decode cJ2_grow_2 44 = .ok (.areturn, 1) := dk_176 (dk_at dksJ2_grow_2_1 20 rfl rfl)
theorem dJ2_grow_2_45 : decode cJ2_grow_2 45 = .ok (.aload_n 0, 1) := dk_42 (dk_at dksJ2_grow_2_1 21 rfl rfl)
theorem dJ2_grow_2_46 : decode cJ2_grow_2 46 = .ok (.bipush 10, 2) := dk_16 10 (dk_at dksJ2_grow_2_1 22 rfl rfl)
theorem dJ2_grow_2_48 : decode cJ2_grow_2 48 = .ok (.iload_n 1, 1) := dk_27 (dk_at dksJ2_grow_2_2 0 rfl rfl)
theorem dJ2_grow_2_49 : decode cJ2_grow_2 49 = .ok (.invokestatic 79, 3) := dk_184 0 79 (dk_at dksJ2_grow_2_2 1 rfl rfl)
theorem dJ2_grow_2_52 : decode cJ2_grow_2 52 = .ok (.anewarray 7, 3) := dk_189 0 7 (dk_at dksJ2_grow_2_2 4 rfl rfl)
theorem dJ2_grow_2_55 : decode cJ2_grow_2 55 = .ok (.dup_x1, 1) := dk_90 (dk_at dksJ2_grow_2_2 7 rfl rfl)
theorem dJ2_grow_2_56 : decode cJ2_grow_2 56 = .ok (.putfield 9, 3) := dk_181 0 9 (dk_at dksJ2_grow_2_2 8 rfl rfl)
theorem dJ2_grow_2_59 : decode cJ2_grow_2 59 = .ok (.areturn, 1) := dk_176 (dk_at dksJ2_grow_2_2 11 rfl rfl)
abbrev cJ2_clear : ByteArray := prog_60_method_40_code
def yJ2_clear : MethodName := ⟨RJ2, "clear", "()V"⟩
def dkwJ2_clear_1 : List UInt8 := [181, 0, 48, 62, 29, 28, 162, 0, 13, 43, 29, 1, 83, 132, 3, 1, 167, 255, 244, 177]
abbrev dktJ2_clear_1 : List UInt8 := dkwJ2_clear_1 ++ []
def dkwJ2_clear_0 : List UInt8 := [42, 89, 180, 0, 63, 4, 96, 181, 0, 63, 42, 180, 0, 9, 76, 42, 180, 0, 48, 61, 42, 3, 90]
abbrev dktJ2_clear_0 : List UInt8 := dkwJ2_clear_0 ++ dktJ2_clear_1
theorem dksJ2_clear_0 : cJ2_clear.data.toList.drop 0 = dktJ2_clear_0 := by decide +kernel
theorem dksJ2_clear_1 : cJ2_clear.data.toList.drop 23 = dktJ2_clear_1 := dk_seg dksJ2_clear_0 23 rfl rfl
theorem dJ2_clear_0 : decode cJ2_clear 0 = .ok (.aload_n 0, 1) := dk_42 (dk_at dksJ2_clear_0 0 rfl rfl)
theorem dJ2_clear_1 : decode cJ2_clear 1 = .ok (.dup, 1) := dk_89 (dk_at dksJ2_clear_0 1 rfl rfl)
theorem dJ2_clear_2 : decode cJ2_clear 2 = .ok (.getfield 63, 3) := dk_180 0 63 (dk_at dksJ2_clear_0 2 rfl rfl)
theorem dJ2_clear_5 : decode cJ2_clear 5 = .ok (.iconst 1, 1) := dk_4 (dk_at dksJ2_clear_0 5 rfl rfl)
theorem dJ2_clear_6 : decode cJ2_clear 6 = .ok (.iadd, 1) := dk_96 (dk_at dksJ2_clear_0 6 rfl rfl)
theorem dJ2_clear_7 : decode cJ2_clear 7 = .ok (.putfield 63, 3) := dk_181 0 63 (dk_at dksJ2_clear_0 7 rfl rfl)
theorem dJ2_clear_10 : decode cJ2_clear 10 = .ok (.aload_n 0, 1) := dk_42 (dk_at dksJ2_clear_0 10 rfl rfl)
theorem dJ2_clear_11 : decode cJ2_clear 11 = .ok (.getfield 9, 3) := dk_180 0 9 (dk_at dksJ2_clear_0 11 rfl rfl)
theorem dJ2_clear_14 : decode cJ2_clear 14 = .ok (.astore_n 1, 1) := dk_76 (dk_at dksJ2_clear_0 14 rfl rfl)
theorem dJ2_clear_15 : decode cJ2_clear 15 = .ok (.aload_n 0, 1) := dk_42 (dk_at dksJ2_clear_0 15 rfl rfl)
theorem dJ2_clear_16 : decode cJ2_clear 16 = .ok (.getfield 48, 3) := dk_180 0 48 (dk_at dksJ2_clear_0 16 rfl rfl)
theorem dJ2_clear_19 : decode cJ2_clear 19 = .ok (.istore_n 2, 1) := dk_61 (dk_at dksJ2_clear_0 19 rfl rfl)
theorem dJ2_clear_20 : decode cJ2_clear 20 = .ok (.aload_n 0, 1) := dk_42 (dk_at dksJ2_clear_0 20 rfl rfl)
theorem dJ2_clear_21 : decode cJ2_clear 21 = .ok (.iconst 0, 1) := dk_3 (dk_at dksJ2_clear_0 21 rfl rfl)
theorem dJ2_clear_22 : decode cJ2_clear 22 = .ok (.dup_x1, 1) := dk_90 (dk_at dksJ2_clear_0 22 rfl rfl)
theorem dJ2_clear_23 : decode cJ2_clear 23 = .ok (.putfield 48, 3) := dk_181 0 48 (dk_at dksJ2_clear_1 0 rfl rfl)
theorem dJ2_clear_26 : decode cJ2_clear 26 = .ok (.istore_n 3, 1) := dk_62 (dk_at dksJ2_clear_1 3 rfl rfl)
theorem dJ2_clear_27 : decode cJ2_clear 27 = .ok (.iload_n 3, 1) := dk_29 (dk_at dksJ2_clear_1 4 rfl rfl)
theorem dJ2_clear_28 : decode cJ2_clear 28 = .ok (.iload_n 2, 1) := dk_28 (dk_at dksJ2_clear_1 5 rfl rfl)
theorem dJ2_clear_29 : decode cJ2_clear 29 = .ok (.if_icmp .ge 13, 3) := dk_162 0 13 (dk_at dksJ2_clear_1 6 rfl rfl)
theorem dJ2_clear_32 : decode cJ2_clear 32 = .ok (.aload_n 1, 1) := dk_43 (dk_at dksJ2_clear_1 9 rfl rfl)
theorem dJ2_clear_33 : decode cJ2_clear 33 = .ok (.iload_n 3, 1) := dk_29 (dk_at dksJ2_clear_1 10 rfl rfl)
theorem dJ2_clear_34 : decode cJ2_clear 34 = .ok (.aconst_null, 1) := dk_1 (dk_at dksJ2_clear_1 11 rfl rfl)
theorem dJ2_clear_35 : decode cJ2_clear 35 = .ok (.aastore, 1) := dk_83 (dk_at dksJ2_clear_1 12 rfl rfl)
theorem dJ2_clear_36 : decode cJ2_clear 36 = .ok (.iinc 3 1, 3) := dk_132 3 1 (dk_at dksJ2_clear_1 13 rfl rfl)
theorem dJ2_clear_39 : decode cJ2_clear 39 = .ok (.goto (-12), 3) := dk_167 255 244 (dk_at dksJ2_clear_1 16 rfl rfl)
theorem dJ2_clear_42 : decode cJ2_clear 42 = .ok (.return_, 1) := dk_177 (dk_at dksJ2_clear_1 19 rfl rfl)
abbrev cJ2_remove : ByteArray := prog_60_method_29_code
def yJ2_remove : MethodName := ⟨RJ2, "remove", "(I)Ljava/lang/Object;"⟩
def dkwJ2_remove_1 : List UInt8 := [45, 176]
abbrev dktJ2_remove_1 : List UInt8 := dkwJ2_remove_1 ++ []
def dkwJ2_remove_0 : List UInt8 := [27, 42, 180, 0, 48, 184, 0, 118, 87, 42, 180, 0, 9, 77, 44, 27, 50, 78, 42, 44, 27, 182, 0, 144]
abbrev dktJ2_remove_0 : List UInt8 := dkwJ2_remove_0 ++ dktJ2_remove_1
theorem dksJ2_remove_0 : cJ2_remove.data.toList.drop 0 = dktJ2_remove_0 := by decide +kernel
theorem dksJ2_remove_1 : cJ2_remove.data.toList.drop 24 = dktJ2_remove_1 := dk_seg dksJ2_remove_0 24 rfl rfl
theorem dJ2_remove_0 : decode cJ2_remove 0 = .ok (.iload_n 1, 1) := dk_27 (dk_at dksJ2_remove_0 0 rfl rfl)
theorem dJ2_remove_1 : decode cJ2_remove 1 = .ok (.aload_n 0, 1) := dk_42 (dk_at dksJ2_remove_0 1 rfl rfl)
theorem dJ2_remove_2 : decode cJ2_remove 2 = .ok (.getfield 48, 3) := dk_180 0 48 (dk_at dksJ2_remove_0 2 rfl rfl)
theorem dJ2_remove_5 : decode cJ2_remove 5 = .ok (.invokestatic 118, 3) := dk_184 0 118 (dk_at dksJ2_remove_0 5 rfl rfl)
theorem dJ2_remove_8 : decode cJ2_remove 8 = .ok (.pop, 1) := dk_87 (dk_at dksJ2_remove_0 8 rfl rfl)
theorem dJ2_remove_9 : decode cJ2_remove 9 = .ok (.aload_n 0, 1) := dk_42 (dk_at dksJ2_remove_0 9 rfl rfl)
theorem dJ2_remove_10 : decode cJ2_remove 10 = .ok (.getfield 9, 3) := dk_180 0 9 (dk_at dksJ2_remove_0 10 rfl rfl)
theorem dJ2_remove_13 : decode cJ2_remove 13 = .ok (.astore_n 2, 1) := dk_77 (dk_at dksJ2_remove_0 13 rfl rfl)
theorem dJ2_remove_14 : decode cJ2_remove 14 = .ok (.aload_n 2, 1) := dk_44 (dk_at dksJ2_remove_0 14 rfl rfl)
theorem dJ2_remove_15 : decode cJ2_remove 15 = .ok (.iload_n 1, 1) := dk_27 (dk_at dksJ2_remove_0 15 rfl rfl)
theorem dJ2_remove_16 : decode cJ2_remove 16 = .ok (.aaload, 1) := dk_50 (dk_at dksJ2_remove_0 16 rfl rfl)
theorem dJ2_remove_17 : decode cJ2_remove 17 = .ok (.astore_n 3, 1) := dk_78 (dk_at dksJ2_remove_0 17 rfl rfl)
theorem dJ2_remove_18 : decode cJ2_remove 18 = .ok (.aload_n 0, 1) := dk_42 (dk_at dksJ2_remove_0 18 rfl rfl)
theorem dJ2_remove_19 : decode cJ2_remove 19 = .ok (.aload_n 2, 1) := dk_44 (dk_at dksJ2_remove_0 19 rfl rfl)
theorem dJ2_remove_20 : decode cJ2_remove 20 = .ok (.iload_n 1, 1) := dk_27 (dk_at dksJ2_remove_0 20 rfl rfl)
theorem dJ2_remove_21 : decode cJ2_remove 21 = .ok (.invokevirtual 144, 3) := dk_182 0 144 (dk_at dksJ2_remove_0 21 rfl rfl)
theorem dJ2_remove_24 : decode cJ2_remove 24 = .ok (.aload_n 3, 1) := dk_45 (dk_at dksJ2_remove_1 0 rfl rfl)
theorem dJ2_remove_25 : decode cJ2_remove 25 = .ok (.areturn, 1) := dk_176 (dk_at dksJ2_remove_1 1 rfl rfl)
abbrev cJ2_fastRemove : ByteArray := prog_60_method_39_code
def yJ2_fastRemove : MethodName := ⟨RJ2, "fastRemove", "([Ljava/lang/Object;I)V"⟩
def dkwJ2_fastRemove_1 : List UInt8 := [4, 96, 43, 28, 29, 28, 100, 184, 0, 112, 43, 42, 29, 90, 181, 0, 48, 1, 83, 177]
abbrev dktJ2_fastRemove_1 : List UInt8 := dkwJ2_fastRemove_1 ++ []
def dkwJ2_fastRemove_0 : List UInt8 := [42, 89, 180, 0, 63, 4, 96, 181, 0, 63, 42, 180, 0, 48, 4, 100, 89, 62, 28, 164, 0, 15, 43, 28]
abbrev dktJ2_fastRemove_0 : List UInt8 := dkwJ2_fastRemove_0 ++ dktJ2_fastRemove_1
theorem dksJ2_fastRemove_0 : cJ2_fastRemove.data.toList.drop 0 = dktJ2_fastRemove_0 := by decide +kernel
theorem dksJ2_fastRemove_1 : cJ2_fastRemove.data.toList.drop 24 = dktJ2_fastRemove_1 := dk_seg dksJ2_fastRemove_0 24 rfl rfl
theorem dJ2_fastRemove_0 : decode cJ2_fastRemove 0 = .ok (.aload_n 0, 1) := dk_42 (dk_at dksJ2_fastRemove_0 0 rfl rfl)
theorem dJ2_fastRemove_1 : decode cJ2_fastRemove 1 = .ok (.dup, 1) := dk_89 (dk_at dksJ2_fastRemove_0 1 rfl rfl)
theorem dJ2_fastRemove_2 : decode cJ2_fastRemove 2 = .ok (.getfield 63, 3) := dk_180 0 63 (dk_at dksJ2_fastRemove_0 2 rfl rfl)
theorem dJ2_fastRemove_5 : decode cJ2_fastRemove 5 = .ok (.iconst 1, 1) := dk_4 (dk_at dksJ2_fastRemove_0 5 rfl rfl)
theorem dJ2_fastRemove_6 : decode cJ2_fastRemove 6 = .ok (.iadd, 1) := dk_96 (dk_at dksJ2_fastRemove_0 6 rfl rfl)
theorem dJ2_fastRemove_7 : decode cJ2_fastRemove 7 = .ok (.putfield 63, 3) := dk_181 0 63 (dk_at dksJ2_fastRemove_0 7 rfl rfl)
theorem dJ2_fastRemove_10 : decode cJ2_fastRemove 10 = .ok (.aload_n 0, 1) := dk_42 (dk_at dksJ2_fastRemove_0 10 rfl rfl)
theorem dJ2_fastRemove_11 : decode cJ2_fastRemove 11 = .ok (.getfield 48, 3) := dk_180 0 48 (dk_at dksJ2_fastRemove_0 11 rfl rfl)
theorem dJ2_fastRemove_14 : decode cJ2_fastRemove 14 = .ok (.iconst 1, 1) := dk_4 (dk_at dksJ2_fastRemove_0 14 rfl rfl)
theorem dJ2_fastRemove_15 : decode cJ2_fastRemove 15 = .ok (.isub, 1) := dk_100 (dk_at dksJ2_fastRemove_0 15 rfl rfl)
theorem dJ2_fastRemove_16 : decode cJ2_fastRemove 16 = .ok (.dup, 1) := dk_89 (dk_at dksJ2_fastRemove_0 16 rfl rfl)
theorem dJ2_fastRemove_17 : decode cJ2_fastRemove 17 = .ok (.istore_n 3, 1) := dk_62 (dk_at dksJ2_fastRemove_0 17 rfl rfl)
theorem dJ2_fastRemove_18 : decode cJ2_fastRemove 18 = .ok (.iload_n 2, 1) := dk_28 (dk_at dksJ2_fastRemove_0 18 rfl rfl)
theorem dJ2_fastRemove_19 : decode cJ2_fastRemove 19 = .ok (.if_icmp .le 15, 3) := dk_164 0 15 (dk_at dksJ2_fastRemove_0 19 rfl rfl)
theorem dJ2_fastRemove_22 : decode cJ2_fastRemove 22 = .ok (.aload_n 1, 1) := dk_43 (dk_at dksJ2_fastRemove_0 22 rfl rfl)
theorem dJ2_fastRemove_23 : decode cJ2_fastRemove 23 = .ok (.iload_n 2, 1) := dk_28 (dk_at dksJ2_fastRemove_0 23 rfl rfl)
theorem dJ2_fastRemove_24 : decode cJ2_fastRemove 24 = .ok (.iconst 1, 1) := dk_4 (dk_at dksJ2_fastRemove_1 0 rfl rfl)
theorem dJ2_fastRemove_25 : decode cJ2_fastRemove 25 = .ok (.iadd, 1) := dk_96 (dk_at dksJ2_fastRemove_1 1 rfl rfl)
theorem dJ2_fastRemove_26 : decode cJ2_fastRemove 26 = .ok (.aload_n 1, 1) := dk_43 (dk_at dksJ2_fastRemove_1 2 rfl rfl)
theorem dJ2_fastRemove_27 : decode cJ2_fastRemove 27 = .ok (.iload_n 2, 1) := dk_28 (dk_at dksJ2_fastRemove_1 3 rfl rfl)
theorem dJ2_fastRemove_28 : decode cJ2_fastRemove 28 = .ok (.iload_n 3, 1) := dk_29 (dk_at dksJ2_fastRemove_1 4 rfl rfl)
theorem dJ2_fastRemove_29 : decode cJ2_fastRemove 29 = .ok (.iload_n 2, 1) := dk_28 (dk_at dksJ2_fastRemove_1 5 rfl rfl)
theorem dJ2_fastRemove_30 : decode cJ2_fastRemove 30 = .ok (.isub, 1) := dk_100 (dk_at dksJ2_fastRemove_1 6 rfl rfl)
theorem dJ2_fastRemove_31 : decode cJ2_fastRemove 31 = .ok (.invokestatic 112, 3) := dk_184 0 112 (dk_at dksJ2_fastRemove_1 7 rfl rfl)
theorem dJ2_fastRemove_34 : decode cJ2_fastRemove 34 = .ok (.aload_n 1, 1) := dk_43 (dk_at dksJ2_fastRemove_1 10 rfl rfl)
theorem dJ2_fastRemove_35 : decode cJ2_fastRemove 35 = .ok (.aload_n 0, 1) := dk_42 (dk_at dksJ2_fastRemove_1 11 rfl rfl)
theorem dJ2_fastRemove_36 : decode cJ2_fastRemove 36 = .ok (.iload_n 3, 1) := dk_29 (dk_at dksJ2_fastRemove_1 12 rfl rfl)
theorem dJ2_fastRemove_37 : decode cJ2_fastRemove 37 = .ok (.dup_x1, 1) := dk_90 (dk_at dksJ2_fastRemove_1 13 rfl rfl)
theorem dJ2_fastRemove_38 : decode cJ2_fastRemove 38 = .ok (.putfield 48, 3) := dk_181 0 48 (dk_at dksJ2_fastRemove_1 14 rfl rfl)
theorem dJ2_fastRemove_41 : decode cJ2_fastRemove 41 = .ok (.aconst_null, 1) := dk_1 (dk_at dksJ2_fastRemove_1 17 rfl rfl)
theorem dJ2_fastRemove_42 : decode cJ2_fastRemove 42 = .ok (.aastore, 1) := dk_83 (dk_at dksJ2_fastRemove_1 18 rfl rfl)
theorem dJ2_fastRemove_43 : decode cJ2_fastRemove 43 = .ok (.return_, 1) := dk_177 (dk_at dksJ2_fastRemove_1 19 rfl rfl)
abbrev cJ2_isEmpty : ByteArray := prog_60_method_9_code
def yJ2_isEmpty : MethodName := ⟨RJ2, "isEmpty", "()Z"⟩
def dkwJ2_isEmpty_0 : List UInt8 := [42, 180, 0, 48, 154, 0, 7, 4, 167, 0, 4, 3, 172]
abbrev dktJ2_isEmpty_0 : List UInt8 := dkwJ2_isEmpty_0 ++ []
theorem dksJ2_isEmpty_0 : cJ2_isEmpty.data.toList.drop 0 = dktJ2_isEmpty_0 := by decide +kernel
theorem dJ2_isEmpty_0 : decode cJ2_isEmpty 0 = .ok (.aload_n 0, 1) := dk_42 (dk_at dksJ2_isEmpty_0 0 rfl rfl)
theorem dJ2_isEmpty_1 : decode cJ2_isEmpty 1 = .ok (.getfield 48, 3) := dk_180 0 48 (dk_at dksJ2_isEmpty_0 1 rfl rfl)
theorem dJ2_isEmpty_4 : decode cJ2_isEmpty 4 = .ok (.ifCond .ne 7, 3) := dk_154 0 7 (dk_at dksJ2_isEmpty_0 4 rfl rfl)
theorem dJ2_isEmpty_7 : decode cJ2_isEmpty 7 = .ok (.iconst 1, 1) := dk_4 (dk_at dksJ2_isEmpty_0 7 rfl rfl)
theorem dJ2_isEmpty_8 : decode cJ2_isEmpty 8 = .ok (.goto 4, 3) := dk_167 0 4 (dk_at dksJ2_isEmpty_0 8 rfl rfl)
theorem dJ2_isEmpty_11 : decode cJ2_isEmpty 11 = .ok (.iconst 0, 1) := dk_3 (dk_at dksJ2_isEmpty_0 11 rfl rfl)
theorem dJ2_isEmpty_12 : decode cJ2_isEmpty 12 = .ok (.ireturn, 1) := dk_172 (dk_at dksJ2_isEmpty_0 12 rfl rfl)
theorem q135 : (Jvm.Cond.initialized "java/util/ArrayList") ∈ lw_all := lw_g (lw_at lw_m1 7 rfl) rfl
theorem q329 : (Jvm.Cond.instantiable "java/util/ArrayList" (3 : Nat)) ∈ lw_all := lw_g (lw_at lw_m1 201 rfl) rfl
theorem q331 : (Jvm.Cond.instanceMethod ({ cls := "java/util/ArrayList", name := "<init>", desc := "(I)V" } : Jvm.MethodName)) ∈ lw_all := lw_g (lw_at lw_m1 203 rfl) rfl
theorem q332 : (Jvm.Cond.code ({ cls := "java/util/ArrayList", name := "<init>", desc := "(I)V" } : Jvm.MethodName) prog_60_method_1_code (2 : Nat) (Option.none : Option Jvm.ClassFile.FieldType)) ∈ lw_all := lw_g (lw_at lw_m1 204 rfl) rfl
theorem q333 : (Jvm.Cond.methodLink "java/util/ArrayList" (1 : Nat) ({ cls := "java/util/AbstractList", name := "<init>", desc := "()V" } : Jvm.MethodName)) ∈ lw_all := lw_g (lw_at lw_m1 205 rfl) rfl
theorem q340 : (Jvm.Cond.classLink "java/util/ArrayList" (7 : Nat) "java/lang/Object") ∈ lw_all := lw_g (lw_at lw_m1 212 rfl) rfl
theorem q342 : (Jvm.Cond.fieldLink "java/util/ArrayList" (15 : Nat) "java/util/ArrayList" "EMPTY_ELEMENTDATA" "[Ljava/lang/Object;") ∈ lw_all := lw_g (lw_at lw_m1 214 rfl) rfl
theorem q343 : (Jvm.Cond.laysStatic "java/util/ArrayList" "EMPTY_ELEMENTDATA" "[Ljava/lang/Object;") ∈ lw_tbl := lw_at lw_m1 215 rfl
theorem q344 : (Jvm.Cond.fieldLink "java/util/ArrayList" (9 : Nat) "java/util/ArrayList" "elementData" "[Ljava/lang/Object;") ∈ lw_all := lw_g (lw_at lw_m1 216 rfl) rfl
theorem q345 : (Jvm.Cond.fieldLink "java/util/ArrayList" (48 : Nat) "java/util/ArrayList" "size" "I") ∈ lw_all := lw_g (lw_at lw_m1 217 rfl) rfl
theorem q347 : (Jvm.Cond.fieldLink "java/util/ArrayList" (63 : Nat) "java/util/ArrayList" "modCount" "I") ∈ lw_all := lw_g (lw_at lw_m1 219 rfl) rfl
theorem q348 : (Jvm.Cond.sameField "java/util/ArrayList" "java/util/AbstractList" "modCount" "I") ∈ lw_all := lw_g (lw_at lw_m1 220 rfl) rfl
theorem q349 : (Jvm.Cond.lays "java/util/ArrayList" "java/util/ArrayList" "elementData" "[Ljava/lang/Object;") ∈ lw_all := lw_g (lw_at lw_m1 221 rfl) rfl
theorem q350 : (Jvm.Cond.soleField "java/util/ArrayList" "elementData") ∈ lw_all := lw_g (lw_at lw_m1 222 rfl) rfl
theorem q351 : (Jvm.Cond.lays "java/util/ArrayList" "java/util/ArrayList" "size" "I") ∈ lw_all := lw_g (lw_at lw_m1 223 rfl) rfl
theorem q352 : (Jvm.Cond.soleField "java/util/ArrayList" "size") ∈ lw_all := lw_g (lw_at lw_m1 224 rfl) rfl
theorem q353 : (Jvm.Cond.lays "java/util/ArrayList" "java/util/AbstractList" "modCount" "I") ∈ lw_all := lw_g (lw_at lw_m1 225 rfl) rfl
theorem q355 : (Jvm.Cond.superclass "java/util/ArrayList" "java/util/AbstractList") ∈ lw_all := lw_g (lw_at lw_m1 227 rfl) rfl
theorem q412 : (Jvm.Cond.instanceMethod ({ cls := "java/util/ArrayList", name := "size", desc := "()I" } : Jvm.MethodName)) ∈ lw_all := lw_g (lw_at lw_m2 44 rfl) rfl
theorem q413 : (Jvm.Cond.selects "java/util/ArrayList" ({ cls := "java/util/ArrayList", name := "size", desc := "()I" } : Jvm.MethodName) ({ cls := "java/util/ArrayList", name := "size", desc := "()I" } : Jvm.MethodName)) ∈ lw_all := lw_g (lw_at lw_m2 45 rfl) rfl
theorem q414 : (Jvm.Cond.code ({ cls := "java/util/ArrayList", name := "size", desc := "()I" } : Jvm.MethodName) prog_60_method_8_code (1 : Nat) (Option.some Jvm.ClassFile.FieldType.int)) ∈ lw_all := lw_g (lw_at lw_m2 46 rfl) rfl
theorem q416 : (Jvm.Cond.instanceMethod ({ cls := "java/util/ArrayList", name := "get", desc := "(I)Ljava/lang/Object;" } : Jvm.MethodName)) ∈ lw_all := lw_g (lw_at lw_m2 48 rfl) rfl
theorem q417 : (Jvm.Cond.selects "java/util/ArrayList" ({ cls := "java/util/ArrayList", name := "get", desc := "(I)Ljava/lang/Object;" } : Jvm.MethodName) ({ cls := "java/util/ArrayList", name := "get", desc := "(I)Ljava/lang/Object;" } : Jvm.MethodName)) ∈ lw_all := lw_g (lw_at lw_m2 49 rfl) rfl
theorem q418 : (Jvm.Cond.code ({ cls := "java/util/ArrayList", name := "get", desc := "(I)Ljava/lang/Object;" } : Jvm.MethodName) prog_60_method_20_code (2 : Nat) (Option.some (Jvm.ClassFile.FieldType.object "java/lang/Object"))) ∈ lw_all := lw_g (lw_at lw_m2 50 rfl) rfl
theorem q419 : (Jvm.Cond.methodLink "java/util/ArrayList" (118 : Nat) ({ cls := "java/util/Objects", name := "checkIndex", desc := "(II)I" } : Jvm.MethodName)) ∈ lw_all := lw_g (lw_at lw_m2 51 rfl) rfl
theorem q425 : (Jvm.Cond.methodLink "java/util/ArrayList" (123 : Nat) ({ cls := "java/util/ArrayList", name := "elementData", desc := "(I)Ljava/lang/Object;" } : Jvm.MethodName)) ∈ lw_all := lw_g (lw_at lw_m2 57 rfl) rfl
theorem q426 : (Jvm.Cond.instanceMethod ({ cls := "java/util/ArrayList", name := "elementData", desc := "(I)Ljava/lang/Object;" } : Jvm.MethodName)) ∈ lw_all := lw_g (lw_at lw_m2 58 rfl) rfl
theorem q427 : (Jvm.Cond.selects "java/util/ArrayList" ({ cls := "java/util/ArrayList", name := "elementData", desc := "(I)Ljava/lang/Object;" } : Jvm.MethodName) ({ cls := "java/util/ArrayList", name := "elementData", desc := "(I)Ljava/lang/Object;" } : Jvm.MethodName)) ∈ lw_all := lw_g (lw_at lw_m2 59 rfl) rfl
theorem q428 : (Jvm.Cond.code ({ cls := "java/util/ArrayList", name := "elementData", desc := "(I)Ljava/lang/Object;" } : Jvm.MethodName) prog_60_method_18_code (2 : Nat) (Option.some (Jvm.ClassFile.FieldType.object "java/lang/Object"))) ∈ lw_all := lw_g (lw_at lw_m2 60 rfl) rfl
theorem q434 : (Jvm.Cond.instanceMethod ({ cls := "java/util/ArrayList", name := "<init>", desc := "()V" } : Jvm.MethodName)) ∈ lw_all := lw_g (lw_at lw_m2 66 rfl) rfl
theorem q435 : (Jvm.Cond.code ({ cls := "java/util/ArrayList", name := "<init>", desc := "()V" } : Jvm.MethodName) prog_60_method_2_code (1 : Nat) (Option.none : Option Jvm.ClassFile.FieldType)) ∈ lw_all := lw_g (lw_at lw_m2 67 rfl) rfl
theorem q436 : (Jvm.Cond.fieldLink "java/util/ArrayList" (39 : Nat) "java/util/ArrayList" "DEFAULTCAPACITY_EMPTY_ELEMENTDATA" "[Ljava/lang/Object;") ∈ lw_all := lw_g (lw_at lw_m2 68 rfl) rfl
theorem q437 : (Jvm.Cond.laysStatic "java/util/ArrayList" "DEFAULTCAPACITY_EMPTY_ELEMENTDATA" "[Ljava/lang/Object;") ∈ lw_tbl := lw_at lw_m2 69 rfl
theorem q846 : (Jvm.Cond.instanceMethod ({ cls := "java/util/ArrayList", name := "add", desc := "(Ljava/lang/Object;)Z" } : Jvm.MethodName)) ∈ lw_all := lw_g (lw_at lw_m3 238 rfl) rfl
theorem q847 : (Jvm.Cond.selects "java/util/ArrayList" ({ cls := "java/util/ArrayList", name := "add", desc := "(Ljava/lang/Object;)Z" } : Jvm.MethodName) ({ cls := "java/util/ArrayList", name := "add", desc := "(Ljava/lang/Object;)Z" } : Jvm.MethodName)) ∈ lw_all := lw_g (lw_at lw_m3 239 rfl) rfl
theorem q848 : (Jvm.Cond.code ({ cls := "java/util/ArrayList", name := "add", desc := "(Ljava/lang/Object;)Z" } : Jvm.MethodName) prog_60_method_25_code (2 : Nat) (Option.some Jvm.ClassFile.FieldType.boolean)) ∈ lw_all := lw_g (lw_at lw_m4 0 rfl) rfl
theorem q849 : (Jvm.Cond.methodLink "java/util/ArrayList" (131 : Nat) ({ cls := "java/util/ArrayList", name := "add", desc := "(Ljava/lang/Object;[Ljava/lang/Object;I)V" } : Jvm.MethodName)) ∈ lw_all := lw_g (lw_at lw_m4 1 rfl) rfl
theorem q850 : (Jvm.Cond.privateMethod ({ cls := "java/util/ArrayList", name := "add", desc := "(Ljava/lang/Object;[Ljava/lang/Object;I)V" } : Jvm.MethodName)) ∈ lw_tbl := lw_at lw_m4 2 rfl
theorem q851 : (Jvm.Cond.instanceMethod ({ cls := "java/util/ArrayList", name := "add", desc := "(Ljava/lang/Object;[Ljava/lang/Object;I)V" } : Jvm.MethodName)) ∈ lw_all := lw_g (lw_at lw_m4 3 rfl) rfl
theorem q852 : (Jvm.Cond.code ({ cls := "java/util/ArrayList", name := "add", desc := "(Ljava/lang/Object;[Ljava/lang/Object;I)V" } : Jvm.MethodName) prog_60_method_24_code (4 : Nat) (Option.none : Option Jvm.ClassFile.FieldType)) ∈ lw_all := lw_g (lw_at lw_m4 4 rfl) rfl
theorem q853 : (Jvm.Cond.methodLink "java/util/ArrayList" (129 : Nat) ({ cls := "java/util/ArrayList", name := "grow", desc := "()[Ljava/lang/Object;" } : Jvm.MethodName)) ∈ lw_all := lw_g (lw_at lw_m4 5 rfl) rfl
theorem q854 : (Jvm.Cond.privateMethod ({ cls := "java/util/ArrayList", name := "grow", desc := "()[Ljava/lang/Object;" } : Jvm.MethodName)) ∈ lw_tbl := lw_at lw_m4 6 rfl
theorem q855 : (Jvm.Cond.instanceMethod ({ cls := "java/util/ArrayList", name := "grow", desc := "()[Ljava/lang/Object;" } : Jvm.MethodName)) ∈ lw_all := lw_g (lw_at lw_m4 7 rfl) rfl
theorem q856 : (Jvm.Cond.code ({ cls := "java/util/ArrayList", name := "grow", desc := "()[Ljava/lang/Object;" } : Jvm.MethodName) prog_60_method_7_code (1 : Nat) (Option.some (Jvm.ClassFile.FieldType.array (Jvm.ClassFile.FieldType.object "java/lang/Object")))) ∈ lw_all := lw_g (lw_at lw_m4 8 rfl) rfl
theorem q857 : (Jvm.Cond.methodLink "java/util/ArrayList" (69 : Nat) ({ cls := "java/util/ArrayList", name := "grow", desc := "(I)[Ljava/lang/Object;" } : Jvm.MethodName)) ∈ lw_all := lw_g (lw_at lw_m4 9 rfl) rfl
theorem q858 : (Jvm.Cond.privateMethod ({ cls := "java/util/ArrayList", name := "grow", desc := "(I)[Ljava/lang/Object;" } : Jvm.MethodName)) ∈ lw_tbl := lw_at lw_m4 10 rfl
theorem q859 : (Jvm.Cond.instanceMethod ({ cls := "java/util/ArrayList", name := "grow", desc := "(I)[Ljava/lang/Object;" } : Jvm.MethodName)) ∈ lw_all := lw_g (lw_at lw_m4 11 rfl) rfl
theorem q860 : (Jvm.Cond.code ({ cls := "java/util/ArrayList", name := "grow", desc := "(I)[Ljava/lang/Object;" } : Jvm.MethodName) prog_60_method_6_code (4 : Nat) (Option.some (Jvm.ClassFile.FieldType.array (Jvm.ClassFile.FieldType.object "java/lang/Object")))) ∈ lw_all := lw_g (lw_at lw_m4 12 rfl) rfl
theorem q861 : (Jvm.Cond.methodLink "java/util/ArrayList" (73 : Nat) ({ cls := "jdk/internal/util/ArraysSupport", name := "newLength", desc := "(III)I" } : Jvm.MethodName)) ∈ lw_all := lw_g (lw_at lw_m4 13 rfl) rfl
theorem q869 : (Jvm.Cond.methodLink "java/util/ArrayList" (66 : Nat) ({ cls := "java/util/Arrays", name := "copyOf", desc := "([Ljava/lang/Object;I)[Ljava/lang/Object;" } : Jvm.MethodName)) ∈ lw_all := lw_g (lw_at lw_m4 21 rfl) rfl
theorem q909 : (Jvm.Cond.selects "java/util/ArrayList" ({ cls := "java/lang/Object", name := "getClass", desc := "()Ljava/lang/Class;" } : Jvm.MethodName) ({ cls := "java/lang/Object", name := "getClass", desc := "()Ljava/lang/Class;" } : Jvm.MethodName)) ∈ lw_all := lw_g (lw_at lw_m4 61 rfl) rfl
theorem q921 : (Jvm.Cond.methodLink "java/util/ArrayList" (79 : Nat) ({ cls := "java/lang/Math", name := "max", desc := "(II)I" } : Jvm.MethodName)) ∈ lw_all := lw_g (lw_at lw_m4 73 rfl) rfl
theorem q1240 : (Jvm.Cond.instanceMethod ({ cls := "java/util/ArrayList", name := "clear", desc := "()V" } : Jvm.MethodName)) ∈ lw_all := lw_g (lw_at lw_m5 152 rfl) rfl
theorem q1241 : (Jvm.Cond.selects "java/util/ArrayList" ({ cls := "java/util/ArrayList", name := "clear", desc := "()V" } : Jvm.MethodName) ({ cls := "java/util/ArrayList", name := "clear", desc := "()V" } : Jvm.MethodName)) ∈ lw_all := lw_g (lw_at lw_m5 153 rfl) rfl
theorem q1242 : (Jvm.Cond.code ({ cls := "java/util/ArrayList", name := "clear", desc := "()V" } : Jvm.MethodName) prog_60_method_40_code (4 : Nat) (Option.none : Option Jvm.ClassFile.FieldType)) ∈ lw_all := lw_g (lw_at lw_m5 154 rfl) rfl
theorem q1463 : (Jvm.Cond.instanceMethod ({ cls := "java/util/ArrayList", name := "remove", desc := "(I)Ljava/lang/Object;" } : Jvm.MethodName)) ∈ lw_all := lw_g (lw_at lw_m6 135 rfl) rfl
theorem q1464 : (Jvm.Cond.selects "java/util/ArrayList" ({ cls := "java/util/ArrayList", name := "remove", desc := "(I)Ljava/lang/Object;" } : Jvm.MethodName) ({ cls := "java/util/ArrayList", name := "remove", desc := "(I)Ljava/lang/Object;" } : Jvm.MethodName)) ∈ lw_all := lw_g (lw_at lw_m6 136 rfl) rfl
theorem q1465 : (Jvm.Cond.code ({ cls := "java/util/ArrayList", name := "remove", desc := "(I)Ljava/lang/Object;" } : Jvm.MethodName) prog_60_method_29_code (4 : Nat) (Option.some (Jvm.ClassFile.FieldType.object "java/lang/Object"))) ∈ lw_all := lw_g (lw_at lw_m6 137 rfl) rfl
theorem q1466 : (Jvm.Cond.methodLink "java/util/ArrayList" (144 : Nat) ({ cls := "java/util/ArrayList", name := "fastRemove", desc := "([Ljava/lang/Object;I)V" } : Jvm.MethodName)) ∈ lw_all := lw_g (lw_at lw_m6 138 rfl) rfl
theorem q1467 : (Jvm.Cond.privateMethod ({ cls := "java/util/ArrayList", name := "fastRemove", desc := "([Ljava/lang/Object;I)V" } : Jvm.MethodName)) ∈ lw_tbl := lw_at lw_m6 139 rfl
theorem q1468 : (Jvm.Cond.instanceMethod ({ cls := "java/util/ArrayList", name := "fastRemove", desc := "([Ljava/lang/Object;I)V" } : Jvm.MethodName)) ∈ lw_all := lw_g (lw_at lw_m6 140 rfl) rfl
theorem q1469 : (Jvm.Cond.code ({ cls := "java/util/ArrayList", name := "fastRemove", desc := "([Ljava/lang/Object;I)V" } : Jvm.MethodName) prog_60_method_39_code (4 : Nat) (Option.none : Option Jvm.ClassFile.FieldType)) ∈ lw_all := lw_g (lw_at lw_m6 141 rfl) rfl
theorem q1470 : (Jvm.Cond.methodLink "java/util/ArrayList" (112 : Nat) ({ cls := "java/lang/System", name := "arraycopy", desc := "(Ljava/lang/Object;ILjava/lang/Object;II)V" } : Jvm.MethodName)) ∈ lw_all := lw_g (lw_at lw_m6 142 rfl) rfl
theorem q1541 : (Jvm.Cond.instanceMethod ({ cls := "java/util/ArrayList", name := "isEmpty", desc := "()Z" } : Jvm.MethodName)) ∈ lw_all := lw_g (lw_at lw_m6 213 rfl) rfl
theorem q1542 : (Jvm.Cond.selects "java/util/ArrayList" ({ cls := "java/util/ArrayList", name := "isEmpty", desc := "()Z" } : Jvm.MethodName) ({ cls := "java/util/ArrayList", name := "isEmpty", desc := "()Z" } : Jvm.MethodName)) ∈ lw_all := lw_g (lw_at lw_m6 214 rfl) rfl
theorem q1543 : (Jvm.Cond.code ({ cls := "java/util/ArrayList", name := "isEmpty", desc := "()Z" } : Jvm.MethodName) prog_60_method_9_code (1 : Nat) (Option.some Jvm.ClassFile.FieldType.boolean)) ∈ lw_all := lw_g (lw_at lw_m6 215 rfl) rfl
theorem q2537 : (Jvm.Cond.castable "java/util/ArrayList" "java/lang/Object") ∈ lw_tbl := lw_at lw_m11 9 rfl
theorem in_J2 : ∀ w ∈ wsJ20, w ∈ lw_all := lw_in wsJ20 [353, 349, 351] (by decide +kernel) (by decide +kernel)
/-! java/util/Objects -/
set_option maxRecDepth 100000
def RJ3 : String := "java/util/Objects"
abbrev cJ3_checkIndex : ByteArray := prog_65_method_17_code
def yJ3_checkIndex : MethodName := ⟨RJ3, "checkIndex", "(II)I"⟩
def dkwJ3_checkIndex_0 : List UInt8 := [26, 27, 1, 184, 0, 105, 172]
abbrev dktJ3_checkIndex_0 : List UInt8 := dkwJ3_checkIndex_0 ++ []
theorem dksJ3_checkIndex_0 : cJ3_checkIndex.data.toList.drop 0 = dktJ3_checkIndex_0 := by decide +kernel
theorem dJ3_checkIndex_0 : decode cJ3_checkIndex 0 = .ok (.iload_n 0, 1) := dk_26 (dk_at dksJ3_checkIndex_0 0 rfl rfl)
theorem dJ3_checkIndex_1 : decode cJ3_checkIndex 1 = .ok (.iload_n 1, 1) := dk_27 (dk_at dksJ3_checkIndex_0 1 rfl rfl)
theorem dJ3_checkIndex_2 : decode cJ3_checkIndex 2 = .ok (.aconst_null, 1) := dk_1 (dk_at dksJ3_checkIndex_0 2 rfl rfl)
theorem dJ3_checkIndex_3 : decode cJ3_checkIndex 3 = .ok (.invokestatic 105, 3) := dk_184 0 105 (dk_at dksJ3_checkIndex_0 3 rfl rfl)
theorem dJ3_checkIndex_6 : decode cJ3_checkIndex 6 = .ok (.ireturn, 1) := dk_172 (dk_at dksJ3_checkIndex_0 6 rfl rfl)
theorem q137 : (Jvm.Cond.initialized "java/util/Objects") ∈ lw_all := lw_g (lw_at lw_m1 9 rfl) rfl
theorem q420 : (Jvm.Cond.static ({ cls := "java/util/Objects", name := "checkIndex", desc := "(II)I" } : Jvm.MethodName)) ∈ lw_all := lw_g (lw_at lw_m2 52 rfl) rfl
theorem q421 : (Jvm.Cond.code ({ cls := "java/util/Objects", name := "checkIndex", desc := "(II)I" } : Jvm.MethodName) prog_65_method_17_code (2 : Nat) (Option.some Jvm.ClassFile.FieldType.int)) ∈ lw_all := lw_g (lw_at lw_m2 53 rfl) rfl
theorem q422 : (Jvm.Cond.methodLink "java/util/Objects" (105 : Nat) ({ cls := "jdk/internal/util/Preconditions", name := "checkIndex", desc := "(IILjava/util/function/BiFunction;)I" } : Jvm.MethodName)) ∈ lw_all := lw_g (lw_at lw_m2 54 rfl) rfl
/-! jdk/internal/util/Preconditions -/
set_option maxRecDepth 100000
def RJ4 : String := "jdk/internal/util/Preconditions"
abbrev cJ4_checkIndex : ByteArray := prog_69_method_11_code
def yJ4_checkIndex : MethodName := ⟨RJ4, "checkIndex", "(IILjava/util/function/BiFunction;)I"⟩
def dkwJ4_checkIndex_0 : List UInt8 := [26, 155, 0, 8, 26, 27, 161, 0, 10, 44, 26, 27, 184, 0, 95, 191, 26, 172]
abbrev dktJ4_checkIndex_0 : List UInt8 := dkwJ4_checkIndex_0 ++ []
theorem dksJ4_checkIndex_0 : cJ4_checkIndex.data.toList.drop 0 = dktJ4_checkIndex_0 := by decide +kernel
theorem dJ4_checkIndex_0 : decode cJ4_checkIndex 0 = .ok (.iload_n 0, 1) := dk_26 (dk_at dksJ4_checkIndex_0 0 rfl rfl)
theorem dJ4_checkIndex_1 : decode cJ4_checkIndex 1 = .ok (.ifCond .lt 8, 3) := dk_155 0 8 (dk_at dksJ4_checkIndex_0 1 rfl rfl)
theorem dJ4_checkIndex_4 : decode cJ4_checkIndex 4 = .ok (.iload_n 0, 1) := dk_26 (dk_at dksJ4_checkIndex_0 4 rfl rfl)
theorem dJ4_checkIndex_5 : decode cJ4_checkIndex 5 = .ok (.iload_n 1, 1) := dk_27 (dk_at dksJ4_checkIndex_0 5 rfl rfl)
theorem dJ4_checkIndex_6 : decode cJ4_checkIndex 6 = .ok (.if_icmp .lt 10, 3) := dk_161 0 10 (dk_at dksJ4_checkIndex_0 6 rfl rfl)
theorem dJ4_checkIndex_9 : decode cJ4_checkIndex 9 = .ok (.aload_n 2, 1) := dk_44 (dk_at dksJ4_checkIndex_0 9 rfl rfl)
theorem dJ4_checkIndex_10 : decode cJ4_checkIndex 10 = .ok (.iload_n 0, 1) := dk_26 (dk_at dksJ4_checkIndex_0 10 rfl rfl)
theorem dJ4_checkIndex_11 : decode cJ4_checkIndex 11 = .ok (.iload_n 1, 1) := dk_27 (dk_at dksJ4_checkIndex_0 11 rfl rfl)
theorem dJ4_checkIndex_12 : decode cJ4_checkIndex 12 = .ok (.invokestatic 95, 3) := dk_184 0 95 (dk_at dksJ4_checkIndex_0 12 rfl rfl)
theorem dJ4_checkIndex_15 : decode cJ4_checkIndex 15 = .ok (.athrow, 1) := dk_191 (dk_at dksJ4_checkIndex_0 15 rfl rfl)
theorem dJ4_checkIndex_16 : decode cJ4_checkIndex 16 = .ok (.iload_n 0, 1) := dk_26 (dk_at dksJ4_checkIndex_0 16 rfl rfl)
theorem dJ4_checkIndex_17 : decode cJ4_checkIndex 17 = .ok (.ireturn, 1) := dk_172 (dk_at dksJ4_checkIndex_0 17 rfl rfl)
abbrev cJ4_checkFromToIndex : ByteArray := prog_69_method_12_code
def yJ4_checkFromToIndex : MethodName := ⟨RJ4, "checkFromToIndex", "(IIILjava/util/function/BiFunction;)I"⟩
def dkwJ4_checkFromToIndex_0 : List UInt8 := [26, 155, 0, 13, 26, 27, 163, 0, 8, 27, 28, 164, 0, 11, 45, 26, 27, 28, 184, 0, 99, 191, 26, 172]
abbrev dktJ4_checkFromToIndex_0 : List UInt8 := dkwJ4_checkFromToIndex_0 ++ []
theorem dksJ4_checkFromToIndex_0 : cJ4_checkFromToIndex.data.toList.drop 0 = dktJ4_checkFromToIndex_0 := by decide +kernel
theorem dJ4_checkFromToIndex_0 : decode cJ4_checkFromToIndex 0 = .ok (.iload_n 0, 1) := dk_26 (dk_at dksJ4_checkFromToIndex_0 0 rfl rfl)
theorem dJ4_checkFromToIndex_1 : decode cJ4_checkFromToIndex 1 = .ok (.ifCond .lt 13, 3) := dk_155 0 13 (dk_at dksJ4_checkFromToIndex_0 1 rfl rfl)
theorem dJ4_checkFromToIndex_4 : decode cJ4_checkFromToIndex 4 = .ok (.iload_n 0, 1) := dk_26 (dk_at dksJ4_checkFromToIndex_0 4 rfl rfl)
theorem dJ4_checkFromToIndex_5 : decode cJ4_checkFromToIndex 5 = .ok (.iload_n 1, 1) := dk_27 (dk_at dksJ4_checkFromToIndex_0 5 rfl rfl)
theorem dJ4_checkFromToIndex_6 : decode cJ4_checkFromToIndex 6 = .ok (.if_icmp .gt 8, 3) := dk_163 0 8 (dk_at dksJ4_checkFromToIndex_0 6 rfl rfl)
theorem dJ4_checkFromToIndex_9 : decode cJ4_checkFromToIndex 9 = .ok (.iload_n 1, 1) := dk_27 (dk_at dksJ4_checkFromToIndex_0 9 rfl rfl)
theorem dJ4_checkFromToIndex_10 : decode cJ4_checkFromToIndex 10 = .ok (.iload_n 2, 1) := dk_28 (dk_at dksJ4_checkFromToIndex_0 10 rfl rfl)
theorem dJ4_checkFromToIndex_11 : decode cJ4_checkFromToIndex 11 = .ok (.if_icmp .le 11, 3) := dk_164 0 11 (dk_at dksJ4_checkFromToIndex_0 11 rfl rfl)
theorem dJ4_checkFromToIndex_14 : decode cJ4_checkFromToIndex 14 = .ok (.aload_n 3, 1) := dk_45 (dk_at dksJ4_checkFromToIndex_0 14 rfl rfl)
theorem dJ4_checkFromToIndex_15 : decode cJ4_checkFromToIndex 15 = .ok (.iload_n 0, 1) := dk_26 (dk_at dksJ4_checkFromToIndex_0 15 rfl rfl)
theorem dJ4_checkFromToIndex_16 : decode cJ4_checkFromToIndex 16 = .ok (.iload_n 1, 1) := dk_27 (dk_at dksJ4_checkFromToIndex_0 16 rfl rfl)
theorem dJ4_checkFromToIndex_17 : decode cJ4_checkFromToIndex 17 = .ok (.iload_n 2, 1) := dk_28 (dk_at dksJ4_checkFromToIndex_0 17 rfl rfl)
theorem dJ4_checkFromToIndex_18 : decode cJ4_checkFromToIndex 18 = .ok (.invokestatic 99, 3) := dk_184 0 99 (dk_at dksJ4_checkFromToIndex_0 18 rfl rfl)
theorem dJ4_checkFromToIndex_21 : decode cJ4_checkFromToIndex 21 = .ok (.athrow, 1) := dk_191 (dk_at dksJ4_checkFromToIndex_0 21 rfl rfl)
theorem dJ4_checkFromToIndex_22 : decode cJ4_checkFromToIndex 22 = .ok (.iload_n 0, 1) := dk_26 (dk_at dksJ4_checkFromToIndex_0 22 rfl rfl)
theorem dJ4_checkFromToIndex_23 : decode cJ4_checkFromToIndex 23 = .ok (.ireturn, 1) := dk_172 (dk_at dksJ4_checkFromToIndex_0 23 rfl rfl)
theorem q138 : (Jvm.Cond.initialized "jdk/internal/util/Preconditions") ∈ lw_all := lw_g (lw_at lw_m1 10 rfl) rfl
theorem q423 : (Jvm.Cond.static ({ cls := "jdk/internal/util/Preconditions", name := "checkIndex", desc := "(IILjava/util/function/BiFunction;)I" } : Jvm.MethodName)) ∈ lw_all := lw_g (lw_at lw_m2 55 rfl) rfl
theorem q424 : (Jvm.Cond.code ({ cls := "jdk/internal/util/Preconditions", name := "checkIndex", desc := "(IILjava/util/function/BiFunction;)I" } : Jvm.MethodName) prog_69_method_11_code (3 : Nat) (Option.some Jvm.ClassFile.FieldType.int)) ∈ lw_all := lw_g (lw_at lw_m2 56 rfl) rfl
theorem q669 : (Jvm.Cond.laysStatic "jdk/internal/util/Preconditions" "SIOOBE_FORMATTER" "Ljava/util/function/BiFunction;") ∈ lw_tbl := lw_at lw_m3 61 rfl
theorem q671 : (Jvm.Cond.static ({ cls := "jdk/internal/util/Preconditions", name := "checkFromToIndex", desc := "(IIILjava/util/function/BiFunction;)I" } : Jvm.MethodName)) ∈ lw_all := lw_g (lw_at lw_m3 63 rfl) rfl
theorem q672 : (Jvm.Cond.code ({ cls := "jdk/internal/util/Preconditions", name := "checkFromToIndex", desc := "(IIILjava/util/function/BiFunction;)I" } : Jvm.MethodName) prog_69_method_12_code (4 : Nat) (Option.some Jvm.ClassFile.FieldType.int)) ∈ lw_all := lw_g (lw_at lw_m3 64 rfl) rfl
/-! java/lang/String -/
set_option maxRecDepth 100000
def RJ5 : String := "java/lang/String"
abbrev cJ5_indexOf : ByteArray := prog_51_method_79_code
def yJ5_indexOf : MethodName := ⟨RJ5, "indexOf", "(I)I"⟩
def dkwJ5_indexOf_0 : List UInt8 := [42, 27, 3, 182, 2, 121, 172]
abbrev dktJ5_indexOf_0 : List UInt8 := dkwJ5_indexOf_0 ++ []
theorem dksJ5_indexOf_0 : cJ5_indexOf.data.toList.drop 0 = dktJ5_indexOf_0 := by decide +kernel
theorem dJ5_indexOf_0 : decode cJ5_indexOf 0 = .ok (.aload_n 0, 1) := dk_42 (dk_at dksJ5_indexOf_0 0 rfl rfl)
theorem dJ5_indexOf_1 : decode cJ5_indexOf 1 = .ok (.iload_n 1, 1) := dk_27 (dk_at dksJ5_indexOf_0 1 rfl rfl)
theorem dJ5_indexOf_2 : decode cJ5_indexOf 2 = .ok (.iconst 0, 1) := dk_3 (dk_at dksJ5_indexOf_0 2 rfl rfl)
theorem dJ5_indexOf_3 : decode cJ5_indexOf 3 = .ok (.invokevirtual 633, 3) := dk_182 2 121 (dk_at dksJ5_indexOf_0 3 rfl rfl)
theorem dJ5_indexOf_6 : decode cJ5_indexOf 6 = .ok (.ireturn, 1) := dk_172 (dk_at dksJ5_indexOf_0 6 rfl rfl)
abbrev cJ5_indexOf_2 : ByteArray := prog_51_method_80_code
def yJ5_indexOf_2 : MethodName := ⟨RJ5, "indexOf", "(II)I"⟩
def dkwJ5_indexOf_2_1 : List UInt8 := [180, 0, 9, 27, 28, 42, 182, 1, 249, 184, 2, 128, 172]
abbrev dktJ5_indexOf_2_1 : List UInt8 := dkwJ5_indexOf_2_1 ++ []
def dkwJ5_indexOf_2_0 : List UInt8 := [42, 182, 1, 236, 153, 0, 19, 42, 180, 0, 9, 27, 28, 42, 182, 1, 249, 184, 2, 125, 167, 0, 16, 42]
abbrev dktJ5_indexOf_2_0 : List UInt8 := dkwJ5_indexOf_2_0 ++ dktJ5_indexOf_2_1
theorem dksJ5_indexOf_2_0 : cJ5_indexOf_2.data.toList.drop 0 = dktJ5_indexOf_2_0 := by decide +kernel
theorem dksJ5_indexOf_2_1 : cJ5_indexOf_2.data.toList.drop 24 = dktJ5_indexOf_2_1 := dk_seg dksJ5_indexOf_2_0 24 rfl rfl
theorem dJ5_indexOf_2_0 : decode cJ5_indexOf_2 0 = .ok (.aload_n 0, 1) := dk_42 (dk_at dksJ5_indexOf_2_0 0 rfl rfl)
theorem dJ5_indexOf_2_1 : decode cJ5_indexOf_2 1 = .ok (.invokevirtual 492, 3) := dk_182 1 236 (dk_at dksJ5_indexOf_2_0 1 rfl rfl)
theorem dJ5_indexOf_2_4 : decode cJ5_indexOf_2 4 = .ok (.ifCond .eq 19, 3) := dk_153 0 19 (dk_at dksJ5_indexOf_2_0 4 rfl rfl)
theorem dJ5_indexOf_2_7 : decode cJ5_indexOf_2 7 = .ok (.aload_n 0, 1) := dk_42 (dk_at dksJ5_indexOf_2_0 7 rfl rfl)
theorem dJ5_indexOf_2_8 : decode cJ5_indexOf_2 8 = .ok (.getfield 9, 3) := dk_180 0 9 (dk_at dksJ5_indexOf_2_0 8 rfl rfl)
theorem dJ5_indexOf_2_11 : decode cJ5_indexOf_2 11 = .ok (.iload_n 1, 1) := dk_27 (dk_at dksJ5_indexOf_2_0 11 rfl rfl)
theorem dJ5_indexOf_2_12 : decode cJ5_indexOf_2 12 = .ok (.iload_n 2, 1) := dk_28 (dk_at dksJ5_indexOf_2_0 12 rfl rfl)
theorem dJ5_indexOf_2_13 : decode cJ5_indexOf_2 13 = .ok (.aload_n 0, 1) := dk_42 (dk_at dksJ5_indexOf_2_0 13 rfl rfl)
theorem dJ5_indexOf_2_14 : decode cJ5_indexOf_2 14 = .ok (.invokevirtual 505, 3) := dk_182 1 249 (dk_at dksJ5_indexOf_2_0 14 rfl rfl)
theorem dJ5_indexOf_2_17 : decode cJ5_indexOf_2 17 = .ok (.invokestatic 637, 3) := dk_184 2 125 (dk_at dksJ5_indexOf_2_0 17 rfl rfl)
theorem dJ5_indexOf_2_20 : decode cJ5_indexOf_2 20 = .ok (.goto 16, 3) := dk_167 0 16 (dk_at dksJ5_indexOf_2_0 20 rfl rfl)
theorem dJ5_indexOf_2_23 : decode cJ5_indexOf_2 23 = .ok (.aload_n 0, 1) := dk_42 (dk_at dksJ5_indexOf_2_0 23 rfl rfl)
theorem dJ5_indexOf_2_24 : decode cJ5_indexOf_2 24 = .ok (.getfield 9, 3) := dk_180 0 9 (dk_at dksJ5_indexOf_2_1 0 rfl rfl)
theorem dJ5_indexOf_2_27 : decode cJ5_indexOf_2 27 = .ok (.iload_n 1, 1) := dk_27 (dk_at dksJ5_indexOf_2_1 3 rfl rfl)
theorem dJ5_indexOf_2_28 : decode cJ5_indexOf_2 28 = .ok (.iload_n 2, 1) := dk_28 (dk_at dksJ5_indexOf_2_1 4 rfl rfl)
theorem dJ5_indexOf_2_29 : decode cJ5_indexOf_2 29 = .ok (.aload_n 0, 1) := dk_42 (dk_at dksJ5_indexOf_2_1 5 rfl rfl)
theorem dJ5_indexOf_2_30 : decode cJ5_indexOf_2 30 = .ok (.invokevirtual 505, 3) := dk_182 1 249 (dk_at dksJ5_indexOf_2_1 6 rfl rfl)
theorem dJ5_indexOf_2_33 : decode cJ5_indexOf_2 33 = .ok (.invokestatic 640, 3) := dk_184 2 128 (dk_at dksJ5_indexOf_2_1 9 rfl rfl)
theorem dJ5_indexOf_2_36 : decode cJ5_indexOf_2 36 = .ok (.ireturn, 1) := dk_172 (dk_at dksJ5_indexOf_2_1 12 rfl rfl)
abbrev cJ5_isLatin1 : ByteArray := prog_51_method_154_code
def yJ5_isLatin1 : MethodName := ⟨RJ5, "isLatin1", "()Z"⟩
def dkwJ5_isLatin1_0 : List UInt8 := [178, 0, 38, 153, 0, 14, 42, 180, 0, 15, 154, 0, 7, 4, 167, 0, 4, 3, 172]
abbrev dktJ5_isLatin1_0 : List UInt8 := dkwJ5_isLatin1_0 ++ []
theorem dksJ5_isLatin1_0 : cJ5_isLatin1.data.toList.drop 0 = dktJ5_isLatin1_0 := by decide +kernel
theorem dJ5_isLatin1_0 : decode cJ5_isLatin1 0 = .ok (.getstatic 38, 3) := dk_178 0 38 (dk_at dksJ5_isLatin1_0 0 rfl rfl)
theorem dJ5_isLatin1_3 : decode cJ5_isLatin1 3 = .ok (.ifCond .eq 14, 3) := dk_153 0 14 (dk_at dksJ5_isLatin1_0 3 rfl rfl)
theorem dJ5_isLatin1_6 : decode cJ5_isLatin1 6 = .ok (.aload_n 0, 1) := dk_42 (dk_at dksJ5_isLatin1_0 6 rfl rfl)
theorem dJ5_isLatin1_7 : decode cJ5_isLatin1 7 = .ok (.getfield 15, 3) := dk_180 0 15 (dk_at dksJ5_isLatin1_0 7 rfl rfl)
theorem dJ5_isLatin1_10 : decode cJ5_isLatin1 10 = .ok (.ifCond .ne 7, 3) := dk_154 0 7 (dk_at dksJ5_isLatin1_0 10 rfl rfl)
theorem dJ5_isLatin1_13 : decode cJ5_isLatin1 13 = .ok (.iconst 1, 1) := dk_4 (dk_at dksJ5_isLatin1_0 13 rfl rfl)
theorem dJ5_isLatin1_14 : decode cJ5_isLatin1 14 = .ok (.goto 4, 3) := dk_167 0 4 (dk_at dksJ5_isLatin1_0 14 rfl rfl)
theorem dJ5_isLatin1_17 : decode cJ5_isLatin1 17 = .ok (.iconst 0, 1) := dk_3 (dk_at dksJ5_isLatin1_0 17 rfl rfl)
theorem dJ5_isLatin1_18 : decode cJ5_isLatin1 18 = .ok (.ireturn, 1) := dk_172 (dk_at dksJ5_isLatin1_0 18 rfl rfl)
abbrev cJ5_length : ByteArray := prog_51_method_54_code
def yJ5_length : MethodName := ⟨RJ5, "length", "()I"⟩
def dkwJ5_length_0 : List UInt8 := [42, 180, 0, 9, 190, 42, 182, 1, 79, 122, 172]
abbrev dktJ5_length_0 : List UInt8 := dkwJ5_length_0 ++ []
theorem dksJ5_length_0 : cJ5_length.data.toList.drop 0 = dktJ5_length_0 := by decide +kernel
theorem dJ5_length_0 : decode cJ5_length 0 = .ok (.aload_n 0, 1) := dk_42 (dk_at dksJ5_length_0 0 rfl rfl)
theorem dJ5_length_1 : decode cJ5_length 1 = .ok (.getfield 9, 3) := dk_180 0 9 (dk_at dksJ5_length_0 1 rfl rfl)
theorem dJ5_length_4 : decode cJ5_length 4 = .ok (.arraylength, 1) := dk_190 (dk_at dksJ5_length_0 4 rfl rfl)
theorem dJ5_length_5 : decode cJ5_length 5 = .ok (.aload_n 0, 1) := dk_42 (dk_at dksJ5_length_0 5 rfl rfl)
theorem dJ5_length_6 : decode cJ5_length 6 = .ok (.invokevirtual 335, 3) := dk_182 1 79 (dk_at dksJ5_length_0 6 rfl rfl)
theorem dJ5_length_9 : decode cJ5_length 9 = .ok (.ishr, 1) := dk_122 (dk_at dksJ5_length_0 9 rfl rfl)
theorem dJ5_length_10 : decode cJ5_length 10 = .ok (.ireturn, 1) := dk_172 (dk_at dksJ5_length_0 10 rfl rfl)
abbrev cJ5_coder : ByteArray := prog_51_method_152_code
def yJ5_coder : MethodName := ⟨RJ5, "coder", "()B"⟩
def dkwJ5_coder_0 : List UInt8 := [178, 0, 38, 153, 0, 10, 42, 180, 0, 15, 167, 0, 4, 4, 172]
abbrev dktJ5_coder_0 : List UInt8 := dkwJ5_coder_0 ++ []
theorem dksJ5_coder_0 : cJ5_coder.data.toList.drop 0 = dktJ5_coder_0 := by decide +kernel
theorem dJ5_coder_0 : decode cJ5_coder 0 = .ok (.getstatic 38, 3) := dk_178 0 38 (dk_at dksJ5_coder_0 0 rfl rfl)
theorem dJ5_coder_3 : decode cJ5_coder 3 = .ok (.ifCond .eq 10, 3) := dk_153 0 10 (dk_at dksJ5_coder_0 3 rfl rfl)
theorem dJ5_coder_6 : decode cJ5_coder 6 = .ok (.aload_n 0, 1) := dk_42 (dk_at dksJ5_coder_0 6 rfl rfl)
theorem dJ5_coder_7 : decode cJ5_coder 7 = .ok (.getfield 15, 3) := dk_180 0 15 (dk_at dksJ5_coder_0 7 rfl rfl)
theorem dJ5_coder_10 : decode cJ5_coder 10 = .ok (.goto 4, 3) := dk_167 0 4 (dk_at dksJ5_coder_0 10 rfl rfl)
theorem dJ5_coder_13 : decode cJ5_coder 13 = .ok (.iconst 1, 1) := dk_4 (dk_at dksJ5_coder_0 13 rfl rfl)
theorem dJ5_coder_14 : decode cJ5_coder 14 = .ok (.ireturn, 1) := dk_172 (dk_at dksJ5_coder_0 14 rfl rfl)
abbrev cJ5_checkBoundsBeginEnd : ByteArray := prog_51_method_158_code
def yJ5_checkBoundsBeginEnd : MethodName := ⟨RJ5, "checkBoundsBeginEnd", "(III)V"⟩
def dkwJ5_checkBoundsBeginEnd_0 : List UInt8 := [26, 27, 28, 178, 4, 29, 184, 4, 38, 87, 177]
abbrev dktJ5_checkBoundsBeginEnd_0 : List UInt8 := dkwJ5_checkBoundsBeginEnd_0 ++ []
theorem dksJ5_checkBoundsBeginEnd_0 : cJ5_checkBoundsBeginEnd.data.toList.drop 0 = dktJ5_checkBoundsBeginEnd_0 := by decide +kernel
theorem dJ5_checkBoundsBeginEnd_0 : decode cJ5_checkBoundsBeginEnd 0 = .ok (.iload_n 0, 1) := dk_26 (dk_at dksJ5_checkBoundsBeginEnd_0 0 rfl rfl)
theorem dJ5_checkBoundsBeginEnd_1 : decode cJ5_checkBoundsBeginEnd 1 = .ok (.iload_n 1, 1) := dk_27 (dk_at dksJ5_checkBoundsBeginEnd_0 1 rfl rfl)
theorem dJ5_checkBoundsBeginEnd_2 : decode cJ5_checkBoundsBeginEnd 2 = .ok (.iload_n 2, 1) := dk_28 (dk_at dksJ5_checkBoundsBeginEnd_0 2 rfl rfl)
theorem dJ5_checkBoundsBeginEnd_3 : decode cJ5_checkBoundsBeginEnd 3 = .ok (.getstatic 1053, 3) := dk_178 4 29 (dk_at dksJ5_checkBoundsBeginEnd_0 3 rfl rfl)
theorem dJ5_checkBoundsBeginEnd_6 : decode cJ5_checkBoundsBeginEnd 6 = .ok (.invokestatic 1062, 3) := dk_184 4 38 (dk_at dksJ5_checkBoundsBeginEnd_0 6 rfl rfl)
theorem dJ5_checkBoundsBeginEnd_9 : decode cJ5_checkBoundsBeginEnd 9 = .ok (.pop, 1) := dk_87 (dk_at dksJ5_checkBoundsBeginEnd_0 9 rfl rfl)
theorem dJ5_checkBoundsBeginEnd_10 : decode cJ5_checkBoundsBeginEnd 10 = .ok (.return_, 1) := dk_177 (dk_at dksJ5_checkBoundsBeginEnd_0 10 rfl rfl)
abbrev cJ5_charAt : ByteArray := prog_51_method_56_code
def yJ5_charAt : MethodName := ⟨RJ5, "charAt", "(I)C"⟩
def dkwJ5_charAt_1 : List UInt8 := [172]
abbrev dktJ5_charAt_1 : List UInt8 := dkwJ5_charAt_1 ++ []
def dkwJ5_charAt_0 : List UInt8 := [42, 182, 1, 236, 153, 0, 12, 42, 180, 0, 9, 27, 184, 1, 239, 172, 42, 180, 0, 9, 27, 184, 1, 242]
abbrev dktJ5_charAt_0 : List UInt8 := dkwJ5_charAt_0 ++ dktJ5_charAt_1
theorem dksJ5_charAt_0 : cJ5_charAt.data.toList.drop 0 = dktJ5_charAt_0 := by decide +kernel
theorem dksJ5_charAt_1 : cJ5_charAt.data.toList.drop 24 = dktJ5_charAt_1 := dk_seg dksJ5_charAt_0 24 rfl rfl
theorem dJ5_charAt_0 : decode cJ5_charAt 0 = .ok (.aload_n 0, 1) := dk_42 (dk_at dksJ5_charAt_0 0 rfl rfl)
theorem dJ5_charAt_1 : decode cJ5_charAt 1 = .ok (.invokevirtual 492, 3) := dk_182 1 236 (dk_at dksJ5_charAt_0 1 rfl rfl)
theorem dJ5_charAt_4 : decode cJ5_charAt 4 = .ok (.ifCond .eq 12, 3) := dk_153 0 12 (dk_at dksJ5_charAt_0 4 rfl rfl)
theorem dJ5_charAt_7 : decode cJ5_charAt 7 = .ok (.aload_n 0, 1) := dk_42 (dk_at dksJ5_charAt_0 7 rfl rfl)
theorem dJ5_charAt_8 : decode cJ5_charAt 8 = .ok (.getfield 9, 3) := dk_180 0 9 (dk_at dksJ5_charAt_0 8 rfl rfl)
theorem dJ5_charAt_11 : decode cJ5_charAt 11 = .ok (.iload_n 1, 1) := dk_27 (dk_at dksJ5_charAt_0 11 rfl rfl)
theorem dJ5_charAt_12 : decode cJ5_charAt 12 = .ok (.invokestatic 495, 3) := dk_184 1 239 (dk_at dksJ5_charAt_0 12 rfl rfl)
theorem dJ5_charAt_15 : decode cJ5_charAt 15 = .ok (.ireturn, 1) := dk_172 (dk_at dksJ5_charAt_0 15 rfl rfl)
theorem dJ5_charAt_16 : decode cJ5_charAt 16 = .ok (.aload_n 0, 1) := dk_42 (dk_at dksJ5_charAt_0 16 rfl rfl)
theorem dJ5_charAt_17 : decode cJ5_charAt 17 = .ok (.getfield 9, 3) := dk_180 0 9 (dk_at dksJ5_charAt_0 17 rfl rfl)
theorem dJ5_charAt_20 : decode cJ5_charAt 20 = .ok (.iload_n 1, 1) := dk_27 (dk_at dksJ5_charAt_0 20 rfl rfl)
theorem dJ5_charAt_21 : decode cJ5_charAt 21 = .ok (.invokestatic 498, 3) := dk_184 1 242 (dk_at dksJ5_charAt_0 21 rfl rfl)
theorem dJ5_charAt_24 : decode cJ5_charAt 24 = .ok (.ireturn, 1) := dk_172 (dk_at dksJ5_charAt_1 0 rfl rfl)
abbrev cJ5_checkIndex : ByteArray := prog_51_method_155_code
def yJ5_checkIndex : MethodName := ⟨RJ5, "checkIndex", "(II)V"⟩
def dkwJ5_checkIndex_0 : List UInt8 := [26, 27, 178, 4, 29, 184, 4, 35, 87, 177]
abbrev dktJ5_checkIndex_0 : List UInt8 := dkwJ5_checkIndex_0 ++ []
theorem dksJ5_checkIndex_0 : cJ5_checkIndex.data.toList.drop 0 = dktJ5_checkIndex_0 := by decide +kernel
theorem dJ5_checkIndex_0 : decode cJ5_checkIndex 0 = .ok (.iload_n 0, 1) := dk_26 (dk_at dksJ5_checkIndex_0 0 rfl rfl)
theorem dJ5_checkIndex_1 : decode cJ5_checkIndex 1 = .ok (.iload_n 1, 1) := dk_27 (dk_at dksJ5_checkIndex_0 1 rfl rfl)
theorem dJ5_checkIndex_2 : decode cJ5_checkIndex 2 = .ok (.getstatic 1053, 3) := dk_178 4 29 (dk_at dksJ5_checkIndex_0 2 rfl rfl)
theorem dJ5_checkIndex_5 : decode cJ5_checkIndex 5 = .ok (.invokestatic 1059, 3) := dk_184 4 35 (dk_at dksJ5_checkIndex_0 5 rfl rfl)
theorem dJ5_checkIndex_8 : decode cJ5_checkIndex 8 = .ok (.pop, 1) := dk_87 (dk_at dksJ5_checkIndex_0 8 rfl rfl)
theorem dJ5_checkIndex_9 : decode cJ5_checkIndex 9 = .ok (.return_, 1) := dk_177 (dk_at dksJ5_checkIndex_0 9 rfl rfl)
theorem q144 : (Jvm.Cond.initialized "java/lang/String") ∈ lw_all := lw_g (lw_at lw_m1 16 rfl) rfl
theorem q614 : (Jvm.Cond.instanceMethod ({ cls := "java/lang/String", name := "indexOf", desc := "(I)I" } : Jvm.MethodName)) ∈ lw_all := lw_g (lw_at lw_m3 6 rfl) rfl
theorem q615 : (Jvm.Cond.selects "java/lang/String" ({ cls := "java/lang/String", name := "indexOf", desc := "(I)I" } : Jvm.MethodName) ({ cls := "java/lang/String", name := "indexOf", desc := "(I)I" } : Jvm.MethodName)) ∈ lw_all := lw_g (lw_at lw_m3 7 rfl) rfl
theorem q616 : (Jvm.Cond.code ({ cls := "java/lang/String", name := "indexOf", desc := "(I)I" } : Jvm.MethodName) prog_51_method_79_code (2 : Nat) (Option.some Jvm.ClassFile.FieldType.int)) ∈ lw_all := lw_g (lw_at lw_m3 8 rfl) rfl
theorem q617 : (Jvm.Cond.methodLink "java/lang/String" (633 : Nat) ({ cls := "java/lang/String", name := "indexOf", desc := "(II)I" } : Jvm.MethodName)) ∈ lw_all := lw_g (lw_at lw_m3 9 rfl) rfl
theorem q618 : (Jvm.Cond.instanceMethod ({ cls := "java/lang/String", name := "indexOf", desc := "(II)I" } : Jvm.MethodName)) ∈ lw_all := lw_g (lw_at lw_m3 10 rfl) rfl
theorem q619 : (Jvm.Cond.selects "java/lang/String" ({ cls := "java/lang/String", name := "indexOf", desc := "(II)I" } : Jvm.MethodName) ({ cls := "java/lang/String", name := "indexOf", desc := "(II)I" } : Jvm.MethodName)) ∈ lw_all := lw_g (lw_at lw_m3 11 rfl) rfl
theorem q620 : (Jvm.Cond.code ({ cls := "java/lang/String", name := "indexOf", desc := "(II)I" } : Jvm.MethodName) prog_51_method_80_code (3 : Nat) (Option.some Jvm.ClassFile.FieldType.int)) ∈ lw_all := lw_g (lw_at lw_m3 12 rfl) rfl
theorem q621 : (Jvm.Cond.methodLink "java/lang/String" (492 : Nat) ({ cls := "java/lang/String", name := "isLatin1", desc := "()Z" } : Jvm.MethodName)) ∈ lw_all := lw_g (lw_at lw_m3 13 rfl) rfl
theorem q622 : (Jvm.Cond.instanceMethod ({ cls := "java/lang/String", name := "isLatin1", desc := "()Z" } : Jvm.MethodName)) ∈ lw_all := lw_g (lw_at lw_m3 14 rfl) rfl
theorem q623 : (Jvm.Cond.selects "java/lang/String" ({ cls := "java/lang/String", name := "isLatin1", desc := "()Z" } : Jvm.MethodName) ({ cls := "java/lang/String", name := "isLatin1", desc := "()Z" } : Jvm.MethodName)) ∈ lw_all := lw_g (lw_at lw_m3 15 rfl) rfl
theorem q624 : (Jvm.Cond.code ({ cls := "java/lang/String", name := "isLatin1", desc := "()Z" } : Jvm.MethodName) prog_51_method_154_code (1 : Nat) (Option.some Jvm.ClassFile.FieldType.boolean)) ∈ lw_all := lw_g (lw_at lw_m3 16 rfl) rfl
theorem q625 : (Jvm.Cond.fieldLink "java/lang/String" (38 : Nat) "java/lang/String" "COMPACT_STRINGS" "Z") ∈ lw_all := lw_g (lw_at lw_m3 17 rfl) rfl
theorem q626 : (Jvm.Cond.laysStatic "java/lang/String" "COMPACT_STRINGS" "Z") ∈ lw_tbl := lw_at lw_m3 18 rfl
theorem q627 : (Jvm.Cond.methodLink "java/lang/String" (505 : Nat) ({ cls := "java/lang/String", name := "length", desc := "()I" } : Jvm.MethodName)) ∈ lw_all := lw_g (lw_at lw_m3 19 rfl) rfl
theorem q628 : (Jvm.Cond.instanceMethod ({ cls := "java/lang/String", name := "length", desc := "()I" } : Jvm.MethodName)) ∈ lw_all := lw_g (lw_at lw_m3 20 rfl) rfl
theorem q629 : (Jvm.Cond.selects "java/lang/String" ({ cls := "java/lang/String", name := "length", desc := "()I" } : Jvm.MethodName) ({ cls := "java/lang/String", name := "length", desc := "()I" } : Jvm.MethodName)) ∈ lw_all := lw_g (lw_at lw_m3 21 rfl) rfl
theorem q630 : (Jvm.Cond.code ({ cls := "java/lang/String", name := "length", desc := "()I" } : Jvm.MethodName) prog_51_method_54_code (1 : Nat) (Option.some Jvm.ClassFile.FieldType.int)) ∈ lw_all := lw_g (lw_at lw_m3 22 rfl) rfl
theorem q631 : (Jvm.Cond.methodLink "java/lang/String" (335 : Nat) ({ cls := "java/lang/String", name := "coder", desc := "()B" } : Jvm.MethodName)) ∈ lw_all := lw_g (lw_at lw_m3 23 rfl) rfl
theorem q632 : (Jvm.Cond.instanceMethod ({ cls := "java/lang/String", name := "coder", desc := "()B" } : Jvm.MethodName)) ∈ lw_all := lw_g (lw_at lw_m3 24 rfl) rfl
theorem q633 : (Jvm.Cond.selects "java/lang/String" ({ cls := "java/lang/String", name := "coder", desc := "()B" } : Jvm.MethodName) ({ cls := "java/lang/String", name := "coder", desc := "()B" } : Jvm.MethodName)) ∈ lw_all := lw_g (lw_at lw_m3 25 rfl) rfl
theorem q634 : (Jvm.Cond.code ({ cls := "java/lang/String", name := "coder", desc := "()B" } : Jvm.MethodName) prog_51_method_152_code (1 : Nat) (Option.some Jvm.ClassFile.FieldType.byte)) ∈ lw_all := lw_g (lw_at lw_m3 26 rfl) rfl
theorem q635 : (Jvm.Cond.methodLink "java/lang/String" (637 : Nat) ({ cls := "java/lang/StringLatin1", name := "indexOf", desc := "([BIII)I" } : Jvm.MethodName)) ∈ lw_all := lw_g (lw_at lw_m3 27 rfl) rfl
theorem q650 : (Jvm.Cond.methodLink "java/lang/String" (640 : Nat) ({ cls := "java/lang/StringUTF16", name := "indexOf", desc := "([BIII)I" } : Jvm.MethodName)) ∈ lw_all := lw_g (lw_at lw_m3 42 rfl) rfl
theorem q666 : (Jvm.Cond.static ({ cls := "java/lang/String", name := "checkBoundsBeginEnd", desc := "(III)V" } : Jvm.MethodName)) ∈ lw_all := lw_g (lw_at lw_m3 58 rfl) rfl
theorem q667 : (Jvm.Cond.code ({ cls := "java/lang/String", name := "checkBoundsBeginEnd", desc := "(III)V" } : Jvm.MethodName) prog_51_method_158_code (3 : Nat) (Option.none : Option Jvm.ClassFile.FieldType)) ∈ lw_all := lw_g (lw_at lw_m3 59 rfl) rfl
theorem q668 : (Jvm.Cond.fieldLink "java/lang/String" (1053 : Nat) "jdk/internal/util/Preconditions" "SIOOBE_FORMATTER" "Ljava/util/function/BiFunction;") ∈ lw_all := lw_g (lw_at lw_m3 60 rfl) rfl
theorem q670 : (Jvm.Cond.methodLink "java/lang/String" (1062 : Nat) ({ cls := "jdk/internal/util/Preconditions", name := "checkFromToIndex", desc := "(IIILjava/util/function/BiFunction;)I" } : Jvm.MethodName)) ∈ lw_all := lw_g (lw_at lw_m3 62 rfl) rfl
theorem q710 : (Jvm.Cond.instanceMethod ({ cls := "java/lang/String", name := "charAt", desc := "(I)C" } : Jvm.MethodName)) ∈ lw_all := lw_g (lw_at lw_m3 102 rfl) rfl
theorem q711 : (Jvm.Cond.selects "java/lang/String" ({ cls := "java/lang/String", name := "charAt", desc := "(I)C" } : Jvm.MethodName) ({ cls := "java/lang/String", name := "charAt", desc := "(I)C" } : Jvm.MethodName)) ∈ lw_all := lw_g (lw_at lw_m3 103 rfl) rfl
theorem q712 : (Jvm.Cond.code ({ cls := "java/lang/String", name := "charAt", desc := "(I)C" } : Jvm.MethodName) prog_51_method_56_code (2 : Nat) (Option.some Jvm.ClassFile.FieldType.char)) ∈ lw_all := lw_g (lw_at lw_m3 104 rfl) rfl
theorem q713 : (Jvm.Cond.methodLink "java/lang/String" (495 : Nat) ({ cls := "java/lang/StringLatin1", name := "charAt", desc := "([BI)C" } : Jvm.MethodName)) ∈ lw_all := lw_g (lw_at lw_m3 105 rfl) rfl
theorem q717 : (Jvm.Cond.static ({ cls := "java/lang/String", name := "checkIndex", desc := "(II)V" } : Jvm.MethodName)) ∈ lw_all := lw_g (lw_at lw_m3 109 rfl) rfl
theorem q718 : (Jvm.Cond.code ({ cls := "java/lang/String", name := "checkIndex", desc := "(II)V" } : Jvm.MethodName) prog_51_method_155_code (2 : Nat) (Option.none : Option Jvm.ClassFile.FieldType)) ∈ lw_all := lw_g (lw_at lw_m3 110 rfl) rfl
theorem q719 : (Jvm.Cond.methodLink "java/lang/String" (1059 : Nat) ({ cls := "jdk/internal/util/Preconditions", name := "checkIndex", desc := "(IILjava/util/function/BiFunction;)I" } : Jvm.MethodName)) ∈ lw_all := lw_g (lw_at lw_m3 111 rfl) rfl
theorem q720 : (Jvm.Cond.methodLink "java/lang/String" (498 : Nat) ({ cls := "java/lang/StringUTF16", name := "charAt", desc := "([BI)C" } : Jvm.MethodName)) ∈ lw_all := lw_g (lw_at lw_m3 112 rfl) rfl
theorem q2531 : (Jvm.Cond.castable "java/lang/String" "java/lang/Object") ∈ lw_tbl := lw_at lw_m11 3 rfl
theorem q2580 : (Jvm.Cond.fieldLink "java/lang/String" (15 : Nat) "java/lang/String" "coder" "B") ∈ lw_all := lw_g (lw_at lw_m11 52 rfl) rfl
theorem q2581 : (Jvm.Cond.fieldLink "java/lang/String" (9 : Nat) "java/lang/String" "value" "[B") ∈ lw_all := lw_g (lw_at lw_m11 53 rfl) rfl
/-! java/lang/StringLatin1 -/
set_option maxRecDepth 100000
def RJ6 : String := "java/lang/StringLatin1"
abbrev cJ6_indexOf : ByteArray := prog_52_method_22_code
def yJ6_indexOf : MethodName := ⟨RJ6, "indexOf", "([BIII)I"⟩
def dkwJ6_indexOf_1 : List UInt8 := [161, 0, 5, 2, 172, 42, 27, 28, 29, 184, 0, 95, 172]
abbrev dktJ6_indexOf_1 : List UInt8 := dkwJ6_indexOf_1 ++ []
def dkwJ6_indexOf_0 : List UInt8 := [27, 184, 0, 88, 154, 0, 5, 2, 172, 28, 3, 184, 0, 92, 61, 29, 42, 190, 184, 0, 38, 62, 28, 29]
abbrev dktJ6_indexOf_0 : List UInt8 := dkwJ6_indexOf_0 ++ dktJ6_indexOf_1
theorem dksJ6_indexOf_0 : cJ6_indexOf.data.toList.drop 0 = dktJ6_indexOf_0 := by decide +kernel
theorem dksJ6_indexOf_1 : cJ6_indexOf.data.toList.drop 24 = dktJ6_indexOf_1 := dk_seg dksJ6_indexOf_0 24 rfl rfl
theorem dJ6_indexOf_0 : decode cJ6_indexOf 0 = .ok (.iload_n 1, 1) := dk_27 (dk_at dksJ6_indexOf_0 0 rfl rfl)
theorem dJ6_indexOf_1 : decode cJ6_indexOf 1 = .ok (.invokestatic 88, 3) := dk_184 0 88 (dk_at dksJ6_indexOf_0 1 rfl rfl)
theorem dJ6_indexOf_4 : decode cJ6_indexOf 4 = .ok (.ifCond .ne 5, 3) := dk_154 0 5 (dk_at dksJ6_indexOf_0 4 rfl rfl)
theorem dJ6_indexOf_7 : decode cJ6_indexOf 7 = .ok (.iconst (-1), 1) := dk_2 (dk_at dksJ6_indexOf_0 7 rfl rfl)
theorem dJ6_indexOf_8 : decode cJ6_indexOf 8 = .ok (.ireturn, 1) := dk_172 (dk_at dksJ6_indexOf_0 8 rfl rfl)
theorem dJ6_indexOf_9 : decode cJ6_indexOf 9 = .ok (.iload_n 2, 1) := dk_28 (dk_at dksJ6_indexOf_0 9 rfl rfl)
theorem dJ6_indexOf_10 : decode cJ6_indexOf 10 = .ok (.iconst 0, 1) := dk_3 (dk_at dksJ6_indexOf_0 10 rfl rfl)
theorem dJ6_indexOf_11 : decode cJ6_indexOf 11 = .ok (.invokestatic 92, 3) := dk_184 0 92 (dk_at dksJ6_indexOf_0 11 rfl rfl)
theorem dJ6_indexOf_14 : decode cJ6_indexOf 14 = .ok (.istore_n 2, 1) := dk_61 (dk_at dksJ6_indexOf_0 14 rfl rfl)
theorem dJ6_indexOf_15 : decode cJ6_indexOf 15 = .ok (.iload_n 3, 1) := dk_29 (dk_at dksJ6_indexOf_0 15 rfl rfl)
theorem dJ6_indexOf_16 : decode cJ6_indexOf 16 = .ok (.aload_n 0, 1) := dk_42 (dk_at dksJ6_indexOf_0 16 rfl rfl)
theorem dJ6_indexOf_17 : decode cJ6_indexOf 17 = .ok (.arraylength, 1) := dk_190 (dk_at dksJ6_indexOf_0 17 rfl rfl)
theorem dJ6_indexOf_18 : decode cJ6_indexOf 18 = .ok (.invokestatic 38, 3) := dk_184 0 38 (dk_at dksJ6_indexOf_0 18 rfl rfl)
theorem dJ6_indexOf_21 : decode cJ6_indexOf 21 = .ok (.istore_n 3, 1) := dk_62 (dk_at dksJ6_indexOf_0 21 rfl rfl)
theorem dJ6_indexOf_22 : decode cJ6_indexOf 22 = .ok (.iload_n 2, 1) := dk_28 (dk_at dksJ6_indexOf_0 22 rfl rfl)
theorem dJ6_indexOf_23 : decode cJ6_indexOf 23 = .ok (.iload_n 3, 1) := dk_29 (dk_at dksJ6_indexOf_0 23 rfl rfl)
theorem dJ6_indexOf_24 : decode cJ6_indexOf 24 = .ok (.if_icmp .lt 5, 3) := dk_161 0 5 (dk_at dksJ6_indexOf_1 0 rfl rfl)
theorem dJ6_indexOf_27 : decode cJ6_indexOf 27 = .ok (.iconst (-1), 1) := dk_2 (dk_at dksJ6_indexOf_1 3 rfl rfl)
theorem dJ6_indexOf_28 : decode cJ6_indexOf 28 = .ok (.ireturn, 1) := dk_172 (dk_at dksJ6_indexOf_1 4 rfl rfl)
theorem dJ6_indexOf_29 : decode cJ6_indexOf 29 = .ok (.aload_n 0, 1) := dk_42 (dk_at dksJ6_indexOf_1 5 rfl rfl)
theorem dJ6_indexOf_30 : decode cJ6_indexOf 30 = .ok (.iload_n 1, 1) := dk_27 (dk_at dksJ6_indexOf_1 6 rfl rfl)
theorem dJ6_indexOf_31 : decode cJ6_indexOf 31 = .ok (.iload_n 2, 1) := dk_28 (dk_at dksJ6_indexOf_1 7 rfl rfl)
theorem dJ6_indexOf_32 : decode cJ6_indexOf 32 = .ok (.iload_n 3, 1) := dk_29 (dk_at dksJ6_indexOf_1 8 rfl rfl)
theorem dJ6_indexOf_33 : decode cJ6_indexOf 33 = .ok (.invokestatic 95, 3) := dk_184 0 95 (dk_at dksJ6_indexOf_1 9 rfl rfl)
theorem dJ6_indexOf_36 : decode cJ6_indexOf 36 = .ok (.ireturn, 1) := dk_172 (dk_at dksJ6_indexOf_1 12 rfl rfl)
abbrev cJ6_canEncode : ByteArray := prog_52_method_4_code
def yJ6_canEncode : MethodName := ⟨RJ6, "canEncode", "(I)Z"⟩
def dkwJ6_canEncode_0 : List UInt8 := [26, 155, 0, 14, 26, 17, 0, 255, 163, 0, 7, 4, 167, 0, 4, 3, 172]
abbrev dktJ6_canEncode_0 : List UInt8 := dkwJ6_canEncode_0 ++ []
theorem dksJ6_canEncode_0 : cJ6_canEncode.data.toList.drop 0 = dktJ6_canEncode_0 := by decide +kernel
theorem dJ6_canEncode_0 : decode cJ6_canEncode 0 = .ok (.iload_n 0, 1) := dk_26 (dk_at dksJ6_canEncode_0 0 rfl rfl)
theorem dJ6_canEncode_1 : decode cJ6_canEncode 1 = .ok (.ifCond .lt 14, 3) := dk_155 0 14 (dk_at dksJ6_canEncode_0 1 rfl rfl)
theorem dJ6_canEncode_4 : decode cJ6_canEncode 4 = .ok (.iload_n 0, 1) := dk_26 (dk_at dksJ6_canEncode_0 4 rfl rfl)
theorem dJ6_canEncode_5 : decode cJ6_canEncode 5 = .ok (.sipush 255, 3) := dk_17 0 255 (dk_at dksJ6_canEncode_0 5 rfl rfl)
theorem dJ6_canEncode_8 : decode cJ6_canEncode 8 = .ok (.if_icmp .gt 7, 3) := dk_163 0 7 (dk_at dksJ6_canEncode_0 8 rfl rfl)
theorem dJ6_canEncode_11 : decode cJ6_canEncode 11 = .ok (.iconst 1, 1) := dk_4 (dk_at dksJ6_canEncode_0 11 rfl rfl)
theorem dJ6_canEncode_12 : decode cJ6_canEncode 12 = .ok (.goto 4, 3) := dk_167 0 4 (dk_at dksJ6_canEncode_0 12 rfl rfl)
theorem dJ6_canEncode_15 : decode cJ6_canEncode 15 = .ok (.iconst 0, 1) := dk_3 (dk_at dksJ6_canEncode_0 15 rfl rfl)
theorem dJ6_canEncode_16 : decode cJ6_canEncode 16 = .ok (.ireturn, 1) := dk_172 (dk_at dksJ6_canEncode_0 16 rfl rfl)
abbrev cJ6_indexOfChar : ByteArray := prog_52_method_23_code
def yJ6_indexOfChar : MethodName := ⟨RJ6, "indexOfChar", "([BIII)I"⟩
def dkwJ6_indexOfChar_1 : List UInt8 := [172, 132, 5, 1, 167, 255, 235, 2, 172]
abbrev dktJ6_indexOfChar_1 : List UInt8 := dkwJ6_indexOfChar_1 ++ []
def dkwJ6_indexOfChar_0 : List UInt8 := [27, 145, 54, 4, 28, 54, 5, 21, 5, 29, 162, 0, 21, 42, 21, 5, 51, 21, 4, 160, 0, 6, 21, 5]
abbrev dktJ6_indexOfChar_0 : List UInt8 := dkwJ6_indexOfChar_0 ++ dktJ6_indexOfChar_1
theorem dksJ6_indexOfChar_0 : cJ6_indexOfChar.data.toList.drop 0 = dktJ6_indexOfChar_0 := by decide +kernel
theorem dksJ6_indexOfChar_1 : cJ6_indexOfChar.data.toList.drop 24 = dktJ6_indexOfChar_1 := dk_seg dksJ6_indexOfChar_0 24 rfl rfl
theorem dJ6_indexOfChar_0 : decode cJ6_indexOfChar 0 = .ok (.iload_n 1, 1) := dk_27 (dk_at dksJ6_indexOfChar_0 0 rfl rfl)
theorem dJ6_indexOfChar_1 : decode cJ6_indexOfChar 1 = .ok (.i2b, 1) := dk_145 (dk_at dksJ6_indexOfChar_0 1 rfl rfl)
theorem dJ6_indexOfChar_2 : decode cJ6_indexOfChar 2 = .ok (.istore 4, 2) := dk_54 4 (dk_at dksJ6_indexOfChar_0 2 rfl rfl)
theorem dJ6_indexOfChar_4 : decode cJ6_indexOfChar 4 = .ok (.iload_n 2, 1) := dk_28 (dk_at dksJ6_indexOfChar_0 4 rfl rfl)
theorem dJ6_indexOfChar_5 : decode cJ6_indexOfChar 5 = .ok (.istore 5, 2) := dk_54 5 (dk_at dksJ6_indexOfChar_0 5 rfl rfl)
theorem dJ6_indexOfChar_7 : decode cJ6_indexOfChar 7 = .ok (.iload 5, 2) := dk_21 5 (dk_at dksJ6_indexOfChar_0 7 rfl rfl)
theorem dJ6_indexOfChar_9 : decode cJ6_indexOfChar 9 = .ok (.iload_n 3, 1) := dk_29 (dk_at dksJ6_indexOfChar_0 9 rfl rfl)
theorem dJ6_indexOfChar_10 : decode cJ6_indexOfChar 10 = .ok (.if_icmp .ge 21, 3) := dk_162 0 21 (dk_at dksJ6_indexOfChar_0 10 rfl rfl)
theorem dJ6_indexOfChar_13 : decode cJ6_indexOfChar 13 = .ok (.aload_n 0, 1) := dk_42 (dk_at dksJ6_indexOfChar_0 13 rfl rfl)
theorem dJ6_indexOfChar_14 : decode cJ6_indexOfChar 14 = .ok (.iload 5, 2) := dk_21 5 (dk_at dksJ6_indexOfChar_0 14 rfl rfl)
theorem dJ6_indexOfChar_16 : decode cJ6_indexOfChar 16 = .ok (.baload, 1) := dk_51 (dk_at dksJ6_indexOfChar_0 16 rfl rfl)
theorem dJ6_indexOfChar_17 : decode cJ6_indexOfChar 17 = .ok (.iload 4, 2) := dk_21 4 (dk_at dksJ6_indexOfChar_0 17 rfl rfl)
theorem dJ6_indexOfChar_19 : decode cJ6_indexOfChar 19 = .ok (.if_icmp .ne 6, 3) := dk_160 0 6 (dk_at dksJ6_indexOfChar_0 19 rfl rfl)
theorem dJ6_indexOfChar_22 : decode cJ6_indexOfChar 22 = .ok (.iload 5, 2) := dk_21 5 (dk_at dksJ6_indexOfChar_0 22 rfl rfl)
theorem dJ6_indexOfChar_24 : decode cJ6_indexOfChar 24 = .ok (.ireturn, 1) := dk_172 (dk_at dksJ6_indexOfChar_1 0 rfl rfl)
theorem dJ6_indexOfChar_25 : decode cJ6_indexOfChar 25 = .ok (.iinc 5 1, 3) := dk_132 5 1 (dk_at dksJ6_indexOfChar_1 1 rfl rfl)
theorem dJ6_indexOfChar_28 : decode cJ6_indexOfChar 28 = .ok (.goto (-21), 3) := dk_167 255 235 (dk_at dksJ6_indexOfChar_1 4 rfl rfl)
theorem dJ6_indexOfChar_31 : decode cJ6_indexOfChar 31 = .ok (.iconst (-1), 1) := dk_2 (dk_at dksJ6_indexOfChar_1 7 rfl rfl)
theorem dJ6_indexOfChar_32 : decode cJ6_indexOfChar 32 = .ok (.ireturn, 1) := dk_172 (dk_at dksJ6_indexOfChar_1 8 rfl rfl)
abbrev cJ6_charAt : ByteArray := prog_52_method_2_code
def yJ6_charAt : MethodName := ⟨RJ6, "charAt", "([BI)C"⟩
def dkwJ6_charAt_0 : List UInt8 := [27, 42, 190, 184, 0, 9, 42, 27, 51, 17, 0, 255, 126, 146, 172]
abbrev dktJ6_charAt_0 : List UInt8 := dkwJ6_charAt_0 ++ []
theorem dksJ6_charAt_0 : cJ6_charAt.data.toList.drop 0 = dktJ6_charAt_0 := by decide +kernel
theorem dJ6_charAt_0 : decode cJ6_charAt 0 = .ok (.iload_n 1, 1) := dk_27 (dk_at dksJ6_charAt_0 0 rfl rfl)
theorem dJ6_charAt_1 : decode cJ6_charAt 1 = .ok (.aload_n 0, 1) := dk_42 (dk_at dksJ6_charAt_0 1 rfl rfl)
theorem dJ6_charAt_2 : decode cJ6_charAt 2 = .ok (.arraylength, 1) := dk_190 (dk_at dksJ6_charAt_0 2 rfl rfl)
theorem dJ6_charAt_3 : decode cJ6_charAt 3 = .ok (.invokestatic 9, 3) := dk_184 0 9 (dk_at dksJ6_charAt_0 3 rfl rfl)
theorem dJ6_charAt_6 : decode cJ6_charAt 6 = .ok (.aload_n 0, 1) := dk_42 (dk_at dksJ6_charAt_0 6 rfl rfl)
theorem dJ6_charAt_7 : decode cJ6_charAt 7 = .ok (.iload_n 1, 1) := dk_27 (dk_at dksJ6_charAt_0 7 rfl rfl)
theorem dJ6_charAt_8 : decode cJ6_charAt 8 = .ok (.baload, 1) := dk_51 (dk_at dksJ6_charAt_0 8 rfl rfl)
theorem dJ6_charAt_9 : decode cJ6_charAt 9 = .ok (.sipush 255, 3) := dk_17 0 255 (dk_at dksJ6_charAt_0 9 rfl rfl)
theorem dJ6_charAt_12 : decode cJ6_charAt 12 = .ok (.iand, 1) := dk_126 (dk_at dksJ6_charAt_0 12 rfl rfl)
theorem dJ6_charAt_13 : decode cJ6_charAt 13 = .ok (.i2c, 1) := dk_146 (dk_at dksJ6_charAt_0 13 rfl rfl)
theorem dJ6_charAt_14 : decode cJ6_charAt 14 = .ok (.ireturn, 1) := dk_172 (dk_at dksJ6_charAt_0 14 rfl rfl)
theorem q145 : (Jvm.Cond.initialized "java/lang/StringLatin1") ∈ lw_all := lw_g (lw_at lw_m1 17 rfl) rfl
theorem q636 : (Jvm.Cond.static ({ cls := "java/lang/StringLatin1", name := "indexOf", desc := "([BIII)I" } : Jvm.MethodName)) ∈ lw_all := lw_g (lw_at lw_m3 28 rfl) rfl
theorem q637 : (Jvm.Cond.code ({ cls := "java/lang/StringLatin1", name := "indexOf", desc := "([BIII)I" } : Jvm.MethodName) prog_52_method_22_code (4 : Nat) (Option.some Jvm.ClassFile.FieldType.int)) ∈ lw_all := lw_g (lw_at lw_m3 29 rfl) rfl
theorem q638 : (Jvm.Cond.methodLink "java/lang/StringLatin1" (88 : Nat) ({ cls := "java/lang/StringLatin1", name := "canEncode", desc := "(I)Z" } : Jvm.MethodName)) ∈ lw_all := lw_g (lw_at lw_m3 30 rfl) rfl
theorem q639 : (Jvm.Cond.static ({ cls := "java/lang/StringLatin1", name := "canEncode", desc := "(I)Z" } : Jvm.MethodName)) ∈ lw_all := lw_g (lw_at lw_m3 31 rfl) rfl
theorem q640 : (Jvm.Cond.code ({ cls := "java/lang/StringLatin1", name := "canEncode", desc := "(I)Z" } : Jvm.MethodName) prog_52_method_4_code (1 : Nat) (Option.some Jvm.ClassFile.FieldType.boolean)) ∈ lw_all := lw_g (lw_at lw_m3 32 rfl) rfl
theorem q641 : (Jvm.Cond.methodLink "java/lang/StringLatin1" (92 : Nat) ({ cls := "java/lang/Math", name := "max", desc := "(II)I" } : Jvm.MethodName)) ∈ lw_all := lw_g (lw_at lw_m3 33 rfl) rfl
theorem q644 : (Jvm.Cond.methodLink "java/lang/StringLatin1" (38 : Nat) ({ cls := "java/lang/Math", name := "min", desc := "(II)I" } : Jvm.MethodName)) ∈ lw_all := lw_g (lw_at lw_m3 36 rfl) rfl
theorem q647 : (Jvm.Cond.methodLink "java/lang/StringLatin1" (95 : Nat) ({ cls := "java/lang/StringLatin1", name := "indexOfChar", desc := "([BIII)I" } : Jvm.MethodName)) ∈ lw_all := lw_g (lw_at lw_m3 39 rfl) rfl
theorem q648 : (Jvm.Cond.static ({ cls := "java/lang/StringLatin1", name := "indexOfChar", desc := "([BIII)I" } : Jvm.MethodName)) ∈ lw_all := lw_g (lw_at lw_m3 40 rfl) rfl
theorem q649 : (Jvm.Cond.code ({ cls := "java/lang/StringLatin1", name := "indexOfChar", desc := "([BIII)I" } : Jvm.MethodName) prog_52_method_23_code (6 : Nat) (Option.some Jvm.ClassFile.FieldType.int)) ∈ lw_all := lw_g (lw_at lw_m3 41 rfl) rfl
theorem q714 : (Jvm.Cond.static ({ cls := "java/lang/StringLatin1", name := "charAt", desc := "([BI)C" } : Jvm.MethodName)) ∈ lw_all := lw_g (lw_at lw_m3 106 rfl) rfl
theorem q715 : (Jvm.Cond.code ({ cls := "java/lang/StringLatin1", name := "charAt", desc := "([BI)C" } : Jvm.MethodName) prog_52_method_2_code (2 : Nat) (Option.some Jvm.ClassFile.FieldType.char)) ∈ lw_all := lw_g (lw_at lw_m3 107 rfl) rfl
theorem q716 : (Jvm.Cond.methodLink "java/lang/StringLatin1" (9 : Nat) ({ cls := "java/lang/String", name := "checkIndex", desc := "(II)V" } : Jvm.MethodName)) ∈ lw_all := lw_g (lw_at lw_m3 108 rfl) rfl
/-! java/lang/Math -/
set_option maxRecDepth 100000
def RJ7 : String := "java/lang/Math"
abbrev cJ7_max : ByteArray := prog_48_method_65_code
def yJ7_max : MethodName := ⟨RJ7, "max", "(II)I"⟩
def dkwJ7_max_0 : List UInt8 := [26, 27, 161, 0, 7, 26, 167, 0, 4, 27, 172]
abbrev dktJ7_max_0 : List UInt8 := dkwJ7_max_0 ++ []
theorem dksJ7_max_0 : cJ7_max.data.toList.drop 0 = dktJ7_max_0 := by decide +kernel
theorem dJ7_max_0 : decode cJ7_max 0 = .ok (.iload_n 0, 1) := dk_26 (dk_at dksJ7_max_0 0 rfl rfl)
theorem dJ7_max_1 : decode cJ7_max 1 = .ok (.iload_n 1, 1) := dk_27 (dk_at dksJ7_max_0 1 rfl rfl)
theorem dJ7_max_2 : decode cJ7_max 2 = .ok (.if_icmp .lt 7, 3) := dk_161 0 7 (dk_at dksJ7_max_0 2 rfl rfl)
theorem dJ7_max_5 : decode cJ7_max 5 = .ok (.iload_n 0, 1) := dk_26 (dk_at dksJ7_max_0 5 rfl rfl)
theorem dJ7_max_6 : decode cJ7_max 6 = .ok (.goto 4, 3) := dk_167 0 4 (dk_at dksJ7_max_0 6 rfl rfl)
theorem dJ7_max_9 : decode cJ7_max 9 = .ok (.iload_n 1, 1) := dk_27 (dk_at dksJ7_max_0 9 rfl rfl)
theorem dJ7_max_10 : decode cJ7_max 10 = .ok (.ireturn, 1) := dk_172 (dk_at dksJ7_max_0 10 rfl rfl)
abbrev cJ7_min : ByteArray := prog_48_method_69_code
def yJ7_min : MethodName := ⟨RJ7, "min", "(II)I"⟩
def dkwJ7_min_0 : List UInt8 := [26, 27, 163, 0, 7, 26, 167, 0, 4, 27, 172]
abbrev dktJ7_min_0 : List UInt8 := dkwJ7_min_0 ++ []
theorem dksJ7_min_0 : cJ7_min.data.toList.drop 0 = dktJ7_min_0 := by decide +kernel
theorem dJ7_min_0 : decode cJ7_min 0 = .ok (.iload_n 0, 1) := dk_26 (dk_at dksJ7_min_0 0 rfl rfl)
theorem dJ7_min_1 : decode cJ7_min 1 = .ok (.iload_n 1, 1) := dk_27 (dk_at dksJ7_min_0 1 rfl rfl)
theorem dJ7_min_2 : decode cJ7_min 2 = .ok (.if_icmp .gt 7, 3) := dk_163 0 7 (dk_at dksJ7_min_0 2 rfl rfl)
theorem dJ7_min_5 : decode cJ7_min 5 = .ok (.iload_n 0, 1) := dk_26 (dk_at dksJ7_min_0 5 rfl rfl)
theorem dJ7_min_6 : decode cJ7_min 6 = .ok (.goto 4, 3) := dk_167 0 4 (dk_at dksJ7_min_0 6 rfl rfl)
theorem dJ7_min_9 : decode cJ7_min 9 = .ok (.iload_n 1, 1) := dk_27 (dk_at dksJ7_min_0 9 rfl rfl)
theorem dJ7_min_10 : decode cJ7_min 10 = .ok (.ireturn, 1) := dk_172 (dk_at dksJ7_min_0 10 rfl rfl)
theorem q146 : (Jvm.Cond.initialized "java/lang/Math") ∈ lw_all := lw_g (lw_at lw_m1 18 rfl) rfl
theorem q642 : (Jvm.Cond.static ({ cls := "java/lang/Math", name := "max", desc := "(II)I" } : Jvm.MethodName)) ∈ lw_all := lw_g (lw_at lw_m3 34 rfl) rfl
theorem q643 : (Jvm.Cond.code ({ cls := "java/lang/Math", name := "max", desc := "(II)I" } : Jvm.MethodName) prog_48_method_65_code (2 : Nat) (Option.some Jvm.ClassFile.FieldType.int)) ∈ lw_all := lw_g (lw_at lw_m3 35 rfl) rfl
theorem q645 : (Jvm.Cond.static ({ cls := "java/lang/Math", name := "min", desc := "(II)I" } : Jvm.MethodName)) ∈ lw_all := lw_g (lw_at lw_m3 37 rfl) rfl
theorem q646 : (Jvm.Cond.code ({ cls := "java/lang/Math", name := "min", desc := "(II)I" } : Jvm.MethodName) prog_48_method_69_code (2 : Nat) (Option.some Jvm.ClassFile.FieldType.int)) ∈ lw_all := lw_g (lw_at lw_m3 38 rfl) rfl
/-! java/lang/StringUTF16 -/
set_option maxRecDepth 100000
def RJ8 : String := "java/lang/StringUTF16"
abbrev cJ8_indexOf : ByteArray := prog_53_method_40_code
def yJ8_indexOf : MethodName := ⟨RJ8, "indexOf", "([BIII)I"⟩
def dkwJ8_indexOf_1 : List UInt8 := [18, 227, 162, 0, 11, 42, 27, 28, 29, 184, 0, 228, 172, 42, 27, 28, 29, 184, 0, 232, 172]
abbrev dktJ8_indexOf_1 : List UInt8 := dkwJ8_indexOf_1 ++ []
def dkwJ8_indexOf_0 : List UInt8 := [28, 3, 184, 0, 224, 61, 29, 42, 190, 4, 122, 184, 0, 183, 62, 28, 29, 161, 0, 5, 2, 172, 27]
abbrev dktJ8_indexOf_0 : List UInt8 := dkwJ8_indexOf_0 ++ dktJ8_indexOf_1
theorem dksJ8_indexOf_0 : cJ8_indexOf.data.toList.drop 0 = dktJ8_indexOf_0 := by decide +kernel
theorem dksJ8_indexOf_1 : cJ8_indexOf.data.toList.drop 23 = dktJ8_indexOf_1 := dk_seg dksJ8_indexOf_0 23 rfl rfl
theorem dJ8_indexOf_0 : decode cJ8_indexOf 0 = .ok (.iload_n 2, 1) := dk_28 (dk_at dksJ8_indexOf_0 0 rfl rfl)
theorem dJ8_indexOf_1 : decode cJ8_indexOf 1 = .ok (.iconst 0, 1) := dk_3 (dk_at dksJ8_indexOf_0 1 rfl rfl)
theorem dJ8_indexOf_2 : decode cJ8_indexOf 2 = .ok (.invokestatic 224, 3) := dk_184 0 224 (dk_at dksJ8_indexOf_0 2 rfl rfl)
theorem dJ8_indexOf_5 : decode cJ8_indexOf 5 = .ok (.istore_n 2, 1) := dk_61 (dk_at dksJ8_indexOf_0 5 rfl rfl)
theorem dJ8_indexOf_6 : decode cJ8_indexOf 6 = .ok (.iload_n 3, 1) := dk_29 (dk_at dksJ8_indexOf_0 6 rfl rfl)
theorem dJ8_indexOf_7 : decode cJ8_indexOf 7 = .ok (.aload_n 0, 1) := dk_42 (dk_at dksJ8_indexOf_0 7 rfl rfl)
theorem dJ8_indexOf_8 : decode cJ8_indexOf 8 = .ok (.arraylength, 1) := dk_190 (dk_at dksJ8_indexOf_0 8 rfl rfl)
theorem dJ8_indexOf_9 : decode cJ8_indexOf 9 = .ok (.iconst 1, 1) := dk_4 (dk_at dksJ8_indexOf_0 9 rfl rfl)
theorem dJ8_indexOf_10 : decode cJ8_indexOf 10 = .ok (.ishr, 1) := dk_122 (dk_at dksJ8_indexOf_0 10 rfl rfl)
theorem dJ8_indexOf_11 : decode cJ8_indexOf 11 = .ok (.invokestatic 183, 3) := dk_184 0 183 (dk_at dksJ8_indexOf_0 11 rfl rfl)
theorem dJ8_indexOf_14 : decode cJ8_indexOf 14 = .ok (.istore_n 3, 1) := dk_62 (dk_at dksJ8_indexOf_0 14 rfl rfl)
theorem dJ8_indexOf_15 : decode cJ8_indexOf 15 = .ok (.iload_n 2, 1) := dk_28 (dk_at dksJ8_indexOf_0 15 rfl rfl)
theorem dJ8_indexOf_16 : decode cJ8_indexOf 16 = .ok (.iload_n 3, 1) := dk_29 (dk_at dksJ8_indexOf_0 16 rfl rfl)
theorem dJ8_indexOf_17 : decode cJ8_indexOf 17 = .ok (.if_icmp .lt 5, 3) := dk_161 0 5 (dk_at dksJ8_indexOf_0 17 rfl rfl)
theorem dJ8_indexOf_20 : decode cJ8_indexOf 20 = .ok (.iconst (-1), 1) := dk_2 (dk_at dksJ8_indexOf_0 20 rfl rfl)
theorem dJ8_indexOf_21 : decode cJ8_indexOf 21 = .ok (.ireturn, 1) := dk_172 (dk_at dksJ8_indexOf_0 21 rfl rfl)
theorem dJ8_indexOf_22 : decode cJ8_indexOf 22 = .ok (.iload_n 1, 1) := dk_27 (dk_at dksJ8_indexOf_0 22 rfl rfl)
theorem dJ8_indexOf_23 : decode cJ8_indexOf 23 = .ok (.ldc 227, 2) := dk_18 227 (dk_at dksJ8_indexOf_1 0 rfl rfl)
theorem dJ8_indexOf_25 : decode cJ8_indexOf 25 = .ok (.if_icmp .ge 11, 3) := dk_162 0 11 (dk_at dksJ8_indexOf_1 2 rfl rfl)
theorem dJ8_indexOf_28 : decode cJ8_indexOf 28 = .ok (.aload_n 0, 1) := dk_42 (dk_at dksJ8_indexOf_1 5 rfl rfl)
theorem dJ8_indexOf_29 : decode cJ8_indexOf 29 = .ok (.iload_n 1, 1) := dk_27 (dk_at dksJ8_indexOf_1 6 rfl rfl)
theorem dJ8_indexOf_30 : decode cJ8_indexOf 30 = .ok (.iload_n 2, 1) := dk_28 (dk_at dksJ8_indexOf_1 7 rfl rfl)
theorem dJ8_indexOf_31 : decode cJ8_indexOf 31 = .ok (.iload_n 3, 1) := dk_29 (dk_at dksJ8_indexOf_1 8 rfl rfl)
theorem dJ8_indexOf_32 : decode cJ8_indexOf 32 = .ok (.invokestatic 228, 3) := dk_184 0 228 (dk_at dksJ8_indexOf_1 9 rfl rfl)
theorem dJ8_indexOf_35 : decode cJ8_indexOf 35 = .ok (.ireturn, 1) := dk_172 (dk_at dksJ8_indexOf_1 12 rfl rfl)
theorem dJ8_indexOf_36 : decode cJ8_indexOf 36 = .ok (.aload_n 0, 1) := dk_42 (dk_at dksJ8_indexOf_1 13 rfl rfl)
theorem dJ8_indexOf_37 : decode cJ8_indexOf 37 = .ok (.iload_n 1, 1) := dk_27 (dk_at dksJ8_indexOf_1 14 rfl rfl)
theorem dJ8_indexOf_38 : decode cJ8_indexOf 38 = .ok (.iload_n 2, 1) := dk_28 (dk_at dksJ8_indexOf_1 15 rfl rfl)
theorem dJ8_indexOf_39 : decode cJ8_indexOf 39 = .ok (.iload_n 3, 1) := dk_29 (dk_at dksJ8_indexOf_1 16 rfl rfl)
theorem dJ8_indexOf_40 : decode cJ8_indexOf 40 = .ok (.invokestatic 232, 3) := dk_184 0 232 (dk_at dksJ8_indexOf_1 17 rfl rfl)
theorem dJ8_indexOf_43 : decode cJ8_indexOf 43 = .ok (.ireturn, 1) := dk_172 (dk_at dksJ8_indexOf_1 20 rfl rfl)
abbrev cJ8_indexOfChar : ByteArray := prog_53_method_47_code
def yJ8_indexOfChar : MethodName := ⟨RJ8, "indexOfChar", "([BIII)I"⟩
def dkwJ8_indexOfChar_0 : List UInt8 := [28, 29, 42, 184, 0, 96, 42, 27, 28, 29, 184, 0, 244, 172]
abbrev dktJ8_indexOfChar_0 : List UInt8 := dkwJ8_indexOfChar_0 ++ []
theorem dksJ8_indexOfChar_0 : cJ8_indexOfChar.data.toList.drop 0 = dktJ8_indexOfChar_0 := by decide +kernel
theorem dJ8_indexOfChar_0 : decode cJ8_indexOfChar 0 = .ok (.iload_n 2, 1) := dk_28 (dk_at dksJ8_indexOfChar_0 0 rfl rfl)
theorem dJ8_indexOfChar_1 : decode cJ8_indexOfChar 1 = .ok (.iload_n 3, 1) := dk_29 (dk_at dksJ8_indexOfChar_0 1 rfl rfl)
theorem dJ8_indexOfChar_2 : decode cJ8_indexOfChar 2 = .ok (.aload_n 0, 1) := dk_42 (dk_at dksJ8_indexOfChar_0 2 rfl rfl)
theorem dJ8_indexOfChar_3 : decode cJ8_indexOfChar 3 = .ok (.invokestatic 96, 3) := dk_184 0 96 (dk_at dksJ8_indexOfChar_0 3 rfl rfl)
theorem dJ8_indexOfChar_6 : decode cJ8_indexOfChar 6 = .ok (.aload_n 0, 1) := dk_42 (dk_at dksJ8_indexOfChar_0 6 rfl rfl)
theorem dJ8_indexOfChar_7 : decode cJ8_indexOfChar 7 = .ok (.iload_n 1, 1) := dk_27 (dk_at dksJ8_indexOfChar_0 7 rfl rfl)
theorem dJ8_indexOfChar_8 : decode cJ8_indexOfChar 8 = .ok (.iload_n 2, 1) := dk_28 (dk_at dksJ8_indexOfChar_0 8 rfl rfl)
theorem dJ8_indexOfChar_9 : decode cJ8_indexOfChar 9 = .ok (.iload_n 3, 1) := dk_29 (dk_at dksJ8_indexOfChar_0 9 rfl rfl)
theorem dJ8_indexOfChar_10 : decode cJ8_indexOfChar 10 = .ok (.invokestatic 244, 3) := dk_184 0 244 (dk_at dksJ8_indexOfChar_0 10 rfl rfl)
theorem dJ8_indexOfChar_13 : decode cJ8_indexOfChar 13 = .ok (.ireturn, 1) := dk_172 (dk_at dksJ8_indexOfChar_0 13 rfl rfl)
abbrev cJ8_checkBoundsBeginEnd : ByteArray := prog_53_method_93_code
def yJ8_checkBoundsBeginEnd : MethodName := ⟨RJ8, "checkBoundsBeginEnd", "(II[B)V"⟩
def dkwJ8_checkBoundsBeginEnd_0 : List UInt8 := [26, 27, 44, 184, 0, 48, 184, 0, 241, 177]
abbrev dktJ8_checkBoundsBeginEnd_0 : List UInt8 := dkwJ8_checkBoundsBeginEnd_0 ++ []
theorem dksJ8_checkBoundsBeginEnd_0 : cJ8_checkBoundsBeginEnd.data.toList.drop 0 = dktJ8_checkBoundsBeginEnd_0 := by decide +kernel
theorem dJ8_checkBoundsBeginEnd_0 : decode cJ8_checkBoundsBeginEnd 0 = .ok (.iload_n 0, 1) := dk_26 (dk_at dksJ8_checkBoundsBeginEnd_0 0 rfl rfl)
theorem dJ8_checkBoundsBeginEnd_1 : decode cJ8_checkBoundsBeginEnd 1 = .ok (.iload_n 1, 1) := dk_27 (dk_at dksJ8_checkBoundsBeginEnd_0 1 rfl rfl)
theorem dJ8_checkBoundsBeginEnd_2 : decode cJ8_checkBoundsBeginEnd 2 = .ok (.aload_n 2, 1) := dk_44 (dk_at dksJ8_checkBoundsBeginEnd_0 2 rfl rfl)
theorem dJ8_checkBoundsBeginEnd_3 : decode cJ8_checkBoundsBeginEnd 3 = .ok (.invokestatic 48, 3) := dk_184 0 48 (dk_at dksJ8_checkBoundsBeginEnd_0 3 rfl rfl)
theorem dJ8_checkBoundsBeginEnd_6 : decode cJ8_checkBoundsBeginEnd 6 = .ok (.invokestatic 241, 3) := dk_184 0 241 (dk_at dksJ8_checkBoundsBeginEnd_0 6 rfl rfl)
theorem dJ8_checkBoundsBeginEnd_9 : decode cJ8_checkBoundsBeginEnd 9 = .ok (.return_, 1) := dk_177 (dk_at dksJ8_checkBoundsBeginEnd_0 9 rfl rfl)
abbrev cJ8_length : ByteArray := prog_53_method_6_code
def yJ8_length : MethodName := ⟨RJ8, "length", "([B)I"⟩
def dkwJ8_length_0 : List UInt8 := [42, 190, 4, 122, 172]
abbrev dktJ8_length_0 : List UInt8 := dkwJ8_length_0 ++ []
theorem dksJ8_length_0 : cJ8_length.data.toList.drop 0 = dktJ8_length_0 := by decide +kernel
theorem dJ8_length_0 : decode cJ8_length 0 = .ok (.aload_n 0, 1) := dk_42 (dk_at dksJ8_length_0 0 rfl rfl)
theorem dJ8_length_1 : decode cJ8_length 1 = .ok (.arraylength, 1) := dk_190 (dk_at dksJ8_length_0 1 rfl rfl)
theorem dJ8_length_2 : decode cJ8_length 2 = .ok (.iconst 1, 1) := dk_4 (dk_at dksJ8_length_0 2 rfl rfl)
theorem dJ8_length_3 : decode cJ8_length 3 = .ok (.ishr, 1) := dk_122 (dk_at dksJ8_length_0 3 rfl rfl)
theorem dJ8_length_4 : decode cJ8_length 4 = .ok (.ireturn, 1) := dk_172 (dk_at dksJ8_length_0 4 rfl rfl)
abbrev cJ8_indexOfCharUnsafe : ByteArray := prog_53_method_48_code
def yJ8_indexOfCharUnsafe : MethodName := ⟨RJ8, "indexOfCharUnsafe", "([BIII)I"⟩
def dkwJ8_indexOfCharUnsafe_1 : List UInt8 := [132, 4, 1, 167, 255, 234, 2, 172]
abbrev dktJ8_indexOfCharUnsafe_1 : List UInt8 := dkwJ8_indexOfCharUnsafe_1 ++ []
def dkwJ8_indexOfCharUnsafe_0 : List UInt8 := [28, 54, 4, 21, 4, 29, 162, 0, 22, 42, 21, 4, 184, 0, 71, 27, 160, 0, 6, 21, 4, 172]
abbrev dktJ8_indexOfCharUnsafe_0 : List UInt8 := dkwJ8_indexOfCharUnsafe_0 ++ dktJ8_indexOfCharUnsafe_1
theorem dksJ8_indexOfCharUnsafe_0 : cJ8_indexOfCharUnsafe.data.toList.drop 0 = dktJ8_indexOfCharUnsafe_0 := by decide +kernel
theorem dksJ8_indexOfCharUnsafe_1 : cJ8_indexOfCharUnsafe.data.toList.drop 22 = dktJ8_indexOfCharUnsafe_1 := dk_seg dksJ8_indexOfCharUnsafe_0 22 rfl rfl
theorem dJ8_indexOfCharUnsafe_0 : decode cJ8_indexOfCharUnsafe 0 = .ok (.iload_n 2, 1) := dk_28 (dk_at dksJ8_indexOfCharUnsafe_0 0 rfl rfl)
theorem dJ8_indexOfCharUnsafe_1 : decode cJ8_indexOfCharUnsafe 1 = .ok (.istore 4, 2) := dk_54 4 (dk_at dksJ8_indexOfCharUnsafe_0 1 rfl rfl)
theorem dJ8_indexOfCharUnsafe_3 : decode cJ8_indexOfCharUnsafe 3 = .ok (.iload 4, 2) := dk_21 4 (dk_at dksJ8_indexOfCharUnsafe_0 3 rfl rfl)
theorem dJ8_indexOfCharUnsafe_5 : decode cJ8_indexOfCharUnsafe 5 = .ok (.iload_n 3, 1) := dk_29 (dk_at dksJ8_indexOfCharUnsafe_0 5 rfl rfl)
theorem dJ8_indexOfCharUnsafe_6 : decode cJ8_indexOfCharUnsafe 6 = .ok (.if_icmp .ge 22, 3) := dk_162 0 22 (dk_at dksJ8_indexOfCharUnsafe_0 6 rfl rfl)
theorem dJ8_indexOfCharUnsafe_9 : decode cJ8_indexOfCharUnsafe 9 = .ok (.aload_n 0, 1) := dk_42 (dk_at dksJ8_indexOfCharUnsafe_0 9 rfl rfl)
theorem dJ8_indexOfCharUnsafe_10 : decode cJ8_indexOfCharUnsafe 10 = .ok (.iload 4, 2) := dk_21 4 (dk_at dksJ8_indexOfCharUnsafe_0 10 rfl rfl)
theorem dJ8_indexOfCharUnsafe_12 : decode cJ8_indexOfCharUnsafe 12 = .ok (.invokestatic 71, 3) := dk_184 0 71 (dk_at dksJ8_indexOfCharUnsafe_0 12 rfl rfl)
theorem dJ8_indexOfCharUnsafe_15 : decode cJ8_indexOfCharUnsafe 15 = .ok (.iload_n 1, 1) := dk_27 (dk_at dksJ8_indexOfCharUnsafe_0 15 rfl rfl)
theorem dJ8_indexOfCharUnsafe_16 : decode cJ8_indexOfCharUnsafe 16 = .ok (.if_icmp .ne 6, 3) := dk_160 0 6 (dk_at dksJ8_indexOfCharUnsafe_0 16 rfl rfl)
theorem dJ8_indexOfCharUnsafe_19 : decode cJ8_indexOfCharUnsafe 19 = .ok (.iload 4, 2) := dk_21 4 (dk_at dksJ8_indexOfCharUnsafe_0 19 rfl rfl)
theorem dJ8_indexOfCharUnsafe_21 : decode cJ8_indexOfCharUnsafe 21 = .ok (.ireturn, 1) := dk_172 (dk_at dksJ8_indexOfCharUnsafe_0 21 rfl rfl)
theorem dJ8_indexOfCharUnsafe_22 : decode cJ8_indexOfCharUnsafe 22 = .ok (.iinc 4 1, 3) := dk_132 4 1 (dk_at dksJ8_indexOfCharUnsafe_1 0 rfl rfl)
theorem dJ8_indexOfCharUnsafe_25 : decode cJ8_indexOfCharUnsafe 25 = .ok (.goto (-22), 3) := dk_167 255 234 (dk_at dksJ8_indexOfCharUnsafe_1 3 rfl rfl)
theorem dJ8_indexOfCharUnsafe_28 : decode cJ8_indexOfCharUnsafe 28 = .ok (.iconst (-1), 1) := dk_2 (dk_at dksJ8_indexOfCharUnsafe_1 6 rfl rfl)
theorem dJ8_indexOfCharUnsafe_29 : decode cJ8_indexOfCharUnsafe 29 = .ok (.ireturn, 1) := dk_172 (dk_at dksJ8_indexOfCharUnsafe_1 7 rfl rfl)
abbrev cJ8_getChar : ByteArray := prog_53_method_5_code
def yJ8_getChar : MethodName := ⟨RJ8, "getChar", "([BI)C"⟩
def dkwJ8_getChar_2 : List UInt8 := [51, 17, 0, 255, 126, 178, 0, 63, 120, 128, 146, 172]
abbrev dktJ8_getChar_2 : List UInt8 := dkwJ8_getChar_2 ++ []
def dkwJ8_getChar_1 : List UInt8 := [183, 0, 56, 191, 27, 4, 120, 60, 42, 27, 132, 1, 1, 51, 17, 0, 255, 126, 178, 0, 59, 120, 42, 27]
abbrev dktJ8_getChar_1 : List UInt8 := dkwJ8_getChar_1 ++ dktJ8_getChar_2
def dkwJ8_getChar_0 : List UInt8 := [178, 0, 44, 154, 0, 25, 27, 155, 0, 11, 27, 42, 184, 0, 48, 161, 0, 13, 187, 0, 52, 89, 18, 54]
abbrev dktJ8_getChar_0 : List UInt8 := dkwJ8_getChar_0 ++ dktJ8_getChar_1
theorem dksJ8_getChar_0 : cJ8_getChar.data.toList.drop 0 = dktJ8_getChar_0 := by decide +kernel
theorem dksJ8_getChar_1 : cJ8_getChar.data.toList.drop 24 = dktJ8_getChar_1 := dk_seg dksJ8_getChar_0 24 rfl rfl
theorem dksJ8_getChar_2 : cJ8_getChar.data.toList.drop 48 = dktJ8_getChar_2 := dk_seg dksJ8_getChar_1 24 rfl rfl
theorem dJ8_getChar_0 : decode cJ8_getChar 0 = .ok (.getstatic 44, 3) := dk_178 0 44 (dk_at dksJ8_getChar_0 0 rfl rfl)
theorem dJ8_getChar_3 : decode cJ8_getChar 3 = .ok (.ifCond .ne 25, 3) := dk_154 0 25 (dk_at dksJ8_getChar_0 3 rfl rfl)
theorem dJ8_getChar_6 : decode cJ8_getChar 6 = .ok (.iload_n 1, 1) := dk_27 (dk_at dksJ8_getChar_0 6 rfl rfl)
theorem dJ8_getChar_7 : decode cJ8_getChar 7 = .ok (.ifCond .lt 11, 3) := dk_155 0 11 (dk_at dksJ8_getChar_0 7 rfl rfl)
theorem dJ8_getChar_10 : decode cJ8_getChar 10 = .ok (.iload_n 1, 1) := dk_27 (dk_at dksJ8_getChar_0 10 rfl rfl)
theorem dJ8_getChar_11 : decode cJ8_getChar 11 = .ok (.aload_n 0, 1) := dk_42 (dk_at dksJ8_getChar_0 11 rfl rfl)
theorem dJ8_getChar_12 : decode cJ8_getChar 12 = .ok (.invokestatic 48, 3) := dk_184 0 48 (dk_at dksJ8_getChar_0 12 rfl rfl)
theorem dJ8_getChar_15 : decode cJ8_getChar 15 = .ok (.if_icmp .lt 13, 3) := dk_161 0 13 (dk_at dksJ8_getChar_0 15 rfl rfl)
theorem dJ8_getChar_18 : decode cJ8_getChar 18 = .ok (.new 52, 3) := dk_187 0 52 (dk_at dksJ8_getChar_0 18 rfl rfl)
theorem dJ8_getChar_21 : decode cJ8_getChar 21 = .ok (.dup, 1) := dk_89 (dk_at dksJ8_getChar_0 21 rfl rfl)
theorem dJ8_getChar_22 : decode cJ8_getChar 22 = .ok (.ldc 54, 2) := dk_18 54 (dk_at dksJ8_getChar_0 22 rfl rfl)
theorem dJ8_getChar_24 : decode cJ8_getChar 24 = .ok (.invokespecial 56, 3) := dk_183 0 56 (dk_at dksJ8_getChar_1 0 rfl rfl)
theorem dJ8_getChar_27 : decode cJ8_getChar 27 = .ok (.athrow, 1) := dk_191 (dk_at dksJ8_getChar_1 3 rfl rfl)
theorem dJ8_getChar_28 : decode cJ8_getChar 28 = .ok (.iload_n 1, 1) := dk_27 (dk_at dksJ8_getChar_1 4 rfl rfl)
theorem dJ8_getChar_29 : decode cJ8_getChar 29 = .ok (.iconst 1, 1) := dk_4 (dk_at dksJ8_getChar_1 5 rfl rfl)
theorem dJ8_getChar_30 : decode cJ8_getChar 30 = .ok (.ishl, 1) := dk_120 (dk_at dksJ8_getChar_1 6 rfl rfl)
theorem dJ8_getChar_31 : decode cJ8_getChar 31 = .ok (.istore_n 1, 1) := dk_60 (dk_at dksJ8_getChar_1 7 rfl rfl)
theorem dJ8_getChar_32 : decode cJ8_getChar 32 = .ok (.aload_n 0, 1) := dk_42 (dk_at dksJ8_getChar_1 8 rfl rfl)
theorem dJ8_getChar_33 : decode cJ8_getChar 33 = .ok (.iload_n 1, 1) := dk_27 (dk_at dksJ8_getChar_1 9 rfl rfl)
theorem dJ8_getChar_34 : decode cJ8_getChar 34 = .ok (.iinc 1 1, 3) := dk_132 1 1 (dk_at dksJ8_getChar_1 10 rfl rfl)
theorem dJ8_getChar_37 : decode cJ8_getChar 37 = .ok (.baload, 1) := dk_51 (dk_at dksJ8_getChar_1 13 rfl rfl)
theorem dJ8_getChar_38 : decode cJ8_getChar 38 = .ok (.sipush 255, 3) := dk_17 0 255 (dk_at dksJ8_getChar_1 14 rfl rfl)
theorem dJ8_getChar_41 : decode cJ8_getChar 41 = .ok (.iand, 1) := dk_126 (dk_at dksJ8_getChar_1 17 rfl rfl)
theorem dJ8_getChar_42 : decode cJ8_getChar 42 = .ok (.getstatic 59, 3) := dk_178 0 59 (dk_at dksJ8_getChar_1 18 rfl rfl)
theorem dJ8_getChar_45 : decode cJ8_getChar 45 = .ok (.ishl, 1) := dk_120 (dk_at dksJ8_getChar_1 21 rfl rfl)
theorem dJ8_getChar_46 : decode cJ8_getChar 46 = .ok (.aload_n 0, 1) := dk_42 (dk_at dksJ8_getChar_1 22 rfl rfl)
theorem dJ8_getChar_47 : decode cJ8_getChar 47 = .ok (.iload_n 1, 1) := dk_27 (dk_at dksJ8_getChar_1 23 rfl rfl)
theorem dJ8_getChar_48 : decode cJ8_getChar 48 = .ok (.baload, 1) := dk_51 (dk_at dksJ8_getChar_2 0 rfl rfl)
theorem dJ8_getChar_49 : decode cJ8_getChar 49 = .ok (.sipush 255, 3) := dk_17 0 255 (dk_at dksJ8_getChar_2 1 rfl rfl)
theorem dJ8_getChar_52 : decode cJ8_getChar 52 = .ok (.iand, 1) := dk_126 (dk_at dksJ8_getChar_2 4 rfl rfl)
theorem dJ8_getChar_53 : decode cJ8_getChar 53 = .ok (.getstatic 63, 3) := dk_178 0 63 (dk_at dksJ8_getChar_2 5 rfl rfl)
theorem dJ8_getChar_56 : decode cJ8_getChar 56 = .ok (.ishl, 1) := dk_120 (dk_at dksJ8_getChar_2 8 rfl rfl)
theorem dJ8_getChar_57 : decode cJ8_getChar 57 = .ok (.ior, 1) := dk_128 (dk_at dksJ8_getChar_2 9 rfl rfl)
theorem dJ8_getChar_58 : decode cJ8_getChar 58 = .ok (.i2c, 1) := dk_146 (dk_at dksJ8_getChar_2 10 rfl rfl)
theorem dJ8_getChar_59 : decode cJ8_getChar 59 = .ok (.ireturn, 1) := dk_172 (dk_at dksJ8_getChar_2 11 rfl rfl)
abbrev cJ8_indexOfSupplementary : ByteArray := prog_53_method_49_code
def yJ8_indexOfSupplementary : MethodName := ⟨RJ8, "indexOfSupplementary", "([BIII)I"⟩
def dkwJ8_indexOfSupplementary_3 : List UInt8 := [167, 255, 218, 2, 172]
abbrev dktJ8_indexOfSupplementary_3 : List UInt8 := dkwJ8_indexOfSupplementary_3 ++ []
def dkwJ8_indexOfSupplementary_2 : List UInt8 := [160, 0, 19, 42, 21, 6, 4, 96, 184, 0, 71, 21, 5, 160, 0, 6, 21, 6, 172, 132, 6, 1]
abbrev dktJ8_indexOfSupplementary_2 : List UInt8 := dkwJ8_indexOfSupplementary_2 ++ dktJ8_indexOfSupplementary_3
def dkwJ8_indexOfSupplementary_1 : List UInt8 := [184, 0, 96, 28, 54, 6, 21, 6, 29, 4, 100, 162, 0, 36, 42, 21, 6, 184, 0, 71, 21, 4]
abbrev dktJ8_indexOfSupplementary_1 : List UInt8 := dkwJ8_indexOfSupplementary_1 ++ dktJ8_indexOfSupplementary_2
def dkwJ8_indexOfSupplementary_0 : List UInt8 := [27, 184, 0, 164, 153, 0, 65, 27, 184, 0, 157, 54, 4, 27, 184, 0, 161, 54, 5, 28, 29, 42]
abbrev dktJ8_indexOfSupplementary_0 : List UInt8 := dkwJ8_indexOfSupplementary_0 ++ dktJ8_indexOfSupplementary_1
theorem dksJ8_indexOfSupplementary_0 : cJ8_indexOfSupplementary.data.toList.drop 0 = dktJ8_indexOfSupplementary_0 := by decide +kernel
theorem dksJ8_indexOfSupplementary_1 : cJ8_indexOfSupplementary.data.toList.drop 22 = dktJ8_indexOfSupplementary_1 := dk_seg dksJ8_indexOfSupplementary_0 22 rfl rfl
theorem dksJ8_indexOfSupplementary_2 : cJ8_indexOfSupplementary.data.toList.drop 44 = dktJ8_indexOfSupplementary_2 := dk_seg dksJ8_indexOfSupplementary_1 22 rfl rfl
theorem dksJ8_indexOfSupplementary_3 : cJ8_indexOfSupplementary.data.toList.drop 66 = dktJ8_indexOfSupplementary_3 := dk_seg dksJ8_indexOfSupplementary_2 22 rfl rfl
theorem dJ8_indexOfSupplementary_0 : decode cJ8_indexOfSupplementary 0 = .ok (.iload_n 1, 1) := dk_27 (dk_at dksJ8_indexOfSupplementary_0 0 rfl rfl)
theorem dJ8_indexOfSupplementary_1 : decode cJ8_indexOfSupplementary 1 = .ok (.invokestatic 164, 3) := dk_184 0 164 (dk_at dksJ8_indexOfSupplementary_0 1 rfl rfl)
theorem dJ8_indexOfSupplementary_4 : decode cJ8_indexOfSupplementary 4 = .ok (.ifCond .eq 65, 3) := dk_153 0 65 (dk_at dksJ8_indexOfSupplementary_0 4 rfl rfl)
theorem dJ8_indexOfSupplementary_7 : decode cJ8_indexOfSupplementary 7 = .ok (.iload_n 1, 1) := dk_27 (dk_at dksJ8_indexOfSupplementary_0 7 rfl rfl)
theorem dJ8_indexOfSupplementary_8 : decode cJ8_indexOfSupplementary 8 = .ok (.invokestatic 157, 3) := dk_184 0 157 (dk_at dksJ8_indexOfSupplementary_0 8 rfl rfl)
theorem dJ8_indexOfSupplementary_11 : decode cJ8_indexOfSupplementary 11 = .ok (.istore 4, 2) := dk_54 4 (dk_at dksJ8_indexOfSupplementary_0 11 rfl rfl)
theorem dJ8_indexOfSupplementary_13 : decode cJ8_indexOfSupplementary 13 = .ok (.iload_n 1, 1) := dk_27 (dk_at dksJ8_indexOfSupplementary_0 13 rfl rfl)
theorem dJ8_indexOfSupplementary_14 : decode cJ8_indexOfSupplementary 14 = .ok (.invokestatic 161, 3) := dk_184 0 161 (dk_at dksJ8_indexOfSupplementary_0 14 rfl rfl)
theorem dJ8_indexOfSupplementary_17 : decode cJ8_indexOfSupplementary 17 = .ok (.istore 5, 2) := dk_54 5 (dk_at dksJ8_indexOfSupplementary_0 17 rfl rfl)
theorem dJ8_indexOfSupplementary_19 : decode cJ8_indexOfSupplementary 19 = .ok (.iload_n 2, 1) := dk_28 (dk_at dksJ8_indexOfSupplementary_0 19 rfl rfl)
theorem dJ8_indexOfSupplementary_20 : decode cJ8_indexOfSupplementary 20 = .ok (.iload_n 3, 1) := dk_29 (dk_at dksJ8_indexOfSupplementary_0 20 rfl rfl)
theorem dJ8_indexOfSupplementary_21 : decode cJ8_indexOfSupplementary 21 = .ok (.aload_n 0, 1) := dk_42 (dk_at dksJ8_indexOfSupplementary_0 21 rfl rfl)
theorem dJ8_indexOfSupplementary_22 : decode cJ8_indexOfSupplementary 22 = .ok (.invokestatic 96, 3) := dk_184 0 96 (dk_at dksJ8_indexOfSupplementary_1 0 rfl rfl)
theorem dJ8_indexOfSupplementary_25 : decode cJ8_indexOfSupplementary 25 = .ok (.iload_n 2, 1) := dk_28 (dk_at dksJ8_indexOfSupplementary_1 3 rfl rfl)
theorem dJ8_indexOfSupplementary_26 : decode cJ8_indexOfSupplementary 26 = .ok (.istore 6, 2) := dk_54 6 (dk_at dksJ8_indexOfSupplementary_1 4 rfl rfl)
theorem dJ8_indexOfSupplementary_28 : decode cJ8_indexOfSupplementary 28 = .ok (.iload 6, 2) := dk_21 6 (dk_at dksJ8_indexOfSupplementary_1 6 rfl rfl)
theorem dJ8_indexOfSupplementary_30 : decode cJ8_indexOfSupplementary 30 = .ok (.iload_n 3, 1) := dk_29 (dk_at dksJ8_indexOfSupplementary_1 8 rfl rfl)
theorem dJ8_indexOfSupplementary_31 : decode cJ8_indexOfSupplementary 31 = .ok (.iconst 1, 1) := dk_4 (dk_at dksJ8_indexOfSupplementary_1 9 rfl rfl)
theorem dJ8_indexOfSupplementary_32 : decode cJ8_indexOfSupplementary 32 = .ok (.isub, 1) := dk_100 (dk_at dksJ8_indexOfSupplementary_1 10 rfl rfl)
theorem dJ8_indexOfSupplementary_33 : decode cJ8_indexOfSupplementary 33 = .ok (.if_icmp .ge 36, 3) := dk_162 0 36 (dk_at dksJ8_indexOfSupplementary_1 11 rfl rfl)
theorem dJ8_indexOfSupplementary_36 : decode cJ8_indexOfSupplementary 36 = .ok (.aload_n 0, 1) := dk_42 (dk_at dksJ8_indexOfSupplementary_1 14 rfl rfl)
theorem dJ8_indexOfSupplementary_37 : decode cJ8_indexOfSupplementary 37 = .ok (.iload 6, 2) := dk_21 6 (dk_at dksJ8_indexOfSupplementary_1 15 rfl rfl)
theorem dJ8_indexOfSupplementary_39 : decode cJ8_indexOfSupplementary 39 = .ok (.invokestatic 71, 3) := dk_184 0 71 (dk_at dksJ8_indexOfSupplementary_1 17 rfl rfl)
theorem dJ8_indexOfSupplementary_42 : decode cJ8_indexOfSupplementary 42 = .ok (.iload 4, 2) := dk_21 4 (dk_at dksJ8_indexOfSupplementary_1 20 rfl rfl)
theorem dJ8_indexOfSupplementary_44 : decode cJ8_indexOfSupplementary 44 = .ok (.if_icmp .ne 19, 3) := dk_160 0 19 (dk_at dksJ8_indexOfSupplementary_2 0 rfl rfl)
theorem dJ8_indexOfSupplementary_47 : decode cJ8_indexOfSupplementary 47 = .ok (.aload_n 0, 1) := dk_42 (dk_at dksJ8_indexOfSupplementary_2 3 rfl rfl)
theorem dJ8_indexOfSupplementary_48 : decode cJ8_indexOfSupplementary 48 = .ok (.iload 6, 2) := dk_21 6 (dk_at dksJ8_indexOfSupplementary_2 4 rfl rfl)
theorem dJ8_indexOfSupplementary_50 : decode cJ8_indexOfSupplementary 50 = .ok (.iconst 1, 1) := dk_4 (dk_at dksJ8_indexOfSupplementary_2 6 rfl rfl)
theorem dJ8_indexOfSupplementary_51 : decode cJ8_indexOfSupplementary 51 = .ok (.iadd, 1) := dk_96 (dk_at dksJ8_indexOfSupplementary_2 7 rfl rfl)
theorem dJ8_indexOfSupplementary_52 : decode cJ8_indexOfSupplementary 52 = .ok (.invokestatic 71, 3) := dk_184 0 71 (dk_at dksJ8_indexOfSupplementary_2 8 rfl rfl)
theorem dJ8_indexOfSupplementary_55 : decode cJ8_indexOfSupplementary 55 = .ok (.iload 5, 2) := dk_21 5 (dk_at dksJ8_indexOfSupplementary_2 11 rfl rfl)
theorem dJ8_indexOfSupplementary_57 : decode cJ8_indexOfSupplementary 57 = .ok (.if_icmp .ne 6, 3) := dk_160 0 6 (dk_at dksJ8_indexOfSupplementary_2 13 rfl rfl)
theorem dJ8_indexOfSupplementary_60 : decode cJ8_indexOfSupplementary 60 = .ok (.iload 6, 2) := dk_21 6 (dk_at dksJ8_indexOfSupplementary_2 16 rfl rfl)
theorem dJ8_indexOfSupplementary_62 : decode cJ8_indexOfSupplementary 62 = .ok (.ireturn, 1) := dk_172 (dk_at dksJ8_indexOfSupplementary_2 18 rfl rfl)
theorem dJ8_indexOfSupplementary_63 : decode cJ8_indexOfSupplementary 63 = .ok (.iinc 6 1, 3) := dk_132 6 1 (dk_at dksJ8_indexOfSupplementary_2 19 rfl rfl)
theorem dJ8_indexOfSupplementary_66 : decode cJ8_indexOfSupplementary 66 = .ok (.goto (-38), 3) := dk_167 255 218 (dk_at dksJ8_indexOfSupplementary_3 0 rfl rfl)
theorem dJ8_indexOfSupplementary_69 : decode cJ8_indexOfSupplementary 69 = .ok (.iconst (-1), 1) := dk_2 (dk_at dksJ8_indexOfSupplementary_3 3 rfl rfl)
theorem dJ8_indexOfSupplementary_70 : decode cJ8_indexOfSupplementary 70 = .ok (.ireturn, 1) := dk_172 (dk_at dksJ8_indexOfSupplementary_3 4 rfl rfl)
abbrev cJ8_charAt : ByteArray := prog_53_method_83_code
def yJ8_charAt : MethodName := ⟨RJ8, "charAt", "([BI)C"⟩
def dkwJ8_charAt_0 : List UInt8 := [27, 42, 184, 0, 67, 42, 27, 184, 0, 71, 172]
abbrev dktJ8_charAt_0 : List UInt8 := dkwJ8_charAt_0 ++ []
theorem dksJ8_charAt_0 : cJ8_charAt.data.toList.drop 0 = dktJ8_charAt_0 := by decide +kernel
theorem dJ8_charAt_0 : decode cJ8_charAt 0 = .ok (.iload_n 1, 1) := dk_27 (dk_at dksJ8_charAt_0 0 rfl rfl)
theorem dJ8_charAt_1 : decode cJ8_charAt 1 = .ok (.aload_n 0, 1) := dk_42 (dk_at dksJ8_charAt_0 1 rfl rfl)
theorem dJ8_charAt_2 : decode cJ8_charAt 2 = .ok (.invokestatic 67, 3) := dk_184 0 67 (dk_at dksJ8_charAt_0 2 rfl rfl)
theorem dJ8_charAt_5 : decode cJ8_charAt 5 = .ok (.aload_n 0, 1) := dk_42 (dk_at dksJ8_charAt_0 5 rfl rfl)
theorem dJ8_charAt_6 : decode cJ8_charAt 6 = .ok (.iload_n 1, 1) := dk_27 (dk_at dksJ8_charAt_0 6 rfl rfl)
theorem dJ8_charAt_7 : decode cJ8_charAt 7 = .ok (.invokestatic 71, 3) := dk_184 0 71 (dk_at dksJ8_charAt_0 7 rfl rfl)
theorem dJ8_charAt_10 : decode cJ8_charAt 10 = .ok (.ireturn, 1) := dk_172 (dk_at dksJ8_charAt_0 10 rfl rfl)
abbrev cJ8_checkIndex : ByteArray := prog_53_method_91_code
def yJ8_checkIndex : MethodName := ⟨RJ8, "checkIndex", "(I[B)V"⟩
def dkwJ8_checkIndex_0 : List UInt8 := [26, 43, 184, 0, 48, 184, 1, 158, 177]
abbrev dktJ8_checkIndex_0 : List UInt8 := dkwJ8_checkIndex_0 ++ []
theorem dksJ8_checkIndex_0 : cJ8_checkIndex.data.toList.drop 0 = dktJ8_checkIndex_0 := by decide +kernel
theorem dJ8_checkIndex_0 : decode cJ8_checkIndex 0 = .ok (.iload_n 0, 1) := dk_26 (dk_at dksJ8_checkIndex_0 0 rfl rfl)
theorem dJ8_checkIndex_1 : decode cJ8_checkIndex 1 = .ok (.aload_n 1, 1) := dk_43 (dk_at dksJ8_checkIndex_0 1 rfl rfl)
theorem dJ8_checkIndex_2 : decode cJ8_checkIndex 2 = .ok (.invokestatic 48, 3) := dk_184 0 48 (dk_at dksJ8_checkIndex_0 2 rfl rfl)
theorem dJ8_checkIndex_5 : decode cJ8_checkIndex 5 = .ok (.invokestatic 414, 3) := dk_184 1 158 (dk_at dksJ8_checkIndex_0 5 rfl rfl)
theorem dJ8_checkIndex_8 : decode cJ8_checkIndex 8 = .ok (.return_, 1) := dk_177 (dk_at dksJ8_checkIndex_0 8 rfl rfl)
theorem q147 : (Jvm.Cond.initialized "java/lang/StringUTF16") ∈ lw_all := lw_g (lw_at lw_m1 19 rfl) rfl
theorem q651 : (Jvm.Cond.static ({ cls := "java/lang/StringUTF16", name := "indexOf", desc := "([BIII)I" } : Jvm.MethodName)) ∈ lw_all := lw_g (lw_at lw_m3 43 rfl) rfl
theorem q652 : (Jvm.Cond.code ({ cls := "java/lang/StringUTF16", name := "indexOf", desc := "([BIII)I" } : Jvm.MethodName) prog_53_method_40_code (4 : Nat) (Option.some Jvm.ClassFile.FieldType.int)) ∈ lw_all := lw_g (lw_at lw_m3 44 rfl) rfl
theorem q653 : (Jvm.Cond.methodLink "java/lang/StringUTF16" (224 : Nat) ({ cls := "java/lang/Math", name := "max", desc := "(II)I" } : Jvm.MethodName)) ∈ lw_all := lw_g (lw_at lw_m3 45 rfl) rfl
theorem q654 : (Jvm.Cond.methodLink "java/lang/StringUTF16" (183 : Nat) ({ cls := "java/lang/Math", name := "min", desc := "(II)I" } : Jvm.MethodName)) ∈ lw_all := lw_g (lw_at lw_m3 46 rfl) rfl
theorem q655 : (Jvm.Cond.constant "java/lang/StringUTF16" (227 : Nat) (65536 : Int32)) ∈ lw_all := lw_g (lw_at lw_m3 47 rfl) rfl
theorem q656 : (Jvm.Cond.methodLink "java/lang/StringUTF16" (228 : Nat) ({ cls := "java/lang/StringUTF16", name := "indexOfChar", desc := "([BIII)I" } : Jvm.MethodName)) ∈ lw_all := lw_g (lw_at lw_m3 48 rfl) rfl
theorem q657 : (Jvm.Cond.static ({ cls := "java/lang/StringUTF16", name := "indexOfChar", desc := "([BIII)I" } : Jvm.MethodName)) ∈ lw_all := lw_g (lw_at lw_m3 49 rfl) rfl
theorem q658 : (Jvm.Cond.code ({ cls := "java/lang/StringUTF16", name := "indexOfChar", desc := "([BIII)I" } : Jvm.MethodName) prog_53_method_47_code (4 : Nat) (Option.some Jvm.ClassFile.FieldType.int)) ∈ lw_all := lw_g (lw_at lw_m3 50 rfl) rfl
theorem q659 : (Jvm.Cond.methodLink "java/lang/StringUTF16" (96 : Nat) ({ cls := "java/lang/StringUTF16", name := "checkBoundsBeginEnd", desc := "(II[B)V" } : Jvm.MethodName)) ∈ lw_all := lw_g (lw_at lw_m3 51 rfl) rfl
theorem q660 : (Jvm.Cond.static ({ cls := "java/lang/StringUTF16", name := "checkBoundsBeginEnd", desc := "(II[B)V" } : Jvm.MethodName)) ∈ lw_all := lw_g (lw_at lw_m3 52 rfl) rfl
theorem q661 : (Jvm.Cond.code ({ cls := "java/lang/StringUTF16", name := "checkBoundsBeginEnd", desc := "(II[B)V" } : Jvm.MethodName) prog_53_method_93_code (3 : Nat) (Option.none : Option Jvm.ClassFile.FieldType)) ∈ lw_all := lw_g (lw_at lw_m3 53 rfl) rfl
theorem q662 : (Jvm.Cond.methodLink "java/lang/StringUTF16" (48 : Nat) ({ cls := "java/lang/StringUTF16", name := "length", desc := "([B)I" } : Jvm.MethodName)) ∈ lw_all := lw_g (lw_at lw_m3 54 rfl) rfl
theorem q663 : (Jvm.Cond.static ({ cls := "java/lang/StringUTF16", name := "length", desc := "([B)I" } : Jvm.MethodName)) ∈ lw_all := lw_g (lw_at lw_m3 55 rfl) rfl
theorem q664 : (Jvm.Cond.code ({ cls := "java/lang/StringUTF16", name := "length", desc := "([B)I" } : Jvm.MethodName) prog_53_method_6_code (1 : Nat) (Option.some Jvm.ClassFile.FieldType.int)) ∈ lw_all := lw_g (lw_at lw_m3 56 rfl) rfl
theorem q665 : (Jvm.Cond.methodLink "java/lang/StringUTF16" (241 : Nat) ({ cls := "java/lang/String", name := "checkBoundsBeginEnd", desc := "(III)V" } : Jvm.MethodName)) ∈ lw_all := lw_g (lw_at lw_m3 57 rfl) rfl
theorem q673 : (Jvm.Cond.methodLink "java/lang/StringUTF16" (244 : Nat) ({ cls := "java/lang/StringUTF16", name := "indexOfCharUnsafe", desc := "([BIII)I" } : Jvm.MethodName)) ∈ lw_all := lw_g (lw_at lw_m3 65 rfl) rfl
theorem q674 : (Jvm.Cond.static ({ cls := "java/lang/StringUTF16", name := "indexOfCharUnsafe", desc := "([BIII)I" } : Jvm.MethodName)) ∈ lw_all := lw_g (lw_at lw_m3 66 rfl) rfl
theorem q675 : (Jvm.Cond.code ({ cls := "java/lang/StringUTF16", name := "indexOfCharUnsafe", desc := "([BIII)I" } : Jvm.MethodName) prog_53_method_48_code (5 : Nat) (Option.some Jvm.ClassFile.FieldType.int)) ∈ lw_all := lw_g (lw_at lw_m3 67 rfl) rfl
theorem q676 : (Jvm.Cond.methodLink "java/lang/StringUTF16" (71 : Nat) ({ cls := "java/lang/StringUTF16", name := "getChar", desc := "([BI)C" } : Jvm.MethodName)) ∈ lw_all := lw_g (lw_at lw_m3 68 rfl) rfl
theorem q677 : (Jvm.Cond.static ({ cls := "java/lang/StringUTF16", name := "getChar", desc := "([BI)C" } : Jvm.MethodName)) ∈ lw_all := lw_g (lw_at lw_m3 69 rfl) rfl
theorem q678 : (Jvm.Cond.code ({ cls := "java/lang/StringUTF16", name := "getChar", desc := "([BI)C" } : Jvm.MethodName) prog_53_method_5_code (2 : Nat) (Option.some Jvm.ClassFile.FieldType.char)) ∈ lw_all := lw_g (lw_at lw_m3 70 rfl) rfl
theorem q679 : (Jvm.Cond.fieldLink "java/lang/StringUTF16" (44 : Nat) "java/lang/StringUTF16" "$assertionsDisabled" "Z") ∈ lw_all := lw_g (lw_at lw_m3 71 rfl) rfl
theorem q680 : (Jvm.Cond.laysStatic "java/lang/StringUTF16" "$assertionsDisabled" "Z") ∈ lw_tbl := lw_at lw_m3 72 rfl
theorem q681 : (Jvm.Cond.fieldLink "java/lang/StringUTF16" (59 : Nat) "java/lang/StringUTF16" "HI_BYTE_SHIFT" "I") ∈ lw_all := lw_g (lw_at lw_m3 73 rfl) rfl
theorem q682 : (Jvm.Cond.laysStatic "java/lang/StringUTF16" "HI_BYTE_SHIFT" "I") ∈ lw_tbl := lw_at lw_m3 74 rfl
theorem q683 : (Jvm.Cond.fieldLink "java/lang/StringUTF16" (63 : Nat) "java/lang/StringUTF16" "LO_BYTE_SHIFT" "I") ∈ lw_all := lw_g (lw_at lw_m3 75 rfl) rfl
theorem q684 : (Jvm.Cond.laysStatic "java/lang/StringUTF16" "LO_BYTE_SHIFT" "I") ∈ lw_tbl := lw_at lw_m3 76 rfl
theorem q685 : (Jvm.Cond.methodLink "java/lang/StringUTF16" (232 : Nat) ({ cls := "java/lang/StringUTF16", name := "indexOfSupplementary", desc := "([BIII)I" } : Jvm.MethodName)) ∈ lw_all := lw_g (lw_at lw_m3 77 rfl) rfl
theorem q686 : (Jvm.Cond.static ({ cls := "java/lang/StringUTF16", name := "indexOfSupplementary", desc := "([BIII)I" } : Jvm.MethodName)) ∈ lw_all := lw_g (lw_at lw_m3 78 rfl) rfl
theorem q687 : (Jvm.Cond.code ({ cls := "java/lang/StringUTF16", name := "indexOfSupplementary", desc := "([BIII)I" } : Jvm.MethodName) prog_53_method_49_code (7 : Nat) (Option.some Jvm.ClassFile.FieldType.int)) ∈ lw_all := lw_g (lw_at lw_m3 79 rfl) rfl
theorem q688 : (Jvm.Cond.methodLink "java/lang/StringUTF16" (164 : Nat) ({ cls := "java/lang/Character", name := "isValidCodePoint", desc := "(I)Z" } : Jvm.MethodName)) ∈ lw_all := lw_g (lw_at lw_m3 80 rfl) rfl
theorem q691 : (Jvm.Cond.methodLink "java/lang/StringUTF16" (157 : Nat) ({ cls := "java/lang/Character", name := "highSurrogate", desc := "(I)C" } : Jvm.MethodName)) ∈ lw_all := lw_g (lw_at lw_m3 83 rfl) rfl
theorem q695 : (Jvm.Cond.methodLink "java/lang/StringUTF16" (161 : Nat) ({ cls := "java/lang/Character", name := "lowSurrogate", desc := "(I)C" } : Jvm.MethodName)) ∈ lw_all := lw_g (lw_at lw_m3 87 rfl) rfl
theorem q721 : (Jvm.Cond.static ({ cls := "java/lang/StringUTF16", name := "charAt", desc := "([BI)C" } : Jvm.MethodName)) ∈ lw_all := lw_g (lw_at lw_m3 113 rfl) rfl
theorem q722 : (Jvm.Cond.code ({ cls := "java/lang/StringUTF16", name := "charAt", desc := "([BI)C" } : Jvm.MethodName) prog_53_method_83_code (2 : Nat) (Option.some Jvm.ClassFile.FieldType.char)) ∈ lw_all := lw_g (lw_at lw_m3 114 rfl) rfl
theorem q723 : (Jvm.Cond.methodLink "java/lang/StringUTF16" (67 : Nat) ({ cls := "java/lang/StringUTF16", name := "checkIndex", desc := "(I[B)V" } : Jvm.MethodName)) ∈ lw_all := lw_g (lw_at lw_m3 115 rfl) rfl
theorem q724 : (Jvm.Cond.static ({ cls := "java/lang/StringUTF16", name := "checkIndex", desc := "(I[B)V" } : Jvm.MethodName)) ∈ lw_all := lw_g (lw_at lw_m3 116 rfl) rfl
theorem q725 : (Jvm.Cond.code ({ cls := "java/lang/StringUTF16", name := "checkIndex", desc := "(I[B)V" } : Jvm.MethodName) prog_53_method_91_code (2 : Nat) (Option.none : Option Jvm.ClassFile.FieldType)) ∈ lw_all := lw_g (lw_at lw_m3 117 rfl) rfl
theorem q726 : (Jvm.Cond.methodLink "java/lang/StringUTF16" (414 : Nat) ({ cls := "java/lang/String", name := "checkIndex", desc := "(II)V" } : Jvm.MethodName)) ∈ lw_all := lw_g (lw_at lw_m3 118 rfl) rfl
/-! java/lang/Character -/
set_option maxRecDepth 100000
def RJ9 : String := "java/lang/Character"
abbrev cJ9_isValidCodePoint : ByteArray := prog_39_method_11_code
def yJ9_isValidCodePoint : MethodName := ⟨RJ9, "isValidCodePoint", "(I)Z"⟩
def dkwJ9_isValidCodePoint_0 : List UInt8 := [26, 16, 16, 124, 60, 27, 16, 17, 162, 0, 7, 4, 167, 0, 4, 3, 172]
abbrev dktJ9_isValidCodePoint_0 : List UInt8 := dkwJ9_isValidCodePoint_0 ++ []
theorem dksJ9_isValidCodePoint_0 : cJ9_isValidCodePoint.data.toList.drop 0 = dktJ9_isValidCodePoint_0 := by decide +kernel
theorem dJ9_isValidCodePoint_0 : decode cJ9_isValidCodePoint 0 = .ok (.iload_n 0, 1) := dk_26 (dk_at dksJ9_isValidCodePoint_0 0 rfl rfl)
theorem dJ9_isValidCodePoint_1 : decode cJ9_isValidCodePoint 1 = .ok (.bipush 16, 2) := dk_16 16 (dk_at dksJ9_isValidCodePoint_0 1 rfl rfl)
theorem dJ9_isValidCodePoint_3 : decode cJ9_isValidCodePoint 3 = .ok (.iushr, 1) := dk_124 (dk_at dksJ9_isValidCodePoint_0 3 rfl rfl)
theorem dJ9_isValidCodePoint_4 : decode cJ9_isValidCodePoint 4 = .ok (.istore_n 1, 1) := dk_60 (dk_at dksJ9_isValidCodePoint_0 4 rfl rfl)
theorem dJ9_isValidCodePoint_5 : decode cJ9_isValidCodePoint 5 = .ok (.iload_n 1, 1) := dk_27 (dk_at dksJ9_isValidCodePoint_0 5 rfl rfl)
theorem dJ9_isValidCodePoint_6 : decode cJ9_isValidCodePoint 6 = .ok (.bipush 17, 2) := dk_16 17 (dk_at dksJ9_isValidCodePoint_0 6 rfl rfl)
theorem dJ9_isValidCodePoint_8 : decode cJ9_isValidCodePoint 8 = .ok (.if_icmp .ge 7, 3) := dk_162 0 7 (dk_at dksJ9_isValidCodePoint_0 8 rfl rfl)
theorem dJ9_isValidCodePoint_11 : decode cJ9_isValidCodePoint 11 = .ok (.iconst 1, 1) := dk_4 (dk_at dksJ9_isValidCodePoint_0 11 rfl rfl)
theorem dJ9_isValidCodePoint_12 : decode cJ9_isValidCodePoint 12 = .ok (.goto 4, 3) := dk_167 0 4 (dk_at dksJ9_isValidCodePoint_0 12 rfl rfl)
theorem dJ9_isValidCodePoint_15 : decode cJ9_isValidCodePoint 15 = .ok (.iconst 0, 1) := dk_3 (dk_at dksJ9_isValidCodePoint_0 15 rfl rfl)
theorem dJ9_isValidCodePoint_16 : decode cJ9_isValidCodePoint 16 = .ok (.ireturn, 1) := dk_172 (dk_at dksJ9_isValidCodePoint_0 16 rfl rfl)
abbrev cJ9_highSurrogate : ByteArray := prog_39_method_28_code
def yJ9_highSurrogate : MethodName := ⟨RJ9, "highSurrogate", "(I)C"⟩
def dkwJ9_highSurrogate_0 : List UInt8 := [26, 16, 10, 124, 18, 110, 96, 146, 172]
abbrev dktJ9_highSurrogate_0 : List UInt8 := dkwJ9_highSurrogate_0 ++ []
theorem dksJ9_highSurrogate_0 : cJ9_highSurrogate.data.toList.drop 0 = dktJ9_highSurrogate_0 := by decide +kernel
theorem dJ9_highSurrogate_0 : decode cJ9_highSurrogate 0 = .ok (.iload_n 0, 1) := dk_26 (dk_at dksJ9_highSurrogate_0 0 rfl rfl)
theorem dJ9_highSurrogate_1 : decode cJ9_highSurrogate 1 = .ok (.bipush 10, 2) := dk_16 10 (dk_at dksJ9_highSurrogate_0 1 rfl rfl)
theorem dJ9_highSurrogate_3 : decode cJ9_highSurrogate 3 = .ok (.iushr, 1) := dk_124 (dk_at dksJ9_highSurrogate_0 3 rfl rfl)
theorem dJ9_highSurrogate_4 : decode cJ9_highSurrogate 4 = .ok (.ldc 110, 2) := dk_18 110 (dk_at dksJ9_highSurrogate_0 4 rfl rfl)
theorem dJ9_highSurrogate_6 : decode cJ9_highSurrogate 6 = .ok (.iadd, 1) := dk_96 (dk_at dksJ9_highSurrogate_0 6 rfl rfl)
theorem dJ9_highSurrogate_7 : decode cJ9_highSurrogate 7 = .ok (.i2c, 1) := dk_146 (dk_at dksJ9_highSurrogate_0 7 rfl rfl)
theorem dJ9_highSurrogate_8 : decode cJ9_highSurrogate 8 = .ok (.ireturn, 1) := dk_172 (dk_at dksJ9_highSurrogate_0 8 rfl rfl)
abbrev cJ9_lowSurrogate : ByteArray := prog_39_method_29_code
def yJ9_lowSurrogate : MethodName := ⟨RJ9, "lowSurrogate", "(I)C"⟩
def dkwJ9_lowSurrogate_0 : List UInt8 := [26, 17, 3, 255, 126, 18, 76, 96, 146, 172]
abbrev dktJ9_lowSurrogate_0 : List UInt8 := dkwJ9_lowSurrogate_0 ++ []
theorem dksJ9_lowSurrogate_0 : cJ9_lowSurrogate.data.toList.drop 0 = dktJ9_lowSurrogate_0 := by decide +kernel
theorem dJ9_lowSurrogate_0 : decode cJ9_lowSurrogate 0 = .ok (.iload_n 0, 1) := dk_26 (dk_at dksJ9_lowSurrogate_0 0 rfl rfl)
theorem dJ9_lowSurrogate_1 : decode cJ9_lowSurrogate 1 = .ok (.sipush 1023, 3) := dk_17 3 255 (dk_at dksJ9_lowSurrogate_0 1 rfl rfl)
theorem dJ9_lowSurrogate_4 : decode cJ9_lowSurrogate 4 = .ok (.iand, 1) := dk_126 (dk_at dksJ9_lowSurrogate_0 4 rfl rfl)
theorem dJ9_lowSurrogate_5 : decode cJ9_lowSurrogate 5 = .ok (.ldc 76, 2) := dk_18 76 (dk_at dksJ9_lowSurrogate_0 5 rfl rfl)
theorem dJ9_lowSurrogate_7 : decode cJ9_lowSurrogate 7 = .ok (.iadd, 1) := dk_96 (dk_at dksJ9_lowSurrogate_0 7 rfl rfl)
theorem dJ9_lowSurrogate_8 : decode cJ9_lowSurrogate 8 = .ok (.i2c, 1) := dk_146 (dk_at dksJ9_lowSurrogate_0 8 rfl rfl)
theorem dJ9_lowSurrogate_9 : decode cJ9_lowSurrogate 9 = .ok (.ireturn, 1) := dk_172 (dk_at dksJ9_lowSurrogate_0 9 rfl rfl)
theorem q148 : (Jvm.Cond.initialized "java/lang/Character") ∈ lw_all := lw_g (lw_at lw_m1 20 rfl) rfl
theorem q689 : (Jvm.Cond.static ({ cls := "java/lang/Character", name := "isValidCodePoint", desc := "(I)Z" } : Jvm.MethodName)) ∈ lw_all := lw_g (lw_at lw_m3 81 rfl) rfl
theorem q690 : (Jvm.Cond.code ({ cls := "java/lang/Character", name := "isValidCodePoint", desc := "(I)Z" } : Jvm.MethodName) prog_39_method_11_code (2 : Nat) (Option.some Jvm.ClassFile.FieldType.boolean)) ∈ lw_all := lw_g (lw_at lw_m3 82 rfl) rfl
theorem q692 : (Jvm.Cond.static ({ cls := "java/lang/Character", name := "highSurrogate", desc := "(I)C" } : Jvm.MethodName)) ∈ lw_all := lw_g (lw_at lw_m3 84 rfl) rfl
theorem q693 : (Jvm.Cond.code ({ cls := "java/lang/Character", name := "highSurrogate", desc := "(I)C" } : Jvm.MethodName) prog_39_method_28_code (1 : Nat) (Option.some Jvm.ClassFile.FieldType.char)) ∈ lw_all := lw_g (lw_at lw_m3 85 rfl) rfl
theorem q694 : (Jvm.Cond.constant "java/lang/Character" (110 : Nat) (55232 : Int32)) ∈ lw_all := lw_g (lw_at lw_m3 86 rfl) rfl
theorem q696 : (Jvm.Cond.static ({ cls := "java/lang/Character", name := "lowSurrogate", desc := "(I)C" } : Jvm.MethodName)) ∈ lw_all := lw_g (lw_at lw_m3 88 rfl) rfl
theorem q697 : (Jvm.Cond.code ({ cls := "java/lang/Character", name := "lowSurrogate", desc := "(I)C" } : Jvm.MethodName) prog_39_method_29_code (1 : Nat) (Option.some Jvm.ClassFile.FieldType.char)) ∈ lw_all := lw_g (lw_at lw_m3 89 rfl) rfl
theorem q698 : (Jvm.Cond.constant "java/lang/Character" (76 : Nat) (56320 : Int32)) ∈ lw_all := lw_g (lw_at lw_m3 90 rfl) rfl
theorem q2573 : (Jvm.Cond.castable "[B" "java/lang/Object") ∈ lw_tbl := lw_at lw_m11 45 rfl
set_option maxRecDepth 100000
theorem q2574 : (Jvm.Cond.castable "[I" "java/lang/Object") ∈ lw_tbl := lw_at lw_m11 46 rfl
set_option maxRecDepth 100000
theorem q2575 : (Jvm.Cond.castable "[J" "java/lang/Object") ∈ lw_tbl := lw_at lw_m11 47 rfl
set_option maxRecDepth 100000
theorem q2579 : (Jvm.Cond.castable "[LPaidSecrets$Mark;" "java/lang/Object") ∈ lw_tbl := lw_at lw_m11 51 rfl
set_option maxRecDepth 100000
theorem q2578 : (Jvm.Cond.castable "[LPaidSecrets$Talk;" "java/lang/Object") ∈ lw_tbl := lw_at lw_m11 50 rfl
set_option maxRecDepth 100000
theorem q2569 : (Jvm.Cond.sameMethod "[Ljava/lang/Object;" "java/lang/Object" "getClass" "()Ljava/lang/Class;") ∈ lw_all := lw_g (lw_at lw_m11 41 rfl) rfl
set_option maxRecDepth 100000
theorem q2570 : (Jvm.Cond.selects "[Ljava/lang/Object;" ({ cls := "java/lang/Object", name := "getClass", desc := "()Ljava/lang/Class;" } : Jvm.MethodName) ({ cls := "java/lang/Object", name := "getClass", desc := "()Ljava/lang/Class;" } : Jvm.MethodName)) ∈ lw_all := lw_g (lw_at lw_m11 42 rfl) rfl
theorem q2576 : (Jvm.Cond.castable "[Ljava/lang/Object;" "java/lang/Object") ∈ lw_tbl := lw_at lw_m11 48 rfl
theorem q2572 : (Jvm.Cond.castable "[Ljava/lang/String;" "java/lang/Object") ∈ lw_tbl := lw_at lw_m11 44 rfl
set_option maxRecDepth 100000
theorem q2577 : (Jvm.Cond.castable "[Z" "java/lang/Object") ∈ lw_tbl := lw_at lw_m11 49 rfl
set_option maxRecDepth 100000
theorem q159 : (Jvm.Cond.initialized "java/lang/Integer$IntegerCache") ∈ lw_all := lw_g (lw_at lw_m1 31 rfl) rfl
set_option maxRecDepth 100000
theorem q926 : (Jvm.Cond.laysStatic "java/lang/Integer$IntegerCache" "high" "I") ∈ lw_tbl := lw_at lw_m4 78 rfl
theorem q928 : (Jvm.Cond.laysStatic "java/lang/Integer$IntegerCache" "cache" "[Ljava/lang/Integer;") ∈ lw_tbl := lw_at lw_m4 80 rfl
theorem q154 : (Jvm.Cond.initialized "java/lang/Long$LongCache") ∈ lw_all := lw_g (lw_at lw_m1 26 rfl) rfl
set_option maxRecDepth 100000
theorem q831 : (Jvm.Cond.laysStatic "java/lang/Long$LongCache" "cache" "[Ljava/lang/Long;") ∈ lw_tbl := lw_at lw_m3 223 rfl
theorem q157 : (Jvm.Cond.initialized "java/lang/System") ∈ lw_all := lw_g (lw_at lw_m1 29 rfl) rfl
set_option maxRecDepth 100000
theorem q919 : (Jvm.Cond.static ({ cls := "java/lang/System", name := "arraycopy", desc := "(Ljava/lang/Object;ILjava/lang/Object;II)V" } : Jvm.MethodName)) ∈ lw_all := lw_g (lw_at lw_m4 71 rfl) rfl
theorem q920 : (Jvm.Cond.native ({ cls := "java/lang/System", name := "arraycopy", desc := "(Ljava/lang/Object;ILjava/lang/Object;II)V" } : Jvm.MethodName)) ∈ lw_all := lw_g (lw_at lw_m4 72 rfl) rfl
theorem q201 : (Jvm.Cond.arrayOver (Jvm.ClassFile.FieldType.object "java/lang/String")) ∈ lw_tbl := lw_at lw_m1 73 rfl
set_option maxRecDepth 100000
theorem q265 : (Jvm.Cond.arrayClass Jvm.ClassFile.FieldType.byte) ∈ lw_all := lw_g (lw_at lw_m1 137 rfl) rfl
theorem q266 : (Jvm.Cond.arrayClass Jvm.ClassFile.FieldType.int) ∈ lw_all := lw_g (lw_at lw_m1 138 rfl) rfl
theorem q267 : (Jvm.Cond.arrayClass Jvm.ClassFile.FieldType.long) ∈ lw_all := lw_g (lw_at lw_m1 139 rfl) rfl
theorem q341 : (Jvm.Cond.arrayOver (Jvm.ClassFile.FieldType.object "java/lang/Object")) ∈ lw_tbl := lw_at lw_m1 213 rfl
theorem q457 : (Jvm.Cond.arrayClass Jvm.ClassFile.FieldType.boolean) ∈ lw_all := lw_g (lw_at lw_m2 89 rfl) rfl
theorem q465 : (Jvm.Cond.arrayOver (Jvm.ClassFile.FieldType.object "PaidSecrets$Talk")) ∈ lw_tbl := lw_at lw_m2 97 rfl
theorem q535 : (Jvm.Cond.arrayOver (Jvm.ClassFile.FieldType.object "PaidSecrets$Mark")) ∈ lw_tbl := lw_at lw_m2 167 rfl
/-! PaidSecretsLaw -/
set_option maxRecDepth 100000
def RX0 : String := "PaidSecretsLaw"
abbrev cX0_person : ByteArray := method_3_code
def yX0_person : MethodName := ⟨RX0, "person", "(LPaidSecrets;II[J)I"⟩
def dkwX0_person_0 : List UInt8 := [45, 3, 42, 27, 28, 182, 0, 7, 133, 80, 167, 0, 7, 58, 4, 4, 172, 3, 172]
abbrev dktX0_person_0 : List UInt8 := dkwX0_person_0 ++ []
theorem dksX0_person_0 : cX0_person.data.toList.drop 0 = dktX0_person_0 := by decide +kernel
theorem dX0_person_0 : decode cX0_person 0 = .ok (.aload_n 3, 1) := dk_45 (dk_at dksX0_person_0 0 rfl rfl)
theorem dX0_person_1 : decode cX0_person 1 = .ok (.iconst 0, 1) := dk_3 (dk_at dksX0_person_0 1 rfl rfl)
theorem dX0_person_2 : decode cX0_person 2 = .ok (.aload_n 0, 1) := dk_42 (dk_at dksX0_person_0 2 rfl rfl)
theorem dX0_person_3 : decode cX0_person 3 = .ok (.iload_n 1, 1) := dk_27 (dk_at dksX0_person_0 3 rfl rfl)
theorem dX0_person_4 : decode cX0_person 4 = .ok (.iload_n 2, 1) := dk_28 (dk_at dksX0_person_0 4 rfl rfl)
theorem dX0_person_5 : decode cX0_person 5 = .ok (.invokevirtual 7, 3) := dk_182 0 7 (dk_at dksX0_person_0 5 rfl rfl)
theorem dX0_person_8 : decode cX0_person 8 = .ok (.i2l, 1) := dk_133 (dk_at dksX0_person_0 8 rfl rfl)
theorem dX0_person_9 : decode cX0_person 9 = .ok (.lastore, 1) := dk_80 (dk_at dksX0_person_0 9 rfl rfl)
theorem dX0_person_10 : decode cX0_person 10 = .ok (.goto 7, 3) := dk_167 0 7 (dk_at dksX0_person_0 10 rfl rfl)
theorem dX0_person_13 : decode cX0_person 13 = .ok (.astore 4, 2) := dk_58 4 (dk_at dksX0_person_0 13 rfl rfl)
theorem dX0_person_15 : decode cX0_person 15 = .ok (.iconst 1, 1) := dk_4 (dk_at dksX0_person_0 15 rfl rfl)
theorem dX0_person_16 : decode cX0_person 16 = .ok (.ireturn, 1) := dk_172 (dk_at dksX0_person_0 16 rfl rfl)
theorem dX0_person_17 : decode cX0_person 17 = .ok (.iconst 0, 1) := dk_3 (dk_at dksX0_person_0 17 rfl rfl)
theorem dX0_person_18 : decode cX0_person 18 = .ok (.ireturn, 1) := dk_172 (dk_at dksX0_person_0 18 rfl rfl)
abbrev cX0_plot : ByteArray := method_4_code
def yX0_plot : MethodName := ⟨RX0, "plot", "(LPaidSecrets;IIII[J)I"⟩
def dkwX0_plot_0 : List UInt8 := [25, 5, 3, 42, 27, 28, 29, 21, 4, 182, 0, 15, 133, 80, 167, 0, 7, 58, 6, 4, 172, 3, 172]
abbrev dktX0_plot_0 : List UInt8 := dkwX0_plot_0 ++ []
theorem dksX0_plot_0 : cX0_plot.data.toList.drop 0 = dktX0_plot_0 := by decide +kernel
theorem dX0_plot_0 : decode cX0_plot 0 = .ok (.aload 5, 2) := dk_25 5 (dk_at dksX0_plot_0 0 rfl rfl)
theorem dX0_plot_2 : decode cX0_plot 2 = .ok (.iconst 0, 1) := dk_3 (dk_at dksX0_plot_0 2 rfl rfl)
theorem dX0_plot_3 : decode cX0_plot 3 = .ok (.aload_n 0, 1) := dk_42 (dk_at dksX0_plot_0 3 rfl rfl)
theorem dX0_plot_4 : decode cX0_plot 4 = .ok (.iload_n 1, 1) := dk_27 (dk_at dksX0_plot_0 4 rfl rfl)
theorem dX0_plot_5 : decode cX0_plot 5 = .ok (.iload_n 2, 1) := dk_28 (dk_at dksX0_plot_0 5 rfl rfl)
theorem dX0_plot_6 : decode cX0_plot 6 = .ok (.iload_n 3, 1) := dk_29 (dk_at dksX0_plot_0 6 rfl rfl)
theorem dX0_plot_7 : decode cX0_plot 7 = .ok (.iload 4, 2) := dk_21 4 (dk_at dksX0_plot_0 7 rfl rfl)
theorem dX0_plot_9 : decode cX0_plot 9 = .ok (.invokevirtual 15, 3) := dk_182 0 15 (dk_at dksX0_plot_0 9 rfl rfl)
theorem dX0_plot_12 : decode cX0_plot 12 = .ok (.i2l, 1) := dk_133 (dk_at dksX0_plot_0 12 rfl rfl)
theorem dX0_plot_13 : decode cX0_plot 13 = .ok (.lastore, 1) := dk_80 (dk_at dksX0_plot_0 13 rfl rfl)
theorem dX0_plot_14 : decode cX0_plot 14 = .ok (.goto 7, 3) := dk_167 0 7 (dk_at dksX0_plot_0 14 rfl rfl)
theorem dX0_plot_17 : decode cX0_plot 17 = .ok (.astore 6, 2) := dk_58 6 (dk_at dksX0_plot_0 17 rfl rfl)
theorem dX0_plot_19 : decode cX0_plot 19 = .ok (.iconst 1, 1) := dk_4 (dk_at dksX0_plot_0 19 rfl rfl)
theorem dX0_plot_20 : decode cX0_plot 20 = .ok (.ireturn, 1) := dk_172 (dk_at dksX0_plot_0 20 rfl rfl)
theorem dX0_plot_21 : decode cX0_plot 21 = .ok (.iconst 0, 1) := dk_3 (dk_at dksX0_plot_0 21 rfl rfl)
theorem dX0_plot_22 : decode cX0_plot 22 = .ok (.ireturn, 1) := dk_172 (dk_at dksX0_plot_0 22 rfl rfl)
theorem q128 : (Jvm.Cond.initialized "PaidSecretsLaw") ∈ lw_all := lw_g (lw_at lw_m1 0 rfl) rfl
theorem q186 : (Jvm.Cond.classLink "PaidSecretsLaw" (8 : Nat) "PaidSecrets") ∈ lw_all := lw_g (lw_at lw_m1 58 rfl) rfl
theorem q188 : (Jvm.Cond.methodLink "PaidSecretsLaw" (19 : Nat) ({ cls := "PaidSecrets", name := "<init>", desc := "()V" } : Jvm.MethodName)) ∈ lw_all := lw_g (lw_at lw_m1 60 rfl) rfl
theorem q577 : (Jvm.Cond.methodLink "PaidSecretsLaw" (25 : Nat) ({ cls := "PaidSecrets", name := "feed", desc := "(JJJ)I" } : Jvm.MethodName)) ∈ lw_all := lw_g (lw_at lw_m2 209 rfl) rfl
theorem q589 : (Jvm.Cond.methodLink "PaidSecretsLaw" (30 : Nat) ({ cls := "PaidSecrets", name := "town", desc := "()I" } : Jvm.MethodName)) ∈ lw_all := lw_g (lw_at lw_m2 221 rfl) rfl
theorem q1243 : (Jvm.Cond.methodLink "PaidSecretsLaw" (35 : Nat) ({ cls := "PaidSecrets", name := "gossip", desc := "()I" } : Jvm.MethodName)) ∈ lw_all := lw_g (lw_at lw_m5 155 rfl) rfl
theorem q1314 : (Jvm.Cond.methodLink "PaidSecretsLaw" (48 : Nat) ({ cls := "PaidSecrets", name := "secret", desc := "(II)I" } : Jvm.MethodName)) ∈ lw_all := lw_g (lw_at lw_m5 226 rfl) rfl
theorem q1423 : (Jvm.Cond.methodLink "PaidSecretsLaw" (52 : Nat) ({ cls := "PaidSecrets", name := "aware", desc := "(III)I" } : Jvm.MethodName)) ∈ lw_all := lw_g (lw_at lw_m6 95 rfl) rfl
theorem q1435 : (Jvm.Cond.methodLink "PaidSecretsLaw" (57 : Nat) ({ cls := "PaidSecrets", name := "ear", desc := "(II)I" } : Jvm.MethodName)) ∈ lw_all := lw_g (lw_at lw_m6 107 rfl) rfl
theorem q1440 : (Jvm.Cond.methodLink "PaidSecretsLaw" (61 : Nat) ({ cls := "PaidSecrets", name := "tell", desc := "(III)I" } : Jvm.MethodName)) ∈ lw_all := lw_g (lw_at lw_m6 112 rfl) rfl
theorem q1487 : (Jvm.Cond.methodLink "PaidSecretsLaw" (65 : Nat) ({ cls := "PaidSecrets", name := "pay", desc := "(II)I" } : Jvm.MethodName)) ∈ lw_all := lw_g (lw_at lw_m6 159 rfl) rfl
theorem q1512 : (Jvm.Cond.methodLink "PaidSecretsLaw" (69 : Nat) ({ cls := "PaidSecrets", name := "rise", desc := "(I)I" } : Jvm.MethodName)) ∈ lw_all := lw_g (lw_at lw_m6 184 rfl) rfl
theorem q1520 : (Jvm.Cond.methodLink "PaidSecretsLaw" (74 : Nat) ({ cls := "PaidSecrets", name := "quarter", desc := "()I" } : Jvm.MethodName)) ∈ lw_all := lw_g (lw_at lw_m6 192 rfl) rfl
theorem q1528 : (Jvm.Cond.methodLink "PaidSecretsLaw" (78 : Nat) ({ cls := "PaidSecrets", name := "lend", desc := "(III)I" } : Jvm.MethodName)) ∈ lw_all := lw_g (lw_at lw_m6 200 rfl) rfl
theorem q1536 : (Jvm.Cond.methodLink "PaidSecretsLaw" (82 : Nat) ({ cls := "PaidSecrets", name := "undo", desc := "()Z" } : Jvm.MethodName)) ∈ lw_all := lw_g (lw_at lw_m6 208 rfl) rfl
theorem q1544 : (Jvm.Cond.methodLink "PaidSecretsLaw" (87 : Nat) ({ cls := "PaidSecrets", name := "judged", desc := "(I)I" } : Jvm.MethodName)) ∈ lw_all := lw_g (lw_at lw_m6 216 rfl) rfl
theorem q1578 : (Jvm.Cond.methodLink "PaidSecretsLaw" (91 : Nat) ({ cls := "PaidSecrets", name := "least", desc := "(I)I" } : Jvm.MethodName)) ∈ lw_all := lw_g (lw_at lw_m7 10 rfl) rfl
theorem q1594 : (Jvm.Cond.methodLink "PaidSecretsLaw" (95 : Nat) ({ cls := "PaidSecrets", name := "payers", desc := "()I" } : Jvm.MethodName)) ∈ lw_all := lw_g (lw_at lw_m7 26 rfl) rfl
theorem q1620 : (Jvm.Cond.methodLink "PaidSecretsLaw" (103 : Nat) ({ cls := "PaidSecrets", name := "see", desc := "(IZ)Z" } : Jvm.MethodName)) ∈ lw_all := lw_g (lw_at lw_m7 52 rfl) rfl
theorem q1625 : (Jvm.Cond.methodLink "PaidSecretsLaw" (108 : Nat) ({ cls := "PaidSecrets", name := "leaks", desc := "(I)I" } : Jvm.MethodName)) ∈ lw_all := lw_g (lw_at lw_m7 57 rfl) rfl
theorem q1635 : (Jvm.Cond.methodLink "PaidSecretsLaw" (112 : Nat) ({ cls := "PaidSecrets", name := "lies", desc := "(I)I" } : Jvm.MethodName)) ∈ lw_all := lw_g (lw_at lw_m7 67 rfl) rfl
theorem q1643 : (Jvm.Cond.methodLink "PaidSecretsLaw" (116 : Nat) ({ cls := "PaidSecrets", name := "mean", desc := "(II)I" } : Jvm.MethodName)) ∈ lw_all := lw_g (lw_at lw_m7 75 rfl) rfl
theorem q1674 : (Jvm.Cond.methodLink "PaidSecretsLaw" (120 : Nat) ({ cls := "PaidSecrets", name := "holds", desc := "(II)I" } : Jvm.MethodName)) ∈ lw_all := lw_g (lw_at lw_m7 106 rfl) rfl
theorem q1678 : (Jvm.Cond.methodLink "PaidSecretsLaw" (124 : Nat) ({ cls := "PaidSecrets", name := "settle", desc := "()I" } : Jvm.MethodName)) ∈ lw_all := lw_g (lw_at lw_m7 110 rfl) rfl
theorem q1687 : (Jvm.Cond.methodLink "PaidSecretsLaw" (128 : Nat) ({ cls := "PaidSecrets", name := "rests", desc := "(II)I" } : Jvm.MethodName)) ∈ lw_all := lw_g (lw_at lw_m7 119 rfl) rfl
theorem q1715 : (Jvm.Cond.methodLink "PaidSecretsLaw" (132 : Nat) ({ cls := "PaidSecrets", name := "years", desc := "(III)I" } : Jvm.MethodName)) ∈ lw_all := lw_g (lw_at lw_m7 147 rfl) rfl
theorem q1738 : (Jvm.Cond.methodLink "PaidSecretsLaw" (136 : Nat) ({ cls := "PaidSecrets", name := "mark", desc := "(IZ)Z" } : Jvm.MethodName)) ∈ lw_all := lw_g (lw_at lw_m7 170 rfl) rfl
theorem q1763 : (Jvm.Cond.methodLink "PaidSecretsLaw" (140 : Nat) ({ cls := "PaidSecrets", name := "count", desc := "(I)I" } : Jvm.MethodName)) ∈ lw_all := lw_g (lw_at lw_m7 195 rfl) rfl
theorem q1767 : (Jvm.Cond.methodLink "PaidSecretsLaw" (39 : Nat) ({ cls := "PaidSecretsLaw", name := "person", desc := "(LPaidSecrets;II[J)I" } : Jvm.MethodName)) ∈ lw_all := lw_g (lw_at lw_m7 199 rfl) rfl
theorem q1768 : (Jvm.Cond.static ({ cls := "PaidSecretsLaw", name := "person", desc := "(LPaidSecrets;II[J)I" } : Jvm.MethodName)) ∈ lw_all := lw_g (lw_at lw_m7 200 rfl) rfl
theorem q1769 : (Jvm.Cond.codeWith ({ cls := "PaidSecretsLaw", name := "person", desc := "(LPaidSecrets;II[J)I" } : Jvm.MethodName) method_3_code (5 : Nat) (Option.some Jvm.ClassFile.FieldType.int) [((0 : Nat), (10 : Nat), (13 : Nat), (13 : Nat))]) ∈ lw_all := lw_g (lw_at lw_m7 201 rfl) rfl
theorem q1770 : (Jvm.Cond.classLink "PaidSecretsLaw" (13 : Nat) "java/util/NoSuchElementException") ∈ lw_all := lw_g (lw_at lw_m7 202 rfl) rfl
theorem q1771 : (Jvm.Cond.methodLink "PaidSecretsLaw" (7 : Nat) ({ cls := "PaidSecrets", name := "person", desc := "(II)I" } : Jvm.MethodName)) ∈ lw_all := lw_g (lw_at lw_m7 203 rfl) rfl
theorem q1814 : (Jvm.Cond.methodLink "PaidSecretsLaw" (99 : Nat) ({ cls := "PaidSecretsLaw", name := "plot", desc := "(LPaidSecrets;IIII[J)I" } : Jvm.MethodName)) ∈ lw_all := lw_g (lw_at lw_m8 6 rfl) rfl
theorem q1815 : (Jvm.Cond.static ({ cls := "PaidSecretsLaw", name := "plot", desc := "(LPaidSecrets;IIII[J)I" } : Jvm.MethodName)) ∈ lw_all := lw_g (lw_at lw_m8 7 rfl) rfl
theorem q1816 : (Jvm.Cond.codeWith ({ cls := "PaidSecretsLaw", name := "plot", desc := "(LPaidSecrets;IIII[J)I" } : Jvm.MethodName) method_4_code (7 : Nat) (Option.some Jvm.ClassFile.FieldType.int) [((0 : Nat), (14 : Nat), (17 : Nat), (13 : Nat))]) ∈ lw_all := lw_g (lw_at lw_m8 8 rfl) rfl
theorem q1817 : (Jvm.Cond.methodLink "PaidSecretsLaw" (15 : Nat) ({ cls := "PaidSecrets", name := "plot", desc := "(IIII)I" } : Jvm.MethodName)) ∈ lw_all := lw_g (lw_at lw_m8 9 rfl) rfl
theorem q1836 : (Jvm.Cond.classLink "PaidSecretsLaw" (20 : Nat) "PaidSecretsModel") ∈ lw_all := lw_g (lw_at lw_m8 28 rfl) rfl
theorem q1838 : (Jvm.Cond.methodLink "PaidSecretsLaw" (22 : Nat) ({ cls := "PaidSecretsModel", name := "<init>", desc := "()V" } : Jvm.MethodName)) ∈ lw_all := lw_g (lw_at lw_m8 30 rfl) rfl
theorem q2054 : (Jvm.Cond.methodLink "PaidSecretsLaw" (45 : Nat) ({ cls := "PaidSecretsModel", name := "thrown", desc := "()I" } : Jvm.MethodName)) ∈ lw_all := lw_g (lw_at lw_m9 6 rfl) rfl
theorem q2058 : (Jvm.Cond.methodLink "PaidSecretsLaw" (29 : Nat) ({ cls := "PaidSecretsModel", name := "feed", desc := "(JJJ)I" } : Jvm.MethodName)) ∈ lw_all := lw_g (lw_at lw_m9 10 rfl) rfl
theorem q2063 : (Jvm.Cond.methodLink "PaidSecretsLaw" (34 : Nat) ({ cls := "PaidSecretsModel", name := "town", desc := "()I" } : Jvm.MethodName)) ∈ lw_all := lw_g (lw_at lw_m9 15 rfl) rfl
theorem q2221 : (Jvm.Cond.methodLink "PaidSecretsLaw" (38 : Nat) ({ cls := "PaidSecretsModel", name := "gossip", desc := "()I" } : Jvm.MethodName)) ∈ lw_all := lw_g (lw_at lw_m9 173 rfl) rfl
theorem q2245 : (Jvm.Cond.methodLink "PaidSecretsLaw" (44 : Nat) ({ cls := "PaidSecretsModel", name := "person", desc := "(II)I" } : Jvm.MethodName)) ∈ lw_all := lw_g (lw_at lw_m9 197 rfl) rfl
theorem q2301 : (Jvm.Cond.methodLink "PaidSecretsLaw" (51 : Nat) ({ cls := "PaidSecretsModel", name := "secret", desc := "(II)I" } : Jvm.MethodName)) ∈ lw_all := lw_g (lw_at lw_m10 13 rfl) rfl
theorem q2309 : (Jvm.Cond.methodLink "PaidSecretsLaw" (56 : Nat) ({ cls := "PaidSecretsModel", name := "aware", desc := "(III)I" } : Jvm.MethodName)) ∈ lw_all := lw_g (lw_at lw_m10 21 rfl) rfl
theorem q2317 : (Jvm.Cond.methodLink "PaidSecretsLaw" (60 : Nat) ({ cls := "PaidSecretsModel", name := "ear", desc := "(II)I" } : Jvm.MethodName)) ∈ lw_all := lw_g (lw_at lw_m10 29 rfl) rfl
theorem q2326 : (Jvm.Cond.methodLink "PaidSecretsLaw" (64 : Nat) ({ cls := "PaidSecretsModel", name := "tell", desc := "(III)I" } : Jvm.MethodName)) ∈ lw_all := lw_g (lw_at lw_m10 38 rfl) rfl
theorem q2349 : (Jvm.Cond.methodLink "PaidSecretsLaw" (68 : Nat) ({ cls := "PaidSecretsModel", name := "pay", desc := "(II)I" } : Jvm.MethodName)) ∈ lw_all := lw_g (lw_at lw_m10 61 rfl) rfl
theorem q2361 : (Jvm.Cond.methodLink "PaidSecretsLaw" (73 : Nat) ({ cls := "PaidSecretsModel", name := "rise", desc := "(I)I" } : Jvm.MethodName)) ∈ lw_all := lw_g (lw_at lw_m10 73 rfl) rfl
theorem q2365 : (Jvm.Cond.methodLink "PaidSecretsLaw" (77 : Nat) ({ cls := "PaidSecretsModel", name := "quarter", desc := "()I" } : Jvm.MethodName)) ∈ lw_all := lw_g (lw_at lw_m10 77 rfl) rfl
theorem q2373 : (Jvm.Cond.methodLink "PaidSecretsLaw" (81 : Nat) ({ cls := "PaidSecretsModel", name := "lend", desc := "(III)I" } : Jvm.MethodName)) ∈ lw_all := lw_g (lw_at lw_m10 85 rfl) rfl
theorem q2377 : (Jvm.Cond.methodLink "PaidSecretsLaw" (86 : Nat) ({ cls := "PaidSecretsModel", name := "undo", desc := "()Z" } : Jvm.MethodName)) ∈ lw_all := lw_g (lw_at lw_m10 89 rfl) rfl
theorem q2381 : (Jvm.Cond.methodLink "PaidSecretsLaw" (90 : Nat) ({ cls := "PaidSecretsModel", name := "judged", desc := "(I)I" } : Jvm.MethodName)) ∈ lw_all := lw_g (lw_at lw_m10 93 rfl) rfl
theorem q2397 : (Jvm.Cond.methodLink "PaidSecretsLaw" (94 : Nat) ({ cls := "PaidSecretsModel", name := "least", desc := "(I)I" } : Jvm.MethodName)) ∈ lw_all := lw_g (lw_at lw_m10 109 rfl) rfl
theorem q2408 : (Jvm.Cond.methodLink "PaidSecretsLaw" (98 : Nat) ({ cls := "PaidSecretsModel", name := "payers", desc := "()I" } : Jvm.MethodName)) ∈ lw_all := lw_g (lw_at lw_m10 120 rfl) rfl
theorem q2416 : (Jvm.Cond.methodLink "PaidSecretsLaw" (102 : Nat) ({ cls := "PaidSecretsModel", name := "plot", desc := "(IIII)I" } : Jvm.MethodName)) ∈ lw_all := lw_g (lw_at lw_m10 128 rfl) rfl
theorem q2424 : (Jvm.Cond.methodLink "PaidSecretsLaw" (107 : Nat) ({ cls := "PaidSecretsModel", name := "see", desc := "(IZ)Z" } : Jvm.MethodName)) ∈ lw_all := lw_g (lw_at lw_m10 136 rfl) rfl
theorem q2428 : (Jvm.Cond.methodLink "PaidSecretsLaw" (111 : Nat) ({ cls := "PaidSecretsModel", name := "leaks", desc := "(I)I" } : Jvm.MethodName)) ∈ lw_all := lw_g (lw_at lw_m10 140 rfl) rfl
theorem q2436 : (Jvm.Cond.methodLink "PaidSecretsLaw" (115 : Nat) ({ cls := "PaidSecretsModel", name := "lies", desc := "(I)I" } : Jvm.MethodName)) ∈ lw_all := lw_g (lw_at lw_m10 148 rfl) rfl
theorem q2444 : (Jvm.Cond.methodLink "PaidSecretsLaw" (119 : Nat) ({ cls := "PaidSecretsModel", name := "mean", desc := "(II)I" } : Jvm.MethodName)) ∈ lw_all := lw_g (lw_at lw_m10 156 rfl) rfl
theorem q2463 : (Jvm.Cond.methodLink "PaidSecretsLaw" (123 : Nat) ({ cls := "PaidSecretsModel", name := "holds", desc := "(II)I" } : Jvm.MethodName)) ∈ lw_all := lw_g (lw_at lw_m10 175 rfl) rfl
theorem q2467 : (Jvm.Cond.methodLink "PaidSecretsLaw" (127 : Nat) ({ cls := "PaidSecretsModel", name := "settle", desc := "()I" } : Jvm.MethodName)) ∈ lw_all := lw_g (lw_at lw_m10 179 rfl) rfl
theorem q2471 : (Jvm.Cond.methodLink "PaidSecretsLaw" (131 : Nat) ({ cls := "PaidSecretsModel", name := "rests", desc := "(II)I" } : Jvm.MethodName)) ∈ lw_all := lw_g (lw_at lw_m10 183 rfl) rfl
theorem q2487 : (Jvm.Cond.methodLink "PaidSecretsLaw" (135 : Nat) ({ cls := "PaidSecretsModel", name := "years", desc := "(III)I" } : Jvm.MethodName)) ∈ lw_all := lw_g (lw_at lw_m10 199 rfl) rfl
theorem q2503 : (Jvm.Cond.methodLink "PaidSecretsLaw" (139 : Nat) ({ cls := "PaidSecretsModel", name := "mark", desc := "(IZ)Z" } : Jvm.MethodName)) ∈ lw_all := lw_g (lw_at lw_m10 215 rfl) rfl
theorem q2511 : (Jvm.Cond.methodLink "PaidSecretsLaw" (143 : Nat) ({ cls := "PaidSecretsModel", name := "count", desc := "(I)I" } : Jvm.MethodName)) ∈ lw_all := lw_g (lw_at lw_m10 223 rfl) rfl
theorem q2515 : (Jvm.Cond.constantLong "PaidSecretsLaw" (23 : Nat) (4294967295 : Int64)) ∈ lw_all := lw_g (lw_at lw_m10 227 rfl) rfl
/-! PaidSecrets$Wrong -/
set_option maxRecDepth 100000
def RX11 : String := "PaidSecrets$Wrong"
def TX11 : u_T := fun k => match k with
  | 0 => ("java/lang/Throwable", "cause", "Ljava/lang/Throwable;", false)
  | 1 => ("java/lang/Throwable", "stackTrace", "[Ljava/lang/StackTraceElement;", false)
  | 2 => ("java/lang/Throwable", "suppressedExceptions", "Ljava/util/List;", false)
  | 3 => ("java/lang/Throwable", "detailMessage", "Ljava/lang/String;", false)
  | 4 => ("java/lang/Throwable", "backtrace", "Ljava/lang/Object;", false)
  | 5 => ("java/lang/Throwable", "depth", "I", false)
  | _ => ("PaidSecrets$Wrong", "fault", "I", true)
def tyX11 : Nat → FieldType := fun k => match k with
  | 0 => .object "java/lang/Throwable"
  | 1 => .array (.object "java/lang/StackTraceElement")
  | 2 => .object "java/util/List"
  | 3 => .object "java/lang/String"
  | 4 => .object "java/lang/Object"
  | 5 => .int
  | _ => .int
abbrev wsX110 : List Cond := u_ws RX11 TX11 7
theorem nmX11 : ∀ a, a < 7 → ∀ b, b < 7 → a ≠ b → (TX11 a).2.1 ≠ (TX11 b).2.1 := by decide +kernel
theorem tyX11_ok : ∀ k, k < 7 → parseFieldDescriptor (TX11 k).2.2.1 = some (tyX11 k) := by decide +kernel
abbrev cX11_init : ByteArray := prog_34_method_1_code
def yX11_init : MethodName := ⟨RX11, "<init>", "(I)V"⟩
def dkwX11_init_0 : List UInt8 := [42, 183, 0, 1, 42, 27, 181, 0, 7, 177]
abbrev dktX11_init_0 : List UInt8 := dkwX11_init_0 ++ []
theorem dksX11_init_0 : cX11_init.data.toList.drop 0 = dktX11_init_0 := by decide +kernel
theorem dX11_init_0 : decode cX11_init 0 = .ok (.aload_n 0, 1) := dk_42 (dk_at dksX11_init_0 0 rfl rfl)
theorem dX11_init_1 : decode cX11_init 1 = .ok (.invokespecial 1, 3) := dk_183 0 1 (dk_at dksX11_init_0 1 rfl rfl)
theorem dX11_init_4 : decode cX11_init 4 = .ok (.aload_n 0, 1) := dk_42 (dk_at dksX11_init_0 4 rfl rfl)
theorem dX11_init_5 : decode cX11_init 5 = .ok (.iload_n 1, 1) := dk_27 (dk_at dksX11_init_0 5 rfl rfl)
theorem dX11_init_6 : decode cX11_init 6 = .ok (.putfield 7, 3) := dk_181 0 7 (dk_at dksX11_init_0 6 rfl rfl)
theorem dX11_init_9 : decode cX11_init 9 = .ok (.return_, 1) := dk_177 (dk_at dksX11_init_0 9 rfl rfl)
theorem q151 : (Jvm.Cond.initialized "PaidSecrets$Wrong") ∈ lw_all := lw_g (lw_at lw_m1 23 rfl) rfl
theorem q741 : (Jvm.Cond.instantiable "PaidSecrets$Wrong" (7 : Nat)) ∈ lw_all := lw_g (lw_at lw_m3 133 rfl) rfl
theorem q742 : (Jvm.Cond.castable "PaidSecrets$Wrong" "PaidSecrets$Wrong") ∈ lw_tbl := lw_at lw_m3 134 rfl
theorem q747 : (Jvm.Cond.selects "PaidSecrets$Wrong" ({ cls := "java/lang/Throwable", name := "fillInStackTrace", desc := "(I)Ljava/lang/Throwable;" } : Jvm.MethodName) ({ cls := "java/lang/Throwable", name := "fillInStackTrace", desc := "(I)Ljava/lang/Throwable;" } : Jvm.MethodName)) ∈ lw_all := lw_g (lw_at lw_m3 139 rfl) rfl
theorem q748 : (Jvm.Cond.selects "PaidSecrets$Wrong" ({ cls := "java/lang/Throwable", name := "fillInStackTrace", desc := "()Ljava/lang/Throwable;" } : Jvm.MethodName) ({ cls := "java/lang/Throwable", name := "fillInStackTrace", desc := "()Ljava/lang/Throwable;" } : Jvm.MethodName)) ∈ lw_all := lw_g (lw_at lw_m3 140 rfl) rfl
theorem q749 : (Jvm.Cond.lays "PaidSecrets$Wrong" "java/lang/Throwable" "cause" "Ljava/lang/Throwable;") ∈ lw_all := lw_g (lw_at lw_m3 141 rfl) rfl
theorem q751 : (Jvm.Cond.lays "PaidSecrets$Wrong" "java/lang/Throwable" "stackTrace" "[Ljava/lang/StackTraceElement;") ∈ lw_all := lw_g (lw_at lw_m3 143 rfl) rfl
theorem q753 : (Jvm.Cond.lays "PaidSecrets$Wrong" "java/lang/Throwable" "suppressedExceptions" "Ljava/util/List;") ∈ lw_all := lw_g (lw_at lw_m3 145 rfl) rfl
theorem q755 : (Jvm.Cond.lays "PaidSecrets$Wrong" "java/lang/Throwable" "detailMessage" "Ljava/lang/String;") ∈ lw_all := lw_g (lw_at lw_m3 147 rfl) rfl
theorem q757 : (Jvm.Cond.lays "PaidSecrets$Wrong" "java/lang/Throwable" "backtrace" "Ljava/lang/Object;") ∈ lw_all := lw_g (lw_at lw_m3 149 rfl) rfl
theorem q779 : (Jvm.Cond.instanceMethod ({ cls := "PaidSecrets$Wrong", name := "<init>", desc := "(I)V" } : Jvm.MethodName)) ∈ lw_all := lw_g (lw_at lw_m3 171 rfl) rfl
theorem q780 : (Jvm.Cond.code ({ cls := "PaidSecrets$Wrong", name := "<init>", desc := "(I)V" } : Jvm.MethodName) prog_34_method_1_code (2 : Nat) (Option.none : Option Jvm.ClassFile.FieldType)) ∈ lw_all := lw_g (lw_at lw_m3 172 rfl) rfl
theorem q781 : (Jvm.Cond.methodLink "PaidSecrets$Wrong" (1 : Nat) ({ cls := "java/lang/Exception", name := "<init>", desc := "()V" } : Jvm.MethodName)) ∈ lw_all := lw_g (lw_at lw_m3 173 rfl) rfl
theorem q785 : (Jvm.Cond.fieldLink "PaidSecrets$Wrong" (7 : Nat) "PaidSecrets$Wrong" "fault" "I") ∈ lw_all := lw_g (lw_at lw_m3 177 rfl) rfl
theorem q791 : (Jvm.Cond.laysFinal "PaidSecrets$Wrong" "PaidSecrets$Wrong" "fault" "I") ∈ lw_all := lw_g (lw_at lw_m3 183 rfl) rfl
theorem q792 : (Jvm.Cond.soleField "PaidSecrets$Wrong" "fault") ∈ lw_all := lw_g (lw_at lw_m3 184 rfl) rfl
theorem q797 : (Jvm.Cond.lays "PaidSecrets$Wrong" "java/lang/Throwable" "depth" "I") ∈ lw_all := lw_g (lw_at lw_m3 189 rfl) rfl
theorem q800 : (Jvm.Cond.superclass "PaidSecrets$Wrong" "java/lang/Exception") ∈ lw_all := lw_g (lw_at lw_m3 192 rfl) rfl
theorem q905 : (Jvm.Cond.selects "PaidSecrets$Wrong" ({ cls := "java/lang/Object", name := "getClass", desc := "()Ljava/lang/Class;" } : Jvm.MethodName) ({ cls := "java/lang/Object", name := "getClass", desc := "()Ljava/lang/Class;" } : Jvm.MethodName)) ∈ lw_all := lw_g (lw_at lw_m4 57 rfl) rfl
theorem q2544 : (Jvm.Cond.castable "PaidSecrets$Wrong" "java/lang/Object") ∈ lw_tbl := lw_at lw_m11 16 rfl
theorem in_X11 : ∀ w ∈ wsX110, w ∈ lw_all := lw_in wsX110 [749, 751, 753, 755, 757, 797, 791] (by decide +kernel) (by decide +kernel)
/-! PaidSecrets$Person -/
set_option maxRecDepth 100000
def RX12 : String := "PaidSecrets$Person"
def TX12 : u_T := fun k => match k with
  | 0 => ("PaidSecrets$Person", "rank", "I", true)
  | _ => ("PaidSecrets$Person", "tax", "I", true)
def tyX12 : Nat → FieldType := fun k => match k with
  | 0 => .int
  | _ => .int
abbrev wsX120 : List Cond := u_ws RX12 TX12 2
theorem nmX12 : ∀ a, a < 2 → ∀ b, b < 2 → a ≠ b → (TX12 a).2.1 ≠ (TX12 b).2.1 := by decide +kernel
theorem tyX12_ok : ∀ k, k < 2 → parseFieldDescriptor (TX12 k).2.2.1 = some (tyX12 k) := by decide +kernel
abbrev cX12_init : ByteArray := prog_19_method_1_code
def yX12_init : MethodName := ⟨RX12, "<init>", "(II)V"⟩
def dkwX12_init_0 : List UInt8 := [42, 183, 0, 1, 42, 27, 181, 0, 7, 42, 28, 181, 0, 13, 177]
abbrev dktX12_init_0 : List UInt8 := dkwX12_init_0 ++ []
theorem dksX12_init_0 : cX12_init.data.toList.drop 0 = dktX12_init_0 := by decide +kernel
theorem dX12_init_0 : decode cX12_init 0 = .ok (.aload_n 0, 1) := dk_42 (dk_at dksX12_init_0 0 rfl rfl)
theorem dX12_init_1 : decode cX12_init 1 = .ok (.invokespecial 1, 3) := dk_183 0 1 (dk_at dksX12_init_0 1 rfl rfl)
theorem dX12_init_4 : decode cX12_init 4 = .ok (.aload_n 0, 1) := dk_42 (dk_at dksX12_init_0 4 rfl rfl)
theorem dX12_init_5 : decode cX12_init 5 = .ok (.iload_n 1, 1) := dk_27 (dk_at dksX12_init_0 5 rfl rfl)
theorem dX12_init_6 : decode cX12_init 6 = .ok (.putfield 7, 3) := dk_181 0 7 (dk_at dksX12_init_0 6 rfl rfl)
theorem dX12_init_9 : decode cX12_init 9 = .ok (.aload_n 0, 1) := dk_42 (dk_at dksX12_init_0 9 rfl rfl)
theorem dX12_init_10 : decode cX12_init 10 = .ok (.iload_n 2, 1) := dk_28 (dk_at dksX12_init_0 10 rfl rfl)
theorem dX12_init_11 : decode cX12_init 11 = .ok (.putfield 13, 3) := dk_181 0 13 (dk_at dksX12_init_0 11 rfl rfl)
theorem dX12_init_14 : decode cX12_init 14 = .ok (.return_, 1) := dk_177 (dk_at dksX12_init_0 14 rfl rfl)
abbrev cX12_more : ByteArray := prog_19_method_5_code
def yX12_more : MethodName := ⟨RX12, "more", "()I"⟩
theorem dX12_more_0 : decode cX12_more 0 = .ok (.iconst 0, 1) := by decide +kernel
theorem dX12_more_1 : decode cX12_more 1 = .ok (.ireturn, 1) := by decide +kernel
abbrev cX12_counts : ByteArray := prog_19_method_4_code
def yX12_counts : MethodName := ⟨RX12, "counts", "()Z"⟩
theorem dX12_counts_0 : decode cX12_counts 0 = .ok (.iconst 1, 1) := by decide +kernel
theorem dX12_counts_1 : decode cX12_counts 1 = .ok (.ireturn, 1) := by decide +kernel
abbrev cX12_tells : ByteArray := prog_19_method_3_code
def yX12_tells : MethodName := ⟨RX12, "tells", "()Z"⟩
theorem dX12_tells_0 : decode cX12_tells 0 = .ok (.iconst 1, 1) := by decide +kernel
theorem dX12_tells_1 : decode cX12_tells 1 = .ok (.ireturn, 1) := by decide +kernel
abbrev cX12_kind : ByteArray := prog_19_method_2_code
def yX12_kind : MethodName := ⟨RX12, "kind", "()I"⟩
theorem dX12_kind_0 : decode cX12_kind 0 = .ok (.iconst 0, 1) := by decide +kernel
theorem dX12_kind_1 : decode cX12_kind 1 = .ok (.ireturn, 1) := by decide +kernel
theorem q160 : (Jvm.Cond.initialized "PaidSecrets$Person") ∈ lw_all := lw_g (lw_at lw_m1 32 rfl) rfl
theorem q890 : (Jvm.Cond.selects "PaidSecrets$Person" ({ cls := "java/lang/Object", name := "getClass", desc := "()Ljava/lang/Class;" } : Jvm.MethodName) ({ cls := "java/lang/Object", name := "getClass", desc := "()Ljava/lang/Class;" } : Jvm.MethodName)) ∈ lw_all := lw_g (lw_at lw_m4 42 rfl) rfl
theorem q964 : (Jvm.Cond.instanceMethod ({ cls := "PaidSecrets$Person", name := "<init>", desc := "(II)V" } : Jvm.MethodName)) ∈ lw_all := lw_g (lw_at lw_m4 116 rfl) rfl
theorem q965 : (Jvm.Cond.code ({ cls := "PaidSecrets$Person", name := "<init>", desc := "(II)V" } : Jvm.MethodName) prog_19_method_1_code (3 : Nat) (Option.none : Option Jvm.ClassFile.FieldType)) ∈ lw_all := lw_g (lw_at lw_m4 117 rfl) rfl
theorem q966 : (Jvm.Cond.methodLink "PaidSecrets$Person" (1 : Nat) ({ cls := "java/lang/Object", name := "<init>", desc := "()V" } : Jvm.MethodName)) ∈ lw_all := lw_g (lw_at lw_m4 118 rfl) rfl
theorem q967 : (Jvm.Cond.fieldLink "PaidSecrets$Person" (7 : Nat) "PaidSecrets$Person" "rank" "I") ∈ lw_all := lw_g (lw_at lw_m4 119 rfl) rfl
theorem q969 : (Jvm.Cond.fieldLink "PaidSecrets$Person" (13 : Nat) "PaidSecrets$Person" "tax" "I") ∈ lw_all := lw_g (lw_at lw_m4 121 rfl) rfl
theorem q974 : (Jvm.Cond.soleField "PaidSecrets$Person" "rank") ∈ lw_all := lw_g (lw_at lw_m4 126 rfl) rfl
theorem q976 : (Jvm.Cond.soleField "PaidSecrets$Person" "tax") ∈ lw_all := lw_g (lw_at lw_m4 128 rfl) rfl
theorem q997 : (Jvm.Cond.instantiable "PaidSecrets$Person" (2 : Nat)) ∈ lw_all := lw_g (lw_at lw_m4 149 rfl) rfl
theorem q999 : (Jvm.Cond.laysFinal "PaidSecrets$Person" "PaidSecrets$Person" "rank" "I") ∈ lw_all := lw_g (lw_at lw_m4 151 rfl) rfl
theorem q1000 : (Jvm.Cond.laysFinal "PaidSecrets$Person" "PaidSecrets$Person" "tax" "I") ∈ lw_all := lw_g (lw_at lw_m4 152 rfl) rfl
theorem q1001 : (Jvm.Cond.superclass "PaidSecrets$Person" "java/lang/Object") ∈ lw_all := lw_g (lw_at lw_m4 153 rfl) rfl
theorem q1071 : (Jvm.Cond.instanceMethod ({ cls := "PaidSecrets$Person", name := "more", desc := "()I" } : Jvm.MethodName)) ∈ lw_all := lw_g (lw_at lw_m4 223 rfl) rfl
theorem q1072 : (Jvm.Cond.selects "PaidSecrets$Person" ({ cls := "PaidSecrets$Person", name := "more", desc := "()I" } : Jvm.MethodName) ({ cls := "PaidSecrets$Person", name := "more", desc := "()I" } : Jvm.MethodName)) ∈ lw_all := lw_g (lw_at lw_m4 224 rfl) rfl
theorem q1073 : (Jvm.Cond.sameMethod "PaidSecrets$Person" "PaidSecrets$Person" "more" "()I") ∈ lw_all := lw_g (lw_at lw_m4 225 rfl) rfl
theorem q1079 : (Jvm.Cond.code ({ cls := "PaidSecrets$Person", name := "more", desc := "()I" } : Jvm.MethodName) prog_19_method_5_code (1 : Nat) (Option.some Jvm.ClassFile.FieldType.int)) ∈ lw_all := lw_g (lw_at lw_m4 231 rfl) rfl
theorem q1336 : (Jvm.Cond.instanceMethod ({ cls := "PaidSecrets$Person", name := "counts", desc := "()Z" } : Jvm.MethodName)) ∈ lw_all := lw_g (lw_at lw_m6 8 rfl) rfl
theorem q1337 : (Jvm.Cond.selects "PaidSecrets$Person" ({ cls := "PaidSecrets$Person", name := "counts", desc := "()Z" } : Jvm.MethodName) ({ cls := "PaidSecrets$Person", name := "counts", desc := "()Z" } : Jvm.MethodName)) ∈ lw_all := lw_g (lw_at lw_m6 9 rfl) rfl
theorem q1338 : (Jvm.Cond.sameMethod "PaidSecrets$Person" "PaidSecrets$Person" "counts" "()Z") ∈ lw_all := lw_g (lw_at lw_m6 10 rfl) rfl
theorem q1344 : (Jvm.Cond.code ({ cls := "PaidSecrets$Person", name := "counts", desc := "()Z" } : Jvm.MethodName) prog_19_method_4_code (1 : Nat) (Option.some Jvm.ClassFile.FieldType.boolean)) ∈ lw_all := lw_g (lw_at lw_m6 16 rfl) rfl
theorem q1449 : (Jvm.Cond.instanceMethod ({ cls := "PaidSecrets$Person", name := "tells", desc := "()Z" } : Jvm.MethodName)) ∈ lw_all := lw_g (lw_at lw_m6 121 rfl) rfl
theorem q1450 : (Jvm.Cond.selects "PaidSecrets$Person" ({ cls := "PaidSecrets$Person", name := "tells", desc := "()Z" } : Jvm.MethodName) ({ cls := "PaidSecrets$Person", name := "tells", desc := "()Z" } : Jvm.MethodName)) ∈ lw_all := lw_g (lw_at lw_m6 122 rfl) rfl
theorem q1451 : (Jvm.Cond.sameMethod "PaidSecrets$Person" "PaidSecrets$Person" "tells" "()Z") ∈ lw_all := lw_g (lw_at lw_m6 123 rfl) rfl
theorem q1457 : (Jvm.Cond.code ({ cls := "PaidSecrets$Person", name := "tells", desc := "()Z" } : Jvm.MethodName) prog_19_method_3_code (1 : Nat) (Option.some Jvm.ClassFile.FieldType.boolean)) ∈ lw_all := lw_g (lw_at lw_m6 129 rfl) rfl
theorem q1796 : (Jvm.Cond.instanceMethod ({ cls := "PaidSecrets$Person", name := "kind", desc := "()I" } : Jvm.MethodName)) ∈ lw_all := lw_g (lw_at lw_m7 228 rfl) rfl
theorem q1797 : (Jvm.Cond.selects "PaidSecrets$Person" ({ cls := "PaidSecrets$Person", name := "kind", desc := "()I" } : Jvm.MethodName) ({ cls := "PaidSecrets$Person", name := "kind", desc := "()I" } : Jvm.MethodName)) ∈ lw_all := lw_g (lw_at lw_m7 229 rfl) rfl
theorem q1798 : (Jvm.Cond.sameMethod "PaidSecrets$Person" "PaidSecrets$Person" "kind" "()I") ∈ lw_all := lw_g (lw_at lw_m7 230 rfl) rfl
theorem q1808 : (Jvm.Cond.code ({ cls := "PaidSecrets$Person", name := "kind", desc := "()I" } : Jvm.MethodName) prog_19_method_2_code (1 : Nat) (Option.some Jvm.ClassFile.FieldType.int)) ∈ lw_all := lw_g (lw_at lw_m8 0 rfl) rfl
theorem q2550 : (Jvm.Cond.castable "PaidSecrets$Person" "java/lang/Object") ∈ lw_tbl := lw_at lw_m11 22 rfl
theorem in_X12 : ∀ w ∈ wsX120, w ∈ lw_all := lw_in wsX120 [999, 1000] (by decide +kernel) (by decide +kernel)
/-! PaidSecrets$Gossip -/
set_option maxRecDepth 100000
def RX13 : String := "PaidSecrets$Gossip"
def TX13 : u_T := fun k => match k with
  | 0 => ("PaidSecrets$Person", "rank", "I", true)
  | _ => ("PaidSecrets$Person", "tax", "I", true)
def tyX13 : Nat → FieldType := fun k => match k with
  | 0 => .int
  | _ => .int
abbrev wsX130 : List Cond := u_ws RX13 TX13 2
theorem nmX13 : ∀ a, a < 2 → ∀ b, b < 2 → a ≠ b → (TX13 a).2.1 ≠ (TX13 b).2.1 := by decide +kernel
theorem tyX13_ok : ∀ k, k < 2 → parseFieldDescriptor (TX13 k).2.2.1 = some (tyX13 k) := by decide +kernel
abbrev cX13_init : ByteArray := prog_8_method_1_code
def yX13_init : MethodName := ⟨RX13, "<init>", "(II)V"⟩
def dkwX13_init_0 : List UInt8 := [42, 27, 28, 183, 0, 1, 177]
abbrev dktX13_init_0 : List UInt8 := dkwX13_init_0 ++ []
theorem dksX13_init_0 : cX13_init.data.toList.drop 0 = dktX13_init_0 := by decide +kernel
theorem dX13_init_0 : decode cX13_init 0 = .ok (.aload_n 0, 1) := dk_42 (dk_at dksX13_init_0 0 rfl rfl)
theorem dX13_init_1 : decode cX13_init 1 = .ok (.iload_n 1, 1) := dk_27 (dk_at dksX13_init_0 1 rfl rfl)
theorem dX13_init_2 : decode cX13_init 2 = .ok (.iload_n 2, 1) := dk_28 (dk_at dksX13_init_0 2 rfl rfl)
theorem dX13_init_3 : decode cX13_init 3 = .ok (.invokespecial 1, 3) := dk_183 0 1 (dk_at dksX13_init_0 3 rfl rfl)
theorem dX13_init_6 : decode cX13_init 6 = .ok (.return_, 1) := dk_177 (dk_at dksX13_init_0 6 rfl rfl)
abbrev cX13_more : ByteArray := prog_8_method_3_code
def yX13_more : MethodName := ⟨RX13, "more", "()I"⟩
theorem dX13_more_0 : decode cX13_more 0 = .ok (.iconst 1, 1) := by decide +kernel
theorem dX13_more_1 : decode cX13_more 1 = .ok (.ireturn, 1) := by decide +kernel
abbrev cX13_kind : ByteArray := prog_8_method_2_code
def yX13_kind : MethodName := ⟨RX13, "kind", "()I"⟩
theorem dX13_kind_0 : decode cX13_kind 0 = .ok (.iconst 1, 1) := by decide +kernel
theorem dX13_kind_1 : decode cX13_kind 1 = .ok (.ireturn, 1) := by decide +kernel
theorem q161 : (Jvm.Cond.initialized "PaidSecrets$Gossip") ∈ lw_all := lw_g (lw_at lw_m1 33 rfl) rfl
theorem q881 : (Jvm.Cond.selects "PaidSecrets$Gossip" ({ cls := "java/lang/Object", name := "getClass", desc := "()Ljava/lang/Class;" } : Jvm.MethodName) ({ cls := "java/lang/Object", name := "getClass", desc := "()Ljava/lang/Class;" } : Jvm.MethodName)) ∈ lw_all := lw_g (lw_at lw_m4 33 rfl) rfl
theorem q959 : (Jvm.Cond.instantiable "PaidSecrets$Gossip" (2 : Nat)) ∈ lw_all := lw_g (lw_at lw_m4 111 rfl) rfl
theorem q961 : (Jvm.Cond.instanceMethod ({ cls := "PaidSecrets$Gossip", name := "<init>", desc := "(II)V" } : Jvm.MethodName)) ∈ lw_all := lw_g (lw_at lw_m4 113 rfl) rfl
theorem q962 : (Jvm.Cond.code ({ cls := "PaidSecrets$Gossip", name := "<init>", desc := "(II)V" } : Jvm.MethodName) prog_8_method_1_code (3 : Nat) (Option.none : Option Jvm.ClassFile.FieldType)) ∈ lw_all := lw_g (lw_at lw_m4 114 rfl) rfl
theorem q963 : (Jvm.Cond.methodLink "PaidSecrets$Gossip" (1 : Nat) ({ cls := "PaidSecrets$Person", name := "<init>", desc := "(II)V" } : Jvm.MethodName)) ∈ lw_all := lw_g (lw_at lw_m4 115 rfl) rfl
theorem q973 : (Jvm.Cond.laysFinal "PaidSecrets$Gossip" "PaidSecrets$Person" "rank" "I") ∈ lw_all := lw_g (lw_at lw_m4 125 rfl) rfl
theorem q975 : (Jvm.Cond.laysFinal "PaidSecrets$Gossip" "PaidSecrets$Person" "tax" "I") ∈ lw_all := lw_g (lw_at lw_m4 127 rfl) rfl
theorem q977 : (Jvm.Cond.superclass "PaidSecrets$Gossip" "PaidSecrets$Person") ∈ lw_all := lw_g (lw_at lw_m4 129 rfl) rfl
theorem q1074 : (Jvm.Cond.selects "PaidSecrets$Gossip" ({ cls := "PaidSecrets$Person", name := "more", desc := "()I" } : Jvm.MethodName) ({ cls := "PaidSecrets$Gossip", name := "more", desc := "()I" } : Jvm.MethodName)) ∈ lw_all := lw_g (lw_at lw_m4 226 rfl) rfl
theorem q1075 : (Jvm.Cond.instanceMethod ({ cls := "PaidSecrets$Gossip", name := "more", desc := "()I" } : Jvm.MethodName)) ∈ lw_all := lw_g (lw_at lw_m4 227 rfl) rfl
theorem q1076 : (Jvm.Cond.code ({ cls := "PaidSecrets$Gossip", name := "more", desc := "()I" } : Jvm.MethodName) prog_8_method_3_code (1 : Nat) (Option.some Jvm.ClassFile.FieldType.int)) ∈ lw_all := lw_g (lw_at lw_m4 228 rfl) rfl
theorem q1339 : (Jvm.Cond.selects "PaidSecrets$Gossip" ({ cls := "PaidSecrets$Person", name := "counts", desc := "()Z" } : Jvm.MethodName) ({ cls := "PaidSecrets$Person", name := "counts", desc := "()Z" } : Jvm.MethodName)) ∈ lw_all := lw_g (lw_at lw_m6 11 rfl) rfl
theorem q1452 : (Jvm.Cond.selects "PaidSecrets$Gossip" ({ cls := "PaidSecrets$Person", name := "tells", desc := "()Z" } : Jvm.MethodName) ({ cls := "PaidSecrets$Person", name := "tells", desc := "()Z" } : Jvm.MethodName)) ∈ lw_all := lw_g (lw_at lw_m6 124 rfl) rfl
theorem q1799 : (Jvm.Cond.selects "PaidSecrets$Gossip" ({ cls := "PaidSecrets$Person", name := "kind", desc := "()I" } : Jvm.MethodName) ({ cls := "PaidSecrets$Gossip", name := "kind", desc := "()I" } : Jvm.MethodName)) ∈ lw_all := lw_g (lw_at lw_m7 231 rfl) rfl
theorem q1800 : (Jvm.Cond.instanceMethod ({ cls := "PaidSecrets$Gossip", name := "kind", desc := "()I" } : Jvm.MethodName)) ∈ lw_all := lw_g (lw_at lw_m7 232 rfl) rfl
theorem q1801 : (Jvm.Cond.code ({ cls := "PaidSecrets$Gossip", name := "kind", desc := "()I" } : Jvm.MethodName) prog_8_method_2_code (1 : Nat) (Option.some Jvm.ClassFile.FieldType.int)) ∈ lw_all := lw_g (lw_at lw_m7 233 rfl) rfl
theorem q2517 : (Jvm.Cond.castable "PaidSecrets$Gossip" "PaidSecrets$Person") ∈ lw_tbl := lw_at lw_m10 229 rfl
theorem q2547 : (Jvm.Cond.castable "PaidSecrets$Gossip" "java/lang/Object") ∈ lw_tbl := lw_at lw_m11 19 rfl
theorem in_X13 : ∀ w ∈ wsX130, w ∈ lw_all := lw_in wsX130 [973, 975] (by decide +kernel) (by decide +kernel)
/-! PaidSecrets$Silent -/
set_option maxRecDepth 100000
def RX14 : String := "PaidSecrets$Silent"
def TX14 : u_T := fun k => match k with
  | 0 => ("PaidSecrets$Person", "rank", "I", true)
  | _ => ("PaidSecrets$Person", "tax", "I", true)
def tyX14 : Nat → FieldType := fun k => match k with
  | 0 => .int
  | _ => .int
abbrev wsX140 : List Cond := u_ws RX14 TX14 2
theorem nmX14 : ∀ a, a < 2 → ∀ b, b < 2 → a ≠ b → (TX14 a).2.1 ≠ (TX14 b).2.1 := by decide +kernel
theorem tyX14_ok : ∀ k, k < 2 → parseFieldDescriptor (TX14 k).2.2.1 = some (tyX14 k) := by decide +kernel
abbrev cX14_init : ByteArray := prog_29_method_1_code
def yX14_init : MethodName := ⟨RX14, "<init>", "(II)V"⟩
def dkwX14_init_0 : List UInt8 := [42, 27, 28, 183, 0, 1, 177]
abbrev dktX14_init_0 : List UInt8 := dkwX14_init_0 ++ []
theorem dksX14_init_0 : cX14_init.data.toList.drop 0 = dktX14_init_0 := by decide +kernel
theorem dX14_init_0 : decode cX14_init 0 = .ok (.aload_n 0, 1) := dk_42 (dk_at dksX14_init_0 0 rfl rfl)
theorem dX14_init_1 : decode cX14_init 1 = .ok (.iload_n 1, 1) := dk_27 (dk_at dksX14_init_0 1 rfl rfl)
theorem dX14_init_2 : decode cX14_init 2 = .ok (.iload_n 2, 1) := dk_28 (dk_at dksX14_init_0 2 rfl rfl)
theorem dX14_init_3 : decode cX14_init 3 = .ok (.invokespecial 1, 3) := dk_183 0 1 (dk_at dksX14_init_0 3 rfl rfl)
theorem dX14_init_6 : decode cX14_init 6 = .ok (.return_, 1) := dk_177 (dk_at dksX14_init_0 6 rfl rfl)
abbrev cX14_tells : ByteArray := prog_29_method_3_code
def yX14_tells : MethodName := ⟨RX14, "tells", "()Z"⟩
theorem dX14_tells_0 : decode cX14_tells 0 = .ok (.iconst 0, 1) := by decide +kernel
theorem dX14_tells_1 : decode cX14_tells 1 = .ok (.ireturn, 1) := by decide +kernel
abbrev cX14_kind : ByteArray := prog_29_method_2_code
def yX14_kind : MethodName := ⟨RX14, "kind", "()I"⟩
theorem dX14_kind_0 : decode cX14_kind 0 = .ok (.iconst 2, 1) := by decide +kernel
theorem dX14_kind_1 : decode cX14_kind 1 = .ok (.ireturn, 1) := by decide +kernel
theorem q162 : (Jvm.Cond.initialized "PaidSecrets$Silent") ∈ lw_all := lw_g (lw_at lw_m1 34 rfl) rfl
theorem q900 : (Jvm.Cond.selects "PaidSecrets$Silent" ({ cls := "java/lang/Object", name := "getClass", desc := "()Ljava/lang/Class;" } : Jvm.MethodName) ({ cls := "java/lang/Object", name := "getClass", desc := "()Ljava/lang/Class;" } : Jvm.MethodName)) ∈ lw_all := lw_g (lw_at lw_m4 52 rfl) rfl
theorem q979 : (Jvm.Cond.instantiable "PaidSecrets$Silent" (2 : Nat)) ∈ lw_all := lw_g (lw_at lw_m4 131 rfl) rfl
theorem q981 : (Jvm.Cond.instanceMethod ({ cls := "PaidSecrets$Silent", name := "<init>", desc := "(II)V" } : Jvm.MethodName)) ∈ lw_all := lw_g (lw_at lw_m4 133 rfl) rfl
theorem q982 : (Jvm.Cond.code ({ cls := "PaidSecrets$Silent", name := "<init>", desc := "(II)V" } : Jvm.MethodName) prog_29_method_1_code (3 : Nat) (Option.none : Option Jvm.ClassFile.FieldType)) ∈ lw_all := lw_g (lw_at lw_m4 134 rfl) rfl
theorem q983 : (Jvm.Cond.methodLink "PaidSecrets$Silent" (1 : Nat) ({ cls := "PaidSecrets$Person", name := "<init>", desc := "(II)V" } : Jvm.MethodName)) ∈ lw_all := lw_g (lw_at lw_m4 135 rfl) rfl
theorem q984 : (Jvm.Cond.laysFinal "PaidSecrets$Silent" "PaidSecrets$Person" "rank" "I") ∈ lw_all := lw_g (lw_at lw_m4 136 rfl) rfl
theorem q985 : (Jvm.Cond.laysFinal "PaidSecrets$Silent" "PaidSecrets$Person" "tax" "I") ∈ lw_all := lw_g (lw_at lw_m4 137 rfl) rfl
theorem q986 : (Jvm.Cond.superclass "PaidSecrets$Silent" "PaidSecrets$Person") ∈ lw_all := lw_g (lw_at lw_m4 138 rfl) rfl
theorem q1078 : (Jvm.Cond.selects "PaidSecrets$Silent" ({ cls := "PaidSecrets$Person", name := "more", desc := "()I" } : Jvm.MethodName) ({ cls := "PaidSecrets$Person", name := "more", desc := "()I" } : Jvm.MethodName)) ∈ lw_all := lw_g (lw_at lw_m4 230 rfl) rfl
theorem q1343 : (Jvm.Cond.selects "PaidSecrets$Silent" ({ cls := "PaidSecrets$Person", name := "counts", desc := "()Z" } : Jvm.MethodName) ({ cls := "PaidSecrets$Person", name := "counts", desc := "()Z" } : Jvm.MethodName)) ∈ lw_all := lw_g (lw_at lw_m6 15 rfl) rfl
theorem q1454 : (Jvm.Cond.instanceMethod ({ cls := "PaidSecrets$Silent", name := "tells", desc := "()Z" } : Jvm.MethodName)) ∈ lw_all := lw_g (lw_at lw_m6 126 rfl) rfl
theorem q1455 : (Jvm.Cond.code ({ cls := "PaidSecrets$Silent", name := "tells", desc := "()Z" } : Jvm.MethodName) prog_29_method_3_code (1 : Nat) (Option.some Jvm.ClassFile.FieldType.boolean)) ∈ lw_all := lw_g (lw_at lw_m6 127 rfl) rfl
theorem q1456 : (Jvm.Cond.selects "PaidSecrets$Silent" ({ cls := "PaidSecrets$Person", name := "tells", desc := "()Z" } : Jvm.MethodName) ({ cls := "PaidSecrets$Silent", name := "tells", desc := "()Z" } : Jvm.MethodName)) ∈ lw_all := lw_g (lw_at lw_m6 128 rfl) rfl
theorem q1805 : (Jvm.Cond.selects "PaidSecrets$Silent" ({ cls := "PaidSecrets$Person", name := "kind", desc := "()I" } : Jvm.MethodName) ({ cls := "PaidSecrets$Silent", name := "kind", desc := "()I" } : Jvm.MethodName)) ∈ lw_all := lw_g (lw_at lw_m7 237 rfl) rfl
theorem q1806 : (Jvm.Cond.instanceMethod ({ cls := "PaidSecrets$Silent", name := "kind", desc := "()I" } : Jvm.MethodName)) ∈ lw_all := lw_g (lw_at lw_m7 238 rfl) rfl
theorem q1807 : (Jvm.Cond.code ({ cls := "PaidSecrets$Silent", name := "kind", desc := "()I" } : Jvm.MethodName) prog_29_method_2_code (1 : Nat) (Option.some Jvm.ClassFile.FieldType.int)) ∈ lw_all := lw_g (lw_at lw_m7 239 rfl) rfl
theorem q2519 : (Jvm.Cond.castable "PaidSecrets$Silent" "PaidSecrets$Person") ∈ lw_tbl := lw_at lw_m10 231 rfl
theorem q2548 : (Jvm.Cond.castable "PaidSecrets$Silent" "java/lang/Object") ∈ lw_tbl := lw_at lw_m11 20 rfl
theorem in_X14 : ∀ w ∈ wsX140, w ∈ lw_all := lw_in wsX140 [984, 985] (by decide +kernel) (by decide +kernel)
/-! PaidSecrets$Priest -/
set_option maxRecDepth 100000
def RX15 : String := "PaidSecrets$Priest"
def TX15 : u_T := fun k => match k with
  | 0 => ("PaidSecrets$Person", "rank", "I", true)
  | _ => ("PaidSecrets$Person", "tax", "I", true)
def tyX15 : Nat → FieldType := fun k => match k with
  | 0 => .int
  | _ => .int
abbrev wsX150 : List Cond := u_ws RX15 TX15 2
theorem nmX15 : ∀ a, a < 2 → ∀ b, b < 2 → a ≠ b → (TX15 a).2.1 ≠ (TX15 b).2.1 := by decide +kernel
theorem tyX15_ok : ∀ k, k < 2 → parseFieldDescriptor (TX15 k).2.2.1 = some (tyX15 k) := by decide +kernel
abbrev cX15_init : ByteArray := prog_23_method_1_code
def yX15_init : MethodName := ⟨RX15, "<init>", "(II)V"⟩
def dkwX15_init_0 : List UInt8 := [42, 27, 28, 183, 0, 1, 177]
abbrev dktX15_init_0 : List UInt8 := dkwX15_init_0 ++ []
theorem dksX15_init_0 : cX15_init.data.toList.drop 0 = dktX15_init_0 := by decide +kernel
theorem dX15_init_0 : decode cX15_init 0 = .ok (.aload_n 0, 1) := dk_42 (dk_at dksX15_init_0 0 rfl rfl)
theorem dX15_init_1 : decode cX15_init 1 = .ok (.iload_n 1, 1) := dk_27 (dk_at dksX15_init_0 1 rfl rfl)
theorem dX15_init_2 : decode cX15_init 2 = .ok (.iload_n 2, 1) := dk_28 (dk_at dksX15_init_0 2 rfl rfl)
theorem dX15_init_3 : decode cX15_init 3 = .ok (.invokespecial 1, 3) := dk_183 0 1 (dk_at dksX15_init_0 3 rfl rfl)
theorem dX15_init_6 : decode cX15_init 6 = .ok (.return_, 1) := dk_177 (dk_at dksX15_init_0 6 rfl rfl)
abbrev cX15_counts : ByteArray := prog_23_method_3_code
def yX15_counts : MethodName := ⟨RX15, "counts", "()Z"⟩
theorem dX15_counts_0 : decode cX15_counts 0 = .ok (.iconst 0, 1) := by decide +kernel
theorem dX15_counts_1 : decode cX15_counts 1 = .ok (.ireturn, 1) := by decide +kernel
abbrev cX15_kind : ByteArray := prog_23_method_2_code
def yX15_kind : MethodName := ⟨RX15, "kind", "()I"⟩
theorem dX15_kind_0 : decode cX15_kind 0 = .ok (.iconst 3, 1) := by decide +kernel
theorem dX15_kind_1 : decode cX15_kind 1 = .ok (.ireturn, 1) := by decide +kernel
theorem q163 : (Jvm.Cond.initialized "PaidSecrets$Priest") ∈ lw_all := lw_g (lw_at lw_m1 35 rfl) rfl
theorem q894 : (Jvm.Cond.selects "PaidSecrets$Priest" ({ cls := "java/lang/Object", name := "getClass", desc := "()Ljava/lang/Class;" } : Jvm.MethodName) ({ cls := "java/lang/Object", name := "getClass", desc := "()Ljava/lang/Class;" } : Jvm.MethodName)) ∈ lw_all := lw_g (lw_at lw_m4 46 rfl) rfl
theorem q988 : (Jvm.Cond.instantiable "PaidSecrets$Priest" (2 : Nat)) ∈ lw_all := lw_g (lw_at lw_m4 140 rfl) rfl
theorem q990 : (Jvm.Cond.instanceMethod ({ cls := "PaidSecrets$Priest", name := "<init>", desc := "(II)V" } : Jvm.MethodName)) ∈ lw_all := lw_g (lw_at lw_m4 142 rfl) rfl
theorem q991 : (Jvm.Cond.code ({ cls := "PaidSecrets$Priest", name := "<init>", desc := "(II)V" } : Jvm.MethodName) prog_23_method_1_code (3 : Nat) (Option.none : Option Jvm.ClassFile.FieldType)) ∈ lw_all := lw_g (lw_at lw_m4 143 rfl) rfl
theorem q992 : (Jvm.Cond.methodLink "PaidSecrets$Priest" (1 : Nat) ({ cls := "PaidSecrets$Silent", name := "<init>", desc := "(II)V" } : Jvm.MethodName)) ∈ lw_all := lw_g (lw_at lw_m4 144 rfl) rfl
theorem q993 : (Jvm.Cond.laysFinal "PaidSecrets$Priest" "PaidSecrets$Person" "rank" "I") ∈ lw_all := lw_g (lw_at lw_m4 145 rfl) rfl
theorem q994 : (Jvm.Cond.laysFinal "PaidSecrets$Priest" "PaidSecrets$Person" "tax" "I") ∈ lw_all := lw_g (lw_at lw_m4 146 rfl) rfl
theorem q995 : (Jvm.Cond.superclass "PaidSecrets$Priest" "PaidSecrets$Silent") ∈ lw_all := lw_g (lw_at lw_m4 147 rfl) rfl
theorem q1077 : (Jvm.Cond.selects "PaidSecrets$Priest" ({ cls := "PaidSecrets$Person", name := "more", desc := "()I" } : Jvm.MethodName) ({ cls := "PaidSecrets$Person", name := "more", desc := "()I" } : Jvm.MethodName)) ∈ lw_all := lw_g (lw_at lw_m4 229 rfl) rfl
theorem q1340 : (Jvm.Cond.selects "PaidSecrets$Priest" ({ cls := "PaidSecrets$Person", name := "counts", desc := "()Z" } : Jvm.MethodName) ({ cls := "PaidSecrets$Priest", name := "counts", desc := "()Z" } : Jvm.MethodName)) ∈ lw_all := lw_g (lw_at lw_m6 12 rfl) rfl
theorem q1341 : (Jvm.Cond.instanceMethod ({ cls := "PaidSecrets$Priest", name := "counts", desc := "()Z" } : Jvm.MethodName)) ∈ lw_all := lw_g (lw_at lw_m6 13 rfl) rfl
theorem q1342 : (Jvm.Cond.code ({ cls := "PaidSecrets$Priest", name := "counts", desc := "()Z" } : Jvm.MethodName) prog_23_method_3_code (1 : Nat) (Option.some Jvm.ClassFile.FieldType.boolean)) ∈ lw_all := lw_g (lw_at lw_m6 14 rfl) rfl
theorem q1453 : (Jvm.Cond.selects "PaidSecrets$Priest" ({ cls := "PaidSecrets$Person", name := "tells", desc := "()Z" } : Jvm.MethodName) ({ cls := "PaidSecrets$Silent", name := "tells", desc := "()Z" } : Jvm.MethodName)) ∈ lw_all := lw_g (lw_at lw_m6 125 rfl) rfl
theorem q1802 : (Jvm.Cond.selects "PaidSecrets$Priest" ({ cls := "PaidSecrets$Person", name := "kind", desc := "()I" } : Jvm.MethodName) ({ cls := "PaidSecrets$Priest", name := "kind", desc := "()I" } : Jvm.MethodName)) ∈ lw_all := lw_g (lw_at lw_m7 234 rfl) rfl
theorem q1803 : (Jvm.Cond.instanceMethod ({ cls := "PaidSecrets$Priest", name := "kind", desc := "()I" } : Jvm.MethodName)) ∈ lw_all := lw_g (lw_at lw_m7 235 rfl) rfl
theorem q1804 : (Jvm.Cond.code ({ cls := "PaidSecrets$Priest", name := "kind", desc := "()I" } : Jvm.MethodName) prog_23_method_2_code (1 : Nat) (Option.some Jvm.ClassFile.FieldType.int)) ∈ lw_all := lw_g (lw_at lw_m7 236 rfl) rfl
theorem q2518 : (Jvm.Cond.castable "PaidSecrets$Priest" "PaidSecrets$Person") ∈ lw_tbl := lw_at lw_m10 230 rfl
theorem q2549 : (Jvm.Cond.castable "PaidSecrets$Priest" "java/lang/Object") ∈ lw_tbl := lw_at lw_m11 21 rfl
theorem in_X15 : ∀ w ∈ wsX150, w ∈ lw_all := lw_in wsX150 [993, 994] (by decide +kernel) (by decide +kernel)
/-! PaidSecrets$Secret -/
set_option maxRecDepth 100000
def RX16 : String := "PaidSecrets$Secret"
def TX16 : u_T := fun k => match k with
  | 0 => ("PaidSecrets$Secret", "isFalse", "Z", true)
  | 1 => ("PaidSecrets$Secret", "of", "I", true)
  | 2 => ("PaidSecrets$Secret", "cost", "I", true)
  | 3 => ("PaidSecrets$Secret", "on", "I", true)
  | 4 => ("PaidSecrets$Secret", "by", "I", true)
  | _ => ("PaidSecrets$Secret", "clashes", "I", false)
def tyX16 : Nat → FieldType := fun k => match k with
  | 0 => .boolean
  | 1 => .int
  | 2 => .int
  | 3 => .int
  | 4 => .int
  | _ => .int
abbrev wsX160 : List Cond := u_ws RX16 TX16 6
theorem nmX16 : ∀ a, a < 6 → ∀ b, b < 6 → a ≠ b → (TX16 a).2.1 ≠ (TX16 b).2.1 := by decide +kernel
theorem tyX16_ok : ∀ k, k < 6 → parseFieldDescriptor (TX16 k).2.2.1 = some (tyX16 k) := by decide +kernel
abbrev cX16_init : ByteArray := prog_28_method_1_code
def yX16_init : MethodName := ⟨RX16, "<init>", "(ZIIII)V"⟩
def dkwX16_init_1 : List UInt8 := [181, 0, 20, 42, 21, 5, 181, 0, 23, 177]
abbrev dktX16_init_1 : List UInt8 := dkwX16_init_1 ++ []
def dkwX16_init_0 : List UInt8 := [42, 183, 0, 1, 42, 27, 181, 0, 7, 42, 28, 181, 0, 13, 42, 29, 181, 0, 17, 42, 21, 4]
abbrev dktX16_init_0 : List UInt8 := dkwX16_init_0 ++ dktX16_init_1
theorem dksX16_init_0 : cX16_init.data.toList.drop 0 = dktX16_init_0 := by decide +kernel
theorem dksX16_init_1 : cX16_init.data.toList.drop 22 = dktX16_init_1 := dk_seg dksX16_init_0 22 rfl rfl
theorem dX16_init_0 : decode cX16_init 0 = .ok (.aload_n 0, 1) := dk_42 (dk_at dksX16_init_0 0 rfl rfl)
theorem dX16_init_1 : decode cX16_init 1 = .ok (.invokespecial 1, 3) := dk_183 0 1 (dk_at dksX16_init_0 1 rfl rfl)
theorem dX16_init_4 : decode cX16_init 4 = .ok (.aload_n 0, 1) := dk_42 (dk_at dksX16_init_0 4 rfl rfl)
theorem dX16_init_5 : decode cX16_init 5 = .ok (.iload_n 1, 1) := dk_27 (dk_at dksX16_init_0 5 rfl rfl)
theorem dX16_init_6 : decode cX16_init 6 = .ok (.putfield 7, 3) := dk_181 0 7 (dk_at dksX16_init_0 6 rfl rfl)
theorem dX16_init_9 : decode cX16_init 9 = .ok (.aload_n 0, 1) := dk_42 (dk_at dksX16_init_0 9 rfl rfl)
theorem dX16_init_10 : decode cX16_init 10 = .ok (.iload_n 2, 1) := dk_28 (dk_at dksX16_init_0 10 rfl rfl)
theorem dX16_init_11 : decode cX16_init 11 = .ok (.putfield 13, 3) := dk_181 0 13 (dk_at dksX16_init_0 11 rfl rfl)
theorem dX16_init_14 : decode cX16_init 14 = .ok (.aload_n 0, 1) := dk_42 (dk_at dksX16_init_0 14 rfl rfl)
theorem dX16_init_15 : decode cX16_init 15 = .ok (.iload_n 3, 1) := dk_29 (dk_at dksX16_init_0 15 rfl rfl)
theorem dX16_init_16 : decode cX16_init 16 = .ok (.putfield 17, 3) := dk_181 0 17 (dk_at dksX16_init_0 16 rfl rfl)
theorem dX16_init_19 : decode cX16_init 19 = .ok (.aload_n 0, 1) := dk_42 (dk_at dksX16_init_0 19 rfl rfl)
theorem dX16_init_20 : decode cX16_init 20 = .ok (.iload 4, 2) := dk_21 4 (dk_at dksX16_init_0 20 rfl rfl)
theorem dX16_init_22 : decode cX16_init 22 = .ok (.putfield 20, 3) := dk_181 0 20 (dk_at dksX16_init_1 0 rfl rfl)
theorem dX16_init_25 : decode cX16_init 25 = .ok (.aload_n 0, 1) := dk_42 (dk_at dksX16_init_1 3 rfl rfl)
theorem dX16_init_26 : decode cX16_init 26 = .ok (.iload 5, 2) := dk_21 5 (dk_at dksX16_init_1 4 rfl rfl)
theorem dX16_init_28 : decode cX16_init 28 = .ok (.putfield 23, 3) := dk_181 0 23 (dk_at dksX16_init_1 6 rfl rfl)
theorem dX16_init_31 : decode cX16_init 31 = .ok (.return_, 1) := dk_177 (dk_at dksX16_init_1 9 rfl rfl)
theorem q164 : (Jvm.Cond.initialized "PaidSecrets$Secret") ∈ lw_all := lw_g (lw_at lw_m1 36 rfl) rfl
theorem q899 : (Jvm.Cond.selects "PaidSecrets$Secret" ({ cls := "java/lang/Object", name := "getClass", desc := "()Ljava/lang/Class;" } : Jvm.MethodName) ({ cls := "java/lang/Object", name := "getClass", desc := "()Ljava/lang/Class;" } : Jvm.MethodName)) ∈ lw_all := lw_g (lw_at lw_m4 51 rfl) rfl
theorem q1015 : (Jvm.Cond.instantiable "PaidSecrets$Secret" (6 : Nat)) ∈ lw_all := lw_g (lw_at lw_m4 167 rfl) rfl
theorem q1024 : (Jvm.Cond.instanceMethod ({ cls := "PaidSecrets$Secret", name := "<init>", desc := "(ZIIII)V" } : Jvm.MethodName)) ∈ lw_all := lw_g (lw_at lw_m4 176 rfl) rfl
theorem q1025 : (Jvm.Cond.code ({ cls := "PaidSecrets$Secret", name := "<init>", desc := "(ZIIII)V" } : Jvm.MethodName) prog_28_method_1_code (6 : Nat) (Option.none : Option Jvm.ClassFile.FieldType)) ∈ lw_all := lw_g (lw_at lw_m4 177 rfl) rfl
theorem q1026 : (Jvm.Cond.methodLink "PaidSecrets$Secret" (1 : Nat) ({ cls := "java/lang/Object", name := "<init>", desc := "()V" } : Jvm.MethodName)) ∈ lw_all := lw_g (lw_at lw_m4 178 rfl) rfl
theorem q1027 : (Jvm.Cond.fieldLink "PaidSecrets$Secret" (7 : Nat) "PaidSecrets$Secret" "isFalse" "Z") ∈ lw_all := lw_g (lw_at lw_m4 179 rfl) rfl
theorem q1030 : (Jvm.Cond.fieldLink "PaidSecrets$Secret" (13 : Nat) "PaidSecrets$Secret" "of" "I") ∈ lw_all := lw_g (lw_at lw_m4 182 rfl) rfl
theorem q1033 : (Jvm.Cond.fieldLink "PaidSecrets$Secret" (17 : Nat) "PaidSecrets$Secret" "cost" "I") ∈ lw_all := lw_g (lw_at lw_m4 185 rfl) rfl
theorem q1036 : (Jvm.Cond.fieldLink "PaidSecrets$Secret" (20 : Nat) "PaidSecrets$Secret" "on" "I") ∈ lw_all := lw_g (lw_at lw_m4 188 rfl) rfl
theorem q1039 : (Jvm.Cond.fieldLink "PaidSecrets$Secret" (23 : Nat) "PaidSecrets$Secret" "by" "I") ∈ lw_all := lw_g (lw_at lw_m4 191 rfl) rfl
theorem q1043 : (Jvm.Cond.laysFinal "PaidSecrets$Secret" "PaidSecrets$Secret" "isFalse" "Z") ∈ lw_all := lw_g (lw_at lw_m4 195 rfl) rfl
theorem q1044 : (Jvm.Cond.soleField "PaidSecrets$Secret" "isFalse") ∈ lw_all := lw_g (lw_at lw_m4 196 rfl) rfl
theorem q1045 : (Jvm.Cond.laysFinal "PaidSecrets$Secret" "PaidSecrets$Secret" "of" "I") ∈ lw_all := lw_g (lw_at lw_m4 197 rfl) rfl
theorem q1046 : (Jvm.Cond.soleField "PaidSecrets$Secret" "of") ∈ lw_all := lw_g (lw_at lw_m4 198 rfl) rfl
theorem q1047 : (Jvm.Cond.laysFinal "PaidSecrets$Secret" "PaidSecrets$Secret" "cost" "I") ∈ lw_all := lw_g (lw_at lw_m4 199 rfl) rfl
theorem q1048 : (Jvm.Cond.soleField "PaidSecrets$Secret" "cost") ∈ lw_all := lw_g (lw_at lw_m4 200 rfl) rfl
theorem q1049 : (Jvm.Cond.laysFinal "PaidSecrets$Secret" "PaidSecrets$Secret" "on" "I") ∈ lw_all := lw_g (lw_at lw_m4 201 rfl) rfl
theorem q1050 : (Jvm.Cond.soleField "PaidSecrets$Secret" "on") ∈ lw_all := lw_g (lw_at lw_m4 202 rfl) rfl
theorem q1051 : (Jvm.Cond.laysFinal "PaidSecrets$Secret" "PaidSecrets$Secret" "by" "I") ∈ lw_all := lw_g (lw_at lw_m4 203 rfl) rfl
theorem q1052 : (Jvm.Cond.soleField "PaidSecrets$Secret" "by") ∈ lw_all := lw_g (lw_at lw_m4 204 rfl) rfl
theorem q1053 : (Jvm.Cond.lays "PaidSecrets$Secret" "PaidSecrets$Secret" "clashes" "I") ∈ lw_all := lw_g (lw_at lw_m4 205 rfl) rfl
theorem q1054 : (Jvm.Cond.soleField "PaidSecrets$Secret" "clashes") ∈ lw_all := lw_g (lw_at lw_m4 206 rfl) rfl
theorem q1055 : (Jvm.Cond.superclass "PaidSecrets$Secret" "java/lang/Object") ∈ lw_all := lw_g (lw_at lw_m4 207 rfl) rfl
theorem q2551 : (Jvm.Cond.castable "PaidSecrets$Secret" "java/lang/Object") ∈ lw_tbl := lw_at lw_m11 23 rfl
theorem in_X16 : ∀ w ∈ wsX160, w ∈ lw_all := lw_in wsX160 [1043, 1045, 1047, 1049, 1051, 1053] (by decide +kernel) (by decide +kernel)
/-! PaidSecrets$Expression -/
set_option maxRecDepth 100000
def RX17 : String := "PaidSecrets$Expression"
abbrev cX17_init : ByteArray := prog_4_method_1_code
def yX17_init : MethodName := ⟨RX17, "<init>", "()V"⟩
theorem dX17_init_0 : decode cX17_init 0 = .ok (.aload_n 0, 1) := by decide +kernel
theorem dX17_init_1 : decode cX17_init 1 = .ok (.invokespecial 1, 3) := by decide +kernel
theorem dX17_init_4 : decode cX17_init 4 = .ok (.return_, 1) := by decide +kernel
theorem q165 : (Jvm.Cond.initialized "PaidSecrets$Expression") ∈ lw_all := lw_g (lw_at lw_m1 37 rfl) rfl
theorem q1124 : (Jvm.Cond.instanceMethod ({ cls := "PaidSecrets$Expression", name := "<init>", desc := "()V" } : Jvm.MethodName)) ∈ lw_all := lw_g (lw_at lw_m5 36 rfl) rfl
theorem q1125 : (Jvm.Cond.code ({ cls := "PaidSecrets$Expression", name := "<init>", desc := "()V" } : Jvm.MethodName) prog_4_method_1_code (1 : Nat) (Option.none : Option Jvm.ClassFile.FieldType)) ∈ lw_all := lw_g (lw_at lw_m5 37 rfl) rfl
theorem q1126 : (Jvm.Cond.methodLink "PaidSecrets$Expression" (1 : Nat) ({ cls := "java/lang/Object", name := "<init>", desc := "()V" } : Jvm.MethodName)) ∈ lw_all := lw_g (lw_at lw_m5 38 rfl) rfl
theorem q1366 : (Jvm.Cond.declares ({ cls := "PaidSecrets$Expression", name := "of", desc := "(LPaidSecrets$Facts;)I" } : Jvm.MethodName)) ∈ lw_tbl := lw_at lw_m6 38 rfl
theorem q1367 : (Jvm.Cond.sameMethod "PaidSecrets$Expression" "PaidSecrets$Expression" "of" "(LPaidSecrets$Facts;)I") ∈ lw_all := lw_g (lw_at lw_m6 39 rfl) rfl
/-! PaidSecrets$Fact -/
set_option maxRecDepth 100000
def RX18 : String := "PaidSecrets$Fact"
def TX18 : u_T := fun k => match k with
  | _ => ("PaidSecrets$Fact", "which", "I", true)
def tyX18 : Nat → FieldType := fun k => match k with
  | _ => .int
abbrev wsX180 : List Cond := u_ws RX18 TX18 1
theorem nmX18 : ∀ a, a < 1 → ∀ b, b < 1 → a ≠ b → (TX18 a).2.1 ≠ (TX18 b).2.1 := by decide +kernel
theorem tyX18_ok : ∀ k, k < 1 → parseFieldDescriptor (TX18 k).2.2.1 = some (tyX18 k) := by decide +kernel
abbrev cX18_init : ByteArray := prog_5_method_1_code
def yX18_init : MethodName := ⟨RX18, "<init>", "(I)V"⟩
def dkwX18_init_0 : List UInt8 := [42, 183, 0, 1, 42, 27, 181, 0, 7, 177]
abbrev dktX18_init_0 : List UInt8 := dkwX18_init_0 ++ []
theorem dksX18_init_0 : cX18_init.data.toList.drop 0 = dktX18_init_0 := by decide +kernel
theorem dX18_init_0 : decode cX18_init 0 = .ok (.aload_n 0, 1) := dk_42 (dk_at dksX18_init_0 0 rfl rfl)
theorem dX18_init_1 : decode cX18_init 1 = .ok (.invokespecial 1, 3) := dk_183 0 1 (dk_at dksX18_init_0 1 rfl rfl)
theorem dX18_init_4 : decode cX18_init 4 = .ok (.aload_n 0, 1) := dk_42 (dk_at dksX18_init_0 4 rfl rfl)
theorem dX18_init_5 : decode cX18_init 5 = .ok (.iload_n 1, 1) := dk_27 (dk_at dksX18_init_0 5 rfl rfl)
theorem dX18_init_6 : decode cX18_init 6 = .ok (.putfield 7, 3) := dk_181 0 7 (dk_at dksX18_init_0 6 rfl rfl)
theorem dX18_init_9 : decode cX18_init 9 = .ok (.return_, 1) := dk_177 (dk_at dksX18_init_0 9 rfl rfl)
abbrev cX18_of : ByteArray := prog_5_method_2_code
def yX18_of : MethodName := ⟨RX18, "of", "(LPaidSecrets$Facts;)I"⟩
def dkwX18_of_0 : List UInt8 := [43, 180, 0, 13, 42, 180, 0, 7, 46, 172]
abbrev dktX18_of_0 : List UInt8 := dkwX18_of_0 ++ []
theorem dksX18_of_0 : cX18_of.data.toList.drop 0 = dktX18_of_0 := by decide +kernel
theorem dX18_of_0 : decode cX18_of 0 = .ok (.aload_n 1, 1) := dk_43 (dk_at dksX18_of_0 0 rfl rfl)
theorem dX18_of_1 : decode cX18_of 1 = .ok (.getfield 13, 3) := dk_180 0 13 (dk_at dksX18_of_0 1 rfl rfl)
theorem dX18_of_4 : decode cX18_of 4 = .ok (.aload_n 0, 1) := dk_42 (dk_at dksX18_of_0 4 rfl rfl)
theorem dX18_of_5 : decode cX18_of 5 = .ok (.getfield 7, 3) := dk_180 0 7 (dk_at dksX18_of_0 5 rfl rfl)
theorem dX18_of_8 : decode cX18_of 8 = .ok (.iaload, 1) := dk_46 (dk_at dksX18_of_0 8 rfl rfl)
theorem dX18_of_9 : decode cX18_of 9 = .ok (.ireturn, 1) := dk_172 (dk_at dksX18_of_0 9 rfl rfl)
theorem q166 : (Jvm.Cond.initialized "PaidSecrets$Fact") ∈ lw_all := lw_g (lw_at lw_m1 38 rfl) rfl
theorem q363 : (Jvm.Cond.fieldLink "PaidSecrets$Fact" (13 : Nat) "PaidSecrets$Facts" "of" "[I") ∈ lw_all := lw_g (lw_at lw_m1 235 rfl) rfl
theorem q878 : (Jvm.Cond.selects "PaidSecrets$Fact" ({ cls := "java/lang/Object", name := "getClass", desc := "()Ljava/lang/Class;" } : Jvm.MethodName) ({ cls := "java/lang/Object", name := "getClass", desc := "()Ljava/lang/Class;" } : Jvm.MethodName)) ∈ lw_all := lw_g (lw_at lw_m4 30 rfl) rfl
theorem q1119 : (Jvm.Cond.instantiable "PaidSecrets$Fact" (1 : Nat)) ∈ lw_all := lw_g (lw_at lw_m5 31 rfl) rfl
theorem q1121 : (Jvm.Cond.instanceMethod ({ cls := "PaidSecrets$Fact", name := "<init>", desc := "(I)V" } : Jvm.MethodName)) ∈ lw_all := lw_g (lw_at lw_m5 33 rfl) rfl
theorem q1122 : (Jvm.Cond.code ({ cls := "PaidSecrets$Fact", name := "<init>", desc := "(I)V" } : Jvm.MethodName) prog_5_method_1_code (2 : Nat) (Option.none : Option Jvm.ClassFile.FieldType)) ∈ lw_all := lw_g (lw_at lw_m5 34 rfl) rfl
theorem q1123 : (Jvm.Cond.methodLinkNest "PaidSecrets$Fact" (1 : Nat) ({ cls := "PaidSecrets$Expression", name := "<init>", desc := "()V" } : Jvm.MethodName) "PaidSecrets") ∈ lw_tbl := lw_at lw_m5 35 rfl
theorem q1127 : (Jvm.Cond.fieldLink "PaidSecrets$Fact" (7 : Nat) "PaidSecrets$Fact" "which" "I") ∈ lw_all := lw_g (lw_at lw_m5 39 rfl) rfl
theorem q1128 : (Jvm.Cond.laysFinal "PaidSecrets$Fact" "PaidSecrets$Fact" "which" "I") ∈ lw_all := lw_g (lw_at lw_m5 40 rfl) rfl
theorem q1129 : (Jvm.Cond.soleField "PaidSecrets$Fact" "which") ∈ lw_all := lw_g (lw_at lw_m5 41 rfl) rfl
theorem q1130 : (Jvm.Cond.superclass "PaidSecrets$Fact" "PaidSecrets$Expression") ∈ lw_all := lw_g (lw_at lw_m5 42 rfl) rfl
theorem q1372 : (Jvm.Cond.instanceMethod ({ cls := "PaidSecrets$Fact", name := "of", desc := "(LPaidSecrets$Facts;)I" } : Jvm.MethodName)) ∈ lw_all := lw_g (lw_at lw_m6 44 rfl) rfl
theorem q1373 : (Jvm.Cond.code ({ cls := "PaidSecrets$Fact", name := "of", desc := "(LPaidSecrets$Facts;)I" } : Jvm.MethodName) prog_5_method_2_code (2 : Nat) (Option.some Jvm.ClassFile.FieldType.int)) ∈ lw_all := lw_g (lw_at lw_m6 45 rfl) rfl
theorem q1418 : (Jvm.Cond.selects "PaidSecrets$Fact" ({ cls := "PaidSecrets$Expression", name := "of", desc := "(LPaidSecrets$Facts;)I" } : Jvm.MethodName) ({ cls := "PaidSecrets$Fact", name := "of", desc := "(LPaidSecrets$Facts;)I" } : Jvm.MethodName)) ∈ lw_all := lw_g (lw_at lw_m6 90 rfl) rfl
theorem q2552 : (Jvm.Cond.castable "PaidSecrets$Fact" "java/lang/Object") ∈ lw_tbl := lw_at lw_m11 24 rfl
theorem in_X18 : ∀ w ∈ wsX180, w ∈ lw_all := lw_in wsX180 [1128] (by decide +kernel) (by decide +kernel)
/-! PaidSecrets$Plain -/
set_option maxRecDepth 100000
def RX19 : String := "PaidSecrets$Plain"
def TX19 : u_T := fun k => match k with
  | _ => ("PaidSecrets$Plain", "n", "I", true)
def tyX19 : Nat → FieldType := fun k => match k with
  | _ => .int
abbrev wsX190 : List Cond := u_ws RX19 TX19 1
theorem nmX19 : ∀ a, a < 1 → ∀ b, b < 1 → a ≠ b → (TX19 a).2.1 ≠ (TX19 b).2.1 := by decide +kernel
theorem tyX19_ok : ∀ k, k < 1 → parseFieldDescriptor (TX19 k).2.2.1 = some (tyX19 k) := by decide +kernel
abbrev cX19_init : ByteArray := prog_20_method_1_code
def yX19_init : MethodName := ⟨RX19, "<init>", "(I)V"⟩
def dkwX19_init_0 : List UInt8 := [42, 183, 0, 1, 42, 27, 181, 0, 7, 177]
abbrev dktX19_init_0 : List UInt8 := dkwX19_init_0 ++ []
theorem dksX19_init_0 : cX19_init.data.toList.drop 0 = dktX19_init_0 := by decide +kernel
theorem dX19_init_0 : decode cX19_init 0 = .ok (.aload_n 0, 1) := dk_42 (dk_at dksX19_init_0 0 rfl rfl)
theorem dX19_init_1 : decode cX19_init 1 = .ok (.invokespecial 1, 3) := dk_183 0 1 (dk_at dksX19_init_0 1 rfl rfl)
theorem dX19_init_4 : decode cX19_init 4 = .ok (.aload_n 0, 1) := dk_42 (dk_at dksX19_init_0 4 rfl rfl)
theorem dX19_init_5 : decode cX19_init 5 = .ok (.iload_n 1, 1) := dk_27 (dk_at dksX19_init_0 5 rfl rfl)
theorem dX19_init_6 : decode cX19_init 6 = .ok (.putfield 7, 3) := dk_181 0 7 (dk_at dksX19_init_0 6 rfl rfl)
theorem dX19_init_9 : decode cX19_init 9 = .ok (.return_, 1) := dk_177 (dk_at dksX19_init_0 9 rfl rfl)
abbrev cX19_of : ByteArray := prog_20_method_2_code
def yX19_of : MethodName := ⟨RX19, "of", "(LPaidSecrets$Facts;)I"⟩
theorem dX19_of_0 : decode cX19_of 0 = .ok (.aload_n 0, 1) := by decide +kernel
theorem dX19_of_1 : decode cX19_of 1 = .ok (.getfield 7, 3) := by decide +kernel
theorem dX19_of_4 : decode cX19_of 4 = .ok (.ireturn, 1) := by decide +kernel
theorem q167 : (Jvm.Cond.initialized "PaidSecrets$Plain") ∈ lw_all := lw_g (lw_at lw_m1 39 rfl) rfl
theorem q891 : (Jvm.Cond.selects "PaidSecrets$Plain" ({ cls := "java/lang/Object", name := "getClass", desc := "()Ljava/lang/Class;" } : Jvm.MethodName) ({ cls := "java/lang/Object", name := "getClass", desc := "()Ljava/lang/Class;" } : Jvm.MethodName)) ∈ lw_all := lw_g (lw_at lw_m4 43 rfl) rfl
theorem q1132 : (Jvm.Cond.instantiable "PaidSecrets$Plain" (1 : Nat)) ∈ lw_all := lw_g (lw_at lw_m5 44 rfl) rfl
theorem q1134 : (Jvm.Cond.instanceMethod ({ cls := "PaidSecrets$Plain", name := "<init>", desc := "(I)V" } : Jvm.MethodName)) ∈ lw_all := lw_g (lw_at lw_m5 46 rfl) rfl
theorem q1135 : (Jvm.Cond.code ({ cls := "PaidSecrets$Plain", name := "<init>", desc := "(I)V" } : Jvm.MethodName) prog_20_method_1_code (2 : Nat) (Option.none : Option Jvm.ClassFile.FieldType)) ∈ lw_all := lw_g (lw_at lw_m5 47 rfl) rfl
theorem q1136 : (Jvm.Cond.methodLinkNest "PaidSecrets$Plain" (1 : Nat) ({ cls := "PaidSecrets$Expression", name := "<init>", desc := "()V" } : Jvm.MethodName) "PaidSecrets") ∈ lw_tbl := lw_at lw_m5 48 rfl
theorem q1137 : (Jvm.Cond.fieldLink "PaidSecrets$Plain" (7 : Nat) "PaidSecrets$Plain" "n" "I") ∈ lw_all := lw_g (lw_at lw_m5 49 rfl) rfl
theorem q1138 : (Jvm.Cond.laysFinal "PaidSecrets$Plain" "PaidSecrets$Plain" "n" "I") ∈ lw_all := lw_g (lw_at lw_m5 50 rfl) rfl
theorem q1139 : (Jvm.Cond.soleField "PaidSecrets$Plain" "n") ∈ lw_all := lw_g (lw_at lw_m5 51 rfl) rfl
theorem q1140 : (Jvm.Cond.superclass "PaidSecrets$Plain" "PaidSecrets$Expression") ∈ lw_all := lw_g (lw_at lw_m5 52 rfl) rfl
theorem q1377 : (Jvm.Cond.instanceMethod ({ cls := "PaidSecrets$Plain", name := "of", desc := "(LPaidSecrets$Facts;)I" } : Jvm.MethodName)) ∈ lw_all := lw_g (lw_at lw_m6 49 rfl) rfl
theorem q1378 : (Jvm.Cond.code ({ cls := "PaidSecrets$Plain", name := "of", desc := "(LPaidSecrets$Facts;)I" } : Jvm.MethodName) prog_20_method_2_code (2 : Nat) (Option.some Jvm.ClassFile.FieldType.int)) ∈ lw_all := lw_g (lw_at lw_m6 50 rfl) rfl
theorem q1420 : (Jvm.Cond.selects "PaidSecrets$Plain" ({ cls := "PaidSecrets$Expression", name := "of", desc := "(LPaidSecrets$Facts;)I" } : Jvm.MethodName) ({ cls := "PaidSecrets$Plain", name := "of", desc := "(LPaidSecrets$Facts;)I" } : Jvm.MethodName)) ∈ lw_all := lw_g (lw_at lw_m6 92 rfl) rfl
theorem q2553 : (Jvm.Cond.castable "PaidSecrets$Plain" "java/lang/Object") ∈ lw_tbl := lw_at lw_m11 25 rfl
theorem in_X19 : ∀ w ∈ wsX190, w ∈ lw_all := lw_in wsX190 [1138] (by decide +kernel) (by decide +kernel)
/-! PaidSecrets$Not -/
set_option maxRecDepth 100000
def RX20 : String := "PaidSecrets$Not"
def TX20 : u_T := fun k => match k with
  | _ => ("PaidSecrets$Not", "e", "LPaidSecrets$Expression;", true)
def tyX20 : Nat → FieldType := fun k => match k with
  | _ => .object "PaidSecrets$Expression"
abbrev wsX200 : List Cond := u_ws RX20 TX20 1
theorem nmX20 : ∀ a, a < 1 → ∀ b, b < 1 → a ≠ b → (TX20 a).2.1 ≠ (TX20 b).2.1 := by decide +kernel
theorem tyX20_ok : ∀ k, k < 1 → parseFieldDescriptor (TX20 k).2.2.1 = some (tyX20 k) := by decide +kernel
abbrev cX20_init : ByteArray := prog_15_method_1_code
def yX20_init : MethodName := ⟨RX20, "<init>", "(LPaidSecrets$Expression;)V"⟩
def dkwX20_init_0 : List UInt8 := [42, 183, 0, 1, 42, 43, 181, 0, 7, 177]
abbrev dktX20_init_0 : List UInt8 := dkwX20_init_0 ++ []
theorem dksX20_init_0 : cX20_init.data.toList.drop 0 = dktX20_init_0 := by decide +kernel
theorem dX20_init_0 : decode cX20_init 0 = .ok (.aload_n 0, 1) := dk_42 (dk_at dksX20_init_0 0 rfl rfl)
theorem dX20_init_1 : decode cX20_init 1 = .ok (.invokespecial 1, 3) := dk_183 0 1 (dk_at dksX20_init_0 1 rfl rfl)
theorem dX20_init_4 : decode cX20_init 4 = .ok (.aload_n 0, 1) := dk_42 (dk_at dksX20_init_0 4 rfl rfl)
theorem dX20_init_5 : decode cX20_init 5 = .ok (.aload_n 1, 1) := dk_43 (dk_at dksX20_init_0 5 rfl rfl)
theorem dX20_init_6 : decode cX20_init 6 = .ok (.putfield 7, 3) := dk_181 0 7 (dk_at dksX20_init_0 6 rfl rfl)
theorem dX20_init_9 : decode cX20_init 9 = .ok (.return_, 1) := dk_177 (dk_at dksX20_init_0 9 rfl rfl)
abbrev cX20_of : ByteArray := prog_15_method_2_code
def yX20_of : MethodName := ⟨RX20, "of", "(LPaidSecrets$Facts;)I"⟩
def dkwX20_of_0 : List UInt8 := [42, 180, 0, 7, 43, 182, 0, 13, 154, 0, 7, 4, 167, 0, 4, 3, 172]
abbrev dktX20_of_0 : List UInt8 := dkwX20_of_0 ++ []
theorem dksX20_of_0 : cX20_of.data.toList.drop 0 = dktX20_of_0 := by decide +kernel
theorem dX20_of_0 : decode cX20_of 0 = .ok (.aload_n 0, 1) := dk_42 (dk_at dksX20_of_0 0 rfl rfl)
theorem dX20_of_1 : decode cX20_of 1 = .ok (.getfield 7, 3) := dk_180 0 7 (dk_at dksX20_of_0 1 rfl rfl)
theorem dX20_of_4 : decode cX20_of 4 = .ok (.aload_n 1, 1) := dk_43 (dk_at dksX20_of_0 4 rfl rfl)
theorem dX20_of_5 : decode cX20_of 5 = .ok (.invokevirtual 13, 3) := dk_182 0 13 (dk_at dksX20_of_0 5 rfl rfl)
theorem dX20_of_8 : decode cX20_of 8 = .ok (.ifCond .ne 7, 3) := dk_154 0 7 (dk_at dksX20_of_0 8 rfl rfl)
theorem dX20_of_11 : decode cX20_of 11 = .ok (.iconst 1, 1) := dk_4 (dk_at dksX20_of_0 11 rfl rfl)
theorem dX20_of_12 : decode cX20_of 12 = .ok (.goto 4, 3) := dk_167 0 4 (dk_at dksX20_of_0 12 rfl rfl)
theorem dX20_of_15 : decode cX20_of 15 = .ok (.iconst 0, 1) := dk_3 (dk_at dksX20_of_0 15 rfl rfl)
theorem dX20_of_16 : decode cX20_of 16 = .ok (.ireturn, 1) := dk_172 (dk_at dksX20_of_0 16 rfl rfl)
theorem q168 : (Jvm.Cond.initialized "PaidSecrets$Not") ∈ lw_all := lw_g (lw_at lw_m1 40 rfl) rfl
theorem q886 : (Jvm.Cond.selects "PaidSecrets$Not" ({ cls := "java/lang/Object", name := "getClass", desc := "()Ljava/lang/Class;" } : Jvm.MethodName) ({ cls := "java/lang/Object", name := "getClass", desc := "()Ljava/lang/Class;" } : Jvm.MethodName)) ∈ lw_all := lw_g (lw_at lw_m4 38 rfl) rfl
theorem q1142 : (Jvm.Cond.instantiable "PaidSecrets$Not" (1 : Nat)) ∈ lw_all := lw_g (lw_at lw_m5 54 rfl) rfl
theorem q1144 : (Jvm.Cond.instanceMethod ({ cls := "PaidSecrets$Not", name := "<init>", desc := "(LPaidSecrets$Expression;)V" } : Jvm.MethodName)) ∈ lw_all := lw_g (lw_at lw_m5 56 rfl) rfl
theorem q1145 : (Jvm.Cond.code ({ cls := "PaidSecrets$Not", name := "<init>", desc := "(LPaidSecrets$Expression;)V" } : Jvm.MethodName) prog_15_method_1_code (2 : Nat) (Option.none : Option Jvm.ClassFile.FieldType)) ∈ lw_all := lw_g (lw_at lw_m5 57 rfl) rfl
theorem q1146 : (Jvm.Cond.methodLinkNest "PaidSecrets$Not" (1 : Nat) ({ cls := "PaidSecrets$Expression", name := "<init>", desc := "()V" } : Jvm.MethodName) "PaidSecrets") ∈ lw_tbl := lw_at lw_m5 58 rfl
theorem q1147 : (Jvm.Cond.fieldLink "PaidSecrets$Not" (7 : Nat) "PaidSecrets$Not" "e" "LPaidSecrets$Expression;") ∈ lw_all := lw_g (lw_at lw_m5 59 rfl) rfl
theorem q1148 : (Jvm.Cond.laysFinal "PaidSecrets$Not" "PaidSecrets$Not" "e" "LPaidSecrets$Expression;") ∈ lw_all := lw_g (lw_at lw_m5 60 rfl) rfl
theorem q1149 : (Jvm.Cond.soleField "PaidSecrets$Not" "e") ∈ lw_all := lw_g (lw_at lw_m5 61 rfl) rfl
theorem q1150 : (Jvm.Cond.superclass "PaidSecrets$Not" "PaidSecrets$Expression") ∈ lw_all := lw_g (lw_at lw_m5 62 rfl) rfl
theorem q1374 : (Jvm.Cond.instanceMethod ({ cls := "PaidSecrets$Not", name := "of", desc := "(LPaidSecrets$Facts;)I" } : Jvm.MethodName)) ∈ lw_all := lw_g (lw_at lw_m6 46 rfl) rfl
theorem q1375 : (Jvm.Cond.code ({ cls := "PaidSecrets$Not", name := "of", desc := "(LPaidSecrets$Facts;)I" } : Jvm.MethodName) prog_15_method_2_code (2 : Nat) (Option.some Jvm.ClassFile.FieldType.int)) ∈ lw_all := lw_g (lw_at lw_m6 47 rfl) rfl
theorem q1376 : (Jvm.Cond.methodLink "PaidSecrets$Not" (13 : Nat) ({ cls := "PaidSecrets$Expression", name := "of", desc := "(LPaidSecrets$Facts;)I" } : Jvm.MethodName)) ∈ lw_all := lw_g (lw_at lw_m6 48 rfl) rfl
theorem q1419 : (Jvm.Cond.selects "PaidSecrets$Not" ({ cls := "PaidSecrets$Expression", name := "of", desc := "(LPaidSecrets$Facts;)I" } : Jvm.MethodName) ({ cls := "PaidSecrets$Not", name := "of", desc := "(LPaidSecrets$Facts;)I" } : Jvm.MethodName)) ∈ lw_all := lw_g (lw_at lw_m6 91 rfl) rfl
theorem q2554 : (Jvm.Cond.castable "PaidSecrets$Not" "java/lang/Object") ∈ lw_tbl := lw_at lw_m11 26 rfl
theorem in_X20 : ∀ w ∈ wsX200, w ∈ lw_all := lw_in wsX200 [1148] (by decide +kernel) (by decide +kernel)
/-! PaidSecrets$Chain -/
set_option maxRecDepth 100000
def RX21 : String := "PaidSecrets$Chain"
def TX21 : u_T := fun k => match k with
  | 0 => ("PaidSecrets$Chain", "first", "LPaidSecrets$Expression;", true)
  | _ => ("PaidSecrets$Chain", "links", "Ljava/util/ArrayList;", true)
def tyX21 : Nat → FieldType := fun k => match k with
  | 0 => .object "PaidSecrets$Expression"
  | _ => .object "java/util/ArrayList"
abbrev wsX210 : List Cond := u_ws RX21 TX21 2
theorem nmX21 : ∀ a, a < 2 → ∀ b, b < 2 → a ≠ b → (TX21 a).2.1 ≠ (TX21 b).2.1 := by decide +kernel
theorem tyX21_ok : ∀ k, k < 2 → parseFieldDescriptor (TX21 k).2.2.1 = some (tyX21 k) := by decide +kernel
abbrev cX21_init : ByteArray := prog_3_method_1_code
def yX21_init : MethodName := ⟨RX21, "<init>", "(LPaidSecrets$Expression;)V"⟩
def dkwX21_init_0 : List UInt8 := [42, 183, 0, 1, 42, 187, 0, 7, 89, 4, 183, 0, 9, 181, 0, 12, 42, 43, 181, 0, 18, 177]
abbrev dktX21_init_0 : List UInt8 := dkwX21_init_0 ++ []
theorem dksX21_init_0 : cX21_init.data.toList.drop 0 = dktX21_init_0 := by decide +kernel
theorem dX21_init_0 : decode cX21_init 0 = .ok (.aload_n 0, 1) := dk_42 (dk_at dksX21_init_0 0 rfl rfl)
theorem dX21_init_1 : decode cX21_init 1 = .ok (.invokespecial 1, 3) := dk_183 0 1 (dk_at dksX21_init_0 1 rfl rfl)
theorem dX21_init_4 : decode cX21_init 4 = .ok (.aload_n 0, 1) := dk_42 (dk_at dksX21_init_0 4 rfl rfl)
theorem dX21_init_5 : decode cX21_init 5 = .ok (.new 7, 3) := dk_187 0 7 (dk_at dksX21_init_0 5 rfl rfl)
theorem dX21_init_8 : decode cX21_init 8 = .ok (.dup, 1) := dk_89 (dk_at dksX21_init_0 8 rfl rfl)
theorem dX21_init_9 : decode cX21_init 9 = .ok (.iconst 1, 1) := dk_4 (dk_at dksX21_init_0 9 rfl rfl)
theorem dX21_init_10 : decode cX21_init 10 = .ok (.invokespecial 9, 3) := dk_183 0 9 (dk_at dksX21_init_0 10 rfl rfl)
theorem dX21_init_13 : decode cX21_init 13 = .ok (.putfield 12, 3) := dk_181 0 12 (dk_at dksX21_init_0 13 rfl rfl)
theorem dX21_init_16 : decode cX21_init 16 = .ok (.aload_n 0, 1) := dk_42 (dk_at dksX21_init_0 16 rfl rfl)
theorem dX21_init_17 : decode cX21_init 17 = .ok (.aload_n 1, 1) := dk_43 (dk_at dksX21_init_0 17 rfl rfl)
theorem dX21_init_18 : decode cX21_init 18 = .ok (.putfield 18, 3) := dk_181 0 18 (dk_at dksX21_init_0 18 rfl rfl)
theorem dX21_init_21 : decode cX21_init 21 = .ok (.return_, 1) := dk_177 (dk_at dksX21_init_0 21 rfl rfl)
abbrev cX21_of : ByteArray := prog_3_method_2_code
def yX21_of : MethodName := ⟨RX21, "of", "(LPaidSecrets$Facts;)I"⟩
def dkwX21_of_1 : List UInt8 := [180, 0, 12, 29, 182, 0, 30, 192, 0, 34, 28, 43, 182, 0, 36, 61, 132, 3, 1, 167, 255, 225, 28, 172]
abbrev dktX21_of_1 : List UInt8 := dkwX21_of_1 ++ []
def dkwX21_of_0 : List UInt8 := [42, 180, 0, 18, 43, 182, 0, 22, 61, 3, 62, 29, 42, 180, 0, 12, 182, 0, 26, 162, 0, 26, 42]
abbrev dktX21_of_0 : List UInt8 := dkwX21_of_0 ++ dktX21_of_1
theorem dksX21_of_0 : cX21_of.data.toList.drop 0 = dktX21_of_0 := by decide +kernel
theorem dksX21_of_1 : cX21_of.data.toList.drop 23 = dktX21_of_1 := dk_seg dksX21_of_0 23 rfl rfl
theorem dX21_of_0 : decode cX21_of 0 = .ok (.aload_n 0, 1) := dk_42 (dk_at dksX21_of_0 0 rfl rfl)
theorem dX21_of_1 : decode cX21_of 1 = .ok (.getfield 18, 3) := dk_180 0 18 (dk_at dksX21_of_0 1 rfl rfl)
theorem dX21_of_4 : decode cX21_of 4 = .ok (.aload_n 1, 1) := dk_43 (dk_at dksX21_of_0 4 rfl rfl)
theorem dX21_of_5 : decode cX21_of 5 = .ok (.invokevirtual 22, 3) := dk_182 0 22 (dk_at dksX21_of_0 5 rfl rfl)
theorem dX21_of_8 : decode cX21_of 8 = .ok (.istore_n 2, 1) := dk_61 (dk_at dksX21_of_0 8 rfl rfl)
theorem dX21_of_9 : decode cX21_of 9 = .ok (.iconst 0, 1) := dk_3 (dk_at dksX21_of_0 9 rfl rfl)
theorem dX21_of_10 : decode cX21_of 10 = .ok (.istore_n 3, 1) := dk_62 (dk_at dksX21_of_0 10 rfl rfl)
theorem dX21_of_11 : decode cX21_of 11 = .ok (.iload_n 3, 1) := dk_29 (dk_at dksX21_of_0 11 rfl rfl)
theorem dX21_of_12 : decode cX21_of 12 = .ok (.aload_n 0, 1) := dk_42 (dk_at dksX21_of_0 12 rfl rfl)
theorem dX21_of_13 : decode cX21_of 13 = .ok (.getfield 12, 3) := dk_180 0 12 (dk_at dksX21_of_0 13 rfl rfl)
theorem dX21_of_16 : decode cX21_of 16 = .ok (.invokevirtual 26, 3) := dk_182 0 26 (dk_at dksX21_of_0 16 rfl rfl)
theorem dX21_of_19 : decode cX21_of 19 = .ok (.if_icmp .ge 26, 3) := dk_162 0 26 (dk_at dksX21_of_0 19 rfl rfl)
theorem dX21_of_22 : decode cX21_of 22 = .ok (.aload_n 0, 1) := dk_42 (dk_at dksX21_of_0 22 rfl rfl)
theorem dX21_of_23 : decode cX21_of 23 = .ok (.getfield 12, 3) := dk_180 0 12 (dk_at dksX21_of_1 0 rfl rfl)
theorem dX21_of_26 : decode cX21_of 26 = .ok (.iload_n 3, 1) := dk_29 (dk_at dksX21_of_1 3 rfl rfl)
theorem dX21_of_27 : decode cX21_of 27 = .ok (.invokevirtual 30, 3) := dk_182 0 30 (dk_at dksX21_of_1 4 rfl rfl)
theorem dX21_of_30 : decode cX21_of 30 = .ok (.checkcast 34, 3) := dk_192 0 34 (dk_at dksX21_of_1 7 rfl rfl)
theorem dX21_of_33 : decode cX21_of 33 = .ok (.iload_n 2, 1) := dk_28 (dk_at dksX21_of_1 10 rfl rfl)
theorem dX21_of_34 : decode cX21_of 34 = .ok (.aload_n 1, 1) := dk_43 (dk_at dksX21_of_1 11 rfl rfl)
theorem dX21_of_35 : decode cX21_of 35 = .ok (.invokevirtual 36, 3) := dk_182 0 36 (dk_at dksX21_of_1 12 rfl rfl)
theorem dX21_of_38 : decode cX21_of 38 = .ok (.istore_n 2, 1) := dk_61 (dk_at dksX21_of_1 15 rfl rfl)
theorem dX21_of_39 : decode cX21_of 39 = .ok (.iinc 3 1, 3) := dk_132 3 1 (dk_at dksX21_of_1 16 rfl rfl)
theorem dX21_of_42 : decode cX21_of 42 = .ok (.goto (-31), 3) := dk_167 255 225 (dk_at dksX21_of_1 19 rfl rfl)
theorem dX21_of_45 : decode cX21_of 45 = .ok (.iload_n 2, 1) := dk_28 (dk_at dksX21_of_1 22 rfl rfl)
theorem dX21_of_46 : decode cX21_of 46 = .ok (.ireturn, 1) := dk_172 (dk_at dksX21_of_1 23 rfl rfl)
theorem q169 : (Jvm.Cond.initialized "PaidSecrets$Chain") ∈ lw_all := lw_g (lw_at lw_m1 41 rfl) rfl
theorem q877 : (Jvm.Cond.selects "PaidSecrets$Chain" ({ cls := "java/lang/Object", name := "getClass", desc := "()Ljava/lang/Class;" } : Jvm.MethodName) ({ cls := "java/lang/Object", name := "getClass", desc := "()Ljava/lang/Class;" } : Jvm.MethodName)) ∈ lw_all := lw_g (lw_at lw_m4 29 rfl) rfl
theorem q1163 : (Jvm.Cond.instantiable "PaidSecrets$Chain" (2 : Nat)) ∈ lw_all := lw_g (lw_at lw_m5 75 rfl) rfl
theorem q1165 : (Jvm.Cond.instanceMethod ({ cls := "PaidSecrets$Chain", name := "<init>", desc := "(LPaidSecrets$Expression;)V" } : Jvm.MethodName)) ∈ lw_all := lw_g (lw_at lw_m5 77 rfl) rfl
theorem q1166 : (Jvm.Cond.code ({ cls := "PaidSecrets$Chain", name := "<init>", desc := "(LPaidSecrets$Expression;)V" } : Jvm.MethodName) prog_3_method_1_code (2 : Nat) (Option.none : Option Jvm.ClassFile.FieldType)) ∈ lw_all := lw_g (lw_at lw_m5 78 rfl) rfl
theorem q1167 : (Jvm.Cond.methodLinkNest "PaidSecrets$Chain" (1 : Nat) ({ cls := "PaidSecrets$Expression", name := "<init>", desc := "()V" } : Jvm.MethodName) "PaidSecrets") ∈ lw_tbl := lw_at lw_m5 79 rfl
theorem q1168 : (Jvm.Cond.classLink "PaidSecrets$Chain" (7 : Nat) "java/util/ArrayList") ∈ lw_all := lw_g (lw_at lw_m5 80 rfl) rfl
theorem q1169 : (Jvm.Cond.methodLink "PaidSecrets$Chain" (9 : Nat) ({ cls := "java/util/ArrayList", name := "<init>", desc := "(I)V" } : Jvm.MethodName)) ∈ lw_all := lw_g (lw_at lw_m5 81 rfl) rfl
theorem q1170 : (Jvm.Cond.fieldLink "PaidSecrets$Chain" (18 : Nat) "PaidSecrets$Chain" "first" "LPaidSecrets$Expression;") ∈ lw_all := lw_g (lw_at lw_m5 82 rfl) rfl
theorem q1171 : (Jvm.Cond.fieldLink "PaidSecrets$Chain" (12 : Nat) "PaidSecrets$Chain" "links" "Ljava/util/ArrayList;") ∈ lw_all := lw_g (lw_at lw_m5 83 rfl) rfl
theorem q1173 : (Jvm.Cond.laysFinal "PaidSecrets$Chain" "PaidSecrets$Chain" "first" "LPaidSecrets$Expression;") ∈ lw_all := lw_g (lw_at lw_m5 85 rfl) rfl
theorem q1174 : (Jvm.Cond.soleField "PaidSecrets$Chain" "first") ∈ lw_all := lw_g (lw_at lw_m5 86 rfl) rfl
theorem q1175 : (Jvm.Cond.laysFinal "PaidSecrets$Chain" "PaidSecrets$Chain" "links" "Ljava/util/ArrayList;") ∈ lw_all := lw_g (lw_at lw_m5 87 rfl) rfl
theorem q1176 : (Jvm.Cond.soleField "PaidSecrets$Chain" "links") ∈ lw_all := lw_g (lw_at lw_m5 88 rfl) rfl
theorem q1177 : (Jvm.Cond.superclass "PaidSecrets$Chain" "PaidSecrets$Expression") ∈ lw_all := lw_g (lw_at lw_m5 89 rfl) rfl
theorem q1368 : (Jvm.Cond.selects "PaidSecrets$Chain" ({ cls := "PaidSecrets$Expression", name := "of", desc := "(LPaidSecrets$Facts;)I" } : Jvm.MethodName) ({ cls := "PaidSecrets$Chain", name := "of", desc := "(LPaidSecrets$Facts;)I" } : Jvm.MethodName)) ∈ lw_all := lw_g (lw_at lw_m6 40 rfl) rfl
theorem q1369 : (Jvm.Cond.instanceMethod ({ cls := "PaidSecrets$Chain", name := "of", desc := "(LPaidSecrets$Facts;)I" } : Jvm.MethodName)) ∈ lw_all := lw_g (lw_at lw_m6 41 rfl) rfl
theorem q1370 : (Jvm.Cond.code ({ cls := "PaidSecrets$Chain", name := "of", desc := "(LPaidSecrets$Facts;)I" } : Jvm.MethodName) prog_3_method_2_code (4 : Nat) (Option.some Jvm.ClassFile.FieldType.int)) ∈ lw_all := lw_g (lw_at lw_m6 42 rfl) rfl
theorem q1371 : (Jvm.Cond.methodLink "PaidSecrets$Chain" (22 : Nat) ({ cls := "PaidSecrets$Expression", name := "of", desc := "(LPaidSecrets$Facts;)I" } : Jvm.MethodName)) ∈ lw_all := lw_g (lw_at lw_m6 43 rfl) rfl
theorem q1379 : (Jvm.Cond.methodLink "PaidSecrets$Chain" (26 : Nat) ({ cls := "java/util/ArrayList", name := "size", desc := "()I" } : Jvm.MethodName)) ∈ lw_all := lw_g (lw_at lw_m6 51 rfl) rfl
theorem q1380 : (Jvm.Cond.methodLink "PaidSecrets$Chain" (30 : Nat) ({ cls := "java/util/ArrayList", name := "get", desc := "(I)Ljava/lang/Object;" } : Jvm.MethodName)) ∈ lw_all := lw_g (lw_at lw_m6 52 rfl) rfl
theorem q1381 : (Jvm.Cond.classLink "PaidSecrets$Chain" (34 : Nat) "PaidSecrets$Link") ∈ lw_all := lw_g (lw_at lw_m6 53 rfl) rfl
theorem q1382 : (Jvm.Cond.methodLink "PaidSecrets$Chain" (36 : Nat) ({ cls := "PaidSecrets$Link", name := "on", desc := "(ILPaidSecrets$Facts;)I" } : Jvm.MethodName)) ∈ lw_all := lw_g (lw_at lw_m6 54 rfl) rfl
theorem q2555 : (Jvm.Cond.castable "PaidSecrets$Chain" "java/lang/Object") ∈ lw_tbl := lw_at lw_m11 27 rfl
theorem in_X21 : ∀ w ∈ wsX210, w ∈ lw_all := lw_in wsX210 [1173, 1175] (by decide +kernel) (by decide +kernel)
/-! PaidSecrets$Link -/
set_option maxRecDepth 100000
def RX22 : String := "PaidSecrets$Link"
abbrev cX22_init : ByteArray := prog_11_method_1_code
def yX22_init : MethodName := ⟨RX22, "<init>", "(LPaidSecrets$Expression;)V"⟩
def dkwX22_init_0 : List UInt8 := [42, 183, 0, 1, 42, 43, 181, 0, 7, 177]
abbrev dktX22_init_0 : List UInt8 := dkwX22_init_0 ++ []
theorem dksX22_init_0 : cX22_init.data.toList.drop 0 = dktX22_init_0 := by decide +kernel
theorem dX22_init_0 : decode cX22_init 0 = .ok (.aload_n 0, 1) := dk_42 (dk_at dksX22_init_0 0 rfl rfl)
theorem dX22_init_1 : decode cX22_init 1 = .ok (.invokespecial 1, 3) := dk_183 0 1 (dk_at dksX22_init_0 1 rfl rfl)
theorem dX22_init_4 : decode cX22_init 4 = .ok (.aload_n 0, 1) := dk_42 (dk_at dksX22_init_0 4 rfl rfl)
theorem dX22_init_5 : decode cX22_init 5 = .ok (.aload_n 1, 1) := dk_43 (dk_at dksX22_init_0 5 rfl rfl)
theorem dX22_init_6 : decode cX22_init 6 = .ok (.putfield 7, 3) := dk_181 0 7 (dk_at dksX22_init_0 6 rfl rfl)
theorem dX22_init_9 : decode cX22_init 9 = .ok (.return_, 1) := dk_177 (dk_at dksX22_init_0 9 rfl rfl)
abbrev cX22_on : ByteArray := prog_11_method_3_code
def yX22_on : MethodName := ⟨RX22, "on", "(ILPaidSecrets$Facts;)I"⟩
def dkwX22_on_0 : List UInt8 := [42, 27, 42, 180, 0, 7, 44, 182, 0, 13, 182, 0, 19, 172]
abbrev dktX22_on_0 : List UInt8 := dkwX22_on_0 ++ []
theorem dksX22_on_0 : cX22_on.data.toList.drop 0 = dktX22_on_0 := by decide +kernel
theorem dX22_on_0 : decode cX22_on 0 = .ok (.aload_n 0, 1) := dk_42 (dk_at dksX22_on_0 0 rfl rfl)
theorem dX22_on_1 : decode cX22_on 1 = .ok (.iload_n 1, 1) := dk_27 (dk_at dksX22_on_0 1 rfl rfl)
theorem dX22_on_2 : decode cX22_on 2 = .ok (.aload_n 0, 1) := dk_42 (dk_at dksX22_on_0 2 rfl rfl)
theorem dX22_on_3 : decode cX22_on 3 = .ok (.getfield 7, 3) := dk_180 0 7 (dk_at dksX22_on_0 3 rfl rfl)
theorem dX22_on_6 : decode cX22_on 6 = .ok (.aload_n 2, 1) := dk_44 (dk_at dksX22_on_0 6 rfl rfl)
theorem dX22_on_7 : decode cX22_on 7 = .ok (.invokevirtual 13, 3) := dk_182 0 13 (dk_at dksX22_on_0 7 rfl rfl)
theorem dX22_on_10 : decode cX22_on 10 = .ok (.invokevirtual 19, 3) := dk_182 0 19 (dk_at dksX22_on_0 10 rfl rfl)
theorem dX22_on_13 : decode cX22_on 13 = .ok (.ireturn, 1) := dk_172 (dk_at dksX22_on_0 13 rfl rfl)
theorem q170 : (Jvm.Cond.initialized "PaidSecrets$Link") ∈ lw_all := lw_g (lw_at lw_m1 42 rfl) rfl
theorem q1184 : (Jvm.Cond.instanceMethod ({ cls := "PaidSecrets$Link", name := "<init>", desc := "(LPaidSecrets$Expression;)V" } : Jvm.MethodName)) ∈ lw_all := lw_g (lw_at lw_m5 96 rfl) rfl
theorem q1185 : (Jvm.Cond.code ({ cls := "PaidSecrets$Link", name := "<init>", desc := "(LPaidSecrets$Expression;)V" } : Jvm.MethodName) prog_11_method_1_code (2 : Nat) (Option.none : Option Jvm.ClassFile.FieldType)) ∈ lw_all := lw_g (lw_at lw_m5 97 rfl) rfl
theorem q1186 : (Jvm.Cond.methodLink "PaidSecrets$Link" (1 : Nat) ({ cls := "java/lang/Object", name := "<init>", desc := "()V" } : Jvm.MethodName)) ∈ lw_all := lw_g (lw_at lw_m5 98 rfl) rfl
theorem q1187 : (Jvm.Cond.fieldLink "PaidSecrets$Link" (7 : Nat) "PaidSecrets$Link" "e" "LPaidSecrets$Expression;") ∈ lw_all := lw_g (lw_at lw_m5 99 rfl) rfl
theorem q1189 : (Jvm.Cond.soleField "PaidSecrets$Link" "e") ∈ lw_all := lw_g (lw_at lw_m5 101 rfl) rfl
theorem q1383 : (Jvm.Cond.instanceMethod ({ cls := "PaidSecrets$Link", name := "on", desc := "(ILPaidSecrets$Facts;)I" } : Jvm.MethodName)) ∈ lw_all := lw_g (lw_at lw_m6 55 rfl) rfl
theorem q1384 : (Jvm.Cond.sameMethod "PaidSecrets$Link" "PaidSecrets$Link" "on" "(ILPaidSecrets$Facts;)I") ∈ lw_all := lw_g (lw_at lw_m6 56 rfl) rfl
theorem q1392 : (Jvm.Cond.code ({ cls := "PaidSecrets$Link", name := "on", desc := "(ILPaidSecrets$Facts;)I" } : Jvm.MethodName) prog_11_method_3_code (3 : Nat) (Option.some Jvm.ClassFile.FieldType.int)) ∈ lw_all := lw_g (lw_at lw_m6 64 rfl) rfl
theorem q1393 : (Jvm.Cond.methodLink "PaidSecrets$Link" (13 : Nat) ({ cls := "PaidSecrets$Expression", name := "of", desc := "(LPaidSecrets$Facts;)I" } : Jvm.MethodName)) ∈ lw_all := lw_g (lw_at lw_m6 65 rfl) rfl
theorem q1394 : (Jvm.Cond.methodLink "PaidSecrets$Link" (19 : Nat) ({ cls := "PaidSecrets$Link", name := "with", desc := "(II)I" } : Jvm.MethodName)) ∈ lw_all := lw_g (lw_at lw_m6 66 rfl) rfl
theorem q1395 : (Jvm.Cond.declares ({ cls := "PaidSecrets$Link", name := "with", desc := "(II)I" } : Jvm.MethodName)) ∈ lw_tbl := lw_at lw_m6 67 rfl
theorem q1396 : (Jvm.Cond.sameMethod "PaidSecrets$Link" "PaidSecrets$Link" "with" "(II)I") ∈ lw_all := lw_g (lw_at lw_m6 68 rfl) rfl
/-! PaidSecrets$Times -/
set_option maxRecDepth 100000
def RX23 : String := "PaidSecrets$Times"
def TX23 : u_T := fun k => match k with
  | _ => ("PaidSecrets$Link", "e", "LPaidSecrets$Expression;", true)
def tyX23 : Nat → FieldType := fun k => match k with
  | _ => .object "PaidSecrets$Expression"
abbrev wsX230 : List Cond := u_ws RX23 TX23 1
theorem nmX23 : ∀ a, a < 1 → ∀ b, b < 1 → a ≠ b → (TX23 a).2.1 ≠ (TX23 b).2.1 := by decide +kernel
theorem tyX23_ok : ∀ k, k < 1 → parseFieldDescriptor (TX23 k).2.2.1 = some (tyX23 k) := by decide +kernel
abbrev cX23_init : ByteArray := prog_32_method_1_code
def yX23_init : MethodName := ⟨RX23, "<init>", "(LPaidSecrets$Expression;)V"⟩
def dkwX23_init_0 : List UInt8 := [42, 43, 183, 0, 1, 177]
abbrev dktX23_init_0 : List UInt8 := dkwX23_init_0 ++ []
theorem dksX23_init_0 : cX23_init.data.toList.drop 0 = dktX23_init_0 := by decide +kernel
theorem dX23_init_0 : decode cX23_init 0 = .ok (.aload_n 0, 1) := dk_42 (dk_at dksX23_init_0 0 rfl rfl)
theorem dX23_init_1 : decode cX23_init 1 = .ok (.aload_n 1, 1) := dk_43 (dk_at dksX23_init_0 1 rfl rfl)
theorem dX23_init_2 : decode cX23_init 2 = .ok (.invokespecial 1, 3) := dk_183 0 1 (dk_at dksX23_init_0 2 rfl rfl)
theorem dX23_init_5 : decode cX23_init 5 = .ok (.return_, 1) := dk_177 (dk_at dksX23_init_0 5 rfl rfl)
abbrev cX23_with : ByteArray := prog_32_method_2_code
def yX23_with : MethodName := ⟨RX23, "with", "(II)I"⟩
def dkwX23_with_0 : List UInt8 := [27, 28, 104, 172]
abbrev dktX23_with_0 : List UInt8 := dkwX23_with_0 ++ []
theorem dksX23_with_0 : cX23_with.data.toList.drop 0 = dktX23_with_0 := by decide +kernel
theorem dX23_with_0 : decode cX23_with 0 = .ok (.iload_n 1, 1) := dk_27 (dk_at dksX23_with_0 0 rfl rfl)
theorem dX23_with_1 : decode cX23_with 1 = .ok (.iload_n 2, 1) := dk_28 (dk_at dksX23_with_0 1 rfl rfl)
theorem dX23_with_2 : decode cX23_with 2 = .ok (.imul, 1) := dk_104 (dk_at dksX23_with_0 2 rfl rfl)
theorem dX23_with_3 : decode cX23_with 3 = .ok (.ireturn, 1) := dk_172 (dk_at dksX23_with_0 3 rfl rfl)
theorem q171 : (Jvm.Cond.initialized "PaidSecrets$Times") ∈ lw_all := lw_g (lw_at lw_m1 43 rfl) rfl
theorem q903 : (Jvm.Cond.selects "PaidSecrets$Times" ({ cls := "java/lang/Object", name := "getClass", desc := "()Ljava/lang/Class;" } : Jvm.MethodName) ({ cls := "java/lang/Object", name := "getClass", desc := "()Ljava/lang/Class;" } : Jvm.MethodName)) ∈ lw_all := lw_g (lw_at lw_m4 55 rfl) rfl
theorem q1179 : (Jvm.Cond.instantiable "PaidSecrets$Times" (1 : Nat)) ∈ lw_all := lw_g (lw_at lw_m5 91 rfl) rfl
theorem q1181 : (Jvm.Cond.instanceMethod ({ cls := "PaidSecrets$Times", name := "<init>", desc := "(LPaidSecrets$Expression;)V" } : Jvm.MethodName)) ∈ lw_all := lw_g (lw_at lw_m5 93 rfl) rfl
theorem q1182 : (Jvm.Cond.code ({ cls := "PaidSecrets$Times", name := "<init>", desc := "(LPaidSecrets$Expression;)V" } : Jvm.MethodName) prog_32_method_1_code (2 : Nat) (Option.none : Option Jvm.ClassFile.FieldType)) ∈ lw_all := lw_g (lw_at lw_m5 94 rfl) rfl
theorem q1183 : (Jvm.Cond.methodLink "PaidSecrets$Times" (1 : Nat) ({ cls := "PaidSecrets$Link", name := "<init>", desc := "(LPaidSecrets$Expression;)V" } : Jvm.MethodName)) ∈ lw_all := lw_g (lw_at lw_m5 95 rfl) rfl
theorem q1188 : (Jvm.Cond.laysFinal "PaidSecrets$Times" "PaidSecrets$Link" "e" "LPaidSecrets$Expression;") ∈ lw_all := lw_g (lw_at lw_m5 100 rfl) rfl
theorem q1190 : (Jvm.Cond.superclass "PaidSecrets$Times" "PaidSecrets$Link") ∈ lw_all := lw_g (lw_at lw_m5 102 rfl) rfl
theorem q1391 : (Jvm.Cond.selects "PaidSecrets$Times" ({ cls := "PaidSecrets$Link", name := "on", desc := "(ILPaidSecrets$Facts;)I" } : Jvm.MethodName) ({ cls := "PaidSecrets$Link", name := "on", desc := "(ILPaidSecrets$Facts;)I" } : Jvm.MethodName)) ∈ lw_all := lw_g (lw_at lw_m6 63 rfl) rfl
theorem q1415 : (Jvm.Cond.selects "PaidSecrets$Times" ({ cls := "PaidSecrets$Link", name := "with", desc := "(II)I" } : Jvm.MethodName) ({ cls := "PaidSecrets$Times", name := "with", desc := "(II)I" } : Jvm.MethodName)) ∈ lw_all := lw_g (lw_at lw_m6 87 rfl) rfl
theorem q1416 : (Jvm.Cond.instanceMethod ({ cls := "PaidSecrets$Times", name := "with", desc := "(II)I" } : Jvm.MethodName)) ∈ lw_all := lw_g (lw_at lw_m6 88 rfl) rfl
theorem q1417 : (Jvm.Cond.code ({ cls := "PaidSecrets$Times", name := "with", desc := "(II)I" } : Jvm.MethodName) prog_32_method_2_code (3 : Nat) (Option.some Jvm.ClassFile.FieldType.int)) ∈ lw_all := lw_g (lw_at lw_m6 89 rfl) rfl
theorem q2526 : (Jvm.Cond.castable "PaidSecrets$Times" "PaidSecrets$Link") ∈ lw_tbl := lw_at lw_m10 238 rfl
theorem q2556 : (Jvm.Cond.castable "PaidSecrets$Times" "java/lang/Object") ∈ lw_tbl := lw_at lw_m11 28 rfl
theorem in_X23 : ∀ w ∈ wsX230, w ∈ lw_all := lw_in wsX230 [1188] (by decide +kernel) (by decide +kernel)
/-! PaidSecrets$Plus -/
set_option maxRecDepth 100000
def RX24 : String := "PaidSecrets$Plus"
def TX24 : u_T := fun k => match k with
  | _ => ("PaidSecrets$Link", "e", "LPaidSecrets$Expression;", true)
def tyX24 : Nat → FieldType := fun k => match k with
  | _ => .object "PaidSecrets$Expression"
abbrev wsX240 : List Cond := u_ws RX24 TX24 1
theorem nmX24 : ∀ a, a < 1 → ∀ b, b < 1 → a ≠ b → (TX24 a).2.1 ≠ (TX24 b).2.1 := by decide +kernel
theorem tyX24_ok : ∀ k, k < 1 → parseFieldDescriptor (TX24 k).2.2.1 = some (tyX24 k) := by decide +kernel
abbrev cX24_init : ByteArray := prog_22_method_1_code
def yX24_init : MethodName := ⟨RX24, "<init>", "(LPaidSecrets$Expression;)V"⟩
def dkwX24_init_0 : List UInt8 := [42, 43, 183, 0, 1, 177]
abbrev dktX24_init_0 : List UInt8 := dkwX24_init_0 ++ []
theorem dksX24_init_0 : cX24_init.data.toList.drop 0 = dktX24_init_0 := by decide +kernel
theorem dX24_init_0 : decode cX24_init 0 = .ok (.aload_n 0, 1) := dk_42 (dk_at dksX24_init_0 0 rfl rfl)
theorem dX24_init_1 : decode cX24_init 1 = .ok (.aload_n 1, 1) := dk_43 (dk_at dksX24_init_0 1 rfl rfl)
theorem dX24_init_2 : decode cX24_init 2 = .ok (.invokespecial 1, 3) := dk_183 0 1 (dk_at dksX24_init_0 2 rfl rfl)
theorem dX24_init_5 : decode cX24_init 5 = .ok (.return_, 1) := dk_177 (dk_at dksX24_init_0 5 rfl rfl)
abbrev cX24_with : ByteArray := prog_22_method_2_code
def yX24_with : MethodName := ⟨RX24, "with", "(II)I"⟩
def dkwX24_with_0 : List UInt8 := [27, 28, 96, 172]
abbrev dktX24_with_0 : List UInt8 := dkwX24_with_0 ++ []
theorem dksX24_with_0 : cX24_with.data.toList.drop 0 = dktX24_with_0 := by decide +kernel
theorem dX24_with_0 : decode cX24_with 0 = .ok (.iload_n 1, 1) := dk_27 (dk_at dksX24_with_0 0 rfl rfl)
theorem dX24_with_1 : decode cX24_with 1 = .ok (.iload_n 2, 1) := dk_28 (dk_at dksX24_with_0 1 rfl rfl)
theorem dX24_with_2 : decode cX24_with 2 = .ok (.iadd, 1) := dk_96 (dk_at dksX24_with_0 2 rfl rfl)
theorem dX24_with_3 : decode cX24_with 3 = .ok (.ireturn, 1) := dk_172 (dk_at dksX24_with_0 3 rfl rfl)
theorem q172 : (Jvm.Cond.initialized "PaidSecrets$Plus") ∈ lw_all := lw_g (lw_at lw_m1 44 rfl) rfl
theorem q893 : (Jvm.Cond.selects "PaidSecrets$Plus" ({ cls := "java/lang/Object", name := "getClass", desc := "()Ljava/lang/Class;" } : Jvm.MethodName) ({ cls := "java/lang/Object", name := "getClass", desc := "()Ljava/lang/Class;" } : Jvm.MethodName)) ∈ lw_all := lw_g (lw_at lw_m4 45 rfl) rfl
theorem q1192 : (Jvm.Cond.instantiable "PaidSecrets$Plus" (1 : Nat)) ∈ lw_all := lw_g (lw_at lw_m5 104 rfl) rfl
theorem q1194 : (Jvm.Cond.instanceMethod ({ cls := "PaidSecrets$Plus", name := "<init>", desc := "(LPaidSecrets$Expression;)V" } : Jvm.MethodName)) ∈ lw_all := lw_g (lw_at lw_m5 106 rfl) rfl
theorem q1195 : (Jvm.Cond.code ({ cls := "PaidSecrets$Plus", name := "<init>", desc := "(LPaidSecrets$Expression;)V" } : Jvm.MethodName) prog_22_method_1_code (2 : Nat) (Option.none : Option Jvm.ClassFile.FieldType)) ∈ lw_all := lw_g (lw_at lw_m5 107 rfl) rfl
theorem q1196 : (Jvm.Cond.methodLink "PaidSecrets$Plus" (1 : Nat) ({ cls := "PaidSecrets$Link", name := "<init>", desc := "(LPaidSecrets$Expression;)V" } : Jvm.MethodName)) ∈ lw_all := lw_g (lw_at lw_m5 108 rfl) rfl
theorem q1197 : (Jvm.Cond.laysFinal "PaidSecrets$Plus" "PaidSecrets$Link" "e" "LPaidSecrets$Expression;") ∈ lw_all := lw_g (lw_at lw_m5 109 rfl) rfl
theorem q1198 : (Jvm.Cond.superclass "PaidSecrets$Plus" "PaidSecrets$Link") ∈ lw_all := lw_g (lw_at lw_m5 110 rfl) rfl
theorem q1389 : (Jvm.Cond.selects "PaidSecrets$Plus" ({ cls := "PaidSecrets$Link", name := "on", desc := "(ILPaidSecrets$Facts;)I" } : Jvm.MethodName) ({ cls := "PaidSecrets$Link", name := "on", desc := "(ILPaidSecrets$Facts;)I" } : Jvm.MethodName)) ∈ lw_all := lw_g (lw_at lw_m6 61 rfl) rfl
theorem q1409 : (Jvm.Cond.selects "PaidSecrets$Plus" ({ cls := "PaidSecrets$Link", name := "with", desc := "(II)I" } : Jvm.MethodName) ({ cls := "PaidSecrets$Plus", name := "with", desc := "(II)I" } : Jvm.MethodName)) ∈ lw_all := lw_g (lw_at lw_m6 81 rfl) rfl
theorem q1410 : (Jvm.Cond.instanceMethod ({ cls := "PaidSecrets$Plus", name := "with", desc := "(II)I" } : Jvm.MethodName)) ∈ lw_all := lw_g (lw_at lw_m6 82 rfl) rfl
theorem q1411 : (Jvm.Cond.code ({ cls := "PaidSecrets$Plus", name := "with", desc := "(II)I" } : Jvm.MethodName) prog_22_method_2_code (3 : Nat) (Option.some Jvm.ClassFile.FieldType.int)) ∈ lw_all := lw_g (lw_at lw_m6 83 rfl) rfl
theorem q2524 : (Jvm.Cond.castable "PaidSecrets$Plus" "PaidSecrets$Link") ∈ lw_tbl := lw_at lw_m10 236 rfl
theorem q2557 : (Jvm.Cond.castable "PaidSecrets$Plus" "java/lang/Object") ∈ lw_tbl := lw_at lw_m11 29 rfl
theorem in_X24 : ∀ w ∈ wsX240, w ∈ lw_all := lw_in wsX240 [1197] (by decide +kernel) (by decide +kernel)
/-! PaidSecrets$Minus -/
set_option maxRecDepth 100000
def RX25 : String := "PaidSecrets$Minus"
def TX25 : u_T := fun k => match k with
  | _ => ("PaidSecrets$Link", "e", "LPaidSecrets$Expression;", true)
def tyX25 : Nat → FieldType := fun k => match k with
  | _ => .object "PaidSecrets$Expression"
abbrev wsX250 : List Cond := u_ws RX25 TX25 1
theorem nmX25 : ∀ a, a < 1 → ∀ b, b < 1 → a ≠ b → (TX25 a).2.1 ≠ (TX25 b).2.1 := by decide +kernel
theorem tyX25_ok : ∀ k, k < 1 → parseFieldDescriptor (TX25 k).2.2.1 = some (tyX25 k) := by decide +kernel
abbrev cX25_init : ByteArray := prog_13_method_1_code
def yX25_init : MethodName := ⟨RX25, "<init>", "(LPaidSecrets$Expression;)V"⟩
def dkwX25_init_0 : List UInt8 := [42, 43, 183, 0, 1, 177]
abbrev dktX25_init_0 : List UInt8 := dkwX25_init_0 ++ []
theorem dksX25_init_0 : cX25_init.data.toList.drop 0 = dktX25_init_0 := by decide +kernel
theorem dX25_init_0 : decode cX25_init 0 = .ok (.aload_n 0, 1) := dk_42 (dk_at dksX25_init_0 0 rfl rfl)
theorem dX25_init_1 : decode cX25_init 1 = .ok (.aload_n 1, 1) := dk_43 (dk_at dksX25_init_0 1 rfl rfl)
theorem dX25_init_2 : decode cX25_init 2 = .ok (.invokespecial 1, 3) := dk_183 0 1 (dk_at dksX25_init_0 2 rfl rfl)
theorem dX25_init_5 : decode cX25_init 5 = .ok (.return_, 1) := dk_177 (dk_at dksX25_init_0 5 rfl rfl)
abbrev cX25_with : ByteArray := prog_13_method_2_code
def yX25_with : MethodName := ⟨RX25, "with", "(II)I"⟩
def dkwX25_with_0 : List UInt8 := [27, 28, 100, 172]
abbrev dktX25_with_0 : List UInt8 := dkwX25_with_0 ++ []
theorem dksX25_with_0 : cX25_with.data.toList.drop 0 = dktX25_with_0 := by decide +kernel
theorem dX25_with_0 : decode cX25_with 0 = .ok (.iload_n 1, 1) := dk_27 (dk_at dksX25_with_0 0 rfl rfl)
theorem dX25_with_1 : decode cX25_with 1 = .ok (.iload_n 2, 1) := dk_28 (dk_at dksX25_with_0 1 rfl rfl)
theorem dX25_with_2 : decode cX25_with 2 = .ok (.isub, 1) := dk_100 (dk_at dksX25_with_0 2 rfl rfl)
theorem dX25_with_3 : decode cX25_with 3 = .ok (.ireturn, 1) := dk_172 (dk_at dksX25_with_0 3 rfl rfl)
theorem q173 : (Jvm.Cond.initialized "PaidSecrets$Minus") ∈ lw_all := lw_g (lw_at lw_m1 45 rfl) rfl
theorem q884 : (Jvm.Cond.selects "PaidSecrets$Minus" ({ cls := "java/lang/Object", name := "getClass", desc := "()Ljava/lang/Class;" } : Jvm.MethodName) ({ cls := "java/lang/Object", name := "getClass", desc := "()Ljava/lang/Class;" } : Jvm.MethodName)) ∈ lw_all := lw_g (lw_at lw_m4 36 rfl) rfl
theorem q1200 : (Jvm.Cond.instantiable "PaidSecrets$Minus" (1 : Nat)) ∈ lw_all := lw_g (lw_at lw_m5 112 rfl) rfl
theorem q1202 : (Jvm.Cond.instanceMethod ({ cls := "PaidSecrets$Minus", name := "<init>", desc := "(LPaidSecrets$Expression;)V" } : Jvm.MethodName)) ∈ lw_all := lw_g (lw_at lw_m5 114 rfl) rfl
theorem q1203 : (Jvm.Cond.code ({ cls := "PaidSecrets$Minus", name := "<init>", desc := "(LPaidSecrets$Expression;)V" } : Jvm.MethodName) prog_13_method_1_code (2 : Nat) (Option.none : Option Jvm.ClassFile.FieldType)) ∈ lw_all := lw_g (lw_at lw_m5 115 rfl) rfl
theorem q1204 : (Jvm.Cond.methodLink "PaidSecrets$Minus" (1 : Nat) ({ cls := "PaidSecrets$Link", name := "<init>", desc := "(LPaidSecrets$Expression;)V" } : Jvm.MethodName)) ∈ lw_all := lw_g (lw_at lw_m5 116 rfl) rfl
theorem q1205 : (Jvm.Cond.laysFinal "PaidSecrets$Minus" "PaidSecrets$Link" "e" "LPaidSecrets$Expression;") ∈ lw_all := lw_g (lw_at lw_m5 117 rfl) rfl
theorem q1206 : (Jvm.Cond.superclass "PaidSecrets$Minus" "PaidSecrets$Link") ∈ lw_all := lw_g (lw_at lw_m5 118 rfl) rfl
theorem q1387 : (Jvm.Cond.selects "PaidSecrets$Minus" ({ cls := "PaidSecrets$Link", name := "on", desc := "(ILPaidSecrets$Facts;)I" } : Jvm.MethodName) ({ cls := "PaidSecrets$Link", name := "on", desc := "(ILPaidSecrets$Facts;)I" } : Jvm.MethodName)) ∈ lw_all := lw_g (lw_at lw_m6 59 rfl) rfl
theorem q1403 : (Jvm.Cond.selects "PaidSecrets$Minus" ({ cls := "PaidSecrets$Link", name := "with", desc := "(II)I" } : Jvm.MethodName) ({ cls := "PaidSecrets$Minus", name := "with", desc := "(II)I" } : Jvm.MethodName)) ∈ lw_all := lw_g (lw_at lw_m6 75 rfl) rfl
theorem q1404 : (Jvm.Cond.instanceMethod ({ cls := "PaidSecrets$Minus", name := "with", desc := "(II)I" } : Jvm.MethodName)) ∈ lw_all := lw_g (lw_at lw_m6 76 rfl) rfl
theorem q1405 : (Jvm.Cond.code ({ cls := "PaidSecrets$Minus", name := "with", desc := "(II)I" } : Jvm.MethodName) prog_13_method_2_code (3 : Nat) (Option.some Jvm.ClassFile.FieldType.int)) ∈ lw_all := lw_g (lw_at lw_m6 77 rfl) rfl
theorem q2522 : (Jvm.Cond.castable "PaidSecrets$Minus" "PaidSecrets$Link") ∈ lw_tbl := lw_at lw_m10 234 rfl
theorem q2558 : (Jvm.Cond.castable "PaidSecrets$Minus" "java/lang/Object") ∈ lw_tbl := lw_at lw_m11 30 rfl
theorem in_X25 : ∀ w ∈ wsX250, w ∈ lw_all := lw_in wsX250 [1205] (by decide +kernel) (by decide +kernel)
/-! PaidSecrets$Less -/
set_option maxRecDepth 100000
def RX26 : String := "PaidSecrets$Less"
def TX26 : u_T := fun k => match k with
  | _ => ("PaidSecrets$Link", "e", "LPaidSecrets$Expression;", true)
def tyX26 : Nat → FieldType := fun k => match k with
  | _ => .object "PaidSecrets$Expression"
abbrev wsX260 : List Cond := u_ws RX26 TX26 1
theorem nmX26 : ∀ a, a < 1 → ∀ b, b < 1 → a ≠ b → (TX26 a).2.1 ≠ (TX26 b).2.1 := by decide +kernel
theorem tyX26_ok : ∀ k, k < 1 → parseFieldDescriptor (TX26 k).2.2.1 = some (tyX26 k) := by decide +kernel
abbrev cX26_init : ByteArray := prog_9_method_1_code
def yX26_init : MethodName := ⟨RX26, "<init>", "(LPaidSecrets$Expression;)V"⟩
def dkwX26_init_0 : List UInt8 := [42, 43, 183, 0, 1, 177]
abbrev dktX26_init_0 : List UInt8 := dkwX26_init_0 ++ []
theorem dksX26_init_0 : cX26_init.data.toList.drop 0 = dktX26_init_0 := by decide +kernel
theorem dX26_init_0 : decode cX26_init 0 = .ok (.aload_n 0, 1) := dk_42 (dk_at dksX26_init_0 0 rfl rfl)
theorem dX26_init_1 : decode cX26_init 1 = .ok (.aload_n 1, 1) := dk_43 (dk_at dksX26_init_0 1 rfl rfl)
theorem dX26_init_2 : decode cX26_init 2 = .ok (.invokespecial 1, 3) := dk_183 0 1 (dk_at dksX26_init_0 2 rfl rfl)
theorem dX26_init_5 : decode cX26_init 5 = .ok (.return_, 1) := dk_177 (dk_at dksX26_init_0 5 rfl rfl)
abbrev cX26_with : ByteArray := prog_9_method_2_code
def yX26_with : MethodName := ⟨RX26, "with", "(II)I"⟩
def dkwX26_with_0 : List UInt8 := [27, 28, 162, 0, 7, 4, 167, 0, 4, 3, 172]
abbrev dktX26_with_0 : List UInt8 := dkwX26_with_0 ++ []
theorem dksX26_with_0 : cX26_with.data.toList.drop 0 = dktX26_with_0 := by decide +kernel
theorem dX26_with_0 : decode cX26_with 0 = .ok (.iload_n 1, 1) := dk_27 (dk_at dksX26_with_0 0 rfl rfl)
theorem dX26_with_1 : decode cX26_with 1 = .ok (.iload_n 2, 1) := dk_28 (dk_at dksX26_with_0 1 rfl rfl)
theorem dX26_with_2 : decode cX26_with 2 = .ok (.if_icmp .ge 7, 3) := dk_162 0 7 (dk_at dksX26_with_0 2 rfl rfl)
theorem dX26_with_5 : decode cX26_with 5 = .ok (.iconst 1, 1) := dk_4 (dk_at dksX26_with_0 5 rfl rfl)
theorem dX26_with_6 : decode cX26_with 6 = .ok (.goto 4, 3) := dk_167 0 4 (dk_at dksX26_with_0 6 rfl rfl)
theorem dX26_with_9 : decode cX26_with 9 = .ok (.iconst 0, 1) := dk_3 (dk_at dksX26_with_0 9 rfl rfl)
theorem dX26_with_10 : decode cX26_with 10 = .ok (.ireturn, 1) := dk_172 (dk_at dksX26_with_0 10 rfl rfl)
theorem q174 : (Jvm.Cond.initialized "PaidSecrets$Less") ∈ lw_all := lw_g (lw_at lw_m1 46 rfl) rfl
theorem q882 : (Jvm.Cond.selects "PaidSecrets$Less" ({ cls := "java/lang/Object", name := "getClass", desc := "()Ljava/lang/Class;" } : Jvm.MethodName) ({ cls := "java/lang/Object", name := "getClass", desc := "()Ljava/lang/Class;" } : Jvm.MethodName)) ∈ lw_all := lw_g (lw_at lw_m4 34 rfl) rfl
theorem q1208 : (Jvm.Cond.instantiable "PaidSecrets$Less" (1 : Nat)) ∈ lw_all := lw_g (lw_at lw_m5 120 rfl) rfl
theorem q1210 : (Jvm.Cond.instanceMethod ({ cls := "PaidSecrets$Less", name := "<init>", desc := "(LPaidSecrets$Expression;)V" } : Jvm.MethodName)) ∈ lw_all := lw_g (lw_at lw_m5 122 rfl) rfl
theorem q1211 : (Jvm.Cond.code ({ cls := "PaidSecrets$Less", name := "<init>", desc := "(LPaidSecrets$Expression;)V" } : Jvm.MethodName) prog_9_method_1_code (2 : Nat) (Option.none : Option Jvm.ClassFile.FieldType)) ∈ lw_all := lw_g (lw_at lw_m5 123 rfl) rfl
theorem q1212 : (Jvm.Cond.methodLink "PaidSecrets$Less" (1 : Nat) ({ cls := "PaidSecrets$Link", name := "<init>", desc := "(LPaidSecrets$Expression;)V" } : Jvm.MethodName)) ∈ lw_all := lw_g (lw_at lw_m5 124 rfl) rfl
theorem q1213 : (Jvm.Cond.laysFinal "PaidSecrets$Less" "PaidSecrets$Link" "e" "LPaidSecrets$Expression;") ∈ lw_all := lw_g (lw_at lw_m5 125 rfl) rfl
theorem q1214 : (Jvm.Cond.superclass "PaidSecrets$Less" "PaidSecrets$Link") ∈ lw_all := lw_g (lw_at lw_m5 126 rfl) rfl
theorem q1386 : (Jvm.Cond.selects "PaidSecrets$Less" ({ cls := "PaidSecrets$Link", name := "on", desc := "(ILPaidSecrets$Facts;)I" } : Jvm.MethodName) ({ cls := "PaidSecrets$Link", name := "on", desc := "(ILPaidSecrets$Facts;)I" } : Jvm.MethodName)) ∈ lw_all := lw_g (lw_at lw_m6 58 rfl) rfl
theorem q1400 : (Jvm.Cond.selects "PaidSecrets$Less" ({ cls := "PaidSecrets$Link", name := "with", desc := "(II)I" } : Jvm.MethodName) ({ cls := "PaidSecrets$Less", name := "with", desc := "(II)I" } : Jvm.MethodName)) ∈ lw_all := lw_g (lw_at lw_m6 72 rfl) rfl
theorem q1401 : (Jvm.Cond.instanceMethod ({ cls := "PaidSecrets$Less", name := "with", desc := "(II)I" } : Jvm.MethodName)) ∈ lw_all := lw_g (lw_at lw_m6 73 rfl) rfl
theorem q1402 : (Jvm.Cond.code ({ cls := "PaidSecrets$Less", name := "with", desc := "(II)I" } : Jvm.MethodName) prog_9_method_2_code (3 : Nat) (Option.some Jvm.ClassFile.FieldType.int)) ∈ lw_all := lw_g (lw_at lw_m6 74 rfl) rfl
theorem q2521 : (Jvm.Cond.castable "PaidSecrets$Less" "PaidSecrets$Link") ∈ lw_tbl := lw_at lw_m10 233 rfl
theorem q2559 : (Jvm.Cond.castable "PaidSecrets$Less" "java/lang/Object") ∈ lw_tbl := lw_at lw_m11 31 rfl
theorem in_X26 : ∀ w ∈ wsX260, w ∈ lw_all := lw_in wsX260 [1213] (by decide +kernel) (by decide +kernel)
/-! PaidSecrets$Same -/
set_option maxRecDepth 100000
def RX27 : String := "PaidSecrets$Same"
def TX27 : u_T := fun k => match k with
  | _ => ("PaidSecrets$Link", "e", "LPaidSecrets$Expression;", true)
def tyX27 : Nat → FieldType := fun k => match k with
  | _ => .object "PaidSecrets$Expression"
abbrev wsX270 : List Cond := u_ws RX27 TX27 1
theorem nmX27 : ∀ a, a < 1 → ∀ b, b < 1 → a ≠ b → (TX27 a).2.1 ≠ (TX27 b).2.1 := by decide +kernel
theorem tyX27_ok : ∀ k, k < 1 → parseFieldDescriptor (TX27 k).2.2.1 = some (tyX27 k) := by decide +kernel
abbrev cX27_init : ByteArray := prog_27_method_1_code
def yX27_init : MethodName := ⟨RX27, "<init>", "(LPaidSecrets$Expression;)V"⟩
def dkwX27_init_0 : List UInt8 := [42, 43, 183, 0, 1, 177]
abbrev dktX27_init_0 : List UInt8 := dkwX27_init_0 ++ []
theorem dksX27_init_0 : cX27_init.data.toList.drop 0 = dktX27_init_0 := by decide +kernel
theorem dX27_init_0 : decode cX27_init 0 = .ok (.aload_n 0, 1) := dk_42 (dk_at dksX27_init_0 0 rfl rfl)
theorem dX27_init_1 : decode cX27_init 1 = .ok (.aload_n 1, 1) := dk_43 (dk_at dksX27_init_0 1 rfl rfl)
theorem dX27_init_2 : decode cX27_init 2 = .ok (.invokespecial 1, 3) := dk_183 0 1 (dk_at dksX27_init_0 2 rfl rfl)
theorem dX27_init_5 : decode cX27_init 5 = .ok (.return_, 1) := dk_177 (dk_at dksX27_init_0 5 rfl rfl)
abbrev cX27_with : ByteArray := prog_27_method_2_code
def yX27_with : MethodName := ⟨RX27, "with", "(II)I"⟩
def dkwX27_with_0 : List UInt8 := [27, 28, 160, 0, 7, 4, 167, 0, 4, 3, 172]
abbrev dktX27_with_0 : List UInt8 := dkwX27_with_0 ++ []
theorem dksX27_with_0 : cX27_with.data.toList.drop 0 = dktX27_with_0 := by decide +kernel
theorem dX27_with_0 : decode cX27_with 0 = .ok (.iload_n 1, 1) := dk_27 (dk_at dksX27_with_0 0 rfl rfl)
theorem dX27_with_1 : decode cX27_with 1 = .ok (.iload_n 2, 1) := dk_28 (dk_at dksX27_with_0 1 rfl rfl)
theorem dX27_with_2 : decode cX27_with 2 = .ok (.if_icmp .ne 7, 3) := dk_160 0 7 (dk_at dksX27_with_0 2 rfl rfl)
theorem dX27_with_5 : decode cX27_with 5 = .ok (.iconst 1, 1) := dk_4 (dk_at dksX27_with_0 5 rfl rfl)
theorem dX27_with_6 : decode cX27_with 6 = .ok (.goto 4, 3) := dk_167 0 4 (dk_at dksX27_with_0 6 rfl rfl)
theorem dX27_with_9 : decode cX27_with 9 = .ok (.iconst 0, 1) := dk_3 (dk_at dksX27_with_0 9 rfl rfl)
theorem dX27_with_10 : decode cX27_with 10 = .ok (.ireturn, 1) := dk_172 (dk_at dksX27_with_0 10 rfl rfl)
theorem q175 : (Jvm.Cond.initialized "PaidSecrets$Same") ∈ lw_all := lw_g (lw_at lw_m1 47 rfl) rfl
theorem q898 : (Jvm.Cond.selects "PaidSecrets$Same" ({ cls := "java/lang/Object", name := "getClass", desc := "()Ljava/lang/Class;" } : Jvm.MethodName) ({ cls := "java/lang/Object", name := "getClass", desc := "()Ljava/lang/Class;" } : Jvm.MethodName)) ∈ lw_all := lw_g (lw_at lw_m4 50 rfl) rfl
theorem q1216 : (Jvm.Cond.instantiable "PaidSecrets$Same" (1 : Nat)) ∈ lw_all := lw_g (lw_at lw_m5 128 rfl) rfl
theorem q1218 : (Jvm.Cond.instanceMethod ({ cls := "PaidSecrets$Same", name := "<init>", desc := "(LPaidSecrets$Expression;)V" } : Jvm.MethodName)) ∈ lw_all := lw_g (lw_at lw_m5 130 rfl) rfl
theorem q1219 : (Jvm.Cond.code ({ cls := "PaidSecrets$Same", name := "<init>", desc := "(LPaidSecrets$Expression;)V" } : Jvm.MethodName) prog_27_method_1_code (2 : Nat) (Option.none : Option Jvm.ClassFile.FieldType)) ∈ lw_all := lw_g (lw_at lw_m5 131 rfl) rfl
theorem q1220 : (Jvm.Cond.methodLink "PaidSecrets$Same" (1 : Nat) ({ cls := "PaidSecrets$Link", name := "<init>", desc := "(LPaidSecrets$Expression;)V" } : Jvm.MethodName)) ∈ lw_all := lw_g (lw_at lw_m5 132 rfl) rfl
theorem q1221 : (Jvm.Cond.laysFinal "PaidSecrets$Same" "PaidSecrets$Link" "e" "LPaidSecrets$Expression;") ∈ lw_all := lw_g (lw_at lw_m5 133 rfl) rfl
theorem q1222 : (Jvm.Cond.superclass "PaidSecrets$Same" "PaidSecrets$Link") ∈ lw_all := lw_g (lw_at lw_m5 134 rfl) rfl
theorem q1390 : (Jvm.Cond.selects "PaidSecrets$Same" ({ cls := "PaidSecrets$Link", name := "on", desc := "(ILPaidSecrets$Facts;)I" } : Jvm.MethodName) ({ cls := "PaidSecrets$Link", name := "on", desc := "(ILPaidSecrets$Facts;)I" } : Jvm.MethodName)) ∈ lw_all := lw_g (lw_at lw_m6 62 rfl) rfl
theorem q1412 : (Jvm.Cond.selects "PaidSecrets$Same" ({ cls := "PaidSecrets$Link", name := "with", desc := "(II)I" } : Jvm.MethodName) ({ cls := "PaidSecrets$Same", name := "with", desc := "(II)I" } : Jvm.MethodName)) ∈ lw_all := lw_g (lw_at lw_m6 84 rfl) rfl
theorem q1413 : (Jvm.Cond.instanceMethod ({ cls := "PaidSecrets$Same", name := "with", desc := "(II)I" } : Jvm.MethodName)) ∈ lw_all := lw_g (lw_at lw_m6 85 rfl) rfl
theorem q1414 : (Jvm.Cond.code ({ cls := "PaidSecrets$Same", name := "with", desc := "(II)I" } : Jvm.MethodName) prog_27_method_2_code (3 : Nat) (Option.some Jvm.ClassFile.FieldType.int)) ∈ lw_all := lw_g (lw_at lw_m6 86 rfl) rfl
theorem q2525 : (Jvm.Cond.castable "PaidSecrets$Same" "PaidSecrets$Link") ∈ lw_tbl := lw_at lw_m10 237 rfl
theorem q2560 : (Jvm.Cond.castable "PaidSecrets$Same" "java/lang/Object") ∈ lw_tbl := lw_at lw_m11 32 rfl
theorem in_X27 : ∀ w ∈ wsX270, w ∈ lw_all := lw_in wsX270 [1221] (by decide +kernel) (by decide +kernel)
/-! PaidSecrets$And -/
set_option maxRecDepth 100000
def RX28 : String := "PaidSecrets$And"
def TX28 : u_T := fun k => match k with
  | _ => ("PaidSecrets$Link", "e", "LPaidSecrets$Expression;", true)
def tyX28 : Nat → FieldType := fun k => match k with
  | _ => .object "PaidSecrets$Expression"
abbrev wsX280 : List Cond := u_ws RX28 TX28 1
theorem nmX28 : ∀ a, a < 1 → ∀ b, b < 1 → a ≠ b → (TX28 a).2.1 ≠ (TX28 b).2.1 := by decide +kernel
theorem tyX28_ok : ∀ k, k < 1 → parseFieldDescriptor (TX28 k).2.2.1 = some (tyX28 k) := by decide +kernel
abbrev cX28_init : ByteArray := prog_2_method_1_code
def yX28_init : MethodName := ⟨RX28, "<init>", "(LPaidSecrets$Expression;)V"⟩
def dkwX28_init_0 : List UInt8 := [42, 43, 183, 0, 1, 177]
abbrev dktX28_init_0 : List UInt8 := dkwX28_init_0 ++ []
theorem dksX28_init_0 : cX28_init.data.toList.drop 0 = dktX28_init_0 := by decide +kernel
theorem dX28_init_0 : decode cX28_init 0 = .ok (.aload_n 0, 1) := dk_42 (dk_at dksX28_init_0 0 rfl rfl)
theorem dX28_init_1 : decode cX28_init 1 = .ok (.aload_n 1, 1) := dk_43 (dk_at dksX28_init_0 1 rfl rfl)
theorem dX28_init_2 : decode cX28_init 2 = .ok (.invokespecial 1, 3) := dk_183 0 1 (dk_at dksX28_init_0 2 rfl rfl)
theorem dX28_init_5 : decode cX28_init 5 = .ok (.return_, 1) := dk_177 (dk_at dksX28_init_0 5 rfl rfl)
abbrev cX28_with : ByteArray := prog_2_method_2_code
def yX28_with : MethodName := ⟨RX28, "with", "(II)I"⟩
def dkwX28_with_0 : List UInt8 := [27, 153, 0, 11, 28, 153, 0, 7, 4, 167, 0, 4, 3, 172]
abbrev dktX28_with_0 : List UInt8 := dkwX28_with_0 ++ []
theorem dksX28_with_0 : cX28_with.data.toList.drop 0 = dktX28_with_0 := by decide +kernel
theorem dX28_with_0 : decode cX28_with 0 = .ok (.iload_n 1, 1) := dk_27 (dk_at dksX28_with_0 0 rfl rfl)
theorem dX28_with_1 : decode cX28_with 1 = .ok (.ifCond .eq 11, 3) := dk_153 0 11 (dk_at dksX28_with_0 1 rfl rfl)
theorem dX28_with_4 : decode cX28_with 4 = .ok (.iload_n 2, 1) := dk_28 (dk_at dksX28_with_0 4 rfl rfl)
theorem dX28_with_5 : decode cX28_with 5 = .ok (.ifCond .eq 7, 3) := dk_153 0 7 (dk_at dksX28_with_0 5 rfl rfl)
theorem dX28_with_8 : decode cX28_with 8 = .ok (.iconst 1, 1) := dk_4 (dk_at dksX28_with_0 8 rfl rfl)
theorem dX28_with_9 : decode cX28_with 9 = .ok (.goto 4, 3) := dk_167 0 4 (dk_at dksX28_with_0 9 rfl rfl)
theorem dX28_with_12 : decode cX28_with 12 = .ok (.iconst 0, 1) := dk_3 (dk_at dksX28_with_0 12 rfl rfl)
theorem dX28_with_13 : decode cX28_with 13 = .ok (.ireturn, 1) := dk_172 (dk_at dksX28_with_0 13 rfl rfl)
theorem q176 : (Jvm.Cond.initialized "PaidSecrets$And") ∈ lw_all := lw_g (lw_at lw_m1 48 rfl) rfl
theorem q876 : (Jvm.Cond.selects "PaidSecrets$And" ({ cls := "java/lang/Object", name := "getClass", desc := "()Ljava/lang/Class;" } : Jvm.MethodName) ({ cls := "java/lang/Object", name := "getClass", desc := "()Ljava/lang/Class;" } : Jvm.MethodName)) ∈ lw_all := lw_g (lw_at lw_m4 28 rfl) rfl
theorem q1224 : (Jvm.Cond.instantiable "PaidSecrets$And" (1 : Nat)) ∈ lw_all := lw_g (lw_at lw_m5 136 rfl) rfl
theorem q1226 : (Jvm.Cond.instanceMethod ({ cls := "PaidSecrets$And", name := "<init>", desc := "(LPaidSecrets$Expression;)V" } : Jvm.MethodName)) ∈ lw_all := lw_g (lw_at lw_m5 138 rfl) rfl
theorem q1227 : (Jvm.Cond.code ({ cls := "PaidSecrets$And", name := "<init>", desc := "(LPaidSecrets$Expression;)V" } : Jvm.MethodName) prog_2_method_1_code (2 : Nat) (Option.none : Option Jvm.ClassFile.FieldType)) ∈ lw_all := lw_g (lw_at lw_m5 139 rfl) rfl
theorem q1228 : (Jvm.Cond.methodLink "PaidSecrets$And" (1 : Nat) ({ cls := "PaidSecrets$Link", name := "<init>", desc := "(LPaidSecrets$Expression;)V" } : Jvm.MethodName)) ∈ lw_all := lw_g (lw_at lw_m5 140 rfl) rfl
theorem q1229 : (Jvm.Cond.laysFinal "PaidSecrets$And" "PaidSecrets$Link" "e" "LPaidSecrets$Expression;") ∈ lw_all := lw_g (lw_at lw_m5 141 rfl) rfl
theorem q1230 : (Jvm.Cond.superclass "PaidSecrets$And" "PaidSecrets$Link") ∈ lw_all := lw_g (lw_at lw_m5 142 rfl) rfl
theorem q1385 : (Jvm.Cond.selects "PaidSecrets$And" ({ cls := "PaidSecrets$Link", name := "on", desc := "(ILPaidSecrets$Facts;)I" } : Jvm.MethodName) ({ cls := "PaidSecrets$Link", name := "on", desc := "(ILPaidSecrets$Facts;)I" } : Jvm.MethodName)) ∈ lw_all := lw_g (lw_at lw_m6 57 rfl) rfl
theorem q1397 : (Jvm.Cond.selects "PaidSecrets$And" ({ cls := "PaidSecrets$Link", name := "with", desc := "(II)I" } : Jvm.MethodName) ({ cls := "PaidSecrets$And", name := "with", desc := "(II)I" } : Jvm.MethodName)) ∈ lw_all := lw_g (lw_at lw_m6 69 rfl) rfl
theorem q1398 : (Jvm.Cond.instanceMethod ({ cls := "PaidSecrets$And", name := "with", desc := "(II)I" } : Jvm.MethodName)) ∈ lw_all := lw_g (lw_at lw_m6 70 rfl) rfl
theorem q1399 : (Jvm.Cond.code ({ cls := "PaidSecrets$And", name := "with", desc := "(II)I" } : Jvm.MethodName) prog_2_method_2_code (3 : Nat) (Option.some Jvm.ClassFile.FieldType.int)) ∈ lw_all := lw_g (lw_at lw_m6 71 rfl) rfl
theorem q2520 : (Jvm.Cond.castable "PaidSecrets$And" "PaidSecrets$Link") ∈ lw_tbl := lw_at lw_m10 232 rfl
theorem q2561 : (Jvm.Cond.castable "PaidSecrets$And" "java/lang/Object") ∈ lw_tbl := lw_at lw_m11 33 rfl
theorem in_X28 : ∀ w ∈ wsX280, w ∈ lw_all := lw_in wsX280 [1229] (by decide +kernel) (by decide +kernel)
/-! PaidSecrets$Or -/
set_option maxRecDepth 100000
def RX29 : String := "PaidSecrets$Or"
def TX29 : u_T := fun k => match k with
  | _ => ("PaidSecrets$Link", "e", "LPaidSecrets$Expression;", true)
def tyX29 : Nat → FieldType := fun k => match k with
  | _ => .object "PaidSecrets$Expression"
abbrev wsX290 : List Cond := u_ws RX29 TX29 1
theorem nmX29 : ∀ a, a < 1 → ∀ b, b < 1 → a ≠ b → (TX29 a).2.1 ≠ (TX29 b).2.1 := by decide +kernel
theorem tyX29_ok : ∀ k, k < 1 → parseFieldDescriptor (TX29 k).2.2.1 = some (tyX29 k) := by decide +kernel
abbrev cX29_init : ByteArray := prog_16_method_1_code
def yX29_init : MethodName := ⟨RX29, "<init>", "(LPaidSecrets$Expression;)V"⟩
def dkwX29_init_0 : List UInt8 := [42, 43, 183, 0, 1, 177]
abbrev dktX29_init_0 : List UInt8 := dkwX29_init_0 ++ []
theorem dksX29_init_0 : cX29_init.data.toList.drop 0 = dktX29_init_0 := by decide +kernel
theorem dX29_init_0 : decode cX29_init 0 = .ok (.aload_n 0, 1) := dk_42 (dk_at dksX29_init_0 0 rfl rfl)
theorem dX29_init_1 : decode cX29_init 1 = .ok (.aload_n 1, 1) := dk_43 (dk_at dksX29_init_0 1 rfl rfl)
theorem dX29_init_2 : decode cX29_init 2 = .ok (.invokespecial 1, 3) := dk_183 0 1 (dk_at dksX29_init_0 2 rfl rfl)
theorem dX29_init_5 : decode cX29_init 5 = .ok (.return_, 1) := dk_177 (dk_at dksX29_init_0 5 rfl rfl)
abbrev cX29_with : ByteArray := prog_16_method_2_code
def yX29_with : MethodName := ⟨RX29, "with", "(II)I"⟩
def dkwX29_with_0 : List UInt8 := [27, 154, 0, 7, 28, 153, 0, 7, 4, 167, 0, 4, 3, 172]
abbrev dktX29_with_0 : List UInt8 := dkwX29_with_0 ++ []
theorem dksX29_with_0 : cX29_with.data.toList.drop 0 = dktX29_with_0 := by decide +kernel
theorem dX29_with_0 : decode cX29_with 0 = .ok (.iload_n 1, 1) := dk_27 (dk_at dksX29_with_0 0 rfl rfl)
theorem dX29_with_1 : decode cX29_with 1 = .ok (.ifCond .ne 7, 3) := dk_154 0 7 (dk_at dksX29_with_0 1 rfl rfl)
theorem dX29_with_4 : decode cX29_with 4 = .ok (.iload_n 2, 1) := dk_28 (dk_at dksX29_with_0 4 rfl rfl)
theorem dX29_with_5 : decode cX29_with 5 = .ok (.ifCond .eq 7, 3) := dk_153 0 7 (dk_at dksX29_with_0 5 rfl rfl)
theorem dX29_with_8 : decode cX29_with 8 = .ok (.iconst 1, 1) := dk_4 (dk_at dksX29_with_0 8 rfl rfl)
theorem dX29_with_9 : decode cX29_with 9 = .ok (.goto 4, 3) := dk_167 0 4 (dk_at dksX29_with_0 9 rfl rfl)
theorem dX29_with_12 : decode cX29_with 12 = .ok (.iconst 0, 1) := dk_3 (dk_at dksX29_with_0 12 rfl rfl)
theorem dX29_with_13 : decode cX29_with 13 = .ok (.ireturn, 1) := dk_172 (dk_at dksX29_with_0 13 rfl rfl)
theorem q177 : (Jvm.Cond.initialized "PaidSecrets$Or") ∈ lw_all := lw_g (lw_at lw_m1 49 rfl) rfl
theorem q887 : (Jvm.Cond.selects "PaidSecrets$Or" ({ cls := "java/lang/Object", name := "getClass", desc := "()Ljava/lang/Class;" } : Jvm.MethodName) ({ cls := "java/lang/Object", name := "getClass", desc := "()Ljava/lang/Class;" } : Jvm.MethodName)) ∈ lw_all := lw_g (lw_at lw_m4 39 rfl) rfl
theorem q1232 : (Jvm.Cond.instantiable "PaidSecrets$Or" (1 : Nat)) ∈ lw_all := lw_g (lw_at lw_m5 144 rfl) rfl
theorem q1234 : (Jvm.Cond.instanceMethod ({ cls := "PaidSecrets$Or", name := "<init>", desc := "(LPaidSecrets$Expression;)V" } : Jvm.MethodName)) ∈ lw_all := lw_g (lw_at lw_m5 146 rfl) rfl
theorem q1235 : (Jvm.Cond.code ({ cls := "PaidSecrets$Or", name := "<init>", desc := "(LPaidSecrets$Expression;)V" } : Jvm.MethodName) prog_16_method_1_code (2 : Nat) (Option.none : Option Jvm.ClassFile.FieldType)) ∈ lw_all := lw_g (lw_at lw_m5 147 rfl) rfl
theorem q1236 : (Jvm.Cond.methodLink "PaidSecrets$Or" (1 : Nat) ({ cls := "PaidSecrets$Link", name := "<init>", desc := "(LPaidSecrets$Expression;)V" } : Jvm.MethodName)) ∈ lw_all := lw_g (lw_at lw_m5 148 rfl) rfl
theorem q1237 : (Jvm.Cond.laysFinal "PaidSecrets$Or" "PaidSecrets$Link" "e" "LPaidSecrets$Expression;") ∈ lw_all := lw_g (lw_at lw_m5 149 rfl) rfl
theorem q1238 : (Jvm.Cond.superclass "PaidSecrets$Or" "PaidSecrets$Link") ∈ lw_all := lw_g (lw_at lw_m5 150 rfl) rfl
theorem q1388 : (Jvm.Cond.selects "PaidSecrets$Or" ({ cls := "PaidSecrets$Link", name := "on", desc := "(ILPaidSecrets$Facts;)I" } : Jvm.MethodName) ({ cls := "PaidSecrets$Link", name := "on", desc := "(ILPaidSecrets$Facts;)I" } : Jvm.MethodName)) ∈ lw_all := lw_g (lw_at lw_m6 60 rfl) rfl
theorem q1406 : (Jvm.Cond.selects "PaidSecrets$Or" ({ cls := "PaidSecrets$Link", name := "with", desc := "(II)I" } : Jvm.MethodName) ({ cls := "PaidSecrets$Or", name := "with", desc := "(II)I" } : Jvm.MethodName)) ∈ lw_all := lw_g (lw_at lw_m6 78 rfl) rfl
theorem q1407 : (Jvm.Cond.instanceMethod ({ cls := "PaidSecrets$Or", name := "with", desc := "(II)I" } : Jvm.MethodName)) ∈ lw_all := lw_g (lw_at lw_m6 79 rfl) rfl
theorem q1408 : (Jvm.Cond.code ({ cls := "PaidSecrets$Or", name := "with", desc := "(II)I" } : Jvm.MethodName) prog_16_method_2_code (3 : Nat) (Option.some Jvm.ClassFile.FieldType.int)) ∈ lw_all := lw_g (lw_at lw_m6 80 rfl) rfl
theorem q2523 : (Jvm.Cond.castable "PaidSecrets$Or" "PaidSecrets$Link") ∈ lw_tbl := lw_at lw_m10 235 rfl
theorem q2562 : (Jvm.Cond.castable "PaidSecrets$Or" "java/lang/Object") ∈ lw_tbl := lw_at lw_m11 34 rfl
theorem in_X29 : ∀ w ∈ wsX290, w ∈ lw_all := lw_in wsX290 [1237] (by decide +kernel) (by decide +kernel)
/-! PaidSecrets$Line -/
set_option maxRecDepth 100000
def RX30 : String := "PaidSecrets$Line"
abbrev cX30_init : ByteArray := prog_10_method_1_code
def yX30_init : MethodName := ⟨RX30, "<init>", "()V"⟩
theorem dX30_init_0 : decode cX30_init 0 = .ok (.aload_n 0, 1) := by decide +kernel
theorem dX30_init_1 : decode cX30_init 1 = .ok (.invokespecial 1, 3) := by decide +kernel
theorem dX30_init_4 : decode cX30_init 4 = .ok (.return_, 1) := by decide +kernel
theorem q178 : (Jvm.Cond.initialized "PaidSecrets$Line") ∈ lw_all := lw_g (lw_at lw_m1 50 rfl) rfl
theorem q1271 : (Jvm.Cond.instanceMethod ({ cls := "PaidSecrets$Line", name := "<init>", desc := "()V" } : Jvm.MethodName)) ∈ lw_all := lw_g (lw_at lw_m5 183 rfl) rfl
theorem q1272 : (Jvm.Cond.code ({ cls := "PaidSecrets$Line", name := "<init>", desc := "()V" } : Jvm.MethodName) prog_10_method_1_code (1 : Nat) (Option.none : Option Jvm.ClassFile.FieldType)) ∈ lw_all := lw_g (lw_at lw_m5 184 rfl) rfl
theorem q1273 : (Jvm.Cond.methodLink "PaidSecrets$Line" (1 : Nat) ({ cls := "java/lang/Object", name := "<init>", desc := "()V" } : Jvm.MethodName)) ∈ lw_all := lw_g (lw_at lw_m5 185 rfl) rfl
theorem q1550 : (Jvm.Cond.declares ({ cls := "PaidSecrets$Line", name := "isDone", desc := "(LPaidSecrets$Talk;)Z" } : Jvm.MethodName)) ∈ lw_tbl := lw_at lw_m6 222 rfl
theorem q1551 : (Jvm.Cond.sameMethod "PaidSecrets$Line" "PaidSecrets$Line" "isDone" "(LPaidSecrets$Talk;)Z") ∈ lw_all := lw_g (lw_at lw_m6 223 rfl) rfl
/-! PaidSecrets$Tells -/
set_option maxRecDepth 100000
def RX31 : String := "PaidSecrets$Tells"
def TX31 : u_T := fun k => match k with
  | 0 => ("PaidSecrets$Tells", "person", "I", true)
  | 1 => ("PaidSecrets$Tells", "other", "I", true)
  | _ => ("PaidSecrets$Tells", "secret", "I", true)
def tyX31 : Nat → FieldType := fun k => match k with
  | 0 => .int
  | 1 => .int
  | _ => .int
abbrev wsX310 : List Cond := u_ws RX31 TX31 3
theorem nmX31 : ∀ a, a < 3 → ∀ b, b < 3 → a ≠ b → (TX31 a).2.1 ≠ (TX31 b).2.1 := by decide +kernel
theorem tyX31_ok : ∀ k, k < 3 → parseFieldDescriptor (TX31 k).2.2.1 = some (tyX31 k) := by decide +kernel
abbrev cX31_init : ByteArray := prog_31_method_1_code
def yX31_init : MethodName := ⟨RX31, "<init>", "(III)V"⟩
def dkwX31_init_0 : List UInt8 := [42, 183, 0, 1, 42, 27, 181, 0, 7, 42, 28, 181, 0, 13, 42, 29, 181, 0, 16, 177]
abbrev dktX31_init_0 : List UInt8 := dkwX31_init_0 ++ []
theorem dksX31_init_0 : cX31_init.data.toList.drop 0 = dktX31_init_0 := by decide +kernel
theorem dX31_init_0 : decode cX31_init 0 = .ok (.aload_n 0, 1) := dk_42 (dk_at dksX31_init_0 0 rfl rfl)
theorem dX31_init_1 : decode cX31_init 1 = .ok (.invokespecial 1, 3) := dk_183 0 1 (dk_at dksX31_init_0 1 rfl rfl)
theorem dX31_init_4 : decode cX31_init 4 = .ok (.aload_n 0, 1) := dk_42 (dk_at dksX31_init_0 4 rfl rfl)
theorem dX31_init_5 : decode cX31_init 5 = .ok (.iload_n 1, 1) := dk_27 (dk_at dksX31_init_0 5 rfl rfl)
theorem dX31_init_6 : decode cX31_init 6 = .ok (.putfield 7, 3) := dk_181 0 7 (dk_at dksX31_init_0 6 rfl rfl)
theorem dX31_init_9 : decode cX31_init 9 = .ok (.aload_n 0, 1) := dk_42 (dk_at dksX31_init_0 9 rfl rfl)
theorem dX31_init_10 : decode cX31_init 10 = .ok (.iload_n 2, 1) := dk_28 (dk_at dksX31_init_0 10 rfl rfl)
theorem dX31_init_11 : decode cX31_init 11 = .ok (.putfield 13, 3) := dk_181 0 13 (dk_at dksX31_init_0 11 rfl rfl)
theorem dX31_init_14 : decode cX31_init 14 = .ok (.aload_n 0, 1) := dk_42 (dk_at dksX31_init_0 14 rfl rfl)
theorem dX31_init_15 : decode cX31_init 15 = .ok (.iload_n 3, 1) := dk_29 (dk_at dksX31_init_0 15 rfl rfl)
theorem dX31_init_16 : decode cX31_init 16 = .ok (.putfield 16, 3) := dk_181 0 16 (dk_at dksX31_init_0 16 rfl rfl)
theorem dX31_init_19 : decode cX31_init 19 = .ok (.return_, 1) := dk_177 (dk_at dksX31_init_0 19 rfl rfl)
abbrev cX31_isDone : ByteArray := prog_31_method_2_code
def yX31_isDone : MethodName := ⟨RX31, "isDone", "(LPaidSecrets$Talk;)Z"⟩
def dkwX31_isDone_1 : List UInt8 := [180, 0, 7, 42, 180, 0, 13, 42, 180, 0, 16, 182, 0, 25, 4, 172]
abbrev dktX31_isDone_1 : List UInt8 := dkwX31_isDone_1 ++ []
def dkwX31_isDone_0 : List UInt8 := [43, 42, 180, 0, 7, 42, 180, 0, 13, 42, 180, 0, 16, 182, 0, 19, 154, 0, 5, 3, 172, 43, 42]
abbrev dktX31_isDone_0 : List UInt8 := dkwX31_isDone_0 ++ dktX31_isDone_1
theorem dksX31_isDone_0 : cX31_isDone.data.toList.drop 0 = dktX31_isDone_0 := by decide +kernel
theorem dksX31_isDone_1 : cX31_isDone.data.toList.drop 23 = dktX31_isDone_1 := dk_seg dksX31_isDone_0 23 rfl rfl
theorem dX31_isDone_0 : decode cX31_isDone 0 = .ok (.aload_n 1, 1) := dk_43 (dk_at dksX31_isDone_0 0 rfl rfl)
theorem dX31_isDone_1 : decode cX31_isDone 1 = .ok (.aload_n 0, 1) := dk_42 (dk_at dksX31_isDone_0 1 rfl rfl)
theorem dX31_isDone_2 : decode cX31_isDone 2 = .ok (.getfield 7, 3) := dk_180 0 7 (dk_at dksX31_isDone_0 2 rfl rfl)
theorem dX31_isDone_5 : decode cX31_isDone 5 = .ok (.aload_n 0, 1) := dk_42 (dk_at dksX31_isDone_0 5 rfl rfl)
theorem dX31_isDone_6 : decode cX31_isDone 6 = .ok (.getfield 13, 3) := dk_180 0 13 (dk_at dksX31_isDone_0 6 rfl rfl)
theorem dX31_isDone_9 : decode cX31_isDone 9 = .ok (.aload_n 0, 1) := dk_42 (dk_at dksX31_isDone_0 9 rfl rfl)
theorem dX31_isDone_10 : decode cX31_isDone 10 = .ok (.getfield 16, 3) := dk_180 0 16 (dk_at dksX31_isDone_0 10 rfl rfl)
theorem dX31_isDone_13 : decode cX31_isDone 13 = .ok (.invokevirtual 19, 3) := dk_182 0 19 (dk_at dksX31_isDone_0 13 rfl rfl)
theorem dX31_isDone_16 : decode cX31_isDone 16 = .ok (.ifCond .ne 5, 3) := dk_154 0 5 (dk_at dksX31_isDone_0 16 rfl rfl)
theorem dX31_isDone_19 : decode cX31_isDone 19 = .ok (.iconst 0, 1) := dk_3 (dk_at dksX31_isDone_0 19 rfl rfl)
theorem dX31_isDone_20 : decode cX31_isDone 20 = .ok (.ireturn, 1) := dk_172 (dk_at dksX31_isDone_0 20 rfl rfl)
theorem dX31_isDone_21 : decode cX31_isDone 21 = .ok (.aload_n 1, 1) := dk_43 (dk_at dksX31_isDone_0 21 rfl rfl)
theorem dX31_isDone_22 : decode cX31_isDone 22 = .ok (.aload_n 0, 1) := dk_42 (dk_at dksX31_isDone_0 22 rfl rfl)
theorem dX31_isDone_23 : decode cX31_isDone 23 = .ok (.getfield 7, 3) := dk_180 0 7 (dk_at dksX31_isDone_1 0 rfl rfl)
theorem dX31_isDone_26 : decode cX31_isDone 26 = .ok (.aload_n 0, 1) := dk_42 (dk_at dksX31_isDone_1 3 rfl rfl)
theorem dX31_isDone_27 : decode cX31_isDone 27 = .ok (.getfield 13, 3) := dk_180 0 13 (dk_at dksX31_isDone_1 4 rfl rfl)
theorem dX31_isDone_30 : decode cX31_isDone 30 = .ok (.aload_n 0, 1) := dk_42 (dk_at dksX31_isDone_1 7 rfl rfl)
theorem dX31_isDone_31 : decode cX31_isDone 31 = .ok (.getfield 16, 3) := dk_180 0 16 (dk_at dksX31_isDone_1 8 rfl rfl)
theorem dX31_isDone_34 : decode cX31_isDone 34 = .ok (.invokevirtual 25, 3) := dk_182 0 25 (dk_at dksX31_isDone_1 11 rfl rfl)
theorem dX31_isDone_37 : decode cX31_isDone 37 = .ok (.iconst 1, 1) := dk_4 (dk_at dksX31_isDone_1 14 rfl rfl)
theorem dX31_isDone_38 : decode cX31_isDone 38 = .ok (.ireturn, 1) := dk_172 (dk_at dksX31_isDone_1 15 rfl rfl)
theorem q179 : (Jvm.Cond.initialized "PaidSecrets$Tells") ∈ lw_all := lw_g (lw_at lw_m1 51 rfl) rfl
theorem q902 : (Jvm.Cond.selects "PaidSecrets$Tells" ({ cls := "java/lang/Object", name := "getClass", desc := "()Ljava/lang/Class;" } : Jvm.MethodName) ({ cls := "java/lang/Object", name := "getClass", desc := "()Ljava/lang/Class;" } : Jvm.MethodName)) ∈ lw_all := lw_g (lw_at lw_m4 54 rfl) rfl
theorem q1266 : (Jvm.Cond.instantiable "PaidSecrets$Tells" (3 : Nat)) ∈ lw_all := lw_g (lw_at lw_m5 178 rfl) rfl
theorem q1268 : (Jvm.Cond.instanceMethod ({ cls := "PaidSecrets$Tells", name := "<init>", desc := "(III)V" } : Jvm.MethodName)) ∈ lw_all := lw_g (lw_at lw_m5 180 rfl) rfl
theorem q1269 : (Jvm.Cond.code ({ cls := "PaidSecrets$Tells", name := "<init>", desc := "(III)V" } : Jvm.MethodName) prog_31_method_1_code (4 : Nat) (Option.none : Option Jvm.ClassFile.FieldType)) ∈ lw_all := lw_g (lw_at lw_m5 181 rfl) rfl
theorem q1270 : (Jvm.Cond.methodLinkNest "PaidSecrets$Tells" (1 : Nat) ({ cls := "PaidSecrets$Line", name := "<init>", desc := "()V" } : Jvm.MethodName) "PaidSecrets") ∈ lw_tbl := lw_at lw_m5 182 rfl
theorem q1274 : (Jvm.Cond.fieldLink "PaidSecrets$Tells" (7 : Nat) "PaidSecrets$Tells" "person" "I") ∈ lw_all := lw_g (lw_at lw_m5 186 rfl) rfl
theorem q1275 : (Jvm.Cond.fieldLink "PaidSecrets$Tells" (13 : Nat) "PaidSecrets$Tells" "other" "I") ∈ lw_all := lw_g (lw_at lw_m5 187 rfl) rfl
theorem q1276 : (Jvm.Cond.fieldLink "PaidSecrets$Tells" (16 : Nat) "PaidSecrets$Tells" "secret" "I") ∈ lw_all := lw_g (lw_at lw_m5 188 rfl) rfl
theorem q1277 : (Jvm.Cond.laysFinal "PaidSecrets$Tells" "PaidSecrets$Tells" "person" "I") ∈ lw_all := lw_g (lw_at lw_m5 189 rfl) rfl
theorem q1278 : (Jvm.Cond.soleField "PaidSecrets$Tells" "person") ∈ lw_all := lw_g (lw_at lw_m5 190 rfl) rfl
theorem q1279 : (Jvm.Cond.laysFinal "PaidSecrets$Tells" "PaidSecrets$Tells" "other" "I") ∈ lw_all := lw_g (lw_at lw_m5 191 rfl) rfl
theorem q1280 : (Jvm.Cond.soleField "PaidSecrets$Tells" "other") ∈ lw_all := lw_g (lw_at lw_m5 192 rfl) rfl
theorem q1281 : (Jvm.Cond.laysFinal "PaidSecrets$Tells" "PaidSecrets$Tells" "secret" "I") ∈ lw_all := lw_g (lw_at lw_m5 193 rfl) rfl
theorem q1282 : (Jvm.Cond.soleField "PaidSecrets$Tells" "secret") ∈ lw_all := lw_g (lw_at lw_m5 194 rfl) rfl
theorem q1283 : (Jvm.Cond.superclass "PaidSecrets$Tells" "PaidSecrets$Line") ∈ lw_all := lw_g (lw_at lw_m5 195 rfl) rfl
theorem q1565 : (Jvm.Cond.selects "PaidSecrets$Tells" ({ cls := "PaidSecrets$Line", name := "isDone", desc := "(LPaidSecrets$Talk;)Z" } : Jvm.MethodName) ({ cls := "PaidSecrets$Tells", name := "isDone", desc := "(LPaidSecrets$Talk;)Z" } : Jvm.MethodName)) ∈ lw_all := lw_g (lw_at lw_m6 237 rfl) rfl
theorem q1566 : (Jvm.Cond.instanceMethod ({ cls := "PaidSecrets$Tells", name := "isDone", desc := "(LPaidSecrets$Talk;)Z" } : Jvm.MethodName)) ∈ lw_all := lw_g (lw_at lw_m6 238 rfl) rfl
theorem q1567 : (Jvm.Cond.code ({ cls := "PaidSecrets$Tells", name := "isDone", desc := "(LPaidSecrets$Talk;)Z" } : Jvm.MethodName) prog_31_method_2_code (2 : Nat) (Option.some Jvm.ClassFile.FieldType.boolean)) ∈ lw_all := lw_g (lw_at lw_m6 239 rfl) rfl
theorem q1568 : (Jvm.Cond.methodLink "PaidSecrets$Tells" (19 : Nat) ({ cls := "PaidSecrets$Talk", name := "mayTell", desc := "(III)Z" } : Jvm.MethodName)) ∈ lw_all := lw_g (lw_at lw_m7 0 rfl) rfl
theorem q1569 : (Jvm.Cond.methodLink "PaidSecrets$Tells" (25 : Nat) ({ cls := "PaidSecrets$Talk", name := "tells", desc := "(III)V" } : Jvm.MethodName)) ∈ lw_all := lw_g (lw_at lw_m7 1 rfl) rfl
theorem q2530 : (Jvm.Cond.castable "PaidSecrets$Tells" "PaidSecrets$Line") ∈ lw_tbl := lw_at lw_m11 2 rfl
theorem q2563 : (Jvm.Cond.castable "PaidSecrets$Tells" "java/lang/Object") ∈ lw_tbl := lw_at lw_m11 35 rfl
theorem in_X31 : ∀ w ∈ wsX310, w ∈ lw_all := lw_in wsX310 [1277, 1279, 1281] (by decide +kernel) (by decide +kernel)
/-! PaidSecrets$Pays -/
set_option maxRecDepth 100000
def RX32 : String := "PaidSecrets$Pays"
def TX32 : u_T := fun k => match k with
  | 0 => ("PaidSecrets$Pays", "person", "I", true)
  | _ => ("PaidSecrets$Pays", "secrets", "I", true)
def tyX32 : Nat → FieldType := fun k => match k with
  | 0 => .int
  | _ => .int
abbrev wsX320 : List Cond := u_ws RX32 TX32 2
theorem nmX32 : ∀ a, a < 2 → ∀ b, b < 2 → a ≠ b → (TX32 a).2.1 ≠ (TX32 b).2.1 := by decide +kernel
theorem tyX32_ok : ∀ k, k < 2 → parseFieldDescriptor (TX32 k).2.2.1 = some (tyX32 k) := by decide +kernel
abbrev cX32_init : ByteArray := prog_18_method_1_code
def yX32_init : MethodName := ⟨RX32, "<init>", "(II)V"⟩
def dkwX32_init_0 : List UInt8 := [42, 183, 0, 1, 42, 27, 181, 0, 7, 42, 28, 181, 0, 13, 177]
abbrev dktX32_init_0 : List UInt8 := dkwX32_init_0 ++ []
theorem dksX32_init_0 : cX32_init.data.toList.drop 0 = dktX32_init_0 := by decide +kernel
theorem dX32_init_0 : decode cX32_init 0 = .ok (.aload_n 0, 1) := dk_42 (dk_at dksX32_init_0 0 rfl rfl)
theorem dX32_init_1 : decode cX32_init 1 = .ok (.invokespecial 1, 3) := dk_183 0 1 (dk_at dksX32_init_0 1 rfl rfl)
theorem dX32_init_4 : decode cX32_init 4 = .ok (.aload_n 0, 1) := dk_42 (dk_at dksX32_init_0 4 rfl rfl)
theorem dX32_init_5 : decode cX32_init 5 = .ok (.iload_n 1, 1) := dk_27 (dk_at dksX32_init_0 5 rfl rfl)
theorem dX32_init_6 : decode cX32_init 6 = .ok (.putfield 7, 3) := dk_181 0 7 (dk_at dksX32_init_0 6 rfl rfl)
theorem dX32_init_9 : decode cX32_init 9 = .ok (.aload_n 0, 1) := dk_42 (dk_at dksX32_init_0 9 rfl rfl)
theorem dX32_init_10 : decode cX32_init 10 = .ok (.iload_n 2, 1) := dk_28 (dk_at dksX32_init_0 10 rfl rfl)
theorem dX32_init_11 : decode cX32_init 11 = .ok (.putfield 13, 3) := dk_181 0 13 (dk_at dksX32_init_0 11 rfl rfl)
theorem dX32_init_14 : decode cX32_init 14 = .ok (.return_, 1) := dk_177 (dk_at dksX32_init_0 14 rfl rfl)
abbrev cX32_isDone : ByteArray := prog_18_method_2_code
def yX32_isDone : MethodName := ⟨RX32, "isDone", "(LPaidSecrets$Talk;)Z"⟩
def dkwX32_isDone_1 : List UInt8 := [180, 0, 13, 182, 0, 22, 4, 172]
abbrev dktX32_isDone_1 : List UInt8 := dkwX32_isDone_1 ++ []
def dkwX32_isDone_0 : List UInt8 := [43, 42, 180, 0, 7, 42, 180, 0, 13, 182, 0, 16, 154, 0, 5, 3, 172, 43, 42, 180, 0, 7, 42]
abbrev dktX32_isDone_0 : List UInt8 := dkwX32_isDone_0 ++ dktX32_isDone_1
theorem dksX32_isDone_0 : cX32_isDone.data.toList.drop 0 = dktX32_isDone_0 := by decide +kernel
theorem dksX32_isDone_1 : cX32_isDone.data.toList.drop 23 = dktX32_isDone_1 := dk_seg dksX32_isDone_0 23 rfl rfl
theorem dX32_isDone_0 : decode cX32_isDone 0 = .ok (.aload_n 1, 1) := dk_43 (dk_at dksX32_isDone_0 0 rfl rfl)
theorem dX32_isDone_1 : decode cX32_isDone 1 = .ok (.aload_n 0, 1) := dk_42 (dk_at dksX32_isDone_0 1 rfl rfl)
theorem dX32_isDone_2 : decode cX32_isDone 2 = .ok (.getfield 7, 3) := dk_180 0 7 (dk_at dksX32_isDone_0 2 rfl rfl)
theorem dX32_isDone_5 : decode cX32_isDone 5 = .ok (.aload_n 0, 1) := dk_42 (dk_at dksX32_isDone_0 5 rfl rfl)
theorem dX32_isDone_6 : decode cX32_isDone 6 = .ok (.getfield 13, 3) := dk_180 0 13 (dk_at dksX32_isDone_0 6 rfl rfl)
theorem dX32_isDone_9 : decode cX32_isDone 9 = .ok (.invokevirtual 16, 3) := dk_182 0 16 (dk_at dksX32_isDone_0 9 rfl rfl)
theorem dX32_isDone_12 : decode cX32_isDone 12 = .ok (.ifCond .ne 5, 3) := dk_154 0 5 (dk_at dksX32_isDone_0 12 rfl rfl)
theorem dX32_isDone_15 : decode cX32_isDone 15 = .ok (.iconst 0, 1) := dk_3 (dk_at dksX32_isDone_0 15 rfl rfl)
theorem dX32_isDone_16 : decode cX32_isDone 16 = .ok (.ireturn, 1) := dk_172 (dk_at dksX32_isDone_0 16 rfl rfl)
theorem dX32_isDone_17 : decode cX32_isDone 17 = .ok (.aload_n 1, 1) := dk_43 (dk_at dksX32_isDone_0 17 rfl rfl)
theorem dX32_isDone_18 : decode cX32_isDone 18 = .ok (.aload_n 0, 1) := dk_42 (dk_at dksX32_isDone_0 18 rfl rfl)
theorem dX32_isDone_19 : decode cX32_isDone 19 = .ok (.getfield 7, 3) := dk_180 0 7 (dk_at dksX32_isDone_0 19 rfl rfl)
theorem dX32_isDone_22 : decode cX32_isDone 22 = .ok (.aload_n 0, 1) := dk_42 (dk_at dksX32_isDone_0 22 rfl rfl)
theorem dX32_isDone_23 : decode cX32_isDone 23 = .ok (.getfield 13, 3) := dk_180 0 13 (dk_at dksX32_isDone_1 0 rfl rfl)
theorem dX32_isDone_26 : decode cX32_isDone 26 = .ok (.invokevirtual 22, 3) := dk_182 0 22 (dk_at dksX32_isDone_1 3 rfl rfl)
theorem dX32_isDone_29 : decode cX32_isDone 29 = .ok (.iconst 1, 1) := dk_4 (dk_at dksX32_isDone_1 6 rfl rfl)
theorem dX32_isDone_30 : decode cX32_isDone 30 = .ok (.ireturn, 1) := dk_172 (dk_at dksX32_isDone_1 7 rfl rfl)
theorem q180 : (Jvm.Cond.initialized "PaidSecrets$Pays") ∈ lw_all := lw_g (lw_at lw_m1 52 rfl) rfl
theorem q889 : (Jvm.Cond.selects "PaidSecrets$Pays" ({ cls := "java/lang/Object", name := "getClass", desc := "()Ljava/lang/Class;" } : Jvm.MethodName) ({ cls := "java/lang/Object", name := "getClass", desc := "()Ljava/lang/Class;" } : Jvm.MethodName)) ∈ lw_all := lw_g (lw_at lw_m4 41 rfl) rfl
theorem q1285 : (Jvm.Cond.instantiable "PaidSecrets$Pays" (2 : Nat)) ∈ lw_all := lw_g (lw_at lw_m5 197 rfl) rfl
theorem q1287 : (Jvm.Cond.instanceMethod ({ cls := "PaidSecrets$Pays", name := "<init>", desc := "(II)V" } : Jvm.MethodName)) ∈ lw_all := lw_g (lw_at lw_m5 199 rfl) rfl
theorem q1288 : (Jvm.Cond.code ({ cls := "PaidSecrets$Pays", name := "<init>", desc := "(II)V" } : Jvm.MethodName) prog_18_method_1_code (3 : Nat) (Option.none : Option Jvm.ClassFile.FieldType)) ∈ lw_all := lw_g (lw_at lw_m5 200 rfl) rfl
theorem q1289 : (Jvm.Cond.methodLinkNest "PaidSecrets$Pays" (1 : Nat) ({ cls := "PaidSecrets$Line", name := "<init>", desc := "()V" } : Jvm.MethodName) "PaidSecrets") ∈ lw_tbl := lw_at lw_m5 201 rfl
theorem q1290 : (Jvm.Cond.fieldLink "PaidSecrets$Pays" (7 : Nat) "PaidSecrets$Pays" "person" "I") ∈ lw_all := lw_g (lw_at lw_m5 202 rfl) rfl
theorem q1291 : (Jvm.Cond.fieldLink "PaidSecrets$Pays" (13 : Nat) "PaidSecrets$Pays" "secrets" "I") ∈ lw_all := lw_g (lw_at lw_m5 203 rfl) rfl
theorem q1292 : (Jvm.Cond.laysFinal "PaidSecrets$Pays" "PaidSecrets$Pays" "person" "I") ∈ lw_all := lw_g (lw_at lw_m5 204 rfl) rfl
theorem q1293 : (Jvm.Cond.soleField "PaidSecrets$Pays" "person") ∈ lw_all := lw_g (lw_at lw_m5 205 rfl) rfl
theorem q1294 : (Jvm.Cond.laysFinal "PaidSecrets$Pays" "PaidSecrets$Pays" "secrets" "I") ∈ lw_all := lw_g (lw_at lw_m5 206 rfl) rfl
theorem q1295 : (Jvm.Cond.soleField "PaidSecrets$Pays" "secrets") ∈ lw_all := lw_g (lw_at lw_m5 207 rfl) rfl
theorem q1296 : (Jvm.Cond.superclass "PaidSecrets$Pays" "PaidSecrets$Line") ∈ lw_all := lw_g (lw_at lw_m5 208 rfl) rfl
theorem q1552 : (Jvm.Cond.selects "PaidSecrets$Pays" ({ cls := "PaidSecrets$Line", name := "isDone", desc := "(LPaidSecrets$Talk;)Z" } : Jvm.MethodName) ({ cls := "PaidSecrets$Pays", name := "isDone", desc := "(LPaidSecrets$Talk;)Z" } : Jvm.MethodName)) ∈ lw_all := lw_g (lw_at lw_m6 224 rfl) rfl
theorem q1553 : (Jvm.Cond.instanceMethod ({ cls := "PaidSecrets$Pays", name := "isDone", desc := "(LPaidSecrets$Talk;)Z" } : Jvm.MethodName)) ∈ lw_all := lw_g (lw_at lw_m6 225 rfl) rfl
theorem q1554 : (Jvm.Cond.code ({ cls := "PaidSecrets$Pays", name := "isDone", desc := "(LPaidSecrets$Talk;)Z" } : Jvm.MethodName) prog_18_method_2_code (2 : Nat) (Option.some Jvm.ClassFile.FieldType.boolean)) ∈ lw_all := lw_g (lw_at lw_m6 226 rfl) rfl
theorem q1555 : (Jvm.Cond.methodLink "PaidSecrets$Pays" (16 : Nat) ({ cls := "PaidSecrets$Talk", name := "mayPay", desc := "(II)Z" } : Jvm.MethodName)) ∈ lw_all := lw_g (lw_at lw_m6 227 rfl) rfl
theorem q1556 : (Jvm.Cond.methodLink "PaidSecrets$Pays" (22 : Nat) ({ cls := "PaidSecrets$Talk", name := "pays", desc := "(II)V" } : Jvm.MethodName)) ∈ lw_all := lw_g (lw_at lw_m6 228 rfl) rfl
theorem q2527 : (Jvm.Cond.castable "PaidSecrets$Pays" "PaidSecrets$Line") ∈ lw_tbl := lw_at lw_m10 239 rfl
theorem q2564 : (Jvm.Cond.castable "PaidSecrets$Pays" "java/lang/Object") ∈ lw_tbl := lw_at lw_m11 36 rfl
theorem in_X32 : ∀ w ∈ wsX320, w ∈ lw_all := lw_in wsX320 [1292, 1294] (by decide +kernel) (by decide +kernel)
/-! PaidSecrets$Rises -/
set_option maxRecDepth 100000
def RX33 : String := "PaidSecrets$Rises"
def TX33 : u_T := fun k => match k with
  | _ => ("PaidSecrets$Rises", "person", "I", true)
def tyX33 : Nat → FieldType := fun k => match k with
  | _ => .int
abbrev wsX330 : List Cond := u_ws RX33 TX33 1
theorem nmX33 : ∀ a, a < 1 → ∀ b, b < 1 → a ≠ b → (TX33 a).2.1 ≠ (TX33 b).2.1 := by decide +kernel
theorem tyX33_ok : ∀ k, k < 1 → parseFieldDescriptor (TX33 k).2.2.1 = some (tyX33 k) := by decide +kernel
abbrev cX33_init : ByteArray := prog_26_method_1_code
def yX33_init : MethodName := ⟨RX33, "<init>", "(I)V"⟩
def dkwX33_init_0 : List UInt8 := [42, 183, 0, 1, 42, 27, 181, 0, 7, 177]
abbrev dktX33_init_0 : List UInt8 := dkwX33_init_0 ++ []
theorem dksX33_init_0 : cX33_init.data.toList.drop 0 = dktX33_init_0 := by decide +kernel
theorem dX33_init_0 : decode cX33_init 0 = .ok (.aload_n 0, 1) := dk_42 (dk_at dksX33_init_0 0 rfl rfl)
theorem dX33_init_1 : decode cX33_init 1 = .ok (.invokespecial 1, 3) := dk_183 0 1 (dk_at dksX33_init_0 1 rfl rfl)
theorem dX33_init_4 : decode cX33_init 4 = .ok (.aload_n 0, 1) := dk_42 (dk_at dksX33_init_0 4 rfl rfl)
theorem dX33_init_5 : decode cX33_init 5 = .ok (.iload_n 1, 1) := dk_27 (dk_at dksX33_init_0 5 rfl rfl)
theorem dX33_init_6 : decode cX33_init 6 = .ok (.putfield 7, 3) := dk_181 0 7 (dk_at dksX33_init_0 6 rfl rfl)
theorem dX33_init_9 : decode cX33_init 9 = .ok (.return_, 1) := dk_177 (dk_at dksX33_init_0 9 rfl rfl)
abbrev cX33_isDone : ByteArray := prog_26_method_2_code
def yX33_isDone : MethodName := ⟨RX33, "isDone", "(LPaidSecrets$Talk;)Z"⟩
def dkwX33_isDone_0 : List UInt8 := [43, 42, 180, 0, 7, 182, 0, 13, 172]
abbrev dktX33_isDone_0 : List UInt8 := dkwX33_isDone_0 ++ []
theorem dksX33_isDone_0 : cX33_isDone.data.toList.drop 0 = dktX33_isDone_0 := by decide +kernel
theorem dX33_isDone_0 : decode cX33_isDone 0 = .ok (.aload_n 1, 1) := dk_43 (dk_at dksX33_isDone_0 0 rfl rfl)
theorem dX33_isDone_1 : decode cX33_isDone 1 = .ok (.aload_n 0, 1) := dk_42 (dk_at dksX33_isDone_0 1 rfl rfl)
theorem dX33_isDone_2 : decode cX33_isDone 2 = .ok (.getfield 7, 3) := dk_180 0 7 (dk_at dksX33_isDone_0 2 rfl rfl)
theorem dX33_isDone_5 : decode cX33_isDone 5 = .ok (.invokevirtual 13, 3) := dk_182 0 13 (dk_at dksX33_isDone_0 5 rfl rfl)
theorem dX33_isDone_8 : decode cX33_isDone 8 = .ok (.ireturn, 1) := dk_172 (dk_at dksX33_isDone_0 8 rfl rfl)
theorem q181 : (Jvm.Cond.initialized "PaidSecrets$Rises") ∈ lw_all := lw_g (lw_at lw_m1 53 rfl) rfl
theorem q897 : (Jvm.Cond.selects "PaidSecrets$Rises" ({ cls := "java/lang/Object", name := "getClass", desc := "()Ljava/lang/Class;" } : Jvm.MethodName) ({ cls := "java/lang/Object", name := "getClass", desc := "()Ljava/lang/Class;" } : Jvm.MethodName)) ∈ lw_all := lw_g (lw_at lw_m4 49 rfl) rfl
theorem q1298 : (Jvm.Cond.instantiable "PaidSecrets$Rises" (1 : Nat)) ∈ lw_all := lw_g (lw_at lw_m5 210 rfl) rfl
theorem q1300 : (Jvm.Cond.instanceMethod ({ cls := "PaidSecrets$Rises", name := "<init>", desc := "(I)V" } : Jvm.MethodName)) ∈ lw_all := lw_g (lw_at lw_m5 212 rfl) rfl
theorem q1301 : (Jvm.Cond.code ({ cls := "PaidSecrets$Rises", name := "<init>", desc := "(I)V" } : Jvm.MethodName) prog_26_method_1_code (2 : Nat) (Option.none : Option Jvm.ClassFile.FieldType)) ∈ lw_all := lw_g (lw_at lw_m5 213 rfl) rfl
theorem q1302 : (Jvm.Cond.methodLinkNest "PaidSecrets$Rises" (1 : Nat) ({ cls := "PaidSecrets$Line", name := "<init>", desc := "()V" } : Jvm.MethodName) "PaidSecrets") ∈ lw_tbl := lw_at lw_m5 214 rfl
theorem q1303 : (Jvm.Cond.fieldLink "PaidSecrets$Rises" (7 : Nat) "PaidSecrets$Rises" "person" "I") ∈ lw_all := lw_g (lw_at lw_m5 215 rfl) rfl
theorem q1304 : (Jvm.Cond.laysFinal "PaidSecrets$Rises" "PaidSecrets$Rises" "person" "I") ∈ lw_all := lw_g (lw_at lw_m5 216 rfl) rfl
theorem q1305 : (Jvm.Cond.soleField "PaidSecrets$Rises" "person") ∈ lw_all := lw_g (lw_at lw_m5 217 rfl) rfl
theorem q1306 : (Jvm.Cond.superclass "PaidSecrets$Rises" "PaidSecrets$Line") ∈ lw_all := lw_g (lw_at lw_m5 218 rfl) rfl
theorem q1561 : (Jvm.Cond.selects "PaidSecrets$Rises" ({ cls := "PaidSecrets$Line", name := "isDone", desc := "(LPaidSecrets$Talk;)Z" } : Jvm.MethodName) ({ cls := "PaidSecrets$Rises", name := "isDone", desc := "(LPaidSecrets$Talk;)Z" } : Jvm.MethodName)) ∈ lw_all := lw_g (lw_at lw_m6 233 rfl) rfl
theorem q1562 : (Jvm.Cond.instanceMethod ({ cls := "PaidSecrets$Rises", name := "isDone", desc := "(LPaidSecrets$Talk;)Z" } : Jvm.MethodName)) ∈ lw_all := lw_g (lw_at lw_m6 234 rfl) rfl
theorem q1563 : (Jvm.Cond.code ({ cls := "PaidSecrets$Rises", name := "isDone", desc := "(LPaidSecrets$Talk;)Z" } : Jvm.MethodName) prog_26_method_2_code (2 : Nat) (Option.some Jvm.ClassFile.FieldType.boolean)) ∈ lw_all := lw_g (lw_at lw_m6 235 rfl) rfl
theorem q1564 : (Jvm.Cond.methodLink "PaidSecrets$Rises" (13 : Nat) ({ cls := "PaidSecrets$Talk", name := "rises", desc := "(I)Z" } : Jvm.MethodName)) ∈ lw_all := lw_g (lw_at lw_m6 236 rfl) rfl
theorem q2529 : (Jvm.Cond.castable "PaidSecrets$Rises" "PaidSecrets$Line") ∈ lw_tbl := lw_at lw_m11 1 rfl
theorem q2565 : (Jvm.Cond.castable "PaidSecrets$Rises" "java/lang/Object") ∈ lw_tbl := lw_at lw_m11 37 rfl
theorem in_X33 : ∀ w ∈ wsX330, w ∈ lw_all := lw_in wsX330 [1304] (by decide +kernel) (by decide +kernel)
/-! PaidSecrets$Quarter -/
set_option maxRecDepth 100000
def RX34 : String := "PaidSecrets$Quarter"
abbrev cX34_init : ByteArray := prog_24_method_1_code
def yX34_init : MethodName := ⟨RX34, "<init>", "()V"⟩
theorem dX34_init_0 : decode cX34_init 0 = .ok (.aload_n 0, 1) := by decide +kernel
theorem dX34_init_1 : decode cX34_init 1 = .ok (.invokespecial 1, 3) := by decide +kernel
theorem dX34_init_4 : decode cX34_init 4 = .ok (.return_, 1) := by decide +kernel
abbrev cX34_isDone : ByteArray := prog_24_method_2_code
def yX34_isDone : MethodName := ⟨RX34, "isDone", "(LPaidSecrets$Talk;)Z"⟩
def dkwX34_isDone_0 : List UInt8 := [43, 182, 0, 7, 87, 4, 172]
abbrev dktX34_isDone_0 : List UInt8 := dkwX34_isDone_0 ++ []
theorem dksX34_isDone_0 : cX34_isDone.data.toList.drop 0 = dktX34_isDone_0 := by decide +kernel
theorem dX34_isDone_0 : decode cX34_isDone 0 = .ok (.aload_n 1, 1) := dk_43 (dk_at dksX34_isDone_0 0 rfl rfl)
theorem dX34_isDone_1 : decode cX34_isDone 1 = .ok (.invokevirtual 7, 3) := dk_182 0 7 (dk_at dksX34_isDone_0 1 rfl rfl)
theorem dX34_isDone_4 : decode cX34_isDone 4 = .ok (.pop, 1) := dk_87 (dk_at dksX34_isDone_0 4 rfl rfl)
theorem dX34_isDone_5 : decode cX34_isDone 5 = .ok (.iconst 1, 1) := dk_4 (dk_at dksX34_isDone_0 5 rfl rfl)
theorem dX34_isDone_6 : decode cX34_isDone 6 = .ok (.ireturn, 1) := dk_172 (dk_at dksX34_isDone_0 6 rfl rfl)
theorem q182 : (Jvm.Cond.initialized "PaidSecrets$Quarter") ∈ lw_all := lw_g (lw_at lw_m1 54 rfl) rfl
theorem q895 : (Jvm.Cond.selects "PaidSecrets$Quarter" ({ cls := "java/lang/Object", name := "getClass", desc := "()Ljava/lang/Class;" } : Jvm.MethodName) ({ cls := "java/lang/Object", name := "getClass", desc := "()Ljava/lang/Class;" } : Jvm.MethodName)) ∈ lw_all := lw_g (lw_at lw_m4 47 rfl) rfl
theorem q1308 : (Jvm.Cond.instantiable "PaidSecrets$Quarter" (0 : Nat)) ∈ lw_all := lw_g (lw_at lw_m5 220 rfl) rfl
theorem q1310 : (Jvm.Cond.instanceMethod ({ cls := "PaidSecrets$Quarter", name := "<init>", desc := "()V" } : Jvm.MethodName)) ∈ lw_all := lw_g (lw_at lw_m5 222 rfl) rfl
theorem q1311 : (Jvm.Cond.code ({ cls := "PaidSecrets$Quarter", name := "<init>", desc := "()V" } : Jvm.MethodName) prog_24_method_1_code (1 : Nat) (Option.none : Option Jvm.ClassFile.FieldType)) ∈ lw_all := lw_g (lw_at lw_m5 223 rfl) rfl
theorem q1312 : (Jvm.Cond.methodLinkNest "PaidSecrets$Quarter" (1 : Nat) ({ cls := "PaidSecrets$Line", name := "<init>", desc := "()V" } : Jvm.MethodName) "PaidSecrets") ∈ lw_tbl := lw_at lw_m5 224 rfl
theorem q1313 : (Jvm.Cond.superclass "PaidSecrets$Quarter" "PaidSecrets$Line") ∈ lw_all := lw_g (lw_at lw_m5 225 rfl) rfl
theorem q1557 : (Jvm.Cond.selects "PaidSecrets$Quarter" ({ cls := "PaidSecrets$Line", name := "isDone", desc := "(LPaidSecrets$Talk;)Z" } : Jvm.MethodName) ({ cls := "PaidSecrets$Quarter", name := "isDone", desc := "(LPaidSecrets$Talk;)Z" } : Jvm.MethodName)) ∈ lw_all := lw_g (lw_at lw_m6 229 rfl) rfl
theorem q1558 : (Jvm.Cond.instanceMethod ({ cls := "PaidSecrets$Quarter", name := "isDone", desc := "(LPaidSecrets$Talk;)Z" } : Jvm.MethodName)) ∈ lw_all := lw_g (lw_at lw_m6 230 rfl) rfl
theorem q1559 : (Jvm.Cond.code ({ cls := "PaidSecrets$Quarter", name := "isDone", desc := "(LPaidSecrets$Talk;)Z" } : Jvm.MethodName) prog_24_method_2_code (2 : Nat) (Option.some Jvm.ClassFile.FieldType.boolean)) ∈ lw_all := lw_g (lw_at lw_m6 231 rfl) rfl
theorem q1560 : (Jvm.Cond.methodLink "PaidSecrets$Quarter" (7 : Nat) ({ cls := "PaidSecrets$Talk", name := "ends", desc := "()I" } : Jvm.MethodName)) ∈ lw_all := lw_g (lw_at lw_m6 232 rfl) rfl
theorem q2528 : (Jvm.Cond.castable "PaidSecrets$Quarter" "PaidSecrets$Line") ∈ lw_tbl := lw_at lw_m11 0 rfl
theorem q2566 : (Jvm.Cond.castable "PaidSecrets$Quarter" "java/lang/Object") ∈ lw_tbl := lw_at lw_m11 38 rfl
/-! PaidSecrets$Mark -/
set_option maxRecDepth 100000
def RX35 : String := "PaidSecrets$Mark"
def TX35 : u_T := fun k => match k with
  | 0 => ("PaidSecrets$Mark", "talk", "LPaidSecrets$Talk;", true)
  | 1 => ("PaidSecrets$Mark", "gossip", "Ljava/util/ArrayList;", true)
  | _ => ("PaidSecrets$Mark", "seen", "Ljava/util/ArrayList;", true)
def tyX35 : Nat → FieldType := fun k => match k with
  | 0 => .object "PaidSecrets$Talk"
  | 1 => .object "java/util/ArrayList"
  | _ => .object "java/util/ArrayList"
abbrev wsX350 : List Cond := u_ws RX35 TX35 3
theorem nmX35 : ∀ a, a < 3 → ∀ b, b < 3 → a ≠ b → (TX35 a).2.1 ≠ (TX35 b).2.1 := by decide +kernel
theorem tyX35_ok : ∀ k, k < 3 → parseFieldDescriptor (TX35 k).2.2.1 = some (tyX35 k) := by decide +kernel
abbrev cX35_init : ByteArray := prog_12_method_1_code
def yX35_init : MethodName := ⟨RX35, "<init>", "(LPaidSecrets$Talk;Ljava/util/ArrayList;Ljava/util/ArrayList;)V"⟩
def dkwX35_init_0 : List UInt8 := [42, 183, 0, 1, 42, 43, 181, 0, 7, 42, 44, 181, 0, 13, 42, 45, 181, 0, 17, 177]
abbrev dktX35_init_0 : List UInt8 := dkwX35_init_0 ++ []
theorem dksX35_init_0 : cX35_init.data.toList.drop 0 = dktX35_init_0 := by decide +kernel
theorem dX35_init_0 : decode cX35_init 0 = .ok (.aload_n 0, 1) := dk_42 (dk_at dksX35_init_0 0 rfl rfl)
theorem dX35_init_1 : decode cX35_init 1 = .ok (.invokespecial 1, 3) := dk_183 0 1 (dk_at dksX35_init_0 1 rfl rfl)
theorem dX35_init_4 : decode cX35_init 4 = .ok (.aload_n 0, 1) := dk_42 (dk_at dksX35_init_0 4 rfl rfl)
theorem dX35_init_5 : decode cX35_init 5 = .ok (.aload_n 1, 1) := dk_43 (dk_at dksX35_init_0 5 rfl rfl)
theorem dX35_init_6 : decode cX35_init 6 = .ok (.putfield 7, 3) := dk_181 0 7 (dk_at dksX35_init_0 6 rfl rfl)
theorem dX35_init_9 : decode cX35_init 9 = .ok (.aload_n 0, 1) := dk_42 (dk_at dksX35_init_0 9 rfl rfl)
theorem dX35_init_10 : decode cX35_init 10 = .ok (.aload_n 2, 1) := dk_44 (dk_at dksX35_init_0 10 rfl rfl)
theorem dX35_init_11 : decode cX35_init 11 = .ok (.putfield 13, 3) := dk_181 0 13 (dk_at dksX35_init_0 11 rfl rfl)
theorem dX35_init_14 : decode cX35_init 14 = .ok (.aload_n 0, 1) := dk_42 (dk_at dksX35_init_0 14 rfl rfl)
theorem dX35_init_15 : decode cX35_init 15 = .ok (.aload_n 3, 1) := dk_45 (dk_at dksX35_init_0 15 rfl rfl)
theorem dX35_init_16 : decode cX35_init 16 = .ok (.putfield 17, 3) := dk_181 0 17 (dk_at dksX35_init_0 16 rfl rfl)
theorem dX35_init_19 : decode cX35_init 19 = .ok (.return_, 1) := dk_177 (dk_at dksX35_init_0 19 rfl rfl)
theorem q185 : (Jvm.Cond.initialized "PaidSecrets$Mark") ∈ lw_all := lw_g (lw_at lw_m1 57 rfl) rfl
theorem q883 : (Jvm.Cond.selects "PaidSecrets$Mark" ({ cls := "java/lang/Object", name := "getClass", desc := "()Ljava/lang/Class;" } : Jvm.MethodName) ({ cls := "java/lang/Object", name := "getClass", desc := "()Ljava/lang/Class;" } : Jvm.MethodName)) ∈ lw_all := lw_g (lw_at lw_m4 35 rfl) rfl
theorem q1742 : (Jvm.Cond.instantiable "PaidSecrets$Mark" (3 : Nat)) ∈ lw_all := lw_g (lw_at lw_m7 174 rfl) rfl
theorem q1747 : (Jvm.Cond.instanceMethod ({ cls := "PaidSecrets$Mark", name := "<init>", desc := "(LPaidSecrets$Talk;Ljava/util/ArrayList;Ljava/util/ArrayList;)V" } : Jvm.MethodName)) ∈ lw_all := lw_g (lw_at lw_m7 179 rfl) rfl
theorem q1748 : (Jvm.Cond.code ({ cls := "PaidSecrets$Mark", name := "<init>", desc := "(LPaidSecrets$Talk;Ljava/util/ArrayList;Ljava/util/ArrayList;)V" } : Jvm.MethodName) prog_12_method_1_code (4 : Nat) (Option.none : Option Jvm.ClassFile.FieldType)) ∈ lw_all := lw_g (lw_at lw_m7 180 rfl) rfl
theorem q1749 : (Jvm.Cond.methodLink "PaidSecrets$Mark" (1 : Nat) ({ cls := "java/lang/Object", name := "<init>", desc := "()V" } : Jvm.MethodName)) ∈ lw_all := lw_g (lw_at lw_m7 181 rfl) rfl
theorem q1750 : (Jvm.Cond.fieldLink "PaidSecrets$Mark" (7 : Nat) "PaidSecrets$Mark" "talk" "LPaidSecrets$Talk;") ∈ lw_all := lw_g (lw_at lw_m7 182 rfl) rfl
theorem q1752 : (Jvm.Cond.fieldLink "PaidSecrets$Mark" (13 : Nat) "PaidSecrets$Mark" "gossip" "Ljava/util/ArrayList;") ∈ lw_all := lw_g (lw_at lw_m7 184 rfl) rfl
theorem q1754 : (Jvm.Cond.fieldLink "PaidSecrets$Mark" (17 : Nat) "PaidSecrets$Mark" "seen" "Ljava/util/ArrayList;") ∈ lw_all := lw_g (lw_at lw_m7 186 rfl) rfl
theorem q1756 : (Jvm.Cond.laysFinal "PaidSecrets$Mark" "PaidSecrets$Mark" "talk" "LPaidSecrets$Talk;") ∈ lw_all := lw_g (lw_at lw_m7 188 rfl) rfl
theorem q1757 : (Jvm.Cond.soleField "PaidSecrets$Mark" "talk") ∈ lw_all := lw_g (lw_at lw_m7 189 rfl) rfl
theorem q1758 : (Jvm.Cond.laysFinal "PaidSecrets$Mark" "PaidSecrets$Mark" "gossip" "Ljava/util/ArrayList;") ∈ lw_all := lw_g (lw_at lw_m7 190 rfl) rfl
theorem q1759 : (Jvm.Cond.soleField "PaidSecrets$Mark" "gossip") ∈ lw_all := lw_g (lw_at lw_m7 191 rfl) rfl
theorem q1760 : (Jvm.Cond.laysFinal "PaidSecrets$Mark" "PaidSecrets$Mark" "seen" "Ljava/util/ArrayList;") ∈ lw_all := lw_g (lw_at lw_m7 192 rfl) rfl
theorem q1761 : (Jvm.Cond.soleField "PaidSecrets$Mark" "seen") ∈ lw_all := lw_g (lw_at lw_m7 193 rfl) rfl
theorem q1762 : (Jvm.Cond.superclass "PaidSecrets$Mark" "java/lang/Object") ∈ lw_all := lw_g (lw_at lw_m7 194 rfl) rfl
theorem q2533 : (Jvm.Cond.castable "PaidSecrets$Mark" "java/lang/Object") ∈ lw_tbl := lw_at lw_m11 5 rfl
theorem in_X35 : ∀ w ∈ wsX350, w ∈ lw_all := lw_in wsX350 [1756, 1758, 1760] (by decide +kernel) (by decide +kernel)
