/-! java/util/AbstractCollection -/
set_option maxRecDepth 100000
def RJ0 : String := "java/util/AbstractCollection"
abbrev cJ0_init : ByteArray := prog_41_method_1_code
def yJ0_init : MethodName := ⟨RJ0, "<init>", "()V"⟩
theorem dJ0_init_0 : decode cJ0_init 0 = .ok (.aload_n 0, 1) := by decide +kernel
theorem dJ0_init_1 : decode cJ0_init 1 = .ok (.invokespecial 1, 3) := by decide +kernel
theorem dJ0_init_4 : decode cJ0_init 4 = .ok (.return_, 1) := by decide +kernel
theorem q69 : (Jvm.Cond.initialized "java/util/AbstractCollection") ∈ lw_all := lw_g (lw_at lw_m1 2 rfl) rfl
theorem q128 : (Jvm.Cond.instanceMethod ({ cls := "java/util/AbstractCollection", name := "<init>", desc := "()V" } : Jvm.MethodName)) ∈ lw_all := lw_g (lw_at lw_m1 61 rfl) rfl
theorem q129 : (Jvm.Cond.code ({ cls := "java/util/AbstractCollection", name := "<init>", desc := "()V" } : Jvm.MethodName) prog_41_method_1_code (1 : Nat) (Option.none : Option Jvm.ClassFile.FieldType)) ∈ lw_all := lw_g (lw_at lw_m1 62 rfl) rfl
theorem q130 : (Jvm.Cond.methodLink "java/util/AbstractCollection" (1 : Nat) ({ cls := "java/lang/Object", name := "<init>", desc := "()V" } : Jvm.MethodName)) ∈ lw_all := lw_g (lw_at lw_m1 63 rfl) rfl

/-! java/util/AbstractList -/
set_option maxRecDepth 100000
def RJ1 : String := "java/util/AbstractList"
abbrev cJ1_init : ByteArray := prog_42_method_1_code
def yJ1_init : MethodName := ⟨RJ1, "<init>", "()V"⟩
def dkwJ1_init_0 : List UInt8 := [42, 183, 0, 1, 42, 3, 181, 0, 7, 177]
abbrev dktJ1_init_0 : List UInt8 := dkwJ1_init_0 ++ []
theorem dksJ1_init_0 : cJ1_init.data.toList.drop 0 = dktJ1_init_0 := by decide +kernel
theorem dJ1_init_0 : decode cJ1_init 0 = .ok (.aload_n 0, 1) := dk_42 (dk_at dksJ1_init_0 0 rfl rfl)
theorem dJ1_init_1 : decode cJ1_init 1 = .ok (.invokespecial 1, 3) := dk_183 0 1 (dk_at dksJ1_init_0 1 rfl rfl)
theorem dJ1_init_4 : decode cJ1_init 4 = .ok (.aload_n 0, 1) := dk_42 (dk_at dksJ1_init_0 4 rfl rfl)
theorem dJ1_init_5 : decode cJ1_init 5 = .ok (.iconst 0, 1) := dk_3 (dk_at dksJ1_init_0 5 rfl rfl)
theorem dJ1_init_6 : decode cJ1_init 6 = .ok (.putfield 7, 3) := dk_181 0 7 (dk_at dksJ1_init_0 6 rfl rfl)
theorem dJ1_init_9 : decode cJ1_init 9 = .ok (.return_, 1) := dk_177 (dk_at dksJ1_init_0 9 rfl rfl)
theorem q70 : (Jvm.Cond.initialized "java/util/AbstractList") ∈ lw_all := lw_g (lw_at lw_m1 3 rfl) rfl
theorem q125 : (Jvm.Cond.instanceMethod ({ cls := "java/util/AbstractList", name := "<init>", desc := "()V" } : Jvm.MethodName)) ∈ lw_all := lw_g (lw_at lw_m1 58 rfl) rfl
theorem q126 : (Jvm.Cond.code ({ cls := "java/util/AbstractList", name := "<init>", desc := "()V" } : Jvm.MethodName) prog_42_method_1_code (1 : Nat) (Option.none : Option Jvm.ClassFile.FieldType)) ∈ lw_all := lw_g (lw_at lw_m1 59 rfl) rfl
theorem q127 : (Jvm.Cond.methodLink "java/util/AbstractList" (1 : Nat) ({ cls := "java/util/AbstractCollection", name := "<init>", desc := "()V" } : Jvm.MethodName)) ∈ lw_all := lw_g (lw_at lw_m1 60 rfl) rfl
theorem q135 : (Jvm.Cond.fieldLink "java/util/AbstractList" (7 : Nat) "java/util/AbstractList" "modCount" "I") ∈ lw_all := lw_g (lw_at lw_m1 68 rfl) rfl
theorem q143 : (Jvm.Cond.soleField "java/util/AbstractList" "modCount") ∈ lw_all := lw_g (lw_at lw_m1 76 rfl) rfl

/-! java/lang/RuntimeException -/
set_option maxRecDepth 100000
def RJ10 : String := "java/lang/RuntimeException"
abbrev cJ10_init : ByteArray := prog_37_method_2_code
def yJ10_init : MethodName := ⟨RJ10, "<init>", "(Ljava/lang/String;)V"⟩
def dkwJ10_init_0 : List UInt8 := [42, 43, 183, 0, 7, 177]
abbrev dktJ10_init_0 : List UInt8 := dkwJ10_init_0 ++ []
theorem dksJ10_init_0 : cJ10_init.data.toList.drop 0 = dktJ10_init_0 := by decide +kernel
theorem dJ10_init_0 : decode cJ10_init 0 = .ok (.aload_n 0, 1) := dk_42 (dk_at dksJ10_init_0 0 rfl rfl)
theorem dJ10_init_1 : decode cJ10_init 1 = .ok (.aload_n 1, 1) := dk_43 (dk_at dksJ10_init_0 1 rfl rfl)
theorem dJ10_init_2 : decode cJ10_init 2 = .ok (.invokespecial 7, 3) := dk_183 0 7 (dk_at dksJ10_init_0 2 rfl rfl)
theorem dJ10_init_5 : decode cJ10_init 5 = .ok (.return_, 1) := dk_177 (dk_at dksJ10_init_0 5 rfl rfl)
abbrev cJ10_init_2 : ByteArray := prog_37_method_1_code
def yJ10_init_2 : MethodName := ⟨RJ10, "<init>", "()V"⟩
theorem dJ10_init_2_0 : decode cJ10_init_2 0 = .ok (.aload_n 0, 1) := by decide +kernel
theorem dJ10_init_2_1 : decode cJ10_init_2 1 = .ok (.invokespecial 1, 3) := by decide +kernel
theorem dJ10_init_2_4 : decode cJ10_init_2 4 = .ok (.return_, 1) := by decide +kernel
theorem q88 : (Jvm.Cond.initialized "java/lang/RuntimeException") ∈ lw_all := lw_g (lw_at lw_m1 21 rfl) rfl
theorem q855 : (Jvm.Cond.instanceMethod ({ cls := "java/lang/RuntimeException", name := "<init>", desc := "(Ljava/lang/String;)V" } : Jvm.MethodName)) ∈ lw_all := lw_g (lw_at lw_m4 68 rfl) rfl
theorem q856 : (Jvm.Cond.code ({ cls := "java/lang/RuntimeException", name := "<init>", desc := "(Ljava/lang/String;)V" } : Jvm.MethodName) prog_37_method_2_code (2 : Nat) (Option.none : Option Jvm.ClassFile.FieldType)) ∈ lw_all := lw_g (lw_at lw_m4 69 rfl) rfl
theorem q857 : (Jvm.Cond.methodLink "java/lang/RuntimeException" (7 : Nat) ({ cls := "java/lang/Exception", name := "<init>", desc := "(Ljava/lang/String;)V" } : Jvm.MethodName)) ∈ lw_all := lw_g (lw_at lw_m4 70 rfl) rfl
theorem q885 : (Jvm.Cond.sameMethod "java/lang/RuntimeException" "java/lang/Throwable" "fillInStackTrace" "()Ljava/lang/Throwable;") ∈ lw_all := lw_g (lw_at lw_m4 98 rfl) rfl
theorem q888 : (Jvm.Cond.superclass "java/lang/RuntimeException" "java/lang/Exception") ∈ lw_all := lw_g (lw_at lw_m4 101 rfl) rfl
theorem q915 : (Jvm.Cond.declares ({ cls := "java/lang/RuntimeException", name := "<init>", desc := "()V" } : Jvm.MethodName)) ∈ lw_tbl := lw_at lw_m4 128 rfl
theorem q916 : (Jvm.Cond.declares ({ cls := "java/lang/RuntimeException", name := "<init>", desc := "(Ljava/lang/String;)V" } : Jvm.MethodName)) ∈ lw_tbl := lw_at lw_m4 129 rfl
theorem q974 : (Jvm.Cond.instanceMethod ({ cls := "java/lang/RuntimeException", name := "<init>", desc := "()V" } : Jvm.MethodName)) ∈ lw_all := lw_g (lw_at lw_m4 187 rfl) rfl
theorem q975 : (Jvm.Cond.code ({ cls := "java/lang/RuntimeException", name := "<init>", desc := "()V" } : Jvm.MethodName) prog_37_method_1_code (1 : Nat) (Option.none : Option Jvm.ClassFile.FieldType)) ∈ lw_all := lw_g (lw_at lw_m4 188 rfl) rfl
theorem q976 : (Jvm.Cond.methodLink "java/lang/RuntimeException" (1 : Nat) ({ cls := "java/lang/Exception", name := "<init>", desc := "()V" } : Jvm.MethodName)) ∈ lw_all := lw_g (lw_at lw_m4 189 rfl) rfl
theorem q994 : (Jvm.Cond.castable "java/lang/RuntimeException" "java/lang/Throwable") ∈ lw_tbl := lw_at lw_m4 207 rfl

/-! java/lang/NullPointerException -/
set_option maxRecDepth 100000
def RJ11 : String := "java/lang/NullPointerException"
def TJ11 : u_T := fun k => match k with
  | 0 => ("java/lang/Throwable", "backtrace", "Ljava/lang/Object;", false)
  | 1 => ("java/lang/Throwable", "detailMessage", "Ljava/lang/String;", false)
  | 2 => ("java/lang/Throwable", "cause", "Ljava/lang/Throwable;", false)
  | 3 => ("java/lang/Throwable", "stackTrace", "[Ljava/lang/StackTraceElement;", false)
  | 4 => ("java/lang/Throwable", "depth", "I", false)
  | 5 => ("java/lang/Throwable", "suppressedExceptions", "Ljava/util/List;", false)
  | 6 => ("java/lang/NullPointerException", "extendedMessageState", "I", false)
  | _ => ("java/lang/NullPointerException", "extendedMessage", "Ljava/lang/String;", false)
def tyJ11 : Nat → FieldType := fun k => match k with
  | 0 => .object "java/lang/Object"
  | 1 => .object "java/lang/String"
  | 2 => .object "java/lang/Throwable"
  | 3 => .array (.object "java/lang/StackTraceElement")
  | 4 => .int
  | 5 => .object "java/util/List"
  | 6 => .int
  | _ => .object "java/lang/String"
abbrev wsJ110 : List Cond := u_ws RJ11 TJ11 8
theorem nmJ11 : ∀ a, a < 8 → ∀ b, b < 8 → a ≠ b → (TJ11 a).2.1 ≠ (TJ11 b).2.1 := by decide +kernel
theorem tyJ11_ok : ∀ k, k < 8 → parseFieldDescriptor (TJ11 k).2.2.1 = some (tyJ11 k) := by decide +kernel
abbrev cJ11_init : ByteArray := prog_36_method_1_code
def yJ11_init : MethodName := ⟨RJ11, "<init>", "()V"⟩
theorem dJ11_init_0 : decode cJ11_init 0 = .ok (.aload_n 0, 1) := by decide +kernel
theorem dJ11_init_1 : decode cJ11_init 1 = .ok (.invokespecial 1, 3) := by decide +kernel
theorem dJ11_init_4 : decode cJ11_init 4 = .ok (.return_, 1) := by decide +kernel
theorem q89 : (Jvm.Cond.initialized "java/lang/NullPointerException") ∈ lw_all := lw_g (lw_at lw_m1 22 rfl) rfl
theorem q732 : (Jvm.Cond.selects "java/lang/NullPointerException" ({ cls := "java/lang/Object", name := "getClass", desc := "()Ljava/lang/Class;" } : Jvm.MethodName) ({ cls := "java/lang/Object", name := "getClass", desc := "()Ljava/lang/Class;" } : Jvm.MethodName)) ∈ lw_all := lw_g (lw_at lw_m3 185 rfl) rfl
theorem q876 : (Jvm.Cond.selects "java/lang/NullPointerException" ({ cls := "java/lang/Throwable", name := "fillInStackTrace", desc := "()Ljava/lang/Throwable;" } : Jvm.MethodName) ({ cls := "java/lang/NullPointerException", name := "fillInStackTrace", desc := "()Ljava/lang/Throwable;" } : Jvm.MethodName)) ∈ lw_all := lw_g (lw_at lw_m4 89 rfl) rfl
theorem q877 : (Jvm.Cond.instanceMethod ({ cls := "java/lang/NullPointerException", name := "fillInStackTrace", desc := "()Ljava/lang/Throwable;" } : Jvm.MethodName)) ∈ lw_all := lw_g (lw_at lw_m4 90 rfl) rfl
theorem q878 : (Jvm.Cond.codeSync ({ cls := "java/lang/NullPointerException", name := "fillInStackTrace", desc := "()Ljava/lang/Throwable;" } : Jvm.MethodName) prog_36_method_3_code (1 : Nat) (Option.some (Jvm.ClassFile.FieldType.object "java/lang/Throwable"))) ∈ lw_all := lw_g (lw_at lw_m4 91 rfl) rfl
theorem q879 : (Jvm.Cond.methodLink "java/lang/NullPointerException" (16 : Nat) ({ cls := "java/lang/NullPointerException", name := "getExtendedNPEMessage", desc := "()Ljava/lang/String;" } : Jvm.MethodName)) ∈ lw_all := lw_g (lw_at lw_m4 92 rfl) rfl
theorem q880 : (Jvm.Cond.privateMethod ({ cls := "java/lang/NullPointerException", name := "getExtendedNPEMessage", desc := "()Ljava/lang/String;" } : Jvm.MethodName)) ∈ lw_tbl := lw_at lw_m4 93 rfl
theorem q881 : (Jvm.Cond.instanceMethod ({ cls := "java/lang/NullPointerException", name := "getExtendedNPEMessage", desc := "()Ljava/lang/String;" } : Jvm.MethodName)) ∈ lw_all := lw_g (lw_at lw_m4 94 rfl) rfl
theorem q882 : (Jvm.Cond.instantiable "java/lang/NullPointerException" (8 : Nat)) ∈ lw_all := lw_g (lw_at lw_m4 95 rfl) rfl
theorem q883 : (Jvm.Cond.native ({ cls := "java/lang/NullPointerException", name := "getExtendedNPEMessage", desc := "()Ljava/lang/String;" } : Jvm.MethodName)) ∈ lw_all := lw_g (lw_at lw_m4 96 rfl) rfl
theorem q884 : (Jvm.Cond.methodLink "java/lang/NullPointerException" (24 : Nat) ({ cls := "java/lang/RuntimeException", name := "fillInStackTrace", desc := "()Ljava/lang/Throwable;" } : Jvm.MethodName)) ∈ lw_all := lw_g (lw_at lw_m4 97 rfl) rfl
theorem q887 : (Jvm.Cond.superclass "java/lang/NullPointerException" "java/lang/RuntimeException") ∈ lw_all := lw_g (lw_at lw_m4 100 rfl) rfl
theorem q971 : (Jvm.Cond.instanceMethod ({ cls := "java/lang/NullPointerException", name := "<init>", desc := "()V" } : Jvm.MethodName)) ∈ lw_all := lw_g (lw_at lw_m4 184 rfl) rfl
theorem q972 : (Jvm.Cond.code ({ cls := "java/lang/NullPointerException", name := "<init>", desc := "()V" } : Jvm.MethodName) prog_36_method_1_code (1 : Nat) (Option.none : Option Jvm.ClassFile.FieldType)) ∈ lw_all := lw_g (lw_at lw_m4 185 rfl) rfl
theorem q973 : (Jvm.Cond.methodLink "java/lang/NullPointerException" (1 : Nat) ({ cls := "java/lang/RuntimeException", name := "<init>", desc := "()V" } : Jvm.MethodName)) ∈ lw_all := lw_g (lw_at lw_m4 186 rfl) rfl
theorem q980 : (Jvm.Cond.fieldLink "java/lang/NullPointerException" (10 : Nat) "java/lang/NullPointerException" "extendedMessageState" "I") ∈ lw_all := lw_g (lw_at lw_m4 193 rfl) rfl
theorem q981 : (Jvm.Cond.fieldLink "java/lang/NullPointerException" (20 : Nat) "java/lang/NullPointerException" "extendedMessage" "Ljava/lang/String;") ∈ lw_all := lw_g (lw_at lw_m4 194 rfl) rfl
theorem q982 : (Jvm.Cond.lays "java/lang/NullPointerException" "java/lang/NullPointerException" "extendedMessageState" "I") ∈ lw_all := lw_g (lw_at lw_m4 195 rfl) rfl
theorem q983 : (Jvm.Cond.soleField "java/lang/NullPointerException" "extendedMessageState") ∈ lw_all := lw_g (lw_at lw_m4 196 rfl) rfl
theorem q984 : (Jvm.Cond.lays "java/lang/NullPointerException" "java/lang/NullPointerException" "extendedMessage" "Ljava/lang/String;") ∈ lw_all := lw_g (lw_at lw_m4 197 rfl) rfl
theorem q985 : (Jvm.Cond.soleField "java/lang/NullPointerException" "extendedMessage") ∈ lw_all := lw_g (lw_at lw_m4 198 rfl) rfl
theorem q986 : (Jvm.Cond.lays "java/lang/NullPointerException" "java/lang/Throwable" "backtrace" "Ljava/lang/Object;") ∈ lw_all := lw_g (lw_at lw_m4 199 rfl) rfl
theorem q987 : (Jvm.Cond.lays "java/lang/NullPointerException" "java/lang/Throwable" "detailMessage" "Ljava/lang/String;") ∈ lw_all := lw_g (lw_at lw_m4 200 rfl) rfl
theorem q988 : (Jvm.Cond.lays "java/lang/NullPointerException" "java/lang/Throwable" "cause" "Ljava/lang/Throwable;") ∈ lw_all := lw_g (lw_at lw_m4 201 rfl) rfl
theorem q989 : (Jvm.Cond.lays "java/lang/NullPointerException" "java/lang/Throwable" "stackTrace" "[Ljava/lang/StackTraceElement;") ∈ lw_all := lw_g (lw_at lw_m4 202 rfl) rfl
theorem q990 : (Jvm.Cond.lays "java/lang/NullPointerException" "java/lang/Throwable" "depth" "I") ∈ lw_all := lw_g (lw_at lw_m4 203 rfl) rfl
theorem q991 : (Jvm.Cond.lays "java/lang/NullPointerException" "java/lang/Throwable" "suppressedExceptions" "Ljava/util/List;") ∈ lw_all := lw_g (lw_at lw_m4 204 rfl) rfl
theorem q992 : (Jvm.Cond.castable "java/lang/NullPointerException" "java/lang/NullPointerException") ∈ lw_tbl := lw_at lw_m4 205 rfl
theorem q993 : (Jvm.Cond.selects "java/lang/NullPointerException" ({ cls := "java/lang/Throwable", name := "fillInStackTrace", desc := "(I)Ljava/lang/Throwable;" } : Jvm.MethodName) ({ cls := "java/lang/Throwable", name := "fillInStackTrace", desc := "(I)Ljava/lang/Throwable;" } : Jvm.MethodName)) ∈ lw_all := lw_g (lw_at lw_m4 206 rfl) rfl
theorem q1762 : (Jvm.Cond.castable "java/lang/NullPointerException" "java/lang/Object") ∈ lw_tbl := lw_at lw_m8 15 rfl
theorem in_J11 : ∀ w ∈ wsJ110, w ∈ lw_all := lw_in wsJ110 [986, 987, 988, 989, 990, 991, 982, 984] (by decide +kernel) (by decide +kernel)

/-! java/lang/ClassCastException -/
set_option maxRecDepth 100000
def RJ12 : String := "java/lang/ClassCastException"
def TJ12 : u_T := fun k => match k with
  | 0 => ("java/lang/Throwable", "backtrace", "Ljava/lang/Object;", false)
  | 1 => ("java/lang/Throwable", "detailMessage", "Ljava/lang/String;", false)
  | 2 => ("java/lang/Throwable", "cause", "Ljava/lang/Throwable;", false)
  | 3 => ("java/lang/Throwable", "stackTrace", "[Ljava/lang/StackTraceElement;", false)
  | 4 => ("java/lang/Throwable", "depth", "I", false)
  | _ => ("java/lang/Throwable", "suppressedExceptions", "Ljava/util/List;", false)
def tyJ12 : Nat → FieldType := fun k => match k with
  | 0 => .object "java/lang/Object"
  | 1 => .object "java/lang/String"
  | 2 => .object "java/lang/Throwable"
  | 3 => .array (.object "java/lang/StackTraceElement")
  | 4 => .int
  | _ => .object "java/util/List"
abbrev wsJ120 : List Cond := u_ws RJ12 TJ12 6
theorem nmJ12 : ∀ a, a < 6 → ∀ b, b < 6 → a ≠ b → (TJ12 a).2.1 ≠ (TJ12 b).2.1 := by decide +kernel
theorem tyJ12_ok : ∀ k, k < 6 → parseFieldDescriptor (TJ12 k).2.2.1 = some (tyJ12 k) := by decide +kernel
abbrev cJ12_init : ByteArray := prog_29_method_2_code
def yJ12_init : MethodName := ⟨RJ12, "<init>", "(Ljava/lang/String;)V"⟩
def dkwJ12_init_0 : List UInt8 := [42, 43, 183, 0, 7, 177]
abbrev dktJ12_init_0 : List UInt8 := dkwJ12_init_0 ++ []
theorem dksJ12_init_0 : cJ12_init.data.toList.drop 0 = dktJ12_init_0 := by decide +kernel
theorem dJ12_init_0 : decode cJ12_init 0 = .ok (.aload_n 0, 1) := dk_42 (dk_at dksJ12_init_0 0 rfl rfl)
theorem dJ12_init_1 : decode cJ12_init 1 = .ok (.aload_n 1, 1) := dk_43 (dk_at dksJ12_init_0 1 rfl rfl)
theorem dJ12_init_2 : decode cJ12_init 2 = .ok (.invokespecial 7, 3) := dk_183 0 7 (dk_at dksJ12_init_0 2 rfl rfl)
theorem dJ12_init_5 : decode cJ12_init 5 = .ok (.return_, 1) := dk_177 (dk_at dksJ12_init_0 5 rfl rfl)
theorem q90 : (Jvm.Cond.initialized "java/lang/ClassCastException") ∈ lw_all := lw_g (lw_at lw_m1 23 rfl) rfl
theorem q729 : (Jvm.Cond.selects "java/lang/ClassCastException" ({ cls := "java/lang/Object", name := "getClass", desc := "()Ljava/lang/Class;" } : Jvm.MethodName) ({ cls := "java/lang/Object", name := "getClass", desc := "()Ljava/lang/Class;" } : Jvm.MethodName)) ∈ lw_all := lw_g (lw_at lw_m3 182 rfl) rfl
theorem q873 : (Jvm.Cond.selects "java/lang/ClassCastException" ({ cls := "java/lang/Throwable", name := "fillInStackTrace", desc := "()Ljava/lang/Throwable;" } : Jvm.MethodName) ({ cls := "java/lang/Throwable", name := "fillInStackTrace", desc := "()Ljava/lang/Throwable;" } : Jvm.MethodName)) ∈ lw_all := lw_g (lw_at lw_m4 86 rfl) rfl
theorem q1025 : (Jvm.Cond.instantiable "java/lang/ClassCastException" (6 : Nat)) ∈ lw_all := lw_g (lw_at lw_m4 238 rfl) rfl
theorem q1026 : (Jvm.Cond.instanceMethod ({ cls := "java/lang/ClassCastException", name := "<init>", desc := "(Ljava/lang/String;)V" } : Jvm.MethodName)) ∈ lw_all := lw_g (lw_at lw_m4 239 rfl) rfl
theorem q1027 : (Jvm.Cond.code ({ cls := "java/lang/ClassCastException", name := "<init>", desc := "(Ljava/lang/String;)V" } : Jvm.MethodName) prog_29_method_2_code (2 : Nat) (Option.none : Option Jvm.ClassFile.FieldType)) ∈ lw_all := lw_g (lw_at lw_m5 0 rfl) rfl
theorem q1028 : (Jvm.Cond.methodLink "java/lang/ClassCastException" (7 : Nat) ({ cls := "java/lang/RuntimeException", name := "<init>", desc := "(Ljava/lang/String;)V" } : Jvm.MethodName)) ∈ lw_all := lw_g (lw_at lw_m5 1 rfl) rfl
theorem q1029 : (Jvm.Cond.lays "java/lang/ClassCastException" "java/lang/Throwable" "backtrace" "Ljava/lang/Object;") ∈ lw_all := lw_g (lw_at lw_m5 2 rfl) rfl
theorem q1030 : (Jvm.Cond.lays "java/lang/ClassCastException" "java/lang/Throwable" "detailMessage" "Ljava/lang/String;") ∈ lw_all := lw_g (lw_at lw_m5 3 rfl) rfl
theorem q1031 : (Jvm.Cond.lays "java/lang/ClassCastException" "java/lang/Throwable" "cause" "Ljava/lang/Throwable;") ∈ lw_all := lw_g (lw_at lw_m5 4 rfl) rfl
theorem q1032 : (Jvm.Cond.lays "java/lang/ClassCastException" "java/lang/Throwable" "stackTrace" "[Ljava/lang/StackTraceElement;") ∈ lw_all := lw_g (lw_at lw_m5 5 rfl) rfl
theorem q1033 : (Jvm.Cond.lays "java/lang/ClassCastException" "java/lang/Throwable" "depth" "I") ∈ lw_all := lw_g (lw_at lw_m5 6 rfl) rfl
theorem q1034 : (Jvm.Cond.lays "java/lang/ClassCastException" "java/lang/Throwable" "suppressedExceptions" "Ljava/util/List;") ∈ lw_all := lw_g (lw_at lw_m5 7 rfl) rfl
theorem q1035 : (Jvm.Cond.superclass "java/lang/ClassCastException" "java/lang/RuntimeException") ∈ lw_all := lw_g (lw_at lw_m5 8 rfl) rfl
theorem q1036 : (Jvm.Cond.castable "java/lang/ClassCastException" "java/lang/ClassCastException") ∈ lw_tbl := lw_at lw_m5 9 rfl
theorem q1037 : (Jvm.Cond.selects "java/lang/ClassCastException" ({ cls := "java/lang/Throwable", name := "fillInStackTrace", desc := "(I)Ljava/lang/Throwable;" } : Jvm.MethodName) ({ cls := "java/lang/Throwable", name := "fillInStackTrace", desc := "(I)Ljava/lang/Throwable;" } : Jvm.MethodName)) ∈ lw_all := lw_g (lw_at lw_m5 10 rfl) rfl
theorem q1763 : (Jvm.Cond.castable "java/lang/ClassCastException" "java/lang/Object") ∈ lw_tbl := lw_at lw_m8 16 rfl
theorem in_J12 : ∀ w ∈ wsJ120, w ∈ lw_all := lw_in wsJ120 [1029, 1030, 1031, 1032, 1033, 1034] (by decide +kernel) (by decide +kernel)

/-! java/lang/String -/
set_option maxRecDepth 100000
def RJ13 : String := "java/lang/String"
def TJ13 : u_T := fun k => match k with
  | 0 => ("java/lang/String", "value", "[B", true)
  | _ => ("java/lang/String", "coder", "B", true)
def tyJ13 : Nat → FieldType := fun k => match k with
  | 0 => .array .byte
  | _ => .byte
abbrev wsJ130 : List Cond := u_ws RJ13 TJ13 2
theorem nmJ13 : ∀ a, a < 2 → ∀ b, b < 2 → a ≠ b → (TJ13 a).2.1 ≠ (TJ13 b).2.1 := by decide +kernel
theorem tyJ13_ok : ∀ k, k < 2 → parseFieldDescriptor (TJ13 k).2.2.1 = some (tyJ13 k) := by decide +kernel
theorem q91 : (Jvm.Cond.initialized "java/lang/String") ∈ lw_all := lw_g (lw_at lw_m1 24 rfl) rfl
theorem q931 : (Jvm.Cond.instantiable "java/lang/String" (4 : Nat)) ∈ lw_all := lw_g (lw_at lw_m4 144 rfl) rfl
theorem q933 : (Jvm.Cond.laysFinal "java/lang/String" "java/lang/String" "value" "[B") ∈ lw_all := lw_g (lw_at lw_m4 146 rfl) rfl
theorem q934 : (Jvm.Cond.soleField "java/lang/String" "value") ∈ lw_all := lw_g (lw_at lw_m4 147 rfl) rfl
theorem q935 : (Jvm.Cond.laysFinal "java/lang/String" "java/lang/String" "coder" "B") ∈ lw_all := lw_g (lw_at lw_m4 148 rfl) rfl
theorem q936 : (Jvm.Cond.soleField "java/lang/String" "coder") ∈ lw_all := lw_g (lw_at lw_m4 149 rfl) rfl
theorem q1778 : (Jvm.Cond.castable "java/lang/String" "java/lang/Object") ∈ lw_tbl := lw_at lw_m8 31 rfl
theorem in_J13 : ∀ w ∈ wsJ130, w ∈ lw_all := lw_in wsJ130 [933, 935] (by decide +kernel) (by decide +kernel)

/-! java/lang/ArrayStoreException -/
set_option maxRecDepth 100000
def RJ14 : String := "java/lang/ArrayStoreException"
def TJ14 : u_T := fun k => match k with
  | 0 => ("java/lang/Throwable", "backtrace", "Ljava/lang/Object;", false)
  | 1 => ("java/lang/Throwable", "detailMessage", "Ljava/lang/String;", false)
  | 2 => ("java/lang/Throwable", "cause", "Ljava/lang/Throwable;", false)
  | 3 => ("java/lang/Throwable", "stackTrace", "[Ljava/lang/StackTraceElement;", false)
  | 4 => ("java/lang/Throwable", "depth", "I", false)
  | _ => ("java/lang/Throwable", "suppressedExceptions", "Ljava/util/List;", false)
def tyJ14 : Nat → FieldType := fun k => match k with
  | 0 => .object "java/lang/Object"
  | 1 => .object "java/lang/String"
  | 2 => .object "java/lang/Throwable"
  | 3 => .array (.object "java/lang/StackTraceElement")
  | 4 => .int
  | _ => .object "java/util/List"
abbrev wsJ140 : List Cond := u_ws RJ14 TJ14 6
theorem nmJ14 : ∀ a, a < 6 → ∀ b, b < 6 → a ≠ b → (TJ14 a).2.1 ≠ (TJ14 b).2.1 := by decide +kernel
theorem tyJ14_ok : ∀ k, k < 6 → parseFieldDescriptor (TJ14 k).2.2.1 = some (tyJ14 k) := by decide +kernel
abbrev cJ14_init : ByteArray := prog_28_method_2_code
def yJ14_init : MethodName := ⟨RJ14, "<init>", "(Ljava/lang/String;)V"⟩
def dkwJ14_init_0 : List UInt8 := [42, 43, 183, 0, 7, 177]
abbrev dktJ14_init_0 : List UInt8 := dkwJ14_init_0 ++ []
theorem dksJ14_init_0 : cJ14_init.data.toList.drop 0 = dktJ14_init_0 := by decide +kernel
theorem dJ14_init_0 : decode cJ14_init 0 = .ok (.aload_n 0, 1) := dk_42 (dk_at dksJ14_init_0 0 rfl rfl)
theorem dJ14_init_1 : decode cJ14_init 1 = .ok (.aload_n 1, 1) := dk_43 (dk_at dksJ14_init_0 1 rfl rfl)
theorem dJ14_init_2 : decode cJ14_init 2 = .ok (.invokespecial 7, 3) := dk_183 0 7 (dk_at dksJ14_init_0 2 rfl rfl)
theorem dJ14_init_5 : decode cJ14_init 5 = .ok (.return_, 1) := dk_177 (dk_at dksJ14_init_0 5 rfl rfl)
theorem q92 : (Jvm.Cond.initialized "java/lang/ArrayStoreException") ∈ lw_all := lw_g (lw_at lw_m1 25 rfl) rfl
theorem q728 : (Jvm.Cond.selects "java/lang/ArrayStoreException" ({ cls := "java/lang/Object", name := "getClass", desc := "()Ljava/lang/Class;" } : Jvm.MethodName) ({ cls := "java/lang/Object", name := "getClass", desc := "()Ljava/lang/Class;" } : Jvm.MethodName)) ∈ lw_all := lw_g (lw_at lw_m3 181 rfl) rfl
theorem q872 : (Jvm.Cond.selects "java/lang/ArrayStoreException" ({ cls := "java/lang/Throwable", name := "fillInStackTrace", desc := "()Ljava/lang/Throwable;" } : Jvm.MethodName) ({ cls := "java/lang/Throwable", name := "fillInStackTrace", desc := "()Ljava/lang/Throwable;" } : Jvm.MethodName)) ∈ lw_all := lw_g (lw_at lw_m4 85 rfl) rfl
theorem q1153 : (Jvm.Cond.instantiable "java/lang/ArrayStoreException" (6 : Nat)) ∈ lw_all := lw_g (lw_at lw_m5 126 rfl) rfl
theorem q1154 : (Jvm.Cond.instanceMethod ({ cls := "java/lang/ArrayStoreException", name := "<init>", desc := "(Ljava/lang/String;)V" } : Jvm.MethodName)) ∈ lw_all := lw_g (lw_at lw_m5 127 rfl) rfl
theorem q1155 : (Jvm.Cond.code ({ cls := "java/lang/ArrayStoreException", name := "<init>", desc := "(Ljava/lang/String;)V" } : Jvm.MethodName) prog_28_method_2_code (2 : Nat) (Option.none : Option Jvm.ClassFile.FieldType)) ∈ lw_all := lw_g (lw_at lw_m5 128 rfl) rfl
theorem q1156 : (Jvm.Cond.methodLink "java/lang/ArrayStoreException" (7 : Nat) ({ cls := "java/lang/RuntimeException", name := "<init>", desc := "(Ljava/lang/String;)V" } : Jvm.MethodName)) ∈ lw_all := lw_g (lw_at lw_m5 129 rfl) rfl
theorem q1157 : (Jvm.Cond.lays "java/lang/ArrayStoreException" "java/lang/Throwable" "backtrace" "Ljava/lang/Object;") ∈ lw_all := lw_g (lw_at lw_m5 130 rfl) rfl
theorem q1158 : (Jvm.Cond.lays "java/lang/ArrayStoreException" "java/lang/Throwable" "detailMessage" "Ljava/lang/String;") ∈ lw_all := lw_g (lw_at lw_m5 131 rfl) rfl
theorem q1159 : (Jvm.Cond.lays "java/lang/ArrayStoreException" "java/lang/Throwable" "cause" "Ljava/lang/Throwable;") ∈ lw_all := lw_g (lw_at lw_m5 132 rfl) rfl
theorem q1160 : (Jvm.Cond.lays "java/lang/ArrayStoreException" "java/lang/Throwable" "stackTrace" "[Ljava/lang/StackTraceElement;") ∈ lw_all := lw_g (lw_at lw_m5 133 rfl) rfl
theorem q1161 : (Jvm.Cond.lays "java/lang/ArrayStoreException" "java/lang/Throwable" "depth" "I") ∈ lw_all := lw_g (lw_at lw_m5 134 rfl) rfl
theorem q1162 : (Jvm.Cond.lays "java/lang/ArrayStoreException" "java/lang/Throwable" "suppressedExceptions" "Ljava/util/List;") ∈ lw_all := lw_g (lw_at lw_m5 135 rfl) rfl
theorem q1163 : (Jvm.Cond.superclass "java/lang/ArrayStoreException" "java/lang/RuntimeException") ∈ lw_all := lw_g (lw_at lw_m5 136 rfl) rfl
theorem q1164 : (Jvm.Cond.castable "java/lang/ArrayStoreException" "java/lang/ArrayStoreException") ∈ lw_tbl := lw_at lw_m5 137 rfl
theorem q1165 : (Jvm.Cond.selects "java/lang/ArrayStoreException" ({ cls := "java/lang/Throwable", name := "fillInStackTrace", desc := "(I)Ljava/lang/Throwable;" } : Jvm.MethodName) ({ cls := "java/lang/Throwable", name := "fillInStackTrace", desc := "(I)Ljava/lang/Throwable;" } : Jvm.MethodName)) ∈ lw_all := lw_g (lw_at lw_m5 138 rfl) rfl
theorem q1764 : (Jvm.Cond.castable "java/lang/ArrayStoreException" "java/lang/Object") ∈ lw_tbl := lw_at lw_m8 17 rfl
theorem in_J14 : ∀ w ∈ wsJ140, w ∈ lw_all := lw_in wsJ140 [1157, 1158, 1159, 1160, 1161, 1162] (by decide +kernel) (by decide +kernel)

/-! java/lang/NegativeArraySizeException -/
set_option maxRecDepth 100000
def RJ15 : String := "java/lang/NegativeArraySizeException"
def TJ15 : u_T := fun k => match k with
  | 0 => ("java/lang/Throwable", "backtrace", "Ljava/lang/Object;", false)
  | 1 => ("java/lang/Throwable", "detailMessage", "Ljava/lang/String;", false)
  | 2 => ("java/lang/Throwable", "cause", "Ljava/lang/Throwable;", false)
  | 3 => ("java/lang/Throwable", "stackTrace", "[Ljava/lang/StackTraceElement;", false)
  | 4 => ("java/lang/Throwable", "depth", "I", false)
  | _ => ("java/lang/Throwable", "suppressedExceptions", "Ljava/util/List;", false)
def tyJ15 : Nat → FieldType := fun k => match k with
  | 0 => .object "java/lang/Object"
  | 1 => .object "java/lang/String"
  | 2 => .object "java/lang/Throwable"
  | 3 => .array (.object "java/lang/StackTraceElement")
  | 4 => .int
  | _ => .object "java/util/List"
abbrev wsJ150 : List Cond := u_ws RJ15 TJ15 6
theorem nmJ15 : ∀ a, a < 6 → ∀ b, b < 6 → a ≠ b → (TJ15 a).2.1 ≠ (TJ15 b).2.1 := by decide +kernel
theorem tyJ15_ok : ∀ k, k < 6 → parseFieldDescriptor (TJ15 k).2.2.1 = some (tyJ15 k) := by decide +kernel
abbrev cJ15_init : ByteArray := prog_35_method_2_code
def yJ15_init : MethodName := ⟨RJ15, "<init>", "(Ljava/lang/String;)V"⟩
def dkwJ15_init_0 : List UInt8 := [42, 43, 183, 0, 7, 177]
abbrev dktJ15_init_0 : List UInt8 := dkwJ15_init_0 ++ []
theorem dksJ15_init_0 : cJ15_init.data.toList.drop 0 = dktJ15_init_0 := by decide +kernel
theorem dJ15_init_0 : decode cJ15_init 0 = .ok (.aload_n 0, 1) := dk_42 (dk_at dksJ15_init_0 0 rfl rfl)
theorem dJ15_init_1 : decode cJ15_init 1 = .ok (.aload_n 1, 1) := dk_43 (dk_at dksJ15_init_0 1 rfl rfl)
theorem dJ15_init_2 : decode cJ15_init 2 = .ok (.invokespecial 7, 3) := dk_183 0 7 (dk_at dksJ15_init_0 2 rfl rfl)
theorem dJ15_init_5 : decode cJ15_init 5 = .ok (.return_, 1) := dk_177 (dk_at dksJ15_init_0 5 rfl rfl)
theorem q93 : (Jvm.Cond.initialized "java/lang/NegativeArraySizeException") ∈ lw_all := lw_g (lw_at lw_m1 26 rfl) rfl
theorem q731 : (Jvm.Cond.selects "java/lang/NegativeArraySizeException" ({ cls := "java/lang/Object", name := "getClass", desc := "()Ljava/lang/Class;" } : Jvm.MethodName) ({ cls := "java/lang/Object", name := "getClass", desc := "()Ljava/lang/Class;" } : Jvm.MethodName)) ∈ lw_all := lw_g (lw_at lw_m3 184 rfl) rfl
theorem q851 : (Jvm.Cond.instantiable "java/lang/NegativeArraySizeException" (6 : Nat)) ∈ lw_all := lw_g (lw_at lw_m4 64 rfl) rfl
theorem q852 : (Jvm.Cond.instanceMethod ({ cls := "java/lang/NegativeArraySizeException", name := "<init>", desc := "(Ljava/lang/String;)V" } : Jvm.MethodName)) ∈ lw_all := lw_g (lw_at lw_m4 65 rfl) rfl
theorem q853 : (Jvm.Cond.code ({ cls := "java/lang/NegativeArraySizeException", name := "<init>", desc := "(Ljava/lang/String;)V" } : Jvm.MethodName) prog_35_method_2_code (2 : Nat) (Option.none : Option Jvm.ClassFile.FieldType)) ∈ lw_all := lw_g (lw_at lw_m4 66 rfl) rfl
theorem q854 : (Jvm.Cond.methodLink "java/lang/NegativeArraySizeException" (7 : Nat) ({ cls := "java/lang/RuntimeException", name := "<init>", desc := "(Ljava/lang/String;)V" } : Jvm.MethodName)) ∈ lw_all := lw_g (lw_at lw_m4 67 rfl) rfl
theorem q875 : (Jvm.Cond.selects "java/lang/NegativeArraySizeException" ({ cls := "java/lang/Throwable", name := "fillInStackTrace", desc := "()Ljava/lang/Throwable;" } : Jvm.MethodName) ({ cls := "java/lang/Throwable", name := "fillInStackTrace", desc := "()Ljava/lang/Throwable;" } : Jvm.MethodName)) ∈ lw_all := lw_g (lw_at lw_m4 88 rfl) rfl
theorem q901 : (Jvm.Cond.lays "java/lang/NegativeArraySizeException" "java/lang/Throwable" "backtrace" "Ljava/lang/Object;") ∈ lw_all := lw_g (lw_at lw_m4 114 rfl) rfl
theorem q903 : (Jvm.Cond.lays "java/lang/NegativeArraySizeException" "java/lang/Throwable" "detailMessage" "Ljava/lang/String;") ∈ lw_all := lw_g (lw_at lw_m4 116 rfl) rfl
theorem q905 : (Jvm.Cond.lays "java/lang/NegativeArraySizeException" "java/lang/Throwable" "cause" "Ljava/lang/Throwable;") ∈ lw_all := lw_g (lw_at lw_m4 118 rfl) rfl
theorem q907 : (Jvm.Cond.lays "java/lang/NegativeArraySizeException" "java/lang/Throwable" "stackTrace" "[Ljava/lang/StackTraceElement;") ∈ lw_all := lw_g (lw_at lw_m4 120 rfl) rfl
theorem q909 : (Jvm.Cond.lays "java/lang/NegativeArraySizeException" "java/lang/Throwable" "depth" "I") ∈ lw_all := lw_g (lw_at lw_m4 122 rfl) rfl
theorem q911 : (Jvm.Cond.lays "java/lang/NegativeArraySizeException" "java/lang/Throwable" "suppressedExceptions" "Ljava/util/List;") ∈ lw_all := lw_g (lw_at lw_m4 124 rfl) rfl
theorem q913 : (Jvm.Cond.superclass "java/lang/NegativeArraySizeException" "java/lang/RuntimeException") ∈ lw_all := lw_g (lw_at lw_m4 126 rfl) rfl
theorem q914 : (Jvm.Cond.castable "java/lang/NegativeArraySizeException" "java/lang/NegativeArraySizeException") ∈ lw_tbl := lw_at lw_m4 127 rfl
theorem q921 : (Jvm.Cond.selects "java/lang/NegativeArraySizeException" ({ cls := "java/lang/Throwable", name := "fillInStackTrace", desc := "(I)Ljava/lang/Throwable;" } : Jvm.MethodName) ({ cls := "java/lang/Throwable", name := "fillInStackTrace", desc := "(I)Ljava/lang/Throwable;" } : Jvm.MethodName)) ∈ lw_all := lw_g (lw_at lw_m4 134 rfl) rfl
theorem q1765 : (Jvm.Cond.castable "java/lang/NegativeArraySizeException" "java/lang/Object") ∈ lw_tbl := lw_at lw_m8 18 rfl
theorem in_J15 : ∀ w ∈ wsJ150, w ∈ lw_all := lw_in wsJ150 [901, 903, 905, 907, 909, 911] (by decide +kernel) (by decide +kernel)

/-! java/lang/IndexOutOfBoundsException -/
set_option maxRecDepth 100000
def RJ16 : String := "java/lang/IndexOutOfBoundsException"
def TJ16 : u_T := fun k => match k with
  | 0 => ("java/lang/Throwable", "cause", "Ljava/lang/Throwable;", false)
  | 1 => ("java/lang/Throwable", "stackTrace", "[Ljava/lang/StackTraceElement;", false)
  | 2 => ("java/lang/Throwable", "suppressedExceptions", "Ljava/util/List;", false)
  | 3 => ("java/lang/Throwable", "detailMessage", "Ljava/lang/String;", false)
  | 4 => ("java/lang/Throwable", "backtrace", "Ljava/lang/Object;", false)
  | _ => ("java/lang/Throwable", "depth", "I", false)
def tyJ16 : Nat → FieldType := fun k => match k with
  | 0 => .object "java/lang/Throwable"
  | 1 => .array (.object "java/lang/StackTraceElement")
  | 2 => .object "java/util/List"
  | 3 => .object "java/lang/String"
  | 4 => .object "java/lang/Object"
  | _ => .int
abbrev wsJ160 : List Cond := u_ws RJ16 TJ16 6
theorem nmJ16 : ∀ a, a < 6 → ∀ b, b < 6 → a ≠ b → (TJ16 a).2.1 ≠ (TJ16 b).2.1 := by decide +kernel
theorem tyJ16_ok : ∀ k, k < 6 → parseFieldDescriptor (TJ16 k).2.2.1 = some (tyJ16 k) := by decide +kernel
abbrev cJ16_init : ByteArray := prog_32_method_2_code
def yJ16_init : MethodName := ⟨RJ16, "<init>", "(Ljava/lang/String;)V"⟩
def dkwJ16_init_0 : List UInt8 := [42, 43, 183, 0, 7, 177]
abbrev dktJ16_init_0 : List UInt8 := dkwJ16_init_0 ++ []
theorem dksJ16_init_0 : cJ16_init.data.toList.drop 0 = dktJ16_init_0 := by decide +kernel
theorem dJ16_init_0 : decode cJ16_init 0 = .ok (.aload_n 0, 1) := dk_42 (dk_at dksJ16_init_0 0 rfl rfl)
theorem dJ16_init_1 : decode cJ16_init 1 = .ok (.aload_n 1, 1) := dk_43 (dk_at dksJ16_init_0 1 rfl rfl)
theorem dJ16_init_2 : decode cJ16_init 2 = .ok (.invokespecial 7, 3) := dk_183 0 7 (dk_at dksJ16_init_0 2 rfl rfl)
theorem dJ16_init_5 : decode cJ16_init 5 = .ok (.return_, 1) := dk_177 (dk_at dksJ16_init_0 5 rfl rfl)
theorem q94 : (Jvm.Cond.initialized "java/lang/IndexOutOfBoundsException") ∈ lw_all := lw_g (lw_at lw_m1 27 rfl) rfl
theorem q730 : (Jvm.Cond.selects "java/lang/IndexOutOfBoundsException" ({ cls := "java/lang/Object", name := "getClass", desc := "()Ljava/lang/Class;" } : Jvm.MethodName) ({ cls := "java/lang/Object", name := "getClass", desc := "()Ljava/lang/Class;" } : Jvm.MethodName)) ∈ lw_all := lw_g (lw_at lw_m3 183 rfl) rfl
theorem q874 : (Jvm.Cond.selects "java/lang/IndexOutOfBoundsException" ({ cls := "java/lang/Throwable", name := "fillInStackTrace", desc := "()Ljava/lang/Throwable;" } : Jvm.MethodName) ({ cls := "java/lang/Throwable", name := "fillInStackTrace", desc := "()Ljava/lang/Throwable;" } : Jvm.MethodName)) ∈ lw_all := lw_g (lw_at lw_m4 87 rfl) rfl
theorem q1000 : (Jvm.Cond.instanceMethod ({ cls := "java/lang/IndexOutOfBoundsException", name := "<init>", desc := "(Ljava/lang/String;)V" } : Jvm.MethodName)) ∈ lw_all := lw_g (lw_at lw_m4 213 rfl) rfl
theorem q1001 : (Jvm.Cond.code ({ cls := "java/lang/IndexOutOfBoundsException", name := "<init>", desc := "(Ljava/lang/String;)V" } : Jvm.MethodName) prog_32_method_2_code (2 : Nat) (Option.none : Option Jvm.ClassFile.FieldType)) ∈ lw_all := lw_g (lw_at lw_m4 214 rfl) rfl
theorem q1002 : (Jvm.Cond.methodLink "java/lang/IndexOutOfBoundsException" (7 : Nat) ({ cls := "java/lang/RuntimeException", name := "<init>", desc := "(Ljava/lang/String;)V" } : Jvm.MethodName)) ∈ lw_all := lw_g (lw_at lw_m4 215 rfl) rfl
theorem q1011 : (Jvm.Cond.declares ({ cls := "java/lang/IndexOutOfBoundsException", name := "<init>", desc := "()V" } : Jvm.MethodName)) ∈ lw_tbl := lw_at lw_m4 224 rfl
theorem q1012 : (Jvm.Cond.declares ({ cls := "java/lang/IndexOutOfBoundsException", name := "<init>", desc := "(Ljava/lang/String;)V" } : Jvm.MethodName)) ∈ lw_tbl := lw_at lw_m4 225 rfl
theorem q1189 : (Jvm.Cond.instantiable "java/lang/IndexOutOfBoundsException" (6 : Nat)) ∈ lw_all := lw_g (lw_at lw_m5 162 rfl) rfl
theorem q1190 : (Jvm.Cond.castable "java/lang/IndexOutOfBoundsException" "java/lang/IndexOutOfBoundsException") ∈ lw_tbl := lw_at lw_m5 163 rfl
theorem q1191 : (Jvm.Cond.selects "java/lang/IndexOutOfBoundsException" ({ cls := "java/lang/Throwable", name := "fillInStackTrace", desc := "(I)Ljava/lang/Throwable;" } : Jvm.MethodName) ({ cls := "java/lang/Throwable", name := "fillInStackTrace", desc := "(I)Ljava/lang/Throwable;" } : Jvm.MethodName)) ∈ lw_all := lw_g (lw_at lw_m5 164 rfl) rfl
theorem q1192 : (Jvm.Cond.lays "java/lang/IndexOutOfBoundsException" "java/lang/Throwable" "cause" "Ljava/lang/Throwable;") ∈ lw_all := lw_g (lw_at lw_m5 165 rfl) rfl
theorem q1193 : (Jvm.Cond.lays "java/lang/IndexOutOfBoundsException" "java/lang/Throwable" "stackTrace" "[Ljava/lang/StackTraceElement;") ∈ lw_all := lw_g (lw_at lw_m5 166 rfl) rfl
theorem q1194 : (Jvm.Cond.lays "java/lang/IndexOutOfBoundsException" "java/lang/Throwable" "suppressedExceptions" "Ljava/util/List;") ∈ lw_all := lw_g (lw_at lw_m5 167 rfl) rfl
theorem q1195 : (Jvm.Cond.lays "java/lang/IndexOutOfBoundsException" "java/lang/Throwable" "detailMessage" "Ljava/lang/String;") ∈ lw_all := lw_g (lw_at lw_m5 168 rfl) rfl
theorem q1196 : (Jvm.Cond.lays "java/lang/IndexOutOfBoundsException" "java/lang/Throwable" "backtrace" "Ljava/lang/Object;") ∈ lw_all := lw_g (lw_at lw_m5 169 rfl) rfl
theorem q1199 : (Jvm.Cond.lays "java/lang/IndexOutOfBoundsException" "java/lang/Throwable" "depth" "I") ∈ lw_all := lw_g (lw_at lw_m5 172 rfl) rfl
theorem q1200 : (Jvm.Cond.superclass "java/lang/IndexOutOfBoundsException" "java/lang/RuntimeException") ∈ lw_all := lw_g (lw_at lw_m5 173 rfl) rfl
theorem q1767 : (Jvm.Cond.castable "java/lang/IndexOutOfBoundsException" "java/lang/Object") ∈ lw_tbl := lw_at lw_m8 20 rfl
theorem in_J16 : ∀ w ∈ wsJ160, w ∈ lw_all := lw_in wsJ160 [1192, 1193, 1194, 1195, 1196, 1199] (by decide +kernel) (by decide +kernel)

/-! java/lang/ArrayIndexOutOfBoundsException -/
set_option maxRecDepth 100000
def RJ17 : String := "java/lang/ArrayIndexOutOfBoundsException"
def TJ17 : u_T := fun k => match k with
  | 0 => ("java/lang/Throwable", "backtrace", "Ljava/lang/Object;", false)
  | 1 => ("java/lang/Throwable", "detailMessage", "Ljava/lang/String;", false)
  | 2 => ("java/lang/Throwable", "cause", "Ljava/lang/Throwable;", false)
  | 3 => ("java/lang/Throwable", "stackTrace", "[Ljava/lang/StackTraceElement;", false)
  | 4 => ("java/lang/Throwable", "depth", "I", false)
  | _ => ("java/lang/Throwable", "suppressedExceptions", "Ljava/util/List;", false)
def tyJ17 : Nat → FieldType := fun k => match k with
  | 0 => .object "java/lang/Object"
  | 1 => .object "java/lang/String"
  | 2 => .object "java/lang/Throwable"
  | 3 => .array (.object "java/lang/StackTraceElement")
  | 4 => .int
  | _ => .object "java/util/List"
abbrev wsJ170 : List Cond := u_ws RJ17 TJ17 6
theorem nmJ17 : ∀ a, a < 6 → ∀ b, b < 6 → a ≠ b → (TJ17 a).2.1 ≠ (TJ17 b).2.1 := by decide +kernel
theorem tyJ17_ok : ∀ k, k < 6 → parseFieldDescriptor (TJ17 k).2.2.1 = some (tyJ17 k) := by decide +kernel
abbrev cJ17_init : ByteArray := prog_27_method_2_code
def yJ17_init : MethodName := ⟨RJ17, "<init>", "(Ljava/lang/String;)V"⟩
def dkwJ17_init_0 : List UInt8 := [42, 43, 183, 0, 7, 177]
abbrev dktJ17_init_0 : List UInt8 := dkwJ17_init_0 ++ []
theorem dksJ17_init_0 : cJ17_init.data.toList.drop 0 = dktJ17_init_0 := by decide +kernel
theorem dJ17_init_0 : decode cJ17_init 0 = .ok (.aload_n 0, 1) := dk_42 (dk_at dksJ17_init_0 0 rfl rfl)
theorem dJ17_init_1 : decode cJ17_init 1 = .ok (.aload_n 1, 1) := dk_43 (dk_at dksJ17_init_0 1 rfl rfl)
theorem dJ17_init_2 : decode cJ17_init 2 = .ok (.invokespecial 7, 3) := dk_183 0 7 (dk_at dksJ17_init_0 2 rfl rfl)
theorem dJ17_init_5 : decode cJ17_init 5 = .ok (.return_, 1) := dk_177 (dk_at dksJ17_init_0 5 rfl rfl)
theorem q95 : (Jvm.Cond.initialized "java/lang/ArrayIndexOutOfBoundsException") ∈ lw_all := lw_g (lw_at lw_m1 28 rfl) rfl
theorem q727 : (Jvm.Cond.selects "java/lang/ArrayIndexOutOfBoundsException" ({ cls := "java/lang/Object", name := "getClass", desc := "()Ljava/lang/Class;" } : Jvm.MethodName) ({ cls := "java/lang/Object", name := "getClass", desc := "()Ljava/lang/Class;" } : Jvm.MethodName)) ∈ lw_all := lw_g (lw_at lw_m3 180 rfl) rfl
theorem q871 : (Jvm.Cond.selects "java/lang/ArrayIndexOutOfBoundsException" ({ cls := "java/lang/Throwable", name := "fillInStackTrace", desc := "()Ljava/lang/Throwable;" } : Jvm.MethodName) ({ cls := "java/lang/Throwable", name := "fillInStackTrace", desc := "()Ljava/lang/Throwable;" } : Jvm.MethodName)) ∈ lw_all := lw_g (lw_at lw_m4 84 rfl) rfl
theorem q996 : (Jvm.Cond.instantiable "java/lang/ArrayIndexOutOfBoundsException" (6 : Nat)) ∈ lw_all := lw_g (lw_at lw_m4 209 rfl) rfl
theorem q997 : (Jvm.Cond.instanceMethod ({ cls := "java/lang/ArrayIndexOutOfBoundsException", name := "<init>", desc := "(Ljava/lang/String;)V" } : Jvm.MethodName)) ∈ lw_all := lw_g (lw_at lw_m4 210 rfl) rfl
theorem q998 : (Jvm.Cond.code ({ cls := "java/lang/ArrayIndexOutOfBoundsException", name := "<init>", desc := "(Ljava/lang/String;)V" } : Jvm.MethodName) prog_27_method_2_code (2 : Nat) (Option.none : Option Jvm.ClassFile.FieldType)) ∈ lw_all := lw_g (lw_at lw_m4 211 rfl) rfl
theorem q999 : (Jvm.Cond.methodLink "java/lang/ArrayIndexOutOfBoundsException" (7 : Nat) ({ cls := "java/lang/IndexOutOfBoundsException", name := "<init>", desc := "(Ljava/lang/String;)V" } : Jvm.MethodName)) ∈ lw_all := lw_g (lw_at lw_m4 212 rfl) rfl
theorem q1003 : (Jvm.Cond.lays "java/lang/ArrayIndexOutOfBoundsException" "java/lang/Throwable" "backtrace" "Ljava/lang/Object;") ∈ lw_all := lw_g (lw_at lw_m4 216 rfl) rfl
theorem q1004 : (Jvm.Cond.lays "java/lang/ArrayIndexOutOfBoundsException" "java/lang/Throwable" "detailMessage" "Ljava/lang/String;") ∈ lw_all := lw_g (lw_at lw_m4 217 rfl) rfl
theorem q1005 : (Jvm.Cond.lays "java/lang/ArrayIndexOutOfBoundsException" "java/lang/Throwable" "cause" "Ljava/lang/Throwable;") ∈ lw_all := lw_g (lw_at lw_m4 218 rfl) rfl
theorem q1006 : (Jvm.Cond.lays "java/lang/ArrayIndexOutOfBoundsException" "java/lang/Throwable" "stackTrace" "[Ljava/lang/StackTraceElement;") ∈ lw_all := lw_g (lw_at lw_m4 219 rfl) rfl
theorem q1007 : (Jvm.Cond.lays "java/lang/ArrayIndexOutOfBoundsException" "java/lang/Throwable" "depth" "I") ∈ lw_all := lw_g (lw_at lw_m4 220 rfl) rfl
theorem q1008 : (Jvm.Cond.lays "java/lang/ArrayIndexOutOfBoundsException" "java/lang/Throwable" "suppressedExceptions" "Ljava/util/List;") ∈ lw_all := lw_g (lw_at lw_m4 221 rfl) rfl
theorem q1009 : (Jvm.Cond.superclass "java/lang/ArrayIndexOutOfBoundsException" "java/lang/IndexOutOfBoundsException") ∈ lw_all := lw_g (lw_at lw_m4 222 rfl) rfl
theorem q1010 : (Jvm.Cond.castable "java/lang/ArrayIndexOutOfBoundsException" "java/lang/ArrayIndexOutOfBoundsException") ∈ lw_tbl := lw_at lw_m4 223 rfl
theorem q1013 : (Jvm.Cond.selects "java/lang/ArrayIndexOutOfBoundsException" ({ cls := "java/lang/Throwable", name := "fillInStackTrace", desc := "(I)Ljava/lang/Throwable;" } : Jvm.MethodName) ({ cls := "java/lang/Throwable", name := "fillInStackTrace", desc := "(I)Ljava/lang/Throwable;" } : Jvm.MethodName)) ∈ lw_all := lw_g (lw_at lw_m4 226 rfl) rfl
theorem q1748 : (Jvm.Cond.castable "java/lang/ArrayIndexOutOfBoundsException" "java/lang/IndexOutOfBoundsException") ∈ lw_tbl := lw_at lw_m8 1 rfl
theorem q1766 : (Jvm.Cond.castable "java/lang/ArrayIndexOutOfBoundsException" "java/lang/Object") ∈ lw_tbl := lw_at lw_m8 19 rfl
theorem in_J17 : ∀ w ∈ wsJ170, w ∈ lw_all := lw_in wsJ170 [1003, 1004, 1005, 1006, 1007, 1008] (by decide +kernel) (by decide +kernel)

/-! java/lang/Object -/
set_option maxRecDepth 100000
def RJ18 : String := "java/lang/Object"
abbrev cJ18_init : ByteArray := object_method_1_code
def yJ18_init : MethodName := ⟨RJ18, "<init>", "()V"⟩
theorem dJ18_init_0 : decode cJ18_init 0 = .ok (.return_, 1) := by decide +kernel
theorem q113 : (Jvm.Cond.instanceMethod ({ cls := "java/lang/Object", name := "<init>", desc := "()V" } : Jvm.MethodName)) ∈ lw_all := lw_g (lw_at lw_m1 46 rfl) rfl
theorem q114 : (Jvm.Cond.code ({ cls := "java/lang/Object", name := "<init>", desc := "()V" } : Jvm.MethodName) object_method_1_code (1 : Nat) (Option.none : Option Jvm.ClassFile.FieldType)) ∈ lw_all := lw_g (lw_at lw_m1 47 rfl) rfl
theorem q707 : (Jvm.Cond.instanceMethod ({ cls := "java/lang/Object", name := "getClass", desc := "()Ljava/lang/Class;" } : Jvm.MethodName)) ∈ lw_all := lw_g (lw_at lw_m3 160 rfl) rfl
theorem q708 : (Jvm.Cond.sameMethod "java/lang/Object" "java/lang/Object" "getClass" "()Ljava/lang/Class;") ∈ lw_all := lw_g (lw_at lw_m3 161 rfl) rfl
theorem q734 : (Jvm.Cond.native ({ cls := "java/lang/Object", name := "getClass", desc := "()Ljava/lang/Class;" } : Jvm.MethodName)) ∈ lw_all := lw_g (lw_at lw_m3 187 rfl) rfl
theorem q1746 : (Jvm.Cond.initialized "java/lang/Object") ∈ lw_all := lw_g (lw_at lw_m7 239 rfl) rfl
theorem q1781 : (Jvm.Cond.declares ({ cls := "java/lang/Object", name := "getClass", desc := "()Ljava/lang/Class;" } : Jvm.MethodName)) ∈ lw_tbl := lw_at lw_m8 34 rfl
theorem q1789 : (Jvm.Cond.instantiable "java/lang/Object" (0 : Nat)) ∈ lw_all := lw_g (lw_at lw_m8 42 rfl) rfl

/-! java/util/ArrayList -/
set_option maxRecDepth 100000
def RJ2 : String := "java/util/ArrayList"
def TJ2 : u_T := fun k => match k with
  | 0 => ("java/util/AbstractList", "modCount", "I", false)
  | 1 => ("java/util/ArrayList", "elementData", "[Ljava/lang/Object;", false)
  | _ => ("java/util/ArrayList", "size", "I", false)
def tyJ2 : Nat → FieldType := fun k => match k with
  | 0 => .int
  | 1 => .array (.object "java/lang/Object")
  | _ => .int
abbrev wsJ20 : List Cond := u_ws RJ2 TJ2 3
theorem nmJ2 : ∀ a, a < 3 → ∀ b, b < 3 → a ≠ b → (TJ2 a).2.1 ≠ (TJ2 b).2.1 := by decide +kernel
theorem tyJ2_ok : ∀ k, k < 3 → parseFieldDescriptor (TJ2 k).2.2.1 = some (tyJ2 k) := by decide +kernel
abbrev cJ2_init : ByteArray := prog_43_method_2_code
def yJ2_init : MethodName := ⟨RJ2, "<init>", "()V"⟩
def dkwJ2_init_0 : List UInt8 := [42, 183, 0, 1, 42, 178, 0, 39, 181, 0, 9, 177]
abbrev dktJ2_init_0 : List UInt8 := dkwJ2_init_0 ++ []
theorem dksJ2_init_0 : cJ2_init.data.toList.drop 0 = dktJ2_init_0 := by decide +kernel
theorem dJ2_init_0 : decode cJ2_init 0 = .ok (.aload_n 0, 1) := dk_42 (dk_at dksJ2_init_0 0 rfl rfl)
theorem dJ2_init_1 : decode cJ2_init 1 = .ok (.invokespecial 1, 3) := dk_183 0 1 (dk_at dksJ2_init_0 1 rfl rfl)
theorem dJ2_init_4 : decode cJ2_init 4 = .ok (.aload_n 0, 1) := dk_42 (dk_at dksJ2_init_0 4 rfl rfl)
theorem dJ2_init_5 : decode cJ2_init 5 = .ok (.getstatic 39, 3) := dk_178 0 39 (dk_at dksJ2_init_0 5 rfl rfl)
theorem dJ2_init_8 : decode cJ2_init 8 = .ok (.putfield 9, 3) := dk_181 0 9 (dk_at dksJ2_init_0 8 rfl rfl)
theorem dJ2_init_11 : decode cJ2_init 11 = .ok (.return_, 1) := dk_177 (dk_at dksJ2_init_0 11 rfl rfl)
abbrev cJ2_get : ByteArray := prog_43_method_20_code
def yJ2_get : MethodName := ⟨RJ2, "get", "(I)Ljava/lang/Object;"⟩
def dkwJ2_get_0 : List UInt8 := [27, 42, 180, 0, 48, 184, 0, 118, 87, 42, 27, 182, 0, 123, 176]
abbrev dktJ2_get_0 : List UInt8 := dkwJ2_get_0 ++ []
theorem dksJ2_get_0 : cJ2_get.data.toList.drop 0 = dktJ2_get_0 := by decide +kernel
theorem dJ2_get_0 : decode cJ2_get 0 = .ok (.iload_n 1, 1) := dk_27 (dk_at dksJ2_get_0 0 rfl rfl)
theorem dJ2_get_1 : decode cJ2_get 1 = .ok (.aload_n 0, 1) := dk_42 (dk_at dksJ2_get_0 1 rfl rfl)
theorem dJ2_get_2 : decode cJ2_get 2 = .ok (.getfield 48, 3) := dk_180 0 48 (dk_at dksJ2_get_0 2 rfl rfl)
theorem dJ2_get_5 : decode cJ2_get 5 = .ok (.invokestatic 118, 3) := dk_184 0 118 (dk_at dksJ2_get_0 5 rfl rfl)
theorem dJ2_get_8 : decode cJ2_get 8 = .ok (.pop, 1) := dk_87 (dk_at dksJ2_get_0 8 rfl rfl)
theorem dJ2_get_9 : decode cJ2_get 9 = .ok (.aload_n 0, 1) := dk_42 (dk_at dksJ2_get_0 9 rfl rfl)
theorem dJ2_get_10 : decode cJ2_get 10 = .ok (.iload_n 1, 1) := dk_27 (dk_at dksJ2_get_0 10 rfl rfl)
theorem dJ2_get_11 : decode cJ2_get 11 = .ok (.invokevirtual 123, 3) := dk_182 0 123 (dk_at dksJ2_get_0 11 rfl rfl)
theorem dJ2_get_14 : decode cJ2_get 14 = .ok (.areturn, 1) := dk_176 (dk_at dksJ2_get_0 14 rfl rfl)
abbrev cJ2_elementData : ByteArray := prog_43_method_18_code
def yJ2_elementData : MethodName := ⟨RJ2, "elementData", "(I)Ljava/lang/Object;"⟩
def dkwJ2_elementData_0 : List UInt8 := [42, 180, 0, 9, 27, 50, 176]
abbrev dktJ2_elementData_0 : List UInt8 := dkwJ2_elementData_0 ++ []
theorem dksJ2_elementData_0 : cJ2_elementData.data.toList.drop 0 = dktJ2_elementData_0 := by decide +kernel
theorem dJ2_elementData_0 : decode cJ2_elementData 0 = .ok (.aload_n 0, 1) := dk_42 (dk_at dksJ2_elementData_0 0 rfl rfl)
theorem dJ2_elementData_1 : decode cJ2_elementData 1 = .ok (.getfield 9, 3) := dk_180 0 9 (dk_at dksJ2_elementData_0 1 rfl rfl)
theorem dJ2_elementData_4 : decode cJ2_elementData 4 = .ok (.iload_n 1, 1) := dk_27 (dk_at dksJ2_elementData_0 4 rfl rfl)
theorem dJ2_elementData_5 : decode cJ2_elementData 5 = .ok (.aaload, 1) := dk_50 (dk_at dksJ2_elementData_0 5 rfl rfl)
theorem dJ2_elementData_6 : decode cJ2_elementData 6 = .ok (.areturn, 1) := dk_176 (dk_at dksJ2_elementData_0 6 rfl rfl)
abbrev cJ2_size : ByteArray := prog_43_method_8_code
def yJ2_size : MethodName := ⟨RJ2, "size", "()I"⟩
theorem dJ2_size_0 : decode cJ2_size 0 = .ok (.aload_n 0, 1) := by decide +kernel
theorem dJ2_size_1 : decode cJ2_size 1 = .ok (.getfield 48, 3) := by decide +kernel
theorem dJ2_size_4 : decode cJ2_size 4 = .ok (.ireturn, 1) := by decide +kernel
abbrev cJ2_isEmpty : ByteArray := prog_43_method_9_code
def yJ2_isEmpty : MethodName := ⟨RJ2, "isEmpty", "()Z"⟩
def dkwJ2_isEmpty_0 : List UInt8 := [42, 180, 0, 48, 154, 0, 7, 4, 167, 0, 4, 3, 172]
abbrev dktJ2_isEmpty_0 : List UInt8 := dkwJ2_isEmpty_0 ++ []
theorem dksJ2_isEmpty_0 : cJ2_isEmpty.data.toList.drop 0 = dktJ2_isEmpty_0 := by decide +kernel
theorem dJ2_isEmpty_0 : decode cJ2_isEmpty 0 = .ok (.aload_n 0, 1) := dk_42 (dk_at dksJ2_isEmpty_0 0 rfl rfl)
theorem dJ2_isEmpty_1 : decode cJ2_isEmpty 1 = .ok (.getfield 48, 3) := dk_180 0 48 (dk_at dksJ2_isEmpty_0 1 rfl rfl)
theorem dJ2_isEmpty_4 : decode cJ2_isEmpty 4 = .ok (.ifCond .ne 7, 3) := dk_154 0 7 (dk_at dksJ2_isEmpty_0 4 rfl rfl)
theorem dJ2_isEmpty_7 : decode cJ2_isEmpty 7 = .ok (.iconst 1, 1) := dk_4 (dk_at dksJ2_isEmpty_0 7 rfl rfl)
theorem dJ2_isEmpty_8 : decode cJ2_isEmpty 8 = .ok (.goto 4, 3) := dk_167 0 4 (dk_at dksJ2_isEmpty_0 8 rfl rfl)
theorem dJ2_isEmpty_11 : decode cJ2_isEmpty 11 = .ok (.iconst 0, 1) := dk_3 (dk_at dksJ2_isEmpty_0 11 rfl rfl)
theorem dJ2_isEmpty_12 : decode cJ2_isEmpty 12 = .ok (.ireturn, 1) := dk_172 (dk_at dksJ2_isEmpty_0 12 rfl rfl)
abbrev cJ2_add : ByteArray := prog_43_method_25_code
def yJ2_add : MethodName := ⟨RJ2, "add", "(Ljava/lang/Object;)Z"⟩
def dkwJ2_add_1 : List UInt8 := [172]
abbrev dktJ2_add_1 : List UInt8 := dkwJ2_add_1 ++ []
def dkwJ2_add_0 : List UInt8 := [42, 89, 180, 0, 63, 4, 96, 181, 0, 63, 42, 43, 42, 180, 0, 9, 42, 180, 0, 48, 182, 0, 131, 4]
abbrev dktJ2_add_0 : List UInt8 := dkwJ2_add_0 ++ dktJ2_add_1
theorem dksJ2_add_0 : cJ2_add.data.toList.drop 0 = dktJ2_add_0 := by decide +kernel
theorem dksJ2_add_1 : cJ2_add.data.toList.drop 24 = dktJ2_add_1 := dk_seg dksJ2_add_0 24 rfl rfl
theorem dJ2_add_0 : decode cJ2_add 0 = .ok (.aload_n 0, 1) := dk_42 (dk_at dksJ2_add_0 0 rfl rfl)
theorem dJ2_add_1 : decode cJ2_add 1 = .ok (.dup, 1) := dk_89 (dk_at dksJ2_add_0 1 rfl rfl)
theorem dJ2_add_2 : decode cJ2_add 2 = .ok (.getfield 63, 3) := dk_180 0 63 (dk_at dksJ2_add_0 2 rfl rfl)
theorem dJ2_add_5 : decode cJ2_add 5 = .ok (.iconst 1, 1) := dk_4 (dk_at dksJ2_add_0 5 rfl rfl)
theorem dJ2_add_6 : decode cJ2_add 6 = .ok (.iadd, 1) := dk_96 (dk_at dksJ2_add_0 6 rfl rfl)
theorem dJ2_add_7 : decode cJ2_add 7 = .ok (.putfield 63, 3) := dk_181 0 63 (dk_at dksJ2_add_0 7 rfl rfl)
theorem dJ2_add_10 : decode cJ2_add 10 = .ok (.aload_n 0, 1) := dk_42 (dk_at dksJ2_add_0 10 rfl rfl)
theorem dJ2_add_11 : decode cJ2_add 11 = .ok (.aload_n 1, 1) := dk_43 (dk_at dksJ2_add_0 11 rfl rfl)
theorem dJ2_add_12 : decode cJ2_add 12 = .ok (.aload_n 0, 1) := dk_42 (dk_at dksJ2_add_0 12 rfl rfl)
theorem dJ2_add_13 : decode cJ2_add 13 = .ok (.getfield 9, 3) := dk_180 0 9 (dk_at dksJ2_add_0 13 rfl rfl)
theorem dJ2_add_16 : decode cJ2_add 16 = .ok (.aload_n 0, 1) := dk_42 (dk_at dksJ2_add_0 16 rfl rfl)
theorem dJ2_add_17 : decode cJ2_add 17 = .ok (.getfield 48, 3) := dk_180 0 48 (dk_at dksJ2_add_0 17 rfl rfl)
theorem dJ2_add_20 : decode cJ2_add 20 = .ok (.invokevirtual 131, 3) := dk_182 0 131 (dk_at dksJ2_add_0 20 rfl rfl)
theorem dJ2_add_23 : decode cJ2_add 23 = .ok (.iconst 1, 1) := dk_4 (dk_at dksJ2_add_0 23 rfl rfl)
theorem dJ2_add_24 : decode cJ2_add 24 = .ok (.ireturn, 1) := dk_172 (dk_at dksJ2_add_1 0 rfl rfl)
abbrev cJ2_add_2 : ByteArray := prog_43_method_24_code
def yJ2_add_2 : MethodName := ⟨RJ2, "add", "(Ljava/lang/Object;[Ljava/lang/Object;I)V"⟩
def dkwJ2_add_2_0 : List UInt8 := [29, 44, 190, 160, 0, 8, 42, 182, 0, 129, 77, 44, 29, 43, 83, 42, 29, 4, 96, 181, 0, 48, 177]
abbrev dktJ2_add_2_0 : List UInt8 := dkwJ2_add_2_0 ++ []
theorem dksJ2_add_2_0 : cJ2_add_2.data.toList.drop 0 = dktJ2_add_2_0 := by decide +kernel
theorem dJ2_add_2_0 : decode cJ2_add_2 0 = .ok (.iload_n 3, 1) := dk_29 (dk_at dksJ2_add_2_0 0 rfl rfl)
theorem dJ2_add_2_1 : decode cJ2_add_2 1 = .ok (.aload_n 2, 1) := dk_44 (dk_at dksJ2_add_2_0 1 rfl rfl)
theorem dJ2_add_2_2 : decode cJ2_add_2 2 = .ok (.arraylength, 1) := dk_190 (dk_at dksJ2_add_2_0 2 rfl rfl)
theorem dJ2_add_2_3 : decode cJ2_add_2 3 = .ok (.if_icmp .ne 8, 3) := dk_160 0 8 (dk_at dksJ2_add_2_0 3 rfl rfl)
theorem dJ2_add_2_6 : decode cJ2_add_2 6 = .ok (.aload_n 0, 1) := dk_42 (dk_at dksJ2_add_2_0 6 rfl rfl)
theorem dJ2_add_2_7 : decode cJ2_add_2 7 = .ok (.invokevirtual 129, 3) := dk_182 0 129 (dk_at dksJ2_add_2_0 7 rfl rfl)
theorem dJ2_add_2_10 : decode cJ2_add_2 10 = .ok (.astore_n 2, 1) := dk_77 (dk_at dksJ2_add_2_0 10 rfl rfl)
theorem dJ2_add_2_11 : decode cJ2_add_2 11 = .ok (.aload_n 2, 1) := dk_44 (dk_at dksJ2_add_2_0 11 rfl rfl)
theorem dJ2_add_2_12 : decode cJ2_add_2 12 = .ok (.iload_n 3, 1) := dk_29 (dk_at dksJ2_add_2_0 12 rfl rfl)
theorem dJ2_add_2_13 : decode cJ2_add_2 13 = .ok (.aload_n 1, 1) := dk_43 (dk_at dksJ2_add_2_0 13 rfl rfl)
theorem dJ2_add_2_14 : decode cJ2_add_2 14 = .ok (.aastore, 1) := dk_83 (dk_at dksJ2_add_2_0 14 rfl rfl)
theorem dJ2_add_2_15 : decode cJ2_add_2 15 = .ok (.aload_n 0, 1) := dk_42 (dk_at dksJ2_add_2_0 15 rfl rfl)
theorem dJ2_add_2_16 : decode cJ2_add_2 16 = .ok (.iload_n 3, 1) := dk_29 (dk_at dksJ2_add_2_0 16 rfl rfl)
theorem dJ2_add_2_17 : decode cJ2_add_2 17 = .ok (.iconst 1, 1) := dk_4 (dk_at dksJ2_add_2_0 17 rfl rfl)
theorem dJ2_add_2_18 : decode cJ2_add_2 18 = .ok (.iadd, 1) := dk_96 (dk_at dksJ2_add_2_0 18 rfl rfl)
theorem dJ2_add_2_19 : decode cJ2_add_2 19 = .ok (.putfield 48, 3) := dk_181 0 48 (dk_at dksJ2_add_2_0 19 rfl rfl)
theorem dJ2_add_2_22 : decode cJ2_add_2 22 = .ok (.return_, 1) := dk_177 (dk_at dksJ2_add_2_0 22 rfl rfl)
abbrev cJ2_grow : ByteArray := prog_43_method_7_code
def yJ2_grow : MethodName := ⟨RJ2, "grow", "()[Ljava/lang/Object;"⟩
def dkwJ2_grow_0 : List UInt8 := [42, 42, 180, 0, 48, 4, 96, 182, 0, 69, 176]
abbrev dktJ2_grow_0 : List UInt8 := dkwJ2_grow_0 ++ []
theorem dksJ2_grow_0 : cJ2_grow.data.toList.drop 0 = dktJ2_grow_0 := by decide +kernel
theorem dJ2_grow_0 : decode cJ2_grow 0 = .ok (.aload_n 0, 1) := dk_42 (dk_at dksJ2_grow_0 0 rfl rfl)
theorem dJ2_grow_1 : decode cJ2_grow 1 = .ok (.aload_n 0, 1) := dk_42 (dk_at dksJ2_grow_0 1 rfl rfl)
theorem dJ2_grow_2 : decode cJ2_grow 2 = .ok (.getfield 48, 3) := dk_180 0 48 (dk_at dksJ2_grow_0 2 rfl rfl)
theorem dJ2_grow_5 : decode cJ2_grow 5 = .ok (.iconst 1, 1) := dk_4 (dk_at dksJ2_grow_0 5 rfl rfl)
theorem dJ2_grow_6 : decode cJ2_grow 6 = .ok (.iadd, 1) := dk_96 (dk_at dksJ2_grow_0 6 rfl rfl)
theorem dJ2_grow_7 : decode cJ2_grow 7 = .ok (.invokevirtual 69, 3) := dk_182 0 69 (dk_at dksJ2_grow_0 7 rfl rfl)
theorem dJ2_grow_10 : decode cJ2_grow 10 = .ok (.areturn, 1) := dk_176 (dk_at dksJ2_grow_0 10 rfl rfl)
abbrev cJ2_grow_2 : ByteArray := prog_43_method_6_code
def yJ2_grow_2 : MethodName := ⟨RJ2, "grow", "(I)[Ljava/lang/Object;"⟩
def dkwJ2_grow_2_2 : List UInt8 := [27, 184, 0, 79, 189, 0, 7, 90, 181, 0, 9, 176]
abbrev dktJ2_grow_2_2 : List UInt8 := dkwJ2_grow_2_2 ++ []
def dkwJ2_grow_2_1 : List UInt8 := [28, 4, 122, 184, 0, 73, 62, 42, 42, 180, 0, 9, 29, 184, 0, 66, 90, 181, 0, 9, 176, 42, 16, 10]
abbrev dktJ2_grow_2_1 : List UInt8 := dkwJ2_grow_2_1 ++ dktJ2_grow_2_2
def dkwJ2_grow_2_0 : List UInt8 := [42, 180, 0, 9, 190, 61, 28, 157, 0, 13, 42, 180, 0, 9, 178, 0, 39, 165, 0, 28, 28, 27, 28, 100]
abbrev dktJ2_grow_2_0 : List UInt8 := dkwJ2_grow_2_0 ++ dktJ2_grow_2_1
theorem dksJ2_grow_2_0 : cJ2_grow_2.data.toList.drop 0 = dktJ2_grow_2_0 := by decide +kernel
theorem dksJ2_grow_2_1 : cJ2_grow_2.data.toList.drop 24 = dktJ2_grow_2_1 := dk_seg dksJ2_grow_2_0 24 rfl rfl
theorem dksJ2_grow_2_2 : cJ2_grow_2.data.toList.drop 48 = dktJ2_grow_2_2 := dk_seg dksJ2_grow_2_1 24 rfl rfl
theorem dJ2_grow_2_0 : decode cJ2_grow_2 0 = .ok (.aload_n 0, 1) := dk_42 (dk_at dksJ2_grow_2_0 0 rfl rfl)
theorem dJ2_grow_2_1 : decode cJ2_grow_2 1 = .ok (.getfield 9, 3) := dk_180 0 9 (dk_at dksJ2_grow_2_0 1 rfl rfl)
theorem dJ2_grow_2_4 : decode cJ2_grow_2 4 = .ok (.arraylength, 1) := dk_190 (dk_at dksJ2_grow_2_0 4 rfl rfl)
theorem dJ2_grow_2_5 : decode cJ2_grow_2 5 = .ok (.istore_n 2, 1) := dk_61 (dk_at dksJ2_grow_2_0 5 rfl rfl)
theorem dJ2_grow_2_6 : decode cJ2_grow_2 6 = .ok (.iload_n 2, 1) := dk_28 (dk_at dksJ2_grow_2_0 6 rfl rfl)
theorem dJ2_grow_2_7 : decode cJ2_grow_2 7 = .ok (.ifCond .gt 13, 3) := dk_157 0 13 (dk_at dksJ2_grow_2_0 7 rfl rfl)
theorem dJ2_grow_2_10 : decode cJ2_grow_2 10 = .ok (.aload_n 0, 1) := dk_42 (dk_at dksJ2_grow_2_0 10 rfl rfl)
theorem dJ2_grow_2_11 : decode cJ2_grow_2 11 = .ok (.getfield 9, 3) := dk_180 0 9 (dk_at dksJ2_grow_2_0 11 rfl rfl)
theorem dJ2_grow_2_14 : decode cJ2_grow_2 14 = .ok (.getstatic 39, 3) := dk_178 0 39 (dk_at dksJ2_grow_2_0 14 rfl rfl)
theorem dJ2_grow_2_17 : decode cJ2_grow_2 17 = .ok (.if_acmp .eq 28, 3) := dk_165 0 28 (dk_at dksJ2_grow_2_0 17 rfl rfl)
theorem dJ2_grow_2_20 : decode cJ2_grow_2 20 = .ok (.iload_n 2, 1) := dk_28 (dk_at dksJ2_grow_2_0 20 rfl rfl)
theorem dJ2_grow_2_21 : decode cJ2_grow_2 21 = .ok (.iload_n 1, 1) := dk_27 (dk_at dksJ2_grow_2_0 21 rfl rfl)
theorem dJ2_grow_2_22 : decode cJ2_grow_2 22 = .ok (.iload_n 2, 1) := dk_28 (dk_at dksJ2_grow_2_0 22 rfl rfl)
theorem dJ2_grow_2_23 : decode cJ2_grow_2 23 = .ok (.isub, 1) := dk_100 (dk_at dksJ2_grow_2_0 23 rfl rfl)
theorem dJ2_grow_2_24 : decode cJ2_grow_2 24 = .ok (.iload_n 2, 1) := dk_28 (dk_at dksJ2_grow_2_1 0 rfl rfl)
theorem dJ2_grow_2_25 : decode cJ2_grow_2 25 = .ok (.iconst 1, 1) := dk_4 (dk_at dksJ2_grow_2_1 1 rfl rfl)
theorem dJ2_grow_2_26 : decode cJ2_grow_2 26 = .ok (.ishr, 1) := dk_122 (dk_at dksJ2_grow_2_1 2 rfl rfl)
theorem dJ2_grow_2_27 : decode cJ2_grow_2 27 = .ok (.invokestatic 73, 3) := dk_184 0 73 (dk_at dksJ2_grow_2_1 3 rfl rfl)
theorem dJ2_grow_2_30 : decode cJ2_grow_2 30 = .ok (.istore_n 3, 1) := dk_62 (dk_at dksJ2_grow_2_1 6 rfl rfl)
theorem dJ2_grow_2_31 : decode cJ2_grow_2 31 = .ok (.aload_n 0, 1) := dk_42 (dk_at dksJ2_grow_2_1 7 rfl rfl)
theorem dJ2_grow_2_32 : decode cJ2_grow_2 32 = .ok (.aload_n 0, 1) := dk_42 (dk_at dksJ2_grow_2_1 8 rfl rfl)
theorem dJ2_grow_2_33 : decode cJ2_grow_2 33 = .ok (.getfield 9, 3) := dk_180 0 9 (dk_at dksJ2_grow_2_1 9 rfl rfl)
theorem dJ2_grow_2_36 : decode cJ2_grow_2 36 = .ok (.iload_n 3, 1) := dk_29 (dk_at dksJ2_grow_2_1 12 rfl rfl)
theorem dJ2_grow_2_37 : decode cJ2_grow_2 37 = .ok (.invokestatic 66, 3) := dk_184 0 66 (dk_at dksJ2_grow_2_1 13 rfl rfl)
theorem dJ2_grow_2_40 : decode cJ2_grow_2 40 = .ok (.dup_x1, 1) := dk_90 (dk_at dksJ2_grow_2_1 16 rfl rfl)
theorem dJ2_grow_2_41 : decode cJ2_grow_2 41 = .ok (.putfield 9, 3) := dk_181 0 9 (dk_at dksJ2_grow_2_1 17 rfl rfl)
theorem dJ2_grow_2_44 : decode cJ2_grow_2 44 = .ok (.areturn, 1) := dk_176 (dk_at dksJ2_grow_2_1 20 rfl rfl)
theorem dJ2_grow_2_45 : decode cJ2_grow_2 45 = .ok (.aload_n 0, 1) := dk_42 (dk_at dksJ2_grow_2_1 21 rfl rfl)
theorem dJ2_grow_2_46 : decode cJ2_grow_2 46 = .ok (.bipush 10, 2) := dk_16 10 (dk_at dksJ2_grow_2_1 22 rfl rfl)
theorem dJ2_grow_2_48 : decode cJ2_grow_2 48 = .ok (.iload_n 1, 1) := dk_27 (dk_at dksJ2_grow_2_2 0 rfl rfl)
theorem dJ2_grow_2_49 : decode cJ2_grow_2 49 = .ok (.invokestatic 79, 3) := dk_184 0 79 (dk_at dksJ2_grow_2_2 1 rfl rfl)
theorem dJ2_grow_2_52 : decode cJ2_grow_2 52 = .ok (.anewarray 7, 3) := dk_189 0 7 (dk_at dksJ2_grow_2_2 4 rfl rfl)
theorem dJ2_grow_2_55 : decode cJ2_grow_2 55 = .ok (.dup_x1, 1) := dk_90 (dk_at dksJ2_grow_2_2 7 rfl rfl)
theorem dJ2_grow_2_56 : decode cJ2_grow_2 56 = .ok (.putfield 9, 3) := dk_181 0 9 (dk_at dksJ2_grow_2_2 8 rfl rfl)
theorem dJ2_grow_2_59 : decode cJ2_grow_2 59 = .ok (.areturn, 1) := dk_176 (dk_at dksJ2_grow_2_2 11 rfl rfl)
abbrev cJ2_remove : ByteArray := prog_43_method_29_code
def yJ2_remove : MethodName := ⟨RJ2, "remove", "(I)Ljava/lang/Object;"⟩
def dkwJ2_remove_1 : List UInt8 := [45, 176]
abbrev dktJ2_remove_1 : List UInt8 := dkwJ2_remove_1 ++ []
def dkwJ2_remove_0 : List UInt8 := [27, 42, 180, 0, 48, 184, 0, 118, 87, 42, 180, 0, 9, 77, 44, 27, 50, 78, 42, 44, 27, 182, 0, 144]
abbrev dktJ2_remove_0 : List UInt8 := dkwJ2_remove_0 ++ dktJ2_remove_1
theorem dksJ2_remove_0 : cJ2_remove.data.toList.drop 0 = dktJ2_remove_0 := by decide +kernel
theorem dksJ2_remove_1 : cJ2_remove.data.toList.drop 24 = dktJ2_remove_1 := dk_seg dksJ2_remove_0 24 rfl rfl
theorem dJ2_remove_0 : decode cJ2_remove 0 = .ok (.iload_n 1, 1) := dk_27 (dk_at dksJ2_remove_0 0 rfl rfl)
theorem dJ2_remove_1 : decode cJ2_remove 1 = .ok (.aload_n 0, 1) := dk_42 (dk_at dksJ2_remove_0 1 rfl rfl)
theorem dJ2_remove_2 : decode cJ2_remove 2 = .ok (.getfield 48, 3) := dk_180 0 48 (dk_at dksJ2_remove_0 2 rfl rfl)
theorem dJ2_remove_5 : decode cJ2_remove 5 = .ok (.invokestatic 118, 3) := dk_184 0 118 (dk_at dksJ2_remove_0 5 rfl rfl)
theorem dJ2_remove_8 : decode cJ2_remove 8 = .ok (.pop, 1) := dk_87 (dk_at dksJ2_remove_0 8 rfl rfl)
theorem dJ2_remove_9 : decode cJ2_remove 9 = .ok (.aload_n 0, 1) := dk_42 (dk_at dksJ2_remove_0 9 rfl rfl)
theorem dJ2_remove_10 : decode cJ2_remove 10 = .ok (.getfield 9, 3) := dk_180 0 9 (dk_at dksJ2_remove_0 10 rfl rfl)
theorem dJ2_remove_13 : decode cJ2_remove 13 = .ok (.astore_n 2, 1) := dk_77 (dk_at dksJ2_remove_0 13 rfl rfl)
theorem dJ2_remove_14 : decode cJ2_remove 14 = .ok (.aload_n 2, 1) := dk_44 (dk_at dksJ2_remove_0 14 rfl rfl)
theorem dJ2_remove_15 : decode cJ2_remove 15 = .ok (.iload_n 1, 1) := dk_27 (dk_at dksJ2_remove_0 15 rfl rfl)
theorem dJ2_remove_16 : decode cJ2_remove 16 = .ok (.aaload, 1) := dk_50 (dk_at dksJ2_remove_0 16 rfl rfl)
theorem dJ2_remove_17 : decode cJ2_remove 17 = .ok (.astore_n 3, 1) := dk_78 (dk_at dksJ2_remove_0 17 rfl rfl)
theorem dJ2_remove_18 : decode cJ2_remove 18 = .ok (.aload_n 0, 1) := dk_42 (dk_at dksJ2_remove_0 18 rfl rfl)
theorem dJ2_remove_19 : decode cJ2_remove 19 = .ok (.aload_n 2, 1) := dk_44 (dk_at dksJ2_remove_0 19 rfl rfl)
theorem dJ2_remove_20 : decode cJ2_remove 20 = .ok (.iload_n 1, 1) := dk_27 (dk_at dksJ2_remove_0 20 rfl rfl)
theorem dJ2_remove_21 : decode cJ2_remove 21 = .ok (.invokevirtual 144, 3) := dk_182 0 144 (dk_at dksJ2_remove_0 21 rfl rfl)
theorem dJ2_remove_24 : decode cJ2_remove 24 = .ok (.aload_n 3, 1) := dk_45 (dk_at dksJ2_remove_1 0 rfl rfl)
theorem dJ2_remove_25 : decode cJ2_remove 25 = .ok (.areturn, 1) := dk_176 (dk_at dksJ2_remove_1 1 rfl rfl)
abbrev cJ2_fastRemove : ByteArray := prog_43_method_39_code
def yJ2_fastRemove : MethodName := ⟨RJ2, "fastRemove", "([Ljava/lang/Object;I)V"⟩
def dkwJ2_fastRemove_1 : List UInt8 := [4, 96, 43, 28, 29, 28, 100, 184, 0, 112, 43, 42, 29, 90, 181, 0, 48, 1, 83, 177]
abbrev dktJ2_fastRemove_1 : List UInt8 := dkwJ2_fastRemove_1 ++ []
def dkwJ2_fastRemove_0 : List UInt8 := [42, 89, 180, 0, 63, 4, 96, 181, 0, 63, 42, 180, 0, 48, 4, 100, 89, 62, 28, 164, 0, 15, 43, 28]
abbrev dktJ2_fastRemove_0 : List UInt8 := dkwJ2_fastRemove_0 ++ dktJ2_fastRemove_1
theorem dksJ2_fastRemove_0 : cJ2_fastRemove.data.toList.drop 0 = dktJ2_fastRemove_0 := by decide +kernel
theorem dksJ2_fastRemove_1 : cJ2_fastRemove.data.toList.drop 24 = dktJ2_fastRemove_1 := dk_seg dksJ2_fastRemove_0 24 rfl rfl
theorem dJ2_fastRemove_0 : decode cJ2_fastRemove 0 = .ok (.aload_n 0, 1) := dk_42 (dk_at dksJ2_fastRemove_0 0 rfl rfl)
theorem dJ2_fastRemove_1 : decode cJ2_fastRemove 1 = .ok (.dup, 1) := dk_89 (dk_at dksJ2_fastRemove_0 1 rfl rfl)
theorem dJ2_fastRemove_2 : decode cJ2_fastRemove 2 = .ok (.getfield 63, 3) := dk_180 0 63 (dk_at dksJ2_fastRemove_0 2 rfl rfl)
theorem dJ2_fastRemove_5 : decode cJ2_fastRemove 5 = .ok (.iconst 1, 1) := dk_4 (dk_at dksJ2_fastRemove_0 5 rfl rfl)
theorem dJ2_fastRemove_6 : decode cJ2_fastRemove 6 = .ok (.iadd, 1) := dk_96 (dk_at dksJ2_fastRemove_0 6 rfl rfl)
theorem dJ2_fastRemove_7 : decode cJ2_fastRemove 7 = .ok (.putfield 63, 3) := dk_181 0 63 (dk_at dksJ2_fastRemove_0 7 rfl rfl)
theorem dJ2_fastRemove_10 : decode cJ2_fastRemove 10 = .ok (.aload_n 0, 1) := dk_42 (dk_at dksJ2_fastRemove_0 10 rfl rfl)
theorem dJ2_fastRemove_11 : decode cJ2_fastRemove 11 = .ok (.getfield 48, 3) := dk_180 0 48 (dk_at dksJ2_fastRemove_0 11 rfl rfl)
theorem dJ2_fastRemove_14 : decode cJ2_fastRemove 14 = .ok (.iconst 1, 1) := dk_4 (dk_at dksJ2_fastRemove_0 14 rfl rfl)
theorem dJ2_fastRemove_15 : decode cJ2_fastRemove 15 = .ok (.isub, 1) := dk_100 (dk_at dksJ2_fastRemove_0 15 rfl rfl)
theorem dJ2_fastRemove_16 : decode cJ2_fastRemove 16 = .ok (.dup, 1) := dk_89 (dk_at dksJ2_fastRemove_0 16 rfl rfl)
theorem dJ2_fastRemove_17 : decode cJ2_fastRemove 17 = .ok (.istore_n 3, 1) := dk_62 (dk_at dksJ2_fastRemove_0 17 rfl rfl)
theorem dJ2_fastRemove_18 : decode cJ2_fastRemove 18 = .ok (.iload_n 2, 1) := dk_28 (dk_at dksJ2_fastRemove_0 18 rfl rfl)
theorem dJ2_fastRemove_19 : decode cJ2_fastRemove 19 = .ok (.if_icmp .le 15, 3) := dk_164 0 15 (dk_at dksJ2_fastRemove_0 19 rfl rfl)
theorem dJ2_fastRemove_22 : decode cJ2_fastRemove 22 = .ok (.aload_n 1, 1) := dk_43 (dk_at dksJ2_fastRemove_0 22 rfl rfl)
theorem dJ2_fastRemove_23 : decode cJ2_fastRemove 23 = .ok (.iload_n 2, 1) := dk_28 (dk_at dksJ2_fastRemove_0 23 rfl rfl)
theorem dJ2_fastRemove_24 : decode cJ2_fastRemove 24 = .ok (.iconst 1, 1) := dk_4 (dk_at dksJ2_fastRemove_1 0 rfl rfl)
theorem dJ2_fastRemove_25 : decode cJ2_fastRemove 25 = .ok (.iadd, 1) := dk_96 (dk_at dksJ2_fastRemove_1 1 rfl rfl)
theorem dJ2_fastRemove_26 : decode cJ2_fastRemove 26 = .ok (.aload_n 1, 1) := dk_43 (dk_at dksJ2_fastRemove_1 2 rfl rfl)
theorem dJ2_fastRemove_27 : decode cJ2_fastRemove 27 = .ok (.iload_n 2, 1) := dk_28 (dk_at dksJ2_fastRemove_1 3 rfl rfl)
theorem dJ2_fastRemove_28 : decode cJ2_fastRemove 28 = .ok (.iload_n 3, 1) := dk_29 (dk_at dksJ2_fastRemove_1 4 rfl rfl)
theorem dJ2_fastRemove_29 : decode cJ2_fastRemove 29 = .ok (.iload_n 2, 1) := dk_28 (dk_at dksJ2_fastRemove_1 5 rfl rfl)
theorem dJ2_fastRemove_30 : decode cJ2_fastRemove 30 = .ok (.isub, 1) := dk_100 (dk_at dksJ2_fastRemove_1 6 rfl rfl)
theorem dJ2_fastRemove_31 : decode cJ2_fastRemove 31 = .ok (.invokestatic 112, 3) := dk_184 0 112 (dk_at dksJ2_fastRemove_1 7 rfl rfl)
theorem dJ2_fastRemove_34 : decode cJ2_fastRemove 34 = .ok (.aload_n 1, 1) := dk_43 (dk_at dksJ2_fastRemove_1 10 rfl rfl)
theorem dJ2_fastRemove_35 : decode cJ2_fastRemove 35 = .ok (.aload_n 0, 1) := dk_42 (dk_at dksJ2_fastRemove_1 11 rfl rfl)
theorem dJ2_fastRemove_36 : decode cJ2_fastRemove 36 = .ok (.iload_n 3, 1) := dk_29 (dk_at dksJ2_fastRemove_1 12 rfl rfl)
theorem dJ2_fastRemove_37 : decode cJ2_fastRemove 37 = .ok (.dup_x1, 1) := dk_90 (dk_at dksJ2_fastRemove_1 13 rfl rfl)
theorem dJ2_fastRemove_38 : decode cJ2_fastRemove 38 = .ok (.putfield 48, 3) := dk_181 0 48 (dk_at dksJ2_fastRemove_1 14 rfl rfl)
theorem dJ2_fastRemove_41 : decode cJ2_fastRemove 41 = .ok (.aconst_null, 1) := dk_1 (dk_at dksJ2_fastRemove_1 17 rfl rfl)
theorem dJ2_fastRemove_42 : decode cJ2_fastRemove 42 = .ok (.aastore, 1) := dk_83 (dk_at dksJ2_fastRemove_1 18 rfl rfl)
theorem dJ2_fastRemove_43 : decode cJ2_fastRemove 43 = .ok (.return_, 1) := dk_177 (dk_at dksJ2_fastRemove_1 19 rfl rfl)
abbrev cJ2_set : ByteArray := prog_43_method_23_code
def yJ2_set : MethodName := ⟨RJ2, "set", "(ILjava/lang/Object;)Ljava/lang/Object;"⟩
def dkwJ2_set_0 : List UInt8 := [27, 42, 180, 0, 48, 184, 0, 118, 87, 42, 27, 182, 0, 123, 78, 42, 180, 0, 9, 27, 44, 83, 45, 176]
abbrev dktJ2_set_0 : List UInt8 := dkwJ2_set_0 ++ []
theorem dksJ2_set_0 : cJ2_set.data.toList.drop 0 = dktJ2_set_0 := by decide +kernel
theorem dJ2_set_0 : decode cJ2_set 0 = .ok (.iload_n 1, 1) := dk_27 (dk_at dksJ2_set_0 0 rfl rfl)
theorem dJ2_set_1 : decode cJ2_set 1 = .ok (.aload_n 0, 1) := dk_42 (dk_at dksJ2_set_0 1 rfl rfl)
theorem dJ2_set_2 : decode cJ2_set 2 = .ok (.getfield 48, 3) := dk_180 0 48 (dk_at dksJ2_set_0 2 rfl rfl)
theorem dJ2_set_5 : decode cJ2_set 5 = .ok (.invokestatic 118, 3) := dk_184 0 118 (dk_at dksJ2_set_0 5 rfl rfl)
theorem dJ2_set_8 : decode cJ2_set 8 = .ok (.pop, 1) := dk_87 (dk_at dksJ2_set_0 8 rfl rfl)
theorem dJ2_set_9 : decode cJ2_set 9 = .ok (.aload_n 0, 1) := dk_42 (dk_at dksJ2_set_0 9 rfl rfl)
theorem dJ2_set_10 : decode cJ2_set 10 = .ok (.iload_n 1, 1) := dk_27 (dk_at dksJ2_set_0 10 rfl rfl)
theorem dJ2_set_11 : decode cJ2_set 11 = .ok (.invokevirtual 123, 3) := dk_182 0 123 (dk_at dksJ2_set_0 11 rfl rfl)
theorem dJ2_set_14 : decode cJ2_set 14 = .ok (.astore_n 3, 1) := dk_78 (dk_at dksJ2_set_0 14 rfl rfl)
theorem dJ2_set_15 : decode cJ2_set 15 = .ok (.aload_n 0, 1) := dk_42 (dk_at dksJ2_set_0 15 rfl rfl)
theorem dJ2_set_16 : decode cJ2_set 16 = .ok (.getfield 9, 3) := dk_180 0 9 (dk_at dksJ2_set_0 16 rfl rfl)
theorem dJ2_set_19 : decode cJ2_set 19 = .ok (.iload_n 1, 1) := dk_27 (dk_at dksJ2_set_0 19 rfl rfl)
theorem dJ2_set_20 : decode cJ2_set 20 = .ok (.aload_n 2, 1) := dk_44 (dk_at dksJ2_set_0 20 rfl rfl)
theorem dJ2_set_21 : decode cJ2_set 21 = .ok (.aastore, 1) := dk_83 (dk_at dksJ2_set_0 21 rfl rfl)
theorem dJ2_set_22 : decode cJ2_set 22 = .ok (.aload_n 3, 1) := dk_45 (dk_at dksJ2_set_0 22 rfl rfl)
theorem dJ2_set_23 : decode cJ2_set 23 = .ok (.areturn, 1) := dk_176 (dk_at dksJ2_set_0 23 rfl rfl)
abbrev cJ2_init_2 : ByteArray := prog_43_method_1_code
def yJ2_init_2 : MethodName := ⟨RJ2, "<init>", "(I)V"⟩
def dkwJ2_init_2_2 : List UInt8 := [182, 0, 25, 27, 182, 0, 29, 182, 0, 32, 183, 0, 36, 191, 177]
abbrev dktJ2_init_2_2 : List UInt8 := dkwJ2_init_2_2 ++ []
def dkwJ2_init_2_1 : List UInt8 := [178, 0, 15, 181, 0, 9, 167, 0, 30, 187, 0, 18, 89, 187, 0, 20, 89, 183, 0, 22, 18, 23]
abbrev dktJ2_init_2_1 : List UInt8 := dkwJ2_init_2_1 ++ dktJ2_init_2_2
def dkwJ2_init_2_0 : List UInt8 := [42, 183, 0, 1, 27, 158, 0, 14, 42, 27, 189, 0, 7, 181, 0, 9, 167, 0, 44, 27, 154, 0, 13, 42]
abbrev dktJ2_init_2_0 : List UInt8 := dkwJ2_init_2_0 ++ dktJ2_init_2_1
theorem dksJ2_init_2_0 : cJ2_init_2.data.toList.drop 0 = dktJ2_init_2_0 := by decide +kernel
theorem dksJ2_init_2_1 : cJ2_init_2.data.toList.drop 24 = dktJ2_init_2_1 := dk_seg dksJ2_init_2_0 24 rfl rfl
theorem dksJ2_init_2_2 : cJ2_init_2.data.toList.drop 46 = dktJ2_init_2_2 := dk_seg dksJ2_init_2_1 22 rfl rfl
theorem dJ2_init_2_0 : decode cJ2_init_2 0 = .ok (.aload_n 0, 1) := dk_42 (dk_at dksJ2_init_2_0 0 rfl rfl)
theorem dJ2_init_2_1 : decode cJ2_init_2 1 = .ok (.invokespecial 1, 3) := dk_183 0 1 (dk_at dksJ2_init_2_0 1 rfl rfl)
theorem dJ2_init_2_4 : decode cJ2_init_2 4 = .ok (.iload_n 1, 1) := dk_27 (dk_at dksJ2_init_2_0 4 rfl rfl)
theorem dJ2_init_2_5 : decode cJ2_init_2 5 = .ok (.ifCond .le 14, 3) := dk_158 0 14 (dk_at dksJ2_init_2_0 5 rfl rfl)
theorem dJ2_init_2_8 : decode cJ2_init_2 8 = .ok (.aload_n 0, 1) := dk_42 (dk_at dksJ2_init_2_0 8 rfl rfl)
theorem dJ2_init_2_9 : decode cJ2_init_2 9 = .ok (.iload_n 1, 1) := dk_27 (dk_at dksJ2_init_2_0 9 rfl rfl)
theorem dJ2_init_2_10 : decode cJ2_init_2 10 = .ok (.anewarray 7, 3) := dk_189 0 7 (dk_at dksJ2_init_2_0 10 rfl rfl)
theorem dJ2_init_2_13 : decode cJ2_init_2 13 = .ok (.putfield 9, 3) := dk_181 0 9 (dk_at dksJ2_init_2_0 13 rfl rfl)
theorem dJ2_init_2_16 : decode cJ2_init_2 16 = .ok (.goto 44, 3) := dk_167 0 44 (dk_at dksJ2_init_2_0 16 rfl rfl)
theorem dJ2_init_2_19 : decode cJ2_init_2 19 = .ok (.iload_n 1, 1) := dk_27 (dk_at dksJ2_init_2_0 19 rfl rfl)
theorem dJ2_init_2_20 : decode cJ2_init_2 20 = .ok (.ifCond .ne 13, 3) := dk_154 0 13 (dk_at dksJ2_init_2_0 20 rfl rfl)
theorem dJ2_init_2_23 : decode cJ2_init_2 23 = .ok (.aload_n 0, 1) := dk_42 (dk_at dksJ2_init_2_0 23 rfl rfl)
theorem dJ2_init_2_24 : decode cJ2_init_2 24 = .ok (.getstatic 15, 3) := dk_178 0 15 (dk_at dksJ2_init_2_1 0 rfl rfl)
theorem dJ2_init_2_27 : decode cJ2_init_2 27 = .ok (.putfield 9, 3) := dk_181 0 9 (dk_at dksJ2_init_2_1 3 rfl rfl)
theorem dJ2_init_2_30 : decode cJ2_init_2 30 = .ok (.goto 30, 3) := dk_167 0 30 (dk_at dksJ2_init_2_1 6 rfl rfl)
theorem dJ2_init_2_33 : decode cJ2_init_2 33 = .ok (.new 18, 3) := dk_187 0 18 (dk_at dksJ2_init_2_1 9 rfl rfl)
theorem dJ2_init_2_36 : decode cJ2_init_2 36 = .ok (.dup, 1) := dk_89 (dk_at dksJ2_init_2_1 12 rfl rfl)
theorem dJ2_init_2_37 : decode cJ2_init_2 37 = .ok (.new 20, 3) := dk_187 0 20 (dk_at dksJ2_init_2_1 13 rfl rfl)
theorem dJ2_init_2_40 : decode cJ2_init_2 40 = .ok (.dup, 1) := dk_89 (dk_at dksJ2_init_2_1 16 rfl rfl)
theorem dJ2_init_2_41 : decode cJ2_init_2 41 = .ok (.invokespecial 22, 3) := dk_183 0 22 (dk_at dksJ2_init_2_1 17 rfl rfl)
theorem dJ2_init_2_44 : decode cJ2_init_2 44 = .ok (.ldc 23, 2) := dk_18 23 (dk_at dksJ2_init_2_1 20 rfl rfl)
theorem dJ2_init_2_46 : decode cJ2_init_2 46 = .ok (.invokevirtual 25, 3) := dk_182 0 25 (dk_at dksJ2_init_2_2 0 rfl rfl)
theorem dJ2_init_2_49 : decode cJ2_init_2 49 = .ok (.iload_n 1, 1) := dk_27 (dk_at dksJ2_init_2_2 3 rfl rfl)
theorem dJ2_init_2_50 : decode cJ2_init_2 50 = .ok (.invokevirtual 29, 3) := dk_182 0 29 (dk_at dksJ2_init_2_2 4 rfl rfl)
theorem dJ2_init_2_53 : decode cJ2_init_2 53 = .ok (.invokevirtual 32, 3) := dk_182 0 32 (dk_at dksJ2_init_2_2 7 rfl rfl)
theorem dJ2_init_2_56 : decode cJ2_init_2 56 = .ok (.invokespecial 36, 3) := dk_183 0 36 (dk_at dksJ2_init_2_2 10 rfl rfl)
theorem dJ2_init_2_59 : decode cJ2_init_2 59 = .ok (.athrow, 1) := dk_191 (dk_at dksJ2_init_2_2 13 rfl rfl)
theorem dJ2_init_2_60 : decode cJ2_init_2 60 = .ok (.return_, 1) := dk_177 (dk_at dksJ2_init_2_2 14 rfl rfl)
abbrev cJ2_clear : ByteArray := prog_43_method_40_code
def yJ2_clear : MethodName := ⟨RJ2, "clear", "()V"⟩
def dkwJ2_clear_1 : List UInt8 := [181, 0, 48, 62, 29, 28, 162, 0, 13, 43, 29, 1, 83, 132, 3, 1, 167, 255, 244, 177]
abbrev dktJ2_clear_1 : List UInt8 := dkwJ2_clear_1 ++ []
def dkwJ2_clear_0 : List UInt8 := [42, 89, 180, 0, 63, 4, 96, 181, 0, 63, 42, 180, 0, 9, 76, 42, 180, 0, 48, 61, 42, 3, 90]
abbrev dktJ2_clear_0 : List UInt8 := dkwJ2_clear_0 ++ dktJ2_clear_1
theorem dksJ2_clear_0 : cJ2_clear.data.toList.drop 0 = dktJ2_clear_0 := by decide +kernel
theorem dksJ2_clear_1 : cJ2_clear.data.toList.drop 23 = dktJ2_clear_1 := dk_seg dksJ2_clear_0 23 rfl rfl
theorem dJ2_clear_0 : decode cJ2_clear 0 = .ok (.aload_n 0, 1) := dk_42 (dk_at dksJ2_clear_0 0 rfl rfl)
theorem dJ2_clear_1 : decode cJ2_clear 1 = .ok (.dup, 1) := dk_89 (dk_at dksJ2_clear_0 1 rfl rfl)
theorem dJ2_clear_2 : decode cJ2_clear 2 = .ok (.getfield 63, 3) := dk_180 0 63 (dk_at dksJ2_clear_0 2 rfl rfl)
theorem dJ2_clear_5 : decode cJ2_clear 5 = .ok (.iconst 1, 1) := dk_4 (dk_at dksJ2_clear_0 5 rfl rfl)
theorem dJ2_clear_6 : decode cJ2_clear 6 = .ok (.iadd, 1) := dk_96 (dk_at dksJ2_clear_0 6 rfl rfl)
theorem dJ2_clear_7 : decode cJ2_clear 7 = .ok (.putfield 63, 3) := dk_181 0 63 (dk_at dksJ2_clear_0 7 rfl rfl)
theorem dJ2_clear_10 : decode cJ2_clear 10 = .ok (.aload_n 0, 1) := dk_42 (dk_at dksJ2_clear_0 10 rfl rfl)
theorem dJ2_clear_11 : decode cJ2_clear 11 = .ok (.getfield 9, 3) := dk_180 0 9 (dk_at dksJ2_clear_0 11 rfl rfl)
theorem dJ2_clear_14 : decode cJ2_clear 14 = .ok (.astore_n 1, 1) := dk_76 (dk_at dksJ2_clear_0 14 rfl rfl)
theorem dJ2_clear_15 : decode cJ2_clear 15 = .ok (.aload_n 0, 1) := dk_42 (dk_at dksJ2_clear_0 15 rfl rfl)
theorem dJ2_clear_16 : decode cJ2_clear 16 = .ok (.getfield 48, 3) := dk_180 0 48 (dk_at dksJ2_clear_0 16 rfl rfl)
theorem dJ2_clear_19 : decode cJ2_clear 19 = .ok (.istore_n 2, 1) := dk_61 (dk_at dksJ2_clear_0 19 rfl rfl)
theorem dJ2_clear_20 : decode cJ2_clear 20 = .ok (.aload_n 0, 1) := dk_42 (dk_at dksJ2_clear_0 20 rfl rfl)
theorem dJ2_clear_21 : decode cJ2_clear 21 = .ok (.iconst 0, 1) := dk_3 (dk_at dksJ2_clear_0 21 rfl rfl)
theorem dJ2_clear_22 : decode cJ2_clear 22 = .ok (.dup_x1, 1) := dk_90 (dk_at dksJ2_clear_0 22 rfl rfl)
theorem dJ2_clear_23 : decode cJ2_clear 23 = .ok (.putfield 48, 3) := dk_181 0 48 (dk_at dksJ2_clear_1 0 rfl rfl)
theorem dJ2_clear_26 : decode cJ2_clear 26 = .ok (.istore_n 3, 1) := dk_62 (dk_at dksJ2_clear_1 3 rfl rfl)
theorem dJ2_clear_27 : decode cJ2_clear 27 = .ok (.iload_n 3, 1) := dk_29 (dk_at dksJ2_clear_1 4 rfl rfl)
theorem dJ2_clear_28 : decode cJ2_clear 28 = .ok (.iload_n 2, 1) := dk_28 (dk_at dksJ2_clear_1 5 rfl rfl)
theorem dJ2_clear_29 : decode cJ2_clear 29 = .ok (.if_icmp .ge 13, 3) := dk_162 0 13 (dk_at dksJ2_clear_1 6 rfl rfl)
theorem dJ2_clear_32 : decode cJ2_clear 32 = .ok (.aload_n 1, 1) := dk_43 (dk_at dksJ2_clear_1 9 rfl rfl)
theorem dJ2_clear_33 : decode cJ2_clear 33 = .ok (.iload_n 3, 1) := dk_29 (dk_at dksJ2_clear_1 10 rfl rfl)
theorem dJ2_clear_34 : decode cJ2_clear 34 = .ok (.aconst_null, 1) := dk_1 (dk_at dksJ2_clear_1 11 rfl rfl)
theorem dJ2_clear_35 : decode cJ2_clear 35 = .ok (.aastore, 1) := dk_83 (dk_at dksJ2_clear_1 12 rfl rfl)
theorem dJ2_clear_36 : decode cJ2_clear 36 = .ok (.iinc 3 1, 3) := dk_132 3 1 (dk_at dksJ2_clear_1 13 rfl rfl)
theorem dJ2_clear_39 : decode cJ2_clear 39 = .ok (.goto (-12), 3) := dk_167 255 244 (dk_at dksJ2_clear_1 16 rfl rfl)
theorem dJ2_clear_42 : decode cJ2_clear 42 = .ok (.return_, 1) := dk_177 (dk_at dksJ2_clear_1 19 rfl rfl)
abbrev cJ2_addAll : ByteArray := prog_43_method_41_code
def yJ2_addAll : MethodName := ⟨RJ2, "addAll", "(Ljava/util/Collection;)Z"⟩
def dkwJ2_addAll_3 : List UInt8 := [181, 0, 48, 4, 172]
abbrev dktJ2_addAll_3 : List UInt8 := dkwJ2_addAll_3 ++ []
def dkwJ2_addAll_2 : List UInt8 := [21, 5, 29, 96, 182, 0, 69, 58, 4, 44, 3, 25, 4, 21, 5, 29, 184, 0, 112, 42, 21, 5, 29, 96]
abbrev dktJ2_addAll_2 : List UInt8 := dkwJ2_addAll_2 ++ dktJ2_addAll_3
def dkwJ2_addAll_1 : List UInt8 := [3, 172, 29, 42, 180, 0, 9, 89, 58, 4, 190, 42, 180, 0, 48, 89, 54, 5, 100, 164, 0, 13, 42]
abbrev dktJ2_addAll_1 : List UInt8 := dkwJ2_addAll_1 ++ dktJ2_addAll_2
def dkwJ2_addAll_0 : List UInt8 := [43, 185, 0, 42, 1, 0, 77, 42, 89, 180, 0, 63, 4, 96, 181, 0, 63, 44, 190, 62, 29, 154, 0, 5]
abbrev dktJ2_addAll_0 : List UInt8 := dkwJ2_addAll_0 ++ dktJ2_addAll_1
theorem dksJ2_addAll_0 : cJ2_addAll.data.toList.drop 0 = dktJ2_addAll_0 := by decide +kernel
theorem dksJ2_addAll_1 : cJ2_addAll.data.toList.drop 24 = dktJ2_addAll_1 := dk_seg dksJ2_addAll_0 24 rfl rfl
theorem dksJ2_addAll_2 : cJ2_addAll.data.toList.drop 47 = dktJ2_addAll_2 := dk_seg dksJ2_addAll_1 23 rfl rfl
theorem dksJ2_addAll_3 : cJ2_addAll.data.toList.drop 71 = dktJ2_addAll_3 := dk_seg dksJ2_addAll_2 24 rfl rfl
theorem dJ2_addAll_0 : decode cJ2_addAll 0 = .ok (.aload_n 1, 1) := dk_43 (dk_at dksJ2_addAll_0 0 rfl rfl)
theorem dJ2_addAll_1 : decode cJ2_addAll 1 = .ok (.invokeinterface 42 1, 5) := by decide +kernel
theorem dJ2_addAll_6 : decode cJ2_addAll 6 = .ok (.astore_n 2, 1) := dk_77 (dk_at dksJ2_addAll_0 6 rfl rfl)
theorem dJ2_addAll_7 : decode cJ2_addAll 7 = .ok (.aload_n 0, 1) := dk_42 (dk_at dksJ2_addAll_0 7 rfl rfl)
theorem dJ2_addAll_8 : decode cJ2_addAll 8 = .ok (.dup, 1) := dk_89 (dk_at dksJ2_addAll_0 8 rfl rfl)
theorem dJ2_addAll_9 : decode cJ2_addAll 9 = .ok (.getfield 63, 3) := dk_180 0 63 (dk_at dksJ2_addAll_0 9 rfl rfl)
theorem dJ2_addAll_12 : decode cJ2_addAll 12 = .ok (.iconst 1, 1) := dk_4 (dk_at dksJ2_addAll_0 12 rfl rfl)
theorem dJ2_addAll_13 : decode cJ2_addAll 13 = .ok (.iadd, 1) := dk_96 (dk_at dksJ2_addAll_0 13 rfl rfl)
theorem dJ2_addAll_14 : decode cJ2_addAll 14 = .ok (.putfield 63, 3) := dk_181 0 63 (dk_at dksJ2_addAll_0 14 rfl rfl)
theorem dJ2_addAll_17 : decode cJ2_addAll 17 = .ok (.aload_n 2, 1) := dk_44 (dk_at dksJ2_addAll_0 17 rfl rfl)
theorem dJ2_addAll_18 : decode cJ2_addAll 18 = .ok (.arraylength, 1) := dk_190 (dk_at dksJ2_addAll_0 18 rfl rfl)
theorem dJ2_addAll_19 : decode cJ2_addAll 19 = .ok (.istore_n 3, 1) := dk_62 (dk_at dksJ2_addAll_0 19 rfl rfl)
theorem dJ2_addAll_20 : decode cJ2_addAll 20 = .ok (.iload_n 3, 1) := dk_29 (dk_at dksJ2_addAll_0 20 rfl rfl)
theorem dJ2_addAll_21 : decode cJ2_addAll 21 = .ok (.ifCond .ne 5, 3) := dk_154 0 5 (dk_at dksJ2_addAll_0 21 rfl rfl)
theorem dJ2_addAll_24 : decode cJ2_addAll 24 = .ok (.iconst 0, 1) := dk_3 (dk_at dksJ2_addAll_1 0 rfl rfl)
theorem dJ2_addAll_25 : decode cJ2_addAll 25 = .ok (.ireturn, 1) := dk_172 (dk_at dksJ2_addAll_1 1 rfl rfl)
theorem dJ2_addAll_26 : decode cJ2_addAll 26 = .ok (.iload_n 3, 1) := dk_29 (dk_at dksJ2_addAll_1 2 rfl rfl)
theorem dJ2_addAll_27 : decode cJ2_addAll 27 = .ok (.aload_n 0, 1) := dk_42 (dk_at dksJ2_addAll_1 3 rfl rfl)
theorem dJ2_addAll_28 : decode cJ2_addAll 28 = .ok (.getfield 9, 3) := dk_180 0 9 (dk_at dksJ2_addAll_1 4 rfl rfl)
theorem dJ2_addAll_31 : decode cJ2_addAll 31 = .ok (.dup, 1) := dk_89 (dk_at dksJ2_addAll_1 7 rfl rfl)
theorem dJ2_addAll_32 : decode cJ2_addAll 32 = .ok (.astore 4, 2) := dk_58 4 (dk_at dksJ2_addAll_1 8 rfl rfl)
theorem dJ2_addAll_34 : decode cJ2_addAll 34 = .ok (.arraylength, 1) := dk_190 (dk_at dksJ2_addAll_1 10 rfl rfl)
theorem dJ2_addAll_35 : decode cJ2_addAll 35 = .ok (.aload_n 0, 1) := dk_42 (dk_at dksJ2_addAll_1 11 rfl rfl)
theorem dJ2_addAll_36 : decode cJ2_addAll 36 = .ok (.getfield 48, 3) := dk_180 0 48 (dk_at dksJ2_addAll_1 12 rfl rfl)
theorem dJ2_addAll_39 : decode cJ2_addAll 39 = .ok (.dup, 1) := dk_89 (dk_at dksJ2_addAll_1 15 rfl rfl)
theorem dJ2_addAll_40 : decode cJ2_addAll 40 = .ok (.istore 5, 2) := dk_54 5 (dk_at dksJ2_addAll_1 16 rfl rfl)
theorem dJ2_addAll_42 : decode cJ2_addAll 42 = .ok (.isub, 1) := dk_100 (dk_at dksJ2_addAll_1 18 rfl rfl)
theorem dJ2_addAll_43 : decode cJ2_addAll 43 = .ok (.if_icmp .le 13, 3) := dk_164 0 13 (dk_at dksJ2_addAll_1 19 rfl rfl)
theorem dJ2_addAll_46 : decode cJ2_addAll 46 = .ok (.aload_n 0, 1) := dk_42 (dk_at dksJ2_addAll_1 22 rfl rfl)
theorem dJ2_addAll_47 : decode cJ2_addAll 47 = .ok (.iload 5, 2) := dk_21 5 (dk_at dksJ2_addAll_2 0 rfl rfl)
theorem dJ2_addAll_49 : decode cJ2_addAll 49 = .ok (.iload_n 3, 1) := dk_29 (dk_at dksJ2_addAll_2 2 rfl rfl)
theorem dJ2_addAll_50 : decode cJ2_addAll 50 = .ok (.iadd, 1) := dk_96 (dk_at dksJ2_addAll_2 3 rfl rfl)
theorem dJ2_addAll_51 : decode cJ2_addAll 51 = .ok (.invokevirtual 69, 3) := dk_182 0 69 (dk_at dksJ2_addAll_2 4 rfl rfl)
theorem dJ2_addAll_54 : decode cJ2_addAll 54 = .ok (.astore 4, 2) := dk_58 4 (dk_at dksJ2_addAll_2 7 rfl rfl)
theorem dJ2_addAll_56 : decode cJ2_addAll 56 = .ok (.aload_n 2, 1) := dk_44 (dk_at dksJ2_addAll_2 9 rfl rfl)
theorem dJ2_addAll_57 : decode cJ2_addAll 57 = .ok (.iconst 0, 1) := dk_3 (dk_at dksJ2_addAll_2 10 rfl rfl)
theorem dJ2_addAll_58 : decode cJ2_addAll 58 = .ok (.aload 4, 2) := dk_25 4 (dk_at dksJ2_addAll_2 11 rfl rfl)
theorem dJ2_addAll_60 : decode cJ2_addAll 60 = .ok (.iload 5, 2) := dk_21 5 (dk_at dksJ2_addAll_2 13 rfl rfl)
theorem dJ2_addAll_62 : decode cJ2_addAll 62 = .ok (.iload_n 3, 1) := dk_29 (dk_at dksJ2_addAll_2 15 rfl rfl)
theorem dJ2_addAll_63 : decode cJ2_addAll 63 = .ok (.invokestatic 112, 3) := dk_184 0 112 (dk_at dksJ2_addAll_2 16 rfl rfl)
theorem dJ2_addAll_66 : decode cJ2_addAll 66 = .ok (.aload_n 0, 1) := dk_42 (dk_at dksJ2_addAll_2 19 rfl rfl)
theorem dJ2_addAll_67 : decode cJ2_addAll 67 = .ok (.iload 5, 2) := dk_21 5 (dk_at dksJ2_addAll_2 20 rfl rfl)
theorem dJ2_addAll_69 : decode cJ2_addAll 69 = .ok (.iload_n 3, 1) := dk_29 (dk_at dksJ2_addAll_2 22 rfl rfl)
theorem dJ2_addAll_70 : decode cJ2_addAll 70 = .ok (.iadd, 1) := dk_96 (dk_at dksJ2_addAll_2 23 rfl rfl)
theorem dJ2_addAll_71 : decode cJ2_addAll 71 = .ok (.putfield 48, 3) := dk_181 0 48 (dk_at dksJ2_addAll_3 0 rfl rfl)
theorem dJ2_addAll_74 : decode cJ2_addAll 74 = .ok (.iconst 1, 1) := dk_4 (dk_at dksJ2_addAll_3 3 rfl rfl)
theorem dJ2_addAll_75 : decode cJ2_addAll 75 = .ok (.ireturn, 1) := dk_172 (dk_at dksJ2_addAll_3 4 rfl rfl)
abbrev cJ2_toArray : ByteArray := prog_43_method_16_code
def yJ2_toArray : MethodName := ⟨RJ2, "toArray", "()[Ljava/lang/Object;"⟩
def dkwJ2_toArray_0 : List UInt8 := [42, 180, 0, 9, 42, 180, 0, 48, 184, 0, 66, 176]
abbrev dktJ2_toArray_0 : List UInt8 := dkwJ2_toArray_0 ++ []
theorem dksJ2_toArray_0 : cJ2_toArray.data.toList.drop 0 = dktJ2_toArray_0 := by decide +kernel
theorem dJ2_toArray_0 : decode cJ2_toArray 0 = .ok (.aload_n 0, 1) := dk_42 (dk_at dksJ2_toArray_0 0 rfl rfl)
theorem dJ2_toArray_1 : decode cJ2_toArray 1 = .ok (.getfield 9, 3) := dk_180 0 9 (dk_at dksJ2_toArray_0 1 rfl rfl)
theorem dJ2_toArray_4 : decode cJ2_toArray 4 = .ok (.aload_n 0, 1) := dk_42 (dk_at dksJ2_toArray_0 4 rfl rfl)
theorem dJ2_toArray_5 : decode cJ2_toArray 5 = .ok (.getfield 48, 3) := dk_180 0 48 (dk_at dksJ2_toArray_0 5 rfl rfl)
theorem dJ2_toArray_8 : decode cJ2_toArray 8 = .ok (.invokestatic 66, 3) := dk_184 0 66 (dk_at dksJ2_toArray_0 8 rfl rfl)
theorem dJ2_toArray_11 : decode cJ2_toArray 11 = .ok (.areturn, 1) := dk_176 (dk_at dksJ2_toArray_0 11 rfl rfl)
theorem q71 : (Jvm.Cond.initialized "java/util/ArrayList") ∈ lw_all := lw_g (lw_at lw_m1 4 rfl) rfl
theorem q120 : (Jvm.Cond.instantiable "java/util/ArrayList" (3 : Nat)) ∈ lw_all := lw_g (lw_at lw_m1 53 rfl) rfl
theorem q122 : (Jvm.Cond.instanceMethod ({ cls := "java/util/ArrayList", name := "<init>", desc := "()V" } : Jvm.MethodName)) ∈ lw_all := lw_g (lw_at lw_m1 55 rfl) rfl
theorem q123 : (Jvm.Cond.code ({ cls := "java/util/ArrayList", name := "<init>", desc := "()V" } : Jvm.MethodName) prog_43_method_2_code (1 : Nat) (Option.none : Option Jvm.ClassFile.FieldType)) ∈ lw_all := lw_g (lw_at lw_m1 56 rfl) rfl
theorem q124 : (Jvm.Cond.methodLink "java/util/ArrayList" (1 : Nat) ({ cls := "java/util/AbstractList", name := "<init>", desc := "()V" } : Jvm.MethodName)) ∈ lw_all := lw_g (lw_at lw_m1 57 rfl) rfl
theorem q131 : (Jvm.Cond.fieldLink "java/util/ArrayList" (39 : Nat) "java/util/ArrayList" "DEFAULTCAPACITY_EMPTY_ELEMENTDATA" "[Ljava/lang/Object;") ∈ lw_all := lw_g (lw_at lw_m1 64 rfl) rfl
theorem q132 : (Jvm.Cond.laysStatic "java/util/ArrayList" "DEFAULTCAPACITY_EMPTY_ELEMENTDATA" "[Ljava/lang/Object;") ∈ lw_tbl := lw_at lw_m1 65 rfl
theorem q133 : (Jvm.Cond.fieldLink "java/util/ArrayList" (9 : Nat) "java/util/ArrayList" "elementData" "[Ljava/lang/Object;") ∈ lw_all := lw_g (lw_at lw_m1 66 rfl) rfl
theorem q134 : (Jvm.Cond.fieldLink "java/util/ArrayList" (48 : Nat) "java/util/ArrayList" "size" "I") ∈ lw_all := lw_g (lw_at lw_m1 67 rfl) rfl
theorem q136 : (Jvm.Cond.fieldLink "java/util/ArrayList" (63 : Nat) "java/util/ArrayList" "modCount" "I") ∈ lw_all := lw_g (lw_at lw_m1 69 rfl) rfl
theorem q137 : (Jvm.Cond.sameField "java/util/ArrayList" "java/util/AbstractList" "modCount" "I") ∈ lw_all := lw_g (lw_at lw_m1 70 rfl) rfl
theorem q138 : (Jvm.Cond.lays "java/util/ArrayList" "java/util/ArrayList" "elementData" "[Ljava/lang/Object;") ∈ lw_all := lw_g (lw_at lw_m1 71 rfl) rfl
theorem q139 : (Jvm.Cond.soleField "java/util/ArrayList" "elementData") ∈ lw_all := lw_g (lw_at lw_m1 72 rfl) rfl
theorem q140 : (Jvm.Cond.lays "java/util/ArrayList" "java/util/ArrayList" "size" "I") ∈ lw_all := lw_g (lw_at lw_m1 73 rfl) rfl
theorem q141 : (Jvm.Cond.soleField "java/util/ArrayList" "size") ∈ lw_all := lw_g (lw_at lw_m1 74 rfl) rfl
theorem q142 : (Jvm.Cond.lays "java/util/ArrayList" "java/util/AbstractList" "modCount" "I") ∈ lw_all := lw_g (lw_at lw_m1 75 rfl) rfl
theorem q144 : (Jvm.Cond.superclass "java/util/ArrayList" "java/util/AbstractList") ∈ lw_all := lw_g (lw_at lw_m1 77 rfl) rfl
theorem q159 : (Jvm.Cond.castable "java/util/ArrayList" "java/util/List") ∈ lw_tbl := lw_at lw_m1 92 rfl
theorem q160 : (Jvm.Cond.selects "java/util/ArrayList" ({ cls := "java/util/List", name := "get", desc := "(I)Ljava/lang/Object;" } : Jvm.MethodName) ({ cls := "java/util/ArrayList", name := "get", desc := "(I)Ljava/lang/Object;" } : Jvm.MethodName)) ∈ lw_all := lw_g (lw_at lw_m1 93 rfl) rfl
theorem q161 : (Jvm.Cond.unhidden "java/util/ArrayList" "get" "(I)Ljava/lang/Object;") ∈ lw_tbl := lw_at lw_m1 94 rfl
theorem q162 : (Jvm.Cond.instanceMethod ({ cls := "java/util/ArrayList", name := "get", desc := "(I)Ljava/lang/Object;" } : Jvm.MethodName)) ∈ lw_all := lw_g (lw_at lw_m1 95 rfl) rfl
theorem q163 : (Jvm.Cond.publicMethod ({ cls := "java/util/ArrayList", name := "get", desc := "(I)Ljava/lang/Object;" } : Jvm.MethodName)) ∈ lw_tbl := lw_at lw_m1 96 rfl
theorem q164 : (Jvm.Cond.code ({ cls := "java/util/ArrayList", name := "get", desc := "(I)Ljava/lang/Object;" } : Jvm.MethodName) prog_43_method_20_code (2 : Nat) (Option.some (Jvm.ClassFile.FieldType.object "java/lang/Object"))) ∈ lw_all := lw_g (lw_at lw_m1 97 rfl) rfl
theorem q165 : (Jvm.Cond.methodLink "java/util/ArrayList" (118 : Nat) ({ cls := "java/util/Objects", name := "checkIndex", desc := "(II)I" } : Jvm.MethodName)) ∈ lw_all := lw_g (lw_at lw_m1 98 rfl) rfl
theorem q171 : (Jvm.Cond.methodLink "java/util/ArrayList" (123 : Nat) ({ cls := "java/util/ArrayList", name := "elementData", desc := "(I)Ljava/lang/Object;" } : Jvm.MethodName)) ∈ lw_all := lw_g (lw_at lw_m1 104 rfl) rfl
theorem q172 : (Jvm.Cond.instanceMethod ({ cls := "java/util/ArrayList", name := "elementData", desc := "(I)Ljava/lang/Object;" } : Jvm.MethodName)) ∈ lw_all := lw_g (lw_at lw_m1 105 rfl) rfl
theorem q173 : (Jvm.Cond.selects "java/util/ArrayList" ({ cls := "java/util/ArrayList", name := "elementData", desc := "(I)Ljava/lang/Object;" } : Jvm.MethodName) ({ cls := "java/util/ArrayList", name := "elementData", desc := "(I)Ljava/lang/Object;" } : Jvm.MethodName)) ∈ lw_all := lw_g (lw_at lw_m1 106 rfl) rfl
theorem q174 : (Jvm.Cond.code ({ cls := "java/util/ArrayList", name := "elementData", desc := "(I)Ljava/lang/Object;" } : Jvm.MethodName) prog_43_method_18_code (2 : Nat) (Option.some (Jvm.ClassFile.FieldType.object "java/lang/Object"))) ∈ lw_all := lw_g (lw_at lw_m1 107 rfl) rfl
theorem q245 : (Jvm.Cond.selects "java/util/ArrayList" ({ cls := "java/util/List", name := "size", desc := "()I" } : Jvm.MethodName) ({ cls := "java/util/ArrayList", name := "size", desc := "()I" } : Jvm.MethodName)) ∈ lw_all := lw_g (lw_at lw_m1 178 rfl) rfl
theorem q246 : (Jvm.Cond.unhidden "java/util/ArrayList" "size" "()I") ∈ lw_tbl := lw_at lw_m1 179 rfl
theorem q247 : (Jvm.Cond.instanceMethod ({ cls := "java/util/ArrayList", name := "size", desc := "()I" } : Jvm.MethodName)) ∈ lw_all := lw_g (lw_at lw_m1 180 rfl) rfl
theorem q248 : (Jvm.Cond.publicMethod ({ cls := "java/util/ArrayList", name := "size", desc := "()I" } : Jvm.MethodName)) ∈ lw_tbl := lw_at lw_m1 181 rfl
theorem q249 : (Jvm.Cond.code ({ cls := "java/util/ArrayList", name := "size", desc := "()I" } : Jvm.MethodName) prog_43_method_8_code (1 : Nat) (Option.some Jvm.ClassFile.FieldType.int)) ∈ lw_all := lw_g (lw_at lw_m1 182 rfl) rfl
theorem q283 : (Jvm.Cond.selects "java/util/ArrayList" ({ cls := "java/util/List", name := "isEmpty", desc := "()Z" } : Jvm.MethodName) ({ cls := "java/util/ArrayList", name := "isEmpty", desc := "()Z" } : Jvm.MethodName)) ∈ lw_all := lw_g (lw_at lw_m1 216 rfl) rfl
theorem q284 : (Jvm.Cond.unhidden "java/util/ArrayList" "isEmpty" "()Z") ∈ lw_tbl := lw_at lw_m1 217 rfl
theorem q285 : (Jvm.Cond.instanceMethod ({ cls := "java/util/ArrayList", name := "isEmpty", desc := "()Z" } : Jvm.MethodName)) ∈ lw_all := lw_g (lw_at lw_m1 218 rfl) rfl
theorem q286 : (Jvm.Cond.publicMethod ({ cls := "java/util/ArrayList", name := "isEmpty", desc := "()Z" } : Jvm.MethodName)) ∈ lw_tbl := lw_at lw_m1 219 rfl
theorem q287 : (Jvm.Cond.code ({ cls := "java/util/ArrayList", name := "isEmpty", desc := "()Z" } : Jvm.MethodName) prog_43_method_9_code (1 : Nat) (Option.some Jvm.ClassFile.FieldType.boolean)) ∈ lw_all := lw_g (lw_at lw_m1 220 rfl) rfl
theorem q676 : (Jvm.Cond.selects "java/util/ArrayList" ({ cls := "java/util/List", name := "add", desc := "(Ljava/lang/Object;)Z" } : Jvm.MethodName) ({ cls := "java/util/ArrayList", name := "add", desc := "(Ljava/lang/Object;)Z" } : Jvm.MethodName)) ∈ lw_all := lw_g (lw_at lw_m3 129 rfl) rfl
theorem q677 : (Jvm.Cond.unhidden "java/util/ArrayList" "add" "(Ljava/lang/Object;)Z") ∈ lw_tbl := lw_at lw_m3 130 rfl
theorem q678 : (Jvm.Cond.instanceMethod ({ cls := "java/util/ArrayList", name := "add", desc := "(Ljava/lang/Object;)Z" } : Jvm.MethodName)) ∈ lw_all := lw_g (lw_at lw_m3 131 rfl) rfl
theorem q679 : (Jvm.Cond.publicMethod ({ cls := "java/util/ArrayList", name := "add", desc := "(Ljava/lang/Object;)Z" } : Jvm.MethodName)) ∈ lw_tbl := lw_at lw_m3 132 rfl
theorem q680 : (Jvm.Cond.code ({ cls := "java/util/ArrayList", name := "add", desc := "(Ljava/lang/Object;)Z" } : Jvm.MethodName) prog_43_method_25_code (2 : Nat) (Option.some Jvm.ClassFile.FieldType.boolean)) ∈ lw_all := lw_g (lw_at lw_m3 133 rfl) rfl
theorem q681 : (Jvm.Cond.methodLink "java/util/ArrayList" (131 : Nat) ({ cls := "java/util/ArrayList", name := "add", desc := "(Ljava/lang/Object;[Ljava/lang/Object;I)V" } : Jvm.MethodName)) ∈ lw_all := lw_g (lw_at lw_m3 134 rfl) rfl
theorem q682 : (Jvm.Cond.privateMethod ({ cls := "java/util/ArrayList", name := "add", desc := "(Ljava/lang/Object;[Ljava/lang/Object;I)V" } : Jvm.MethodName)) ∈ lw_tbl := lw_at lw_m3 135 rfl
theorem q683 : (Jvm.Cond.instanceMethod ({ cls := "java/util/ArrayList", name := "add", desc := "(Ljava/lang/Object;[Ljava/lang/Object;I)V" } : Jvm.MethodName)) ∈ lw_all := lw_g (lw_at lw_m3 136 rfl) rfl
theorem q684 : (Jvm.Cond.code ({ cls := "java/util/ArrayList", name := "add", desc := "(Ljava/lang/Object;[Ljava/lang/Object;I)V" } : Jvm.MethodName) prog_43_method_24_code (4 : Nat) (Option.none : Option Jvm.ClassFile.FieldType)) ∈ lw_all := lw_g (lw_at lw_m3 137 rfl) rfl
theorem q685 : (Jvm.Cond.methodLink "java/util/ArrayList" (129 : Nat) ({ cls := "java/util/ArrayList", name := "grow", desc := "()[Ljava/lang/Object;" } : Jvm.MethodName)) ∈ lw_all := lw_g (lw_at lw_m3 138 rfl) rfl
theorem q686 : (Jvm.Cond.privateMethod ({ cls := "java/util/ArrayList", name := "grow", desc := "()[Ljava/lang/Object;" } : Jvm.MethodName)) ∈ lw_tbl := lw_at lw_m3 139 rfl
theorem q687 : (Jvm.Cond.instanceMethod ({ cls := "java/util/ArrayList", name := "grow", desc := "()[Ljava/lang/Object;" } : Jvm.MethodName)) ∈ lw_all := lw_g (lw_at lw_m3 140 rfl) rfl
theorem q688 : (Jvm.Cond.code ({ cls := "java/util/ArrayList", name := "grow", desc := "()[Ljava/lang/Object;" } : Jvm.MethodName) prog_43_method_7_code (1 : Nat) (Option.some (Jvm.ClassFile.FieldType.array (Jvm.ClassFile.FieldType.object "java/lang/Object")))) ∈ lw_all := lw_g (lw_at lw_m3 141 rfl) rfl
theorem q689 : (Jvm.Cond.methodLink "java/util/ArrayList" (69 : Nat) ({ cls := "java/util/ArrayList", name := "grow", desc := "(I)[Ljava/lang/Object;" } : Jvm.MethodName)) ∈ lw_all := lw_g (lw_at lw_m3 142 rfl) rfl
theorem q690 : (Jvm.Cond.privateMethod ({ cls := "java/util/ArrayList", name := "grow", desc := "(I)[Ljava/lang/Object;" } : Jvm.MethodName)) ∈ lw_tbl := lw_at lw_m3 143 rfl
theorem q691 : (Jvm.Cond.instanceMethod ({ cls := "java/util/ArrayList", name := "grow", desc := "(I)[Ljava/lang/Object;" } : Jvm.MethodName)) ∈ lw_all := lw_g (lw_at lw_m3 144 rfl) rfl
theorem q692 : (Jvm.Cond.code ({ cls := "java/util/ArrayList", name := "grow", desc := "(I)[Ljava/lang/Object;" } : Jvm.MethodName) prog_43_method_6_code (4 : Nat) (Option.some (Jvm.ClassFile.FieldType.array (Jvm.ClassFile.FieldType.object "java/lang/Object")))) ∈ lw_all := lw_g (lw_at lw_m3 145 rfl) rfl
theorem q693 : (Jvm.Cond.methodLink "java/util/ArrayList" (73 : Nat) ({ cls := "jdk/internal/util/ArraysSupport", name := "newLength", desc := "(III)I" } : Jvm.MethodName)) ∈ lw_all := lw_g (lw_at lw_m3 146 rfl) rfl
theorem q703 : (Jvm.Cond.methodLink "java/util/ArrayList" (66 : Nat) ({ cls := "java/util/Arrays", name := "copyOf", desc := "([Ljava/lang/Object;I)[Ljava/lang/Object;" } : Jvm.MethodName)) ∈ lw_all := lw_g (lw_at lw_m3 156 rfl) rfl
theorem q733 : (Jvm.Cond.selects "java/util/ArrayList" ({ cls := "java/lang/Object", name := "getClass", desc := "()Ljava/lang/Class;" } : Jvm.MethodName) ({ cls := "java/lang/Object", name := "getClass", desc := "()Ljava/lang/Class;" } : Jvm.MethodName)) ∈ lw_all := lw_g (lw_at lw_m3 186 rfl) rfl
theorem q745 : (Jvm.Cond.methodLink "java/util/ArrayList" (79 : Nat) ({ cls := "java/lang/Math", name := "max", desc := "(II)I" } : Jvm.MethodName)) ∈ lw_all := lw_g (lw_at lw_m3 198 rfl) rfl
theorem q746 : (Jvm.Cond.classLink "java/util/ArrayList" (7 : Nat) "java/lang/Object") ∈ lw_all := lw_g (lw_at lw_m3 199 rfl) rfl
theorem q755 : (Jvm.Cond.selects "java/util/ArrayList" ({ cls := "java/util/List", name := "remove", desc := "(I)Ljava/lang/Object;" } : Jvm.MethodName) ({ cls := "java/util/ArrayList", name := "remove", desc := "(I)Ljava/lang/Object;" } : Jvm.MethodName)) ∈ lw_all := lw_g (lw_at lw_m3 208 rfl) rfl
theorem q756 : (Jvm.Cond.unhidden "java/util/ArrayList" "remove" "(I)Ljava/lang/Object;") ∈ lw_tbl := lw_at lw_m3 209 rfl
theorem q757 : (Jvm.Cond.instanceMethod ({ cls := "java/util/ArrayList", name := "remove", desc := "(I)Ljava/lang/Object;" } : Jvm.MethodName)) ∈ lw_all := lw_g (lw_at lw_m3 210 rfl) rfl
theorem q758 : (Jvm.Cond.publicMethod ({ cls := "java/util/ArrayList", name := "remove", desc := "(I)Ljava/lang/Object;" } : Jvm.MethodName)) ∈ lw_tbl := lw_at lw_m3 211 rfl
theorem q759 : (Jvm.Cond.code ({ cls := "java/util/ArrayList", name := "remove", desc := "(I)Ljava/lang/Object;" } : Jvm.MethodName) prog_43_method_29_code (4 : Nat) (Option.some (Jvm.ClassFile.FieldType.object "java/lang/Object"))) ∈ lw_all := lw_g (lw_at lw_m3 212 rfl) rfl
theorem q760 : (Jvm.Cond.methodLink "java/util/ArrayList" (144 : Nat) ({ cls := "java/util/ArrayList", name := "fastRemove", desc := "([Ljava/lang/Object;I)V" } : Jvm.MethodName)) ∈ lw_all := lw_g (lw_at lw_m3 213 rfl) rfl
theorem q761 : (Jvm.Cond.privateMethod ({ cls := "java/util/ArrayList", name := "fastRemove", desc := "([Ljava/lang/Object;I)V" } : Jvm.MethodName)) ∈ lw_tbl := lw_at lw_m3 214 rfl
theorem q762 : (Jvm.Cond.instanceMethod ({ cls := "java/util/ArrayList", name := "fastRemove", desc := "([Ljava/lang/Object;I)V" } : Jvm.MethodName)) ∈ lw_all := lw_g (lw_at lw_m3 215 rfl) rfl
theorem q763 : (Jvm.Cond.code ({ cls := "java/util/ArrayList", name := "fastRemove", desc := "([Ljava/lang/Object;I)V" } : Jvm.MethodName) prog_43_method_39_code (4 : Nat) (Option.none : Option Jvm.ClassFile.FieldType)) ∈ lw_all := lw_g (lw_at lw_m3 216 rfl) rfl
theorem q764 : (Jvm.Cond.methodLink "java/util/ArrayList" (112 : Nat) ({ cls := "java/lang/System", name := "arraycopy", desc := "(Ljava/lang/Object;ILjava/lang/Object;II)V" } : Jvm.MethodName)) ∈ lw_all := lw_g (lw_at lw_m3 217 rfl) rfl
theorem q825 : (Jvm.Cond.selects "java/util/ArrayList" ({ cls := "java/util/List", name := "set", desc := "(ILjava/lang/Object;)Ljava/lang/Object;" } : Jvm.MethodName) ({ cls := "java/util/ArrayList", name := "set", desc := "(ILjava/lang/Object;)Ljava/lang/Object;" } : Jvm.MethodName)) ∈ lw_all := lw_g (lw_at lw_m4 38 rfl) rfl
theorem q826 : (Jvm.Cond.unhidden "java/util/ArrayList" "set" "(ILjava/lang/Object;)Ljava/lang/Object;") ∈ lw_tbl := lw_at lw_m4 39 rfl
theorem q827 : (Jvm.Cond.instanceMethod ({ cls := "java/util/ArrayList", name := "set", desc := "(ILjava/lang/Object;)Ljava/lang/Object;" } : Jvm.MethodName)) ∈ lw_all := lw_g (lw_at lw_m4 40 rfl) rfl
theorem q828 : (Jvm.Cond.publicMethod ({ cls := "java/util/ArrayList", name := "set", desc := "(ILjava/lang/Object;)Ljava/lang/Object;" } : Jvm.MethodName)) ∈ lw_tbl := lw_at lw_m4 41 rfl
theorem q829 : (Jvm.Cond.code ({ cls := "java/util/ArrayList", name := "set", desc := "(ILjava/lang/Object;)Ljava/lang/Object;" } : Jvm.MethodName) prog_43_method_23_code (4 : Nat) (Option.some (Jvm.ClassFile.FieldType.object "java/lang/Object"))) ∈ lw_all := lw_g (lw_at lw_m4 42 rfl) rfl
theorem q1062 : (Jvm.Cond.instanceMethod ({ cls := "java/util/ArrayList", name := "<init>", desc := "(I)V" } : Jvm.MethodName)) ∈ lw_all := lw_g (lw_at lw_m5 35 rfl) rfl
theorem q1063 : (Jvm.Cond.code ({ cls := "java/util/ArrayList", name := "<init>", desc := "(I)V" } : Jvm.MethodName) prog_43_method_1_code (2 : Nat) (Option.none : Option Jvm.ClassFile.FieldType)) ∈ lw_all := lw_g (lw_at lw_m5 36 rfl) rfl
theorem q1064 : (Jvm.Cond.fieldLink "java/util/ArrayList" (15 : Nat) "java/util/ArrayList" "EMPTY_ELEMENTDATA" "[Ljava/lang/Object;") ∈ lw_all := lw_g (lw_at lw_m5 37 rfl) rfl
theorem q1065 : (Jvm.Cond.laysStatic "java/util/ArrayList" "EMPTY_ELEMENTDATA" "[Ljava/lang/Object;") ∈ lw_tbl := lw_at lw_m5 38 rfl
theorem q1084 : (Jvm.Cond.selects "java/util/ArrayList" ({ cls := "java/util/List", name := "clear", desc := "()V" } : Jvm.MethodName) ({ cls := "java/util/ArrayList", name := "clear", desc := "()V" } : Jvm.MethodName)) ∈ lw_all := lw_g (lw_at lw_m5 57 rfl) rfl
theorem q1085 : (Jvm.Cond.unhidden "java/util/ArrayList" "clear" "()V") ∈ lw_tbl := lw_at lw_m5 58 rfl
theorem q1086 : (Jvm.Cond.instanceMethod ({ cls := "java/util/ArrayList", name := "clear", desc := "()V" } : Jvm.MethodName)) ∈ lw_all := lw_g (lw_at lw_m5 59 rfl) rfl
theorem q1087 : (Jvm.Cond.publicMethod ({ cls := "java/util/ArrayList", name := "clear", desc := "()V" } : Jvm.MethodName)) ∈ lw_tbl := lw_at lw_m5 60 rfl
theorem q1088 : (Jvm.Cond.code ({ cls := "java/util/ArrayList", name := "clear", desc := "()V" } : Jvm.MethodName) prog_43_method_40_code (4 : Nat) (Option.none : Option Jvm.ClassFile.FieldType)) ∈ lw_all := lw_g (lw_at lw_m5 61 rfl) rfl
theorem q1093 : (Jvm.Cond.selects "java/util/ArrayList" ({ cls := "java/util/List", name := "addAll", desc := "(Ljava/util/Collection;)Z" } : Jvm.MethodName) ({ cls := "java/util/ArrayList", name := "addAll", desc := "(Ljava/util/Collection;)Z" } : Jvm.MethodName)) ∈ lw_all := lw_g (lw_at lw_m5 66 rfl) rfl
theorem q1094 : (Jvm.Cond.unhidden "java/util/ArrayList" "addAll" "(Ljava/util/Collection;)Z") ∈ lw_tbl := lw_at lw_m5 67 rfl
theorem q1095 : (Jvm.Cond.instanceMethod ({ cls := "java/util/ArrayList", name := "addAll", desc := "(Ljava/util/Collection;)Z" } : Jvm.MethodName)) ∈ lw_all := lw_g (lw_at lw_m5 68 rfl) rfl
theorem q1096 : (Jvm.Cond.publicMethod ({ cls := "java/util/ArrayList", name := "addAll", desc := "(Ljava/util/Collection;)Z" } : Jvm.MethodName)) ∈ lw_tbl := lw_at lw_m5 69 rfl
theorem q1097 : (Jvm.Cond.code ({ cls := "java/util/ArrayList", name := "addAll", desc := "(Ljava/util/Collection;)Z" } : Jvm.MethodName) prog_43_method_41_code (6 : Nat) (Option.some Jvm.ClassFile.FieldType.boolean)) ∈ lw_all := lw_g (lw_at lw_m5 70 rfl) rfl
theorem q1098 : (Jvm.Cond.interfaceEntry "java/util/ArrayList" (42 : Nat)) ∈ lw_tbl := lw_at lw_m5 71 rfl
theorem q1099 : (Jvm.Cond.methodLink "java/util/ArrayList" (42 : Nat) ({ cls := "java/util/Collection", name := "toArray", desc := "()[Ljava/lang/Object;" } : Jvm.MethodName)) ∈ lw_all := lw_g (lw_at lw_m5 72 rfl) rfl
theorem q1102 : (Jvm.Cond.castable "java/util/ArrayList" "java/util/Collection") ∈ lw_tbl := lw_at lw_m5 75 rfl
theorem q1103 : (Jvm.Cond.selects "java/util/ArrayList" ({ cls := "java/util/Collection", name := "toArray", desc := "()[Ljava/lang/Object;" } : Jvm.MethodName) ({ cls := "java/util/ArrayList", name := "toArray", desc := "()[Ljava/lang/Object;" } : Jvm.MethodName)) ∈ lw_all := lw_g (lw_at lw_m5 76 rfl) rfl
theorem q1104 : (Jvm.Cond.unhidden "java/util/ArrayList" "toArray" "()[Ljava/lang/Object;") ∈ lw_tbl := lw_at lw_m5 77 rfl
theorem q1105 : (Jvm.Cond.instanceMethod ({ cls := "java/util/ArrayList", name := "toArray", desc := "()[Ljava/lang/Object;" } : Jvm.MethodName)) ∈ lw_all := lw_g (lw_at lw_m5 78 rfl) rfl
theorem q1106 : (Jvm.Cond.publicMethod ({ cls := "java/util/ArrayList", name := "toArray", desc := "()[Ljava/lang/Object;" } : Jvm.MethodName)) ∈ lw_tbl := lw_at lw_m5 79 rfl
theorem q1107 : (Jvm.Cond.code ({ cls := "java/util/ArrayList", name := "toArray", desc := "()[Ljava/lang/Object;" } : Jvm.MethodName) prog_43_method_16_code (1 : Nat) (Option.some (Jvm.ClassFile.FieldType.array (Jvm.ClassFile.FieldType.object "java/lang/Object")))) ∈ lw_all := lw_g (lw_at lw_m5 80 rfl) rfl
theorem q1756 : (Jvm.Cond.castable "java/util/ArrayList" "java/lang/Object") ∈ lw_tbl := lw_at lw_m8 9 rfl
theorem in_J2 : ∀ w ∈ wsJ20, w ∈ lw_all := lw_in wsJ20 [142, 138, 140] (by decide +kernel) (by decide +kernel)

/-! java/util/Objects -/
set_option maxRecDepth 100000
def RJ3 : String := "java/util/Objects"
abbrev cJ3_checkIndex : ByteArray := prog_48_method_17_code
def yJ3_checkIndex : MethodName := ⟨RJ3, "checkIndex", "(II)I"⟩
def dkwJ3_checkIndex_0 : List UInt8 := [26, 27, 1, 184, 0, 105, 172]
abbrev dktJ3_checkIndex_0 : List UInt8 := dkwJ3_checkIndex_0 ++ []
theorem dksJ3_checkIndex_0 : cJ3_checkIndex.data.toList.drop 0 = dktJ3_checkIndex_0 := by decide +kernel
theorem dJ3_checkIndex_0 : decode cJ3_checkIndex 0 = .ok (.iload_n 0, 1) := dk_26 (dk_at dksJ3_checkIndex_0 0 rfl rfl)
theorem dJ3_checkIndex_1 : decode cJ3_checkIndex 1 = .ok (.iload_n 1, 1) := dk_27 (dk_at dksJ3_checkIndex_0 1 rfl rfl)
theorem dJ3_checkIndex_2 : decode cJ3_checkIndex 2 = .ok (.aconst_null, 1) := dk_1 (dk_at dksJ3_checkIndex_0 2 rfl rfl)
theorem dJ3_checkIndex_3 : decode cJ3_checkIndex 3 = .ok (.invokestatic 105, 3) := dk_184 0 105 (dk_at dksJ3_checkIndex_0 3 rfl rfl)
theorem dJ3_checkIndex_6 : decode cJ3_checkIndex 6 = .ok (.ireturn, 1) := dk_172 (dk_at dksJ3_checkIndex_0 6 rfl rfl)
theorem q73 : (Jvm.Cond.initialized "java/util/Objects") ∈ lw_all := lw_g (lw_at lw_m1 6 rfl) rfl
theorem q166 : (Jvm.Cond.static ({ cls := "java/util/Objects", name := "checkIndex", desc := "(II)I" } : Jvm.MethodName)) ∈ lw_all := lw_g (lw_at lw_m1 99 rfl) rfl
theorem q167 : (Jvm.Cond.code ({ cls := "java/util/Objects", name := "checkIndex", desc := "(II)I" } : Jvm.MethodName) prog_48_method_17_code (2 : Nat) (Option.some Jvm.ClassFile.FieldType.int)) ∈ lw_all := lw_g (lw_at lw_m1 100 rfl) rfl
theorem q168 : (Jvm.Cond.methodLink "java/util/Objects" (105 : Nat) ({ cls := "jdk/internal/util/Preconditions", name := "checkIndex", desc := "(IILjava/util/function/BiFunction;)I" } : Jvm.MethodName)) ∈ lw_all := lw_g (lw_at lw_m1 101 rfl) rfl

/-! jdk/internal/util/Preconditions -/
set_option maxRecDepth 100000
def RJ4 : String := "jdk/internal/util/Preconditions"
abbrev cJ4_checkIndex : ByteArray := prog_52_method_11_code
def yJ4_checkIndex : MethodName := ⟨RJ4, "checkIndex", "(IILjava/util/function/BiFunction;)I"⟩
def dkwJ4_checkIndex_0 : List UInt8 := [26, 155, 0, 8, 26, 27, 161, 0, 10, 44, 26, 27, 184, 0, 95, 191, 26, 172]
abbrev dktJ4_checkIndex_0 : List UInt8 := dkwJ4_checkIndex_0 ++ []
theorem dksJ4_checkIndex_0 : cJ4_checkIndex.data.toList.drop 0 = dktJ4_checkIndex_0 := by decide +kernel
theorem dJ4_checkIndex_0 : decode cJ4_checkIndex 0 = .ok (.iload_n 0, 1) := dk_26 (dk_at dksJ4_checkIndex_0 0 rfl rfl)
theorem dJ4_checkIndex_1 : decode cJ4_checkIndex 1 = .ok (.ifCond .lt 8, 3) := dk_155 0 8 (dk_at dksJ4_checkIndex_0 1 rfl rfl)
theorem dJ4_checkIndex_4 : decode cJ4_checkIndex 4 = .ok (.iload_n 0, 1) := dk_26 (dk_at dksJ4_checkIndex_0 4 rfl rfl)
theorem dJ4_checkIndex_5 : decode cJ4_checkIndex 5 = .ok (.iload_n 1, 1) := dk_27 (dk_at dksJ4_checkIndex_0 5 rfl rfl)
theorem dJ4_checkIndex_6 : decode cJ4_checkIndex 6 = .ok (.if_icmp .lt 10, 3) := dk_161 0 10 (dk_at dksJ4_checkIndex_0 6 rfl rfl)
theorem dJ4_checkIndex_9 : decode cJ4_checkIndex 9 = .ok (.aload_n 2, 1) := dk_44 (dk_at dksJ4_checkIndex_0 9 rfl rfl)
theorem dJ4_checkIndex_10 : decode cJ4_checkIndex 10 = .ok (.iload_n 0, 1) := dk_26 (dk_at dksJ4_checkIndex_0 10 rfl rfl)
theorem dJ4_checkIndex_11 : decode cJ4_checkIndex 11 = .ok (.iload_n 1, 1) := dk_27 (dk_at dksJ4_checkIndex_0 11 rfl rfl)
theorem dJ4_checkIndex_12 : decode cJ4_checkIndex 12 = .ok (.invokestatic 95, 3) := dk_184 0 95 (dk_at dksJ4_checkIndex_0 12 rfl rfl)
theorem dJ4_checkIndex_15 : decode cJ4_checkIndex 15 = .ok (.athrow, 1) := dk_191 (dk_at dksJ4_checkIndex_0 15 rfl rfl)
theorem dJ4_checkIndex_16 : decode cJ4_checkIndex 16 = .ok (.iload_n 0, 1) := dk_26 (dk_at dksJ4_checkIndex_0 16 rfl rfl)
theorem dJ4_checkIndex_17 : decode cJ4_checkIndex 17 = .ok (.ireturn, 1) := dk_172 (dk_at dksJ4_checkIndex_0 17 rfl rfl)
theorem q74 : (Jvm.Cond.initialized "jdk/internal/util/Preconditions") ∈ lw_all := lw_g (lw_at lw_m1 7 rfl) rfl
theorem q169 : (Jvm.Cond.static ({ cls := "jdk/internal/util/Preconditions", name := "checkIndex", desc := "(IILjava/util/function/BiFunction;)I" } : Jvm.MethodName)) ∈ lw_all := lw_g (lw_at lw_m1 102 rfl) rfl
theorem q170 : (Jvm.Cond.code ({ cls := "jdk/internal/util/Preconditions", name := "checkIndex", desc := "(IILjava/util/function/BiFunction;)I" } : Jvm.MethodName) prog_52_method_11_code (3 : Nat) (Option.some Jvm.ClassFile.FieldType.int)) ∈ lw_all := lw_g (lw_at lw_m1 103 rfl) rfl

/-! java/lang/Math -/
set_option maxRecDepth 100000
def RJ5 : String := "java/lang/Math"
abbrev cJ5_abs : ByteArray := prog_34_method_59_code
def yJ5_abs : MethodName := ⟨RJ5, "abs", "(I)I"⟩
def dkwJ5_abs_0 : List UInt8 := [26, 156, 0, 8, 26, 116, 167, 0, 4, 26, 172]
abbrev dktJ5_abs_0 : List UInt8 := dkwJ5_abs_0 ++ []
theorem dksJ5_abs_0 : cJ5_abs.data.toList.drop 0 = dktJ5_abs_0 := by decide +kernel
theorem dJ5_abs_0 : decode cJ5_abs 0 = .ok (.iload_n 0, 1) := dk_26 (dk_at dksJ5_abs_0 0 rfl rfl)
theorem dJ5_abs_1 : decode cJ5_abs 1 = .ok (.ifCond .ge 8, 3) := dk_156 0 8 (dk_at dksJ5_abs_0 1 rfl rfl)
theorem dJ5_abs_4 : decode cJ5_abs 4 = .ok (.iload_n 0, 1) := dk_26 (dk_at dksJ5_abs_0 4 rfl rfl)
theorem dJ5_abs_5 : decode cJ5_abs 5 = .ok (.ineg, 1) := dk_116 (dk_at dksJ5_abs_0 5 rfl rfl)
theorem dJ5_abs_6 : decode cJ5_abs 6 = .ok (.goto 4, 3) := dk_167 0 4 (dk_at dksJ5_abs_0 6 rfl rfl)
theorem dJ5_abs_9 : decode cJ5_abs 9 = .ok (.iload_n 0, 1) := dk_26 (dk_at dksJ5_abs_0 9 rfl rfl)
theorem dJ5_abs_10 : decode cJ5_abs 10 = .ok (.ireturn, 1) := dk_172 (dk_at dksJ5_abs_0 10 rfl rfl)
abbrev cJ5_min : ByteArray := prog_34_method_69_code
def yJ5_min : MethodName := ⟨RJ5, "min", "(II)I"⟩
def dkwJ5_min_0 : List UInt8 := [26, 27, 163, 0, 7, 26, 167, 0, 4, 27, 172]
abbrev dktJ5_min_0 : List UInt8 := dkwJ5_min_0 ++ []
theorem dksJ5_min_0 : cJ5_min.data.toList.drop 0 = dktJ5_min_0 := by decide +kernel
theorem dJ5_min_0 : decode cJ5_min 0 = .ok (.iload_n 0, 1) := dk_26 (dk_at dksJ5_min_0 0 rfl rfl)
theorem dJ5_min_1 : decode cJ5_min 1 = .ok (.iload_n 1, 1) := dk_27 (dk_at dksJ5_min_0 1 rfl rfl)
theorem dJ5_min_2 : decode cJ5_min 2 = .ok (.if_icmp .gt 7, 3) := dk_163 0 7 (dk_at dksJ5_min_0 2 rfl rfl)
theorem dJ5_min_5 : decode cJ5_min 5 = .ok (.iload_n 0, 1) := dk_26 (dk_at dksJ5_min_0 5 rfl rfl)
theorem dJ5_min_6 : decode cJ5_min 6 = .ok (.goto 4, 3) := dk_167 0 4 (dk_at dksJ5_min_0 6 rfl rfl)
theorem dJ5_min_9 : decode cJ5_min 9 = .ok (.iload_n 1, 1) := dk_27 (dk_at dksJ5_min_0 9 rfl rfl)
theorem dJ5_min_10 : decode cJ5_min 10 = .ok (.ireturn, 1) := dk_172 (dk_at dksJ5_min_0 10 rfl rfl)
abbrev cJ5_max : ByteArray := prog_34_method_65_code
def yJ5_max : MethodName := ⟨RJ5, "max", "(II)I"⟩
def dkwJ5_max_0 : List UInt8 := [26, 27, 161, 0, 7, 26, 167, 0, 4, 27, 172]
abbrev dktJ5_max_0 : List UInt8 := dkwJ5_max_0 ++ []
theorem dksJ5_max_0 : cJ5_max.data.toList.drop 0 = dktJ5_max_0 := by decide +kernel
theorem dJ5_max_0 : decode cJ5_max 0 = .ok (.iload_n 0, 1) := dk_26 (dk_at dksJ5_max_0 0 rfl rfl)
theorem dJ5_max_1 : decode cJ5_max 1 = .ok (.iload_n 1, 1) := dk_27 (dk_at dksJ5_max_0 1 rfl rfl)
theorem dJ5_max_2 : decode cJ5_max 2 = .ok (.if_icmp .lt 7, 3) := dk_161 0 7 (dk_at dksJ5_max_0 2 rfl rfl)
theorem dJ5_max_5 : decode cJ5_max 5 = .ok (.iload_n 0, 1) := dk_26 (dk_at dksJ5_max_0 5 rfl rfl)
theorem dJ5_max_6 : decode cJ5_max 6 = .ok (.goto 4, 3) := dk_167 0 4 (dk_at dksJ5_max_0 6 rfl rfl)
theorem dJ5_max_9 : decode cJ5_max 9 = .ok (.iload_n 1, 1) := dk_27 (dk_at dksJ5_max_0 9 rfl rfl)
theorem dJ5_max_10 : decode cJ5_max 10 = .ok (.ireturn, 1) := dk_172 (dk_at dksJ5_max_0 10 rfl rfl)
theorem q75 : (Jvm.Cond.initialized "java/lang/Math") ∈ lw_all := lw_g (lw_at lw_m1 8 rfl) rfl
theorem q200 : (Jvm.Cond.static ({ cls := "java/lang/Math", name := "abs", desc := "(I)I" } : Jvm.MethodName)) ∈ lw_all := lw_g (lw_at lw_m1 133 rfl) rfl
theorem q201 : (Jvm.Cond.code ({ cls := "java/lang/Math", name := "abs", desc := "(I)I" } : Jvm.MethodName) prog_34_method_59_code (1 : Nat) (Option.some Jvm.ClassFile.FieldType.int)) ∈ lw_all := lw_g (lw_at lw_m1 134 rfl) rfl
theorem q448 : (Jvm.Cond.static ({ cls := "java/lang/Math", name := "min", desc := "(II)I" } : Jvm.MethodName)) ∈ lw_all := lw_g (lw_at lw_m2 141 rfl) rfl
theorem q449 : (Jvm.Cond.code ({ cls := "java/lang/Math", name := "min", desc := "(II)I" } : Jvm.MethodName) prog_34_method_69_code (2 : Nat) (Option.some Jvm.ClassFile.FieldType.int)) ∈ lw_all := lw_g (lw_at lw_m2 142 rfl) rfl
theorem q697 : (Jvm.Cond.static ({ cls := "java/lang/Math", name := "max", desc := "(II)I" } : Jvm.MethodName)) ∈ lw_all := lw_g (lw_at lw_m3 150 rfl) rfl
theorem q698 : (Jvm.Cond.code ({ cls := "java/lang/Math", name := "max", desc := "(II)I" } : Jvm.MethodName) prog_34_method_65_code (2 : Nat) (Option.some Jvm.ClassFile.FieldType.int)) ∈ lw_all := lw_g (lw_at lw_m3 151 rfl) rfl

/-! jdk/internal/util/ArraysSupport -/
set_option maxRecDepth 100000
def RJ6 : String := "jdk/internal/util/ArraysSupport"
abbrev cJ6_newLength : ByteArray := prog_51_method_27_code
def yJ6_newLength : MethodName := ⟨RJ6, "newLength", "(III)I"⟩
def dkwJ6_newLength_1 : List UInt8 := [184, 0, 201, 172]
abbrev dktJ6_newLength_1 : List UInt8 := dkwJ6_newLength_1 ++ []
def dkwJ6_newLength_0 : List UInt8 := [26, 27, 28, 184, 0, 194, 96, 62, 3, 29, 162, 0, 11, 29, 18, 200, 163, 0, 5, 29, 172, 26, 27]
abbrev dktJ6_newLength_0 : List UInt8 := dkwJ6_newLength_0 ++ dktJ6_newLength_1
theorem dksJ6_newLength_0 : cJ6_newLength.data.toList.drop 0 = dktJ6_newLength_0 := by decide +kernel
theorem dksJ6_newLength_1 : cJ6_newLength.data.toList.drop 23 = dktJ6_newLength_1 := dk_seg dksJ6_newLength_0 23 rfl rfl
theorem dJ6_newLength_0 : decode cJ6_newLength 0 = .ok (.iload_n 0, 1) := dk_26 (dk_at dksJ6_newLength_0 0 rfl rfl)
theorem dJ6_newLength_1 : decode cJ6_newLength 1 = .ok (.iload_n 1, 1) := dk_27 (dk_at dksJ6_newLength_0 1 rfl rfl)
theorem dJ6_newLength_2 : decode cJ6_newLength 2 = .ok (.iload_n 2, 1) := dk_28 (dk_at dksJ6_newLength_0 2 rfl rfl)
theorem dJ6_newLength_3 : decode cJ6_newLength 3 = .ok (.invokestatic 194, 3) := dk_184 0 194 (dk_at dksJ6_newLength_0 3 rfl rfl)
theorem dJ6_newLength_6 : decode cJ6_newLength 6 = .ok (.iadd, 1) := dk_96 (dk_at dksJ6_newLength_0 6 rfl rfl)
theorem dJ6_newLength_7 : decode cJ6_newLength 7 = .ok (.istore_n 3, 1) := dk_62 (dk_at dksJ6_newLength_0 7 rfl rfl)
theorem dJ6_newLength_8 : decode cJ6_newLength 8 = .ok (.iconst 0, 1) := dk_3 (dk_at dksJ6_newLength_0 8 rfl rfl)
theorem dJ6_newLength_9 : decode cJ6_newLength 9 = .ok (.iload_n 3, 1) := dk_29 (dk_at dksJ6_newLength_0 9 rfl rfl)
theorem dJ6_newLength_10 : decode cJ6_newLength 10 = .ok (.if_icmp .ge 11, 3) := dk_162 0 11 (dk_at dksJ6_newLength_0 10 rfl rfl)
theorem dJ6_newLength_13 : decode cJ6_newLength 13 = .ok (.iload_n 3, 1) := dk_29 (dk_at dksJ6_newLength_0 13 rfl rfl)
theorem dJ6_newLength_14 : decode cJ6_newLength 14 = .ok (.ldc 200, 2) := dk_18 200 (dk_at dksJ6_newLength_0 14 rfl rfl)
theorem dJ6_newLength_16 : decode cJ6_newLength 16 = .ok (.if_icmp .gt 5, 3) := dk_163 0 5 (dk_at dksJ6_newLength_0 16 rfl rfl)
theorem dJ6_newLength_19 : decode cJ6_newLength 19 = .ok (.iload_n 3, 1) := dk_29 (dk_at dksJ6_newLength_0 19 rfl rfl)
theorem dJ6_newLength_20 : decode cJ6_newLength 20 = .ok (.ireturn, 1) := dk_172 (dk_at dksJ6_newLength_0 20 rfl rfl)
theorem dJ6_newLength_21 : decode cJ6_newLength 21 = .ok (.iload_n 0, 1) := dk_26 (dk_at dksJ6_newLength_0 21 rfl rfl)
theorem dJ6_newLength_22 : decode cJ6_newLength 22 = .ok (.iload_n 1, 1) := dk_27 (dk_at dksJ6_newLength_0 22 rfl rfl)
theorem dJ6_newLength_23 : decode cJ6_newLength 23 = .ok (.invokestatic 201, 3) := dk_184 0 201 (dk_at dksJ6_newLength_1 0 rfl rfl)
theorem dJ6_newLength_26 : decode cJ6_newLength 26 = .ok (.ireturn, 1) := dk_172 (dk_at dksJ6_newLength_1 3 rfl rfl)
abbrev cJ6_hugeLength : ByteArray := prog_51_method_28_code
def yJ6_hugeLength : MethodName := ⟨RJ6, "hugeLength", "(II)I"⟩
def dkwJ6_hugeLength_2 : List UInt8 := [191, 28, 18, 200, 163, 0, 6, 18, 200, 172, 28, 172]
abbrev dktJ6_hugeLength_2 : List UInt8 := dkwJ6_hugeLength_2 ++ []
def dkwJ6_hugeLength_1 : List UInt8 := [26, 182, 0, 98, 18, 208, 182, 0, 94, 27, 182, 0, 98, 18, 210, 182, 0, 94, 182, 0, 101, 183, 0, 212]
abbrev dktJ6_hugeLength_1 : List UInt8 := dkwJ6_hugeLength_1 ++ dktJ6_hugeLength_2
def dkwJ6_hugeLength_0 : List UInt8 := [26, 27, 96, 61, 28, 156, 0, 44, 187, 0, 204, 89, 187, 0, 89, 89, 183, 0, 91, 18, 206, 182, 0, 94]
abbrev dktJ6_hugeLength_0 : List UInt8 := dkwJ6_hugeLength_0 ++ dktJ6_hugeLength_1
theorem dksJ6_hugeLength_0 : cJ6_hugeLength.data.toList.drop 0 = dktJ6_hugeLength_0 := by decide +kernel
theorem dksJ6_hugeLength_1 : cJ6_hugeLength.data.toList.drop 24 = dktJ6_hugeLength_1 := dk_seg dksJ6_hugeLength_0 24 rfl rfl
theorem dksJ6_hugeLength_2 : cJ6_hugeLength.data.toList.drop 48 = dktJ6_hugeLength_2 := dk_seg dksJ6_hugeLength_1 24 rfl rfl
theorem dJ6_hugeLength_0 : decode cJ6_hugeLength 0 = .ok (.iload_n 0, 1) := dk_26 (dk_at dksJ6_hugeLength_0 0 rfl rfl)
theorem dJ6_hugeLength_1 : decode cJ6_hugeLength 1 = .ok (.iload_n 1, 1) := dk_27 (dk_at dksJ6_hugeLength_0 1 rfl rfl)
theorem dJ6_hugeLength_2 : decode cJ6_hugeLength 2 = .ok (.iadd, 1) := dk_96 (dk_at dksJ6_hugeLength_0 2 rfl rfl)
theorem dJ6_hugeLength_3 : decode cJ6_hugeLength 3 = .ok (.istore_n 2, 1) := dk_61 (dk_at dksJ6_hugeLength_0 3 rfl rfl)
theorem dJ6_hugeLength_4 : decode cJ6_hugeLength 4 = .ok (.iload_n 2, 1) := dk_28 (dk_at dksJ6_hugeLength_0 4 rfl rfl)
theorem dJ6_hugeLength_5 : decode cJ6_hugeLength 5 = .ok (.ifCond .ge 44, 3) := dk_156 0 44 (dk_at dksJ6_hugeLength_0 5 rfl rfl)
theorem dJ6_hugeLength_8 : decode cJ6_hugeLength 8 = .ok (.new 204, 3) := dk_187 0 204 (dk_at dksJ6_hugeLength_0 8 rfl rfl)
theorem dJ6_hugeLength_11 : decode cJ6_hugeLength 11 = .ok (.dup, 1) := dk_89 (dk_at dksJ6_hugeLength_0 11 rfl rfl)
theorem dJ6_hugeLength_12 : decode cJ6_hugeLength 12 = .ok (.new 89, 3) := dk_187 0 89 (dk_at dksJ6_hugeLength_0 12 rfl rfl)
theorem dJ6_hugeLength_15 : decode cJ6_hugeLength 15 = .ok (.dup, 1) := dk_89 (dk_at dksJ6_hugeLength_0 15 rfl rfl)
theorem dJ6_hugeLength_16 : decode cJ6_hugeLength 16 = .ok (.invokespecial 91, 3) := dk_183 0 91 (dk_at dksJ6_hugeLength_0 16 rfl rfl)
theorem dJ6_hugeLength_19 : decode cJ6_hugeLength 19 = .ok (.ldc 206, 2) := dk_18 206 (dk_at dksJ6_hugeLength_0 19 rfl rfl)
theorem dJ6_hugeLength_21 : decode cJ6_hugeLength 21 = .ok (.invokevirtual 94, 3) := dk_182 0 94 (dk_at dksJ6_hugeLength_0 21 rfl rfl)
theorem dJ6_hugeLength_24 : decode cJ6_hugeLength 24 = .ok (.iload_n 0, 1) := dk_26 (dk_at dksJ6_hugeLength_1 0 rfl rfl)
theorem dJ6_hugeLength_25 : decode cJ6_hugeLength 25 = .ok (.invokevirtual 98, 3) := dk_182 0 98 (dk_at dksJ6_hugeLength_1 1 rfl rfl)
theorem dJ6_hugeLength_28 : decode cJ6_hugeLength 28 = .ok (.ldc 208, 2) := dk_18 208 (dk_at dksJ6_hugeLength_1 4 rfl rfl)
theorem dJ6_hugeLength_30 : decode cJ6_hugeLength 30 = .ok (.invokevirtual 94, 3) := dk_182 0 94 (dk_at dksJ6_hugeLength_1 6 rfl rfl)
theorem dJ6_hugeLength_33 : decode cJ6_hugeLength 33 = .ok (.iload_n 1, 1) := dk_27 (dk_at dksJ6_hugeLength_1 9 rfl rfl)
theorem dJ6_hugeLength_34 : decode cJ6_hugeLength 34 = .ok (.invokevirtual 98, 3) := dk_182 0 98 (dk_at dksJ6_hugeLength_1 10 rfl rfl)
theorem dJ6_hugeLength_37 : decode cJ6_hugeLength 37 = .ok (.ldc 210, 2) := dk_18 210 (dk_at dksJ6_hugeLength_1 13 rfl rfl)
theorem dJ6_hugeLength_39 : decode cJ6_hugeLength 39 = .ok (.invokevirtual 94, 3) := dk_182 0 94 (dk_at dksJ6_hugeLength_1 15 rfl rfl)
theorem dJ6_hugeLength_42 : decode cJ6_hugeLength 42 = .ok (.invokevirtual 101, 3) := dk_182 0 101 (dk_at dksJ6_hugeLength_1 18 rfl rfl)
theorem dJ6_hugeLength_45 : decode cJ6_hugeLength 45 = .ok (.invokespecial 212, 3) := dk_183 0 212 (dk_at dksJ6_hugeLength_1 21 rfl rfl)
theorem dJ6_hugeLength_48 : decode cJ6_hugeLength 48 = .ok (.athrow, 1) := dk_191 (dk_at dksJ6_hugeLength_2 0 rfl rfl)
theorem dJ6_hugeLength_49 : decode cJ6_hugeLength 49 = .ok (.iload_n 2, 1) := dk_28 (dk_at dksJ6_hugeLength_2 1 rfl rfl)
theorem dJ6_hugeLength_50 : decode cJ6_hugeLength 50 = .ok (.ldc 200, 2) := dk_18 200 (dk_at dksJ6_hugeLength_2 2 rfl rfl)
theorem dJ6_hugeLength_52 : decode cJ6_hugeLength 52 = .ok (.if_icmp .gt 6, 3) := dk_163 0 6 (dk_at dksJ6_hugeLength_2 4 rfl rfl)
theorem dJ6_hugeLength_55 : decode cJ6_hugeLength 55 = .ok (.ldc 200, 2) := dk_18 200 (dk_at dksJ6_hugeLength_2 7 rfl rfl)
theorem dJ6_hugeLength_57 : decode cJ6_hugeLength 57 = .ok (.ireturn, 1) := dk_172 (dk_at dksJ6_hugeLength_2 9 rfl rfl)
theorem dJ6_hugeLength_58 : decode cJ6_hugeLength 58 = .ok (.iload_n 2, 1) := dk_28 (dk_at dksJ6_hugeLength_2 10 rfl rfl)
theorem dJ6_hugeLength_59 : decode cJ6_hugeLength 59 = .ok (.ireturn, 1) := dk_172 (dk_at dksJ6_hugeLength_2 11 rfl rfl)
theorem q83 : (Jvm.Cond.initialized "jdk/internal/util/ArraysSupport") ∈ lw_all := lw_g (lw_at lw_m1 16 rfl) rfl
theorem q694 : (Jvm.Cond.static ({ cls := "jdk/internal/util/ArraysSupport", name := "newLength", desc := "(III)I" } : Jvm.MethodName)) ∈ lw_all := lw_g (lw_at lw_m3 147 rfl) rfl
theorem q695 : (Jvm.Cond.code ({ cls := "jdk/internal/util/ArraysSupport", name := "newLength", desc := "(III)I" } : Jvm.MethodName) prog_51_method_27_code (4 : Nat) (Option.some Jvm.ClassFile.FieldType.int)) ∈ lw_all := lw_g (lw_at lw_m3 148 rfl) rfl
theorem q696 : (Jvm.Cond.methodLink "jdk/internal/util/ArraysSupport" (194 : Nat) ({ cls := "java/lang/Math", name := "max", desc := "(II)I" } : Jvm.MethodName)) ∈ lw_all := lw_g (lw_at lw_m3 149 rfl) rfl
theorem q699 : (Jvm.Cond.constant "jdk/internal/util/ArraysSupport" (200 : Nat) (2147483639 : Int32)) ∈ lw_all := lw_g (lw_at lw_m3 152 rfl) rfl
theorem q700 : (Jvm.Cond.methodLink "jdk/internal/util/ArraysSupport" (201 : Nat) ({ cls := "jdk/internal/util/ArraysSupport", name := "hugeLength", desc := "(II)I" } : Jvm.MethodName)) ∈ lw_all := lw_g (lw_at lw_m3 153 rfl) rfl
theorem q701 : (Jvm.Cond.static ({ cls := "jdk/internal/util/ArraysSupport", name := "hugeLength", desc := "(II)I" } : Jvm.MethodName)) ∈ lw_all := lw_g (lw_at lw_m3 154 rfl) rfl
theorem q702 : (Jvm.Cond.code ({ cls := "jdk/internal/util/ArraysSupport", name := "hugeLength", desc := "(II)I" } : Jvm.MethodName) prog_51_method_28_code (3 : Nat) (Option.some Jvm.ClassFile.FieldType.int)) ∈ lw_all := lw_g (lw_at lw_m3 155 rfl) rfl

/-! java/util/Arrays -/
set_option maxRecDepth 100000
def RJ7 : String := "java/util/Arrays"
abbrev cJ7_copyOf : ByteArray := prog_44_method_119_code
def yJ7_copyOf : MethodName := ⟨RJ7, "copyOf", "([Ljava/lang/Object;I)[Ljava/lang/Object;"⟩
def dkwJ7_copyOf_0 : List UInt8 := [42, 27, 42, 182, 0, 86, 184, 1, 44, 176]
abbrev dktJ7_copyOf_0 : List UInt8 := dkwJ7_copyOf_0 ++ []
theorem dksJ7_copyOf_0 : cJ7_copyOf.data.toList.drop 0 = dktJ7_copyOf_0 := by decide +kernel
theorem dJ7_copyOf_0 : decode cJ7_copyOf 0 = .ok (.aload_n 0, 1) := dk_42 (dk_at dksJ7_copyOf_0 0 rfl rfl)
theorem dJ7_copyOf_1 : decode cJ7_copyOf 1 = .ok (.iload_n 1, 1) := dk_27 (dk_at dksJ7_copyOf_0 1 rfl rfl)
theorem dJ7_copyOf_2 : decode cJ7_copyOf 2 = .ok (.aload_n 0, 1) := dk_42 (dk_at dksJ7_copyOf_0 2 rfl rfl)
theorem dJ7_copyOf_3 : decode cJ7_copyOf 3 = .ok (.invokevirtual 86, 3) := dk_182 0 86 (dk_at dksJ7_copyOf_0 3 rfl rfl)
theorem dJ7_copyOf_6 : decode cJ7_copyOf 6 = .ok (.invokestatic 300, 3) := dk_184 1 44 (dk_at dksJ7_copyOf_0 6 rfl rfl)
theorem dJ7_copyOf_9 : decode cJ7_copyOf 9 = .ok (.areturn, 1) := dk_176 (dk_at dksJ7_copyOf_0 9 rfl rfl)
abbrev cJ7_copyOf_2 : ByteArray := prog_44_method_120_code
def yJ7_copyOf_2 : MethodName := ⟨RJ7, "copyOf", "([Ljava/lang/Object;ILjava/lang/Class;)[Ljava/lang/Object;"⟩
def dkwJ7_copyOf_2_1 : List UInt8 := [78, 42, 3, 45, 3, 42, 190, 27, 184, 1, 48, 184, 0, 150, 45, 176]
abbrev dktJ7_copyOf_2_1 : List UInt8 := dkwJ7_copyOf_2_1 ++ []
def dkwJ7_copyOf_2_0 : List UInt8 := [44, 18, 110, 166, 0, 10, 27, 189, 0, 2, 167, 0, 14, 44, 182, 0, 90, 27, 184, 0, 95, 192, 0, 110]
abbrev dktJ7_copyOf_2_0 : List UInt8 := dkwJ7_copyOf_2_0 ++ dktJ7_copyOf_2_1
theorem dksJ7_copyOf_2_0 : cJ7_copyOf_2.data.toList.drop 0 = dktJ7_copyOf_2_0 := by decide +kernel
theorem dksJ7_copyOf_2_1 : cJ7_copyOf_2.data.toList.drop 24 = dktJ7_copyOf_2_1 := dk_seg dksJ7_copyOf_2_0 24 rfl rfl
theorem dJ7_copyOf_2_0 : decode cJ7_copyOf_2 0 = .ok (.aload_n 2, 1) := dk_44 (dk_at dksJ7_copyOf_2_0 0 rfl rfl)
theorem dJ7_copyOf_2_1 : decode cJ7_copyOf_2 1 = .ok (.ldc 110, 2) := dk_18 110 (dk_at dksJ7_copyOf_2_0 1 rfl rfl)
theorem dJ7_copyOf_2_3 : decode cJ7_copyOf_2 3 = .ok (.if_acmp .ne 10, 3) := dk_166 0 10 (dk_at dksJ7_copyOf_2_0 3 rfl rfl)
theorem dJ7_copyOf_2_6 : decode cJ7_copyOf_2 6 = .ok (.iload_n 1, 1) := dk_27 (dk_at dksJ7_copyOf_2_0 6 rfl rfl)
theorem dJ7_copyOf_2_7 : decode cJ7_copyOf_2 7 = .ok (.anewarray 2, 3) := dk_189 0 2 (dk_at dksJ7_copyOf_2_0 7 rfl rfl)
theorem dJ7_copyOf_2_10 : decode cJ7_copyOf_2 10 = .ok (.goto 14, 3) := dk_167 0 14 (dk_at dksJ7_copyOf_2_0 10 rfl rfl)
theorem dJ7_copyOf_2_13 : decode cJ7_copyOf_2 13 = .ok (.aload_n 2, 1) := dk_44 (dk_at dksJ7_copyOf_2_0 13 rfl rfl)
theorem dJ7_copyOf_2_14 : decode cJ7_copyOf_2 14 = .ok (.invokevirtual 90, 3) := dk_182 0 90 (dk_at dksJ7_copyOf_2_0 14 rfl rfl)
theorem dJ7_copyOf_2_17 : decode cJ7_copyOf_2 17 = .ok (.iload_n 1, 1) := dk_27 (dk_at dksJ7_copyOf_2_0 17 rfl rfl)
theorem dJ7_copyOf_2_18 : decode cJ7_copyOf_2 18 = .ok (.invokestatic 95, 3) := dk_184 0 95 (dk_at dksJ7_copyOf_2_0 18 rfl rfl)
theorem dJ7_copyOf_2_21 : decode cJ7_copyOf_2 21 = .ok (.checkcast 110, 3) := dk_192 0 110 (dk_at dksJ7_copyOf_2_0 21 rfl rfl)
theorem dJ7_copyOf_2_24 : decode cJ7_copyOf_2 24 = .ok (.astore_n 3, 1) := dk_78 (dk_at dksJ7_copyOf_2_1 0 rfl rfl)
theorem dJ7_copyOf_2_25 : decode cJ7_copyOf_2 25 = .ok (.aload_n 0, 1) := dk_42 (dk_at dksJ7_copyOf_2_1 1 rfl rfl)
theorem dJ7_copyOf_2_26 : decode cJ7_copyOf_2 26 = .ok (.iconst 0, 1) := dk_3 (dk_at dksJ7_copyOf_2_1 2 rfl rfl)
theorem dJ7_copyOf_2_27 : decode cJ7_copyOf_2 27 = .ok (.aload_n 3, 1) := dk_45 (dk_at dksJ7_copyOf_2_1 3 rfl rfl)
theorem dJ7_copyOf_2_28 : decode cJ7_copyOf_2 28 = .ok (.iconst 0, 1) := dk_3 (dk_at dksJ7_copyOf_2_1 4 rfl rfl)
theorem dJ7_copyOf_2_29 : decode cJ7_copyOf_2 29 = .ok (.aload_n 0, 1) := dk_42 (dk_at dksJ7_copyOf_2_1 5 rfl rfl)
theorem dJ7_copyOf_2_30 : decode cJ7_copyOf_2 30 = .ok (.arraylength, 1) := dk_190 (dk_at dksJ7_copyOf_2_1 6 rfl rfl)
theorem dJ7_copyOf_2_31 : decode cJ7_copyOf_2 31 = .ok (.iload_n 1, 1) := dk_27 (dk_at dksJ7_copyOf_2_1 7 rfl rfl)
theorem dJ7_copyOf_2_32 : decode cJ7_copyOf_2 32 = .ok (.invokestatic 304, 3) := dk_184 1 48 (dk_at dksJ7_copyOf_2_1 8 rfl rfl)
theorem dJ7_copyOf_2_35 : decode cJ7_copyOf_2 35 = .ok (.invokestatic 150, 3) := dk_184 0 150 (dk_at dksJ7_copyOf_2_1 11 rfl rfl)
theorem dJ7_copyOf_2_38 : decode cJ7_copyOf_2 38 = .ok (.aload_n 3, 1) := dk_45 (dk_at dksJ7_copyOf_2_1 14 rfl rfl)
theorem dJ7_copyOf_2_39 : decode cJ7_copyOf_2 39 = .ok (.areturn, 1) := dk_176 (dk_at dksJ7_copyOf_2_1 15 rfl rfl)
theorem q84 : (Jvm.Cond.initialized "java/util/Arrays") ∈ lw_all := lw_g (lw_at lw_m1 17 rfl) rfl
theorem q704 : (Jvm.Cond.static ({ cls := "java/util/Arrays", name := "copyOf", desc := "([Ljava/lang/Object;I)[Ljava/lang/Object;" } : Jvm.MethodName)) ∈ lw_all := lw_g (lw_at lw_m3 157 rfl) rfl
theorem q705 : (Jvm.Cond.code ({ cls := "java/util/Arrays", name := "copyOf", desc := "([Ljava/lang/Object;I)[Ljava/lang/Object;" } : Jvm.MethodName) prog_44_method_119_code (2 : Nat) (Option.some (Jvm.ClassFile.FieldType.array (Jvm.ClassFile.FieldType.object "java/lang/Object")))) ∈ lw_all := lw_g (lw_at lw_m3 158 rfl) rfl
theorem q706 : (Jvm.Cond.methodLink "java/util/Arrays" (86 : Nat) ({ cls := "java/lang/Object", name := "getClass", desc := "()Ljava/lang/Class;" } : Jvm.MethodName)) ∈ lw_all := lw_g (lw_at lw_m3 159 rfl) rfl
theorem q735 : (Jvm.Cond.methodLink "java/util/Arrays" (300 : Nat) ({ cls := "java/util/Arrays", name := "copyOf", desc := "([Ljava/lang/Object;ILjava/lang/Class;)[Ljava/lang/Object;" } : Jvm.MethodName)) ∈ lw_all := lw_g (lw_at lw_m3 188 rfl) rfl
theorem q736 : (Jvm.Cond.static ({ cls := "java/util/Arrays", name := "copyOf", desc := "([Ljava/lang/Object;ILjava/lang/Class;)[Ljava/lang/Object;" } : Jvm.MethodName)) ∈ lw_all := lw_g (lw_at lw_m3 189 rfl) rfl
theorem q737 : (Jvm.Cond.code ({ cls := "java/util/Arrays", name := "copyOf", desc := "([Ljava/lang/Object;ILjava/lang/Class;)[Ljava/lang/Object;" } : Jvm.MethodName) prog_44_method_120_code (4 : Nat) (Option.some (Jvm.ClassFile.FieldType.array (Jvm.ClassFile.FieldType.object "java/lang/Object")))) ∈ lw_all := lw_g (lw_at lw_m3 190 rfl) rfl
theorem q738 : (Jvm.Cond.classLink "java/util/Arrays" (110 : Nat) "[Ljava/lang/Object;") ∈ lw_all := lw_g (lw_at lw_m3 191 rfl) rfl
theorem q740 : (Jvm.Cond.classLink "java/util/Arrays" (2 : Nat) "java/lang/Object") ∈ lw_all := lw_g (lw_at lw_m3 193 rfl) rfl
theorem q741 : (Jvm.Cond.methodLink "java/util/Arrays" (304 : Nat) ({ cls := "java/lang/Math", name := "min", desc := "(II)I" } : Jvm.MethodName)) ∈ lw_all := lw_g (lw_at lw_m3 194 rfl) rfl
theorem q742 : (Jvm.Cond.methodLink "java/util/Arrays" (150 : Nat) ({ cls := "java/lang/System", name := "arraycopy", desc := "(Ljava/lang/Object;ILjava/lang/Object;II)V" } : Jvm.MethodName)) ∈ lw_all := lw_g (lw_at lw_m3 195 rfl) rfl

/-! java/lang/Throwable -/
set_option maxRecDepth 100000
def RJ8 : String := "java/lang/Throwable"
def TJ8 : u_T := fun k => match k with
  | 0 => ("java/lang/Throwable", "cause", "Ljava/lang/Throwable;", false)
  | 1 => ("java/lang/Throwable", "stackTrace", "[Ljava/lang/StackTraceElement;", false)
  | 2 => ("java/lang/Throwable", "suppressedExceptions", "Ljava/util/List;", false)
  | 3 => ("java/lang/Throwable", "detailMessage", "Ljava/lang/String;", false)
  | _ => ("java/lang/Throwable", "backtrace", "Ljava/lang/Object;", false)
def tyJ8 : Nat → FieldType := fun k => match k with
  | 0 => .object "java/lang/Throwable"
  | 1 => .array (.object "java/lang/StackTraceElement")
  | 2 => .object "java/util/List"
  | 3 => .object "java/lang/String"
  | _ => .object "java/lang/Object"
abbrev wsJ80 : List Cond := u_ws RJ8 TJ8 5
theorem nmJ8 : ∀ a, a < 5 → ∀ b, b < 5 → a ≠ b → (TJ8 a).2.1 ≠ (TJ8 b).2.1 := by decide +kernel
theorem tyJ8_ok : ∀ k, k < 5 → parseFieldDescriptor (TJ8 k).2.2.1 = some (tyJ8 k) := by decide +kernel
abbrev cJ8_init : ByteArray := prog_40_method_2_code
def yJ8_init : MethodName := ⟨RJ8, "<init>", "(Ljava/lang/String;)V"⟩
def dkwJ8_init_1 : List UInt8 := [182, 0, 27, 87, 42, 43, 181, 0, 31, 177]
abbrev dktJ8_init_1 : List UInt8 := dkwJ8_init_1 ++ []
def dkwJ8_init_0 : List UInt8 := [42, 183, 0, 1, 42, 42, 181, 0, 7, 42, 178, 0, 13, 181, 0, 17, 42, 178, 0, 20, 181, 0, 24, 42]
abbrev dktJ8_init_0 : List UInt8 := dkwJ8_init_0 ++ dktJ8_init_1
theorem dksJ8_init_0 : cJ8_init.data.toList.drop 0 = dktJ8_init_0 := by decide +kernel
theorem dksJ8_init_1 : cJ8_init.data.toList.drop 24 = dktJ8_init_1 := dk_seg dksJ8_init_0 24 rfl rfl
theorem dJ8_init_0 : decode cJ8_init 0 = .ok (.aload_n 0, 1) := dk_42 (dk_at dksJ8_init_0 0 rfl rfl)
theorem dJ8_init_1 : decode cJ8_init 1 = .ok (.invokespecial 1, 3) := dk_183 0 1 (dk_at dksJ8_init_0 1 rfl rfl)
theorem dJ8_init_4 : decode cJ8_init 4 = .ok (.aload_n 0, 1) := dk_42 (dk_at dksJ8_init_0 4 rfl rfl)
theorem dJ8_init_5 : decode cJ8_init 5 = .ok (.aload_n 0, 1) := dk_42 (dk_at dksJ8_init_0 5 rfl rfl)
theorem dJ8_init_6 : decode cJ8_init 6 = .ok (.putfield 7, 3) := dk_181 0 7 (dk_at dksJ8_init_0 6 rfl rfl)
theorem dJ8_init_9 : decode cJ8_init 9 = .ok (.aload_n 0, 1) := dk_42 (dk_at dksJ8_init_0 9 rfl rfl)
theorem dJ8_init_10 : decode cJ8_init 10 = .ok (.getstatic 13, 3) := dk_178 0 13 (dk_at dksJ8_init_0 10 rfl rfl)
theorem dJ8_init_13 : decode cJ8_init 13 = .ok (.putfield 17, 3) := dk_181 0 17 (dk_at dksJ8_init_0 13 rfl rfl)
theorem dJ8_init_16 : decode cJ8_init 16 = .ok (.aload_n 0, 1) := dk_42 (dk_at dksJ8_init_0 16 rfl rfl)
theorem dJ8_init_17 : decode cJ8_init 17 = .ok (.getstatic 20, 3) := dk_178 0 20 (dk_at dksJ8_init_0 17 rfl rfl)
theorem dJ8_init_20 : decode cJ8_init 20 = .ok (.putfield 24, 3) := dk_181 0 24 (dk_at dksJ8_init_0 20 rfl rfl)
theorem dJ8_init_23 : decode cJ8_init 23 = .ok (.aload_n 0, 1) := dk_42 (dk_at dksJ8_init_0 23 rfl rfl)
theorem dJ8_init_24 : decode cJ8_init 24 = .ok (.invokevirtual 27, 3) := dk_182 0 27 (dk_at dksJ8_init_1 0 rfl rfl)
theorem dJ8_init_27 : decode cJ8_init 27 = .ok (.pop, 1) := dk_87 (dk_at dksJ8_init_1 3 rfl rfl)
theorem dJ8_init_28 : decode cJ8_init 28 = .ok (.aload_n 0, 1) := dk_42 (dk_at dksJ8_init_1 4 rfl rfl)
theorem dJ8_init_29 : decode cJ8_init 29 = .ok (.aload_n 1, 1) := dk_43 (dk_at dksJ8_init_1 5 rfl rfl)
theorem dJ8_init_30 : decode cJ8_init 30 = .ok (.putfield 31, 3) := dk_181 0 31 (dk_at dksJ8_init_1 6 rfl rfl)
theorem dJ8_init_33 : decode cJ8_init 33 = .ok (.return_, 1) := dk_177 (dk_at dksJ8_init_1 9 rfl rfl)
abbrev cJ8_init_2 : ByteArray := prog_40_method_1_code
def yJ8_init_2 : MethodName := ⟨RJ8, "<init>", "()V"⟩
def dkwJ8_init_2_1 : List UInt8 := [182, 0, 27, 87, 177]
abbrev dktJ8_init_2_1 : List UInt8 := dkwJ8_init_2_1 ++ []
def dkwJ8_init_2_0 : List UInt8 := [42, 183, 0, 1, 42, 42, 181, 0, 7, 42, 178, 0, 13, 181, 0, 17, 42, 178, 0, 20, 181, 0, 24, 42]
abbrev dktJ8_init_2_0 : List UInt8 := dkwJ8_init_2_0 ++ dktJ8_init_2_1
theorem dksJ8_init_2_0 : cJ8_init_2.data.toList.drop 0 = dktJ8_init_2_0 := by decide +kernel
theorem dksJ8_init_2_1 : cJ8_init_2.data.toList.drop 24 = dktJ8_init_2_1 := dk_seg dksJ8_init_2_0 24 rfl rfl
theorem dJ8_init_2_0 : decode cJ8_init_2 0 = .ok (.aload_n 0, 1) := dk_42 (dk_at dksJ8_init_2_0 0 rfl rfl)
theorem dJ8_init_2_1 : decode cJ8_init_2 1 = .ok (.invokespecial 1, 3) := dk_183 0 1 (dk_at dksJ8_init_2_0 1 rfl rfl)
theorem dJ8_init_2_4 : decode cJ8_init_2 4 = .ok (.aload_n 0, 1) := dk_42 (dk_at dksJ8_init_2_0 4 rfl rfl)
theorem dJ8_init_2_5 : decode cJ8_init_2 5 = .ok (.aload_n 0, 1) := dk_42 (dk_at dksJ8_init_2_0 5 rfl rfl)
theorem dJ8_init_2_6 : decode cJ8_init_2 6 = .ok (.putfield 7, 3) := dk_181 0 7 (dk_at dksJ8_init_2_0 6 rfl rfl)
theorem dJ8_init_2_9 : decode cJ8_init_2 9 = .ok (.aload_n 0, 1) := dk_42 (dk_at dksJ8_init_2_0 9 rfl rfl)
theorem dJ8_init_2_10 : decode cJ8_init_2 10 = .ok (.getstatic 13, 3) := dk_178 0 13 (dk_at dksJ8_init_2_0 10 rfl rfl)
theorem dJ8_init_2_13 : decode cJ8_init_2 13 = .ok (.putfield 17, 3) := dk_181 0 17 (dk_at dksJ8_init_2_0 13 rfl rfl)
theorem dJ8_init_2_16 : decode cJ8_init_2 16 = .ok (.aload_n 0, 1) := dk_42 (dk_at dksJ8_init_2_0 16 rfl rfl)
theorem dJ8_init_2_17 : decode cJ8_init_2 17 = .ok (.getstatic 20, 3) := dk_178 0 20 (dk_at dksJ8_init_2_0 17 rfl rfl)
theorem dJ8_init_2_20 : decode cJ8_init_2 20 = .ok (.putfield 24, 3) := dk_181 0 24 (dk_at dksJ8_init_2_0 20 rfl rfl)
theorem dJ8_init_2_23 : decode cJ8_init_2 23 = .ok (.aload_n 0, 1) := dk_42 (dk_at dksJ8_init_2_0 23 rfl rfl)
theorem dJ8_init_2_24 : decode cJ8_init_2 24 = .ok (.invokevirtual 27, 3) := dk_182 0 27 (dk_at dksJ8_init_2_1 0 rfl rfl)
theorem dJ8_init_2_27 : decode cJ8_init_2 27 = .ok (.pop, 1) := dk_87 (dk_at dksJ8_init_2_1 3 rfl rfl)
theorem dJ8_init_2_28 : decode cJ8_init_2 28 = .ok (.return_, 1) := dk_177 (dk_at dksJ8_init_2_1 4 rfl rfl)
theorem q86 : (Jvm.Cond.initialized "java/lang/Throwable") ∈ lw_all := lw_g (lw_at lw_m1 19 rfl) rfl
theorem q861 : (Jvm.Cond.instanceMethod ({ cls := "java/lang/Throwable", name := "<init>", desc := "(Ljava/lang/String;)V" } : Jvm.MethodName)) ∈ lw_all := lw_g (lw_at lw_m4 74 rfl) rfl
theorem q862 : (Jvm.Cond.code ({ cls := "java/lang/Throwable", name := "<init>", desc := "(Ljava/lang/String;)V" } : Jvm.MethodName) prog_40_method_2_code (2 : Nat) (Option.none : Option Jvm.ClassFile.FieldType)) ∈ lw_all := lw_g (lw_at lw_m4 75 rfl) rfl
theorem q863 : (Jvm.Cond.methodLink "java/lang/Throwable" (1 : Nat) ({ cls := "java/lang/Object", name := "<init>", desc := "()V" } : Jvm.MethodName)) ∈ lw_all := lw_g (lw_at lw_m4 76 rfl) rfl
theorem q864 : (Jvm.Cond.fieldLink "java/lang/Throwable" (13 : Nat) "java/lang/Throwable" "UNASSIGNED_STACK" "[Ljava/lang/StackTraceElement;") ∈ lw_all := lw_g (lw_at lw_m4 77 rfl) rfl
theorem q865 : (Jvm.Cond.laysStatic "java/lang/Throwable" "UNASSIGNED_STACK" "[Ljava/lang/StackTraceElement;") ∈ lw_tbl := lw_at lw_m4 78 rfl
theorem q866 : (Jvm.Cond.fieldLink "java/lang/Throwable" (20 : Nat) "java/lang/Throwable" "SUPPRESSED_SENTINEL" "Ljava/util/List;") ∈ lw_all := lw_g (lw_at lw_m4 79 rfl) rfl
theorem q867 : (Jvm.Cond.laysStatic "java/lang/Throwable" "SUPPRESSED_SENTINEL" "Ljava/util/List;") ∈ lw_tbl := lw_at lw_m4 80 rfl
theorem q868 : (Jvm.Cond.methodLink "java/lang/Throwable" (27 : Nat) ({ cls := "java/lang/Throwable", name := "fillInStackTrace", desc := "()Ljava/lang/Throwable;" } : Jvm.MethodName)) ∈ lw_all := lw_g (lw_at lw_m4 81 rfl) rfl
theorem q869 : (Jvm.Cond.instanceMethod ({ cls := "java/lang/Throwable", name := "fillInStackTrace", desc := "()Ljava/lang/Throwable;" } : Jvm.MethodName)) ∈ lw_all := lw_g (lw_at lw_m4 82 rfl) rfl
theorem q870 : (Jvm.Cond.sameMethod "java/lang/Throwable" "java/lang/Throwable" "fillInStackTrace" "()Ljava/lang/Throwable;") ∈ lw_all := lw_g (lw_at lw_m4 83 rfl) rfl
theorem q886 : (Jvm.Cond.declares ({ cls := "java/lang/Throwable", name := "fillInStackTrace", desc := "()Ljava/lang/Throwable;" } : Jvm.MethodName)) ∈ lw_tbl := lw_at lw_m4 99 rfl
theorem q890 : (Jvm.Cond.codeSync ({ cls := "java/lang/Throwable", name := "fillInStackTrace", desc := "()Ljava/lang/Throwable;" } : Jvm.MethodName) prog_40_method_18_code (1 : Nat) (Option.some (Jvm.ClassFile.FieldType.object "java/lang/Throwable"))) ∈ lw_all := lw_g (lw_at lw_m4 103 rfl) rfl
theorem q891 : (Jvm.Cond.methodLink "java/lang/Throwable" (202 : Nat) ({ cls := "java/lang/Throwable", name := "fillInStackTrace", desc := "(I)Ljava/lang/Throwable;" } : Jvm.MethodName)) ∈ lw_all := lw_g (lw_at lw_m4 104 rfl) rfl
theorem q892 : (Jvm.Cond.privateMethod ({ cls := "java/lang/Throwable", name := "fillInStackTrace", desc := "(I)Ljava/lang/Throwable;" } : Jvm.MethodName)) ∈ lw_tbl := lw_at lw_m4 105 rfl
theorem q893 : (Jvm.Cond.instanceMethod ({ cls := "java/lang/Throwable", name := "fillInStackTrace", desc := "(I)Ljava/lang/Throwable;" } : Jvm.MethodName)) ∈ lw_all := lw_g (lw_at lw_m4 106 rfl) rfl
theorem q894 : (Jvm.Cond.instantiable "java/lang/Throwable" (6 : Nat)) ∈ lw_all := lw_g (lw_at lw_m4 107 rfl) rfl
theorem q895 : (Jvm.Cond.native ({ cls := "java/lang/Throwable", name := "fillInStackTrace", desc := "(I)Ljava/lang/Throwable;" } : Jvm.MethodName)) ∈ lw_all := lw_g (lw_at lw_m4 108 rfl) rfl
theorem q896 : (Jvm.Cond.fieldLink "java/lang/Throwable" (198 : Nat) "java/lang/Throwable" "backtrace" "Ljava/lang/Object;") ∈ lw_all := lw_g (lw_at lw_m4 109 rfl) rfl
theorem q897 : (Jvm.Cond.fieldLink "java/lang/Throwable" (31 : Nat) "java/lang/Throwable" "detailMessage" "Ljava/lang/String;") ∈ lw_all := lw_g (lw_at lw_m4 110 rfl) rfl
theorem q898 : (Jvm.Cond.fieldLink "java/lang/Throwable" (7 : Nat) "java/lang/Throwable" "cause" "Ljava/lang/Throwable;") ∈ lw_all := lw_g (lw_at lw_m4 111 rfl) rfl
theorem q899 : (Jvm.Cond.fieldLink "java/lang/Throwable" (17 : Nat) "java/lang/Throwable" "stackTrace" "[Ljava/lang/StackTraceElement;") ∈ lw_all := lw_g (lw_at lw_m4 112 rfl) rfl
theorem q900 : (Jvm.Cond.fieldLink "java/lang/Throwable" (24 : Nat) "java/lang/Throwable" "suppressedExceptions" "Ljava/util/List;") ∈ lw_all := lw_g (lw_at lw_m4 113 rfl) rfl
theorem q902 : (Jvm.Cond.soleField "java/lang/Throwable" "backtrace") ∈ lw_all := lw_g (lw_at lw_m4 115 rfl) rfl
theorem q904 : (Jvm.Cond.soleField "java/lang/Throwable" "detailMessage") ∈ lw_all := lw_g (lw_at lw_m4 117 rfl) rfl
theorem q906 : (Jvm.Cond.soleField "java/lang/Throwable" "cause") ∈ lw_all := lw_g (lw_at lw_m4 119 rfl) rfl
theorem q908 : (Jvm.Cond.soleField "java/lang/Throwable" "stackTrace") ∈ lw_all := lw_g (lw_at lw_m4 121 rfl) rfl
theorem q910 : (Jvm.Cond.soleField "java/lang/Throwable" "depth") ∈ lw_all := lw_g (lw_at lw_m4 123 rfl) rfl
theorem q912 : (Jvm.Cond.soleField "java/lang/Throwable" "suppressedExceptions") ∈ lw_all := lw_g (lw_at lw_m4 125 rfl) rfl
theorem q919 : (Jvm.Cond.declares ({ cls := "java/lang/Throwable", name := "<init>", desc := "()V" } : Jvm.MethodName)) ∈ lw_tbl := lw_at lw_m4 132 rfl
theorem q920 : (Jvm.Cond.declares ({ cls := "java/lang/Throwable", name := "<init>", desc := "(Ljava/lang/String;)V" } : Jvm.MethodName)) ∈ lw_tbl := lw_at lw_m4 133 rfl
theorem q922 : (Jvm.Cond.lays "java/lang/Throwable" "java/lang/Throwable" "cause" "Ljava/lang/Throwable;") ∈ lw_all := lw_g (lw_at lw_m4 135 rfl) rfl
theorem q923 : (Jvm.Cond.lays "java/lang/Throwable" "java/lang/Throwable" "stackTrace" "[Ljava/lang/StackTraceElement;") ∈ lw_all := lw_g (lw_at lw_m4 136 rfl) rfl
theorem q924 : (Jvm.Cond.lays "java/lang/Throwable" "java/lang/Throwable" "suppressedExceptions" "Ljava/util/List;") ∈ lw_all := lw_g (lw_at lw_m4 137 rfl) rfl
theorem q925 : (Jvm.Cond.lays "java/lang/Throwable" "java/lang/Throwable" "detailMessage" "Ljava/lang/String;") ∈ lw_all := lw_g (lw_at lw_m4 138 rfl) rfl
theorem q926 : (Jvm.Cond.lays "java/lang/Throwable" "java/lang/Throwable" "backtrace" "Ljava/lang/Object;") ∈ lw_all := lw_g (lw_at lw_m4 139 rfl) rfl
theorem q927 : (Jvm.Cond.fieldLink "java/lang/Throwable" (198 : Nat) "java/lang/Throwable" "backtrace" "Ljava/lang/Object;") ∈ lw_all := lw_g (lw_at lw_m4 140 rfl) rfl
theorem q928 : (Jvm.Cond.superclass "java/lang/Throwable" "java/lang/Object") ∈ lw_all := lw_g (lw_at lw_m4 141 rfl) rfl
theorem q929 : (Jvm.Cond.instanceMethod ({ cls := "java/lang/Throwable", name := "<init>", desc := "()V" } : Jvm.MethodName)) ∈ lw_all := lw_g (lw_at lw_m4 142 rfl) rfl
theorem q930 : (Jvm.Cond.code ({ cls := "java/lang/Throwable", name := "<init>", desc := "()V" } : Jvm.MethodName) prog_40_method_1_code (1 : Nat) (Option.none : Option Jvm.ClassFile.FieldType)) ∈ lw_all := lw_g (lw_at lw_m4 143 rfl) rfl
theorem q1740 : (Jvm.Cond.sameMethod "java/lang/Throwable" "java/lang/Throwable" "fillInStackTrace" "(I)Ljava/lang/Throwable;") ∈ lw_all := lw_g (lw_at lw_m7 233 rfl) rfl
theorem q1777 : (Jvm.Cond.castable "java/lang/Throwable" "java/lang/Object") ∈ lw_tbl := lw_at lw_m8 30 rfl
theorem in_J8 : ∀ w ∈ wsJ80, w ∈ lw_all := lw_in wsJ80 [922, 923, 924, 925, 926] (by decide +kernel) (by decide +kernel)

/-! java/lang/Exception -/
set_option maxRecDepth 100000
def RJ9 : String := "java/lang/Exception"
abbrev cJ9_init : ByteArray := prog_31_method_2_code
def yJ9_init : MethodName := ⟨RJ9, "<init>", "(Ljava/lang/String;)V"⟩
def dkwJ9_init_0 : List UInt8 := [42, 43, 183, 0, 7, 177]
abbrev dktJ9_init_0 : List UInt8 := dkwJ9_init_0 ++ []
theorem dksJ9_init_0 : cJ9_init.data.toList.drop 0 = dktJ9_init_0 := by decide +kernel
theorem dJ9_init_0 : decode cJ9_init 0 = .ok (.aload_n 0, 1) := dk_42 (dk_at dksJ9_init_0 0 rfl rfl)
theorem dJ9_init_1 : decode cJ9_init 1 = .ok (.aload_n 1, 1) := dk_43 (dk_at dksJ9_init_0 1 rfl rfl)
theorem dJ9_init_2 : decode cJ9_init 2 = .ok (.invokespecial 7, 3) := dk_183 0 7 (dk_at dksJ9_init_0 2 rfl rfl)
theorem dJ9_init_5 : decode cJ9_init 5 = .ok (.return_, 1) := dk_177 (dk_at dksJ9_init_0 5 rfl rfl)
abbrev cJ9_init_2 : ByteArray := prog_31_method_1_code
def yJ9_init_2 : MethodName := ⟨RJ9, "<init>", "()V"⟩
theorem dJ9_init_2_0 : decode cJ9_init_2 0 = .ok (.aload_n 0, 1) := by decide +kernel
theorem dJ9_init_2_1 : decode cJ9_init_2 1 = .ok (.invokespecial 1, 3) := by decide +kernel
theorem dJ9_init_2_4 : decode cJ9_init_2 4 = .ok (.return_, 1) := by decide +kernel
theorem q87 : (Jvm.Cond.initialized "java/lang/Exception") ∈ lw_all := lw_g (lw_at lw_m1 20 rfl) rfl
theorem q858 : (Jvm.Cond.instanceMethod ({ cls := "java/lang/Exception", name := "<init>", desc := "(Ljava/lang/String;)V" } : Jvm.MethodName)) ∈ lw_all := lw_g (lw_at lw_m4 71 rfl) rfl
theorem q859 : (Jvm.Cond.code ({ cls := "java/lang/Exception", name := "<init>", desc := "(Ljava/lang/String;)V" } : Jvm.MethodName) prog_31_method_2_code (2 : Nat) (Option.none : Option Jvm.ClassFile.FieldType)) ∈ lw_all := lw_g (lw_at lw_m4 72 rfl) rfl
theorem q860 : (Jvm.Cond.methodLink "java/lang/Exception" (7 : Nat) ({ cls := "java/lang/Throwable", name := "<init>", desc := "(Ljava/lang/String;)V" } : Jvm.MethodName)) ∈ lw_all := lw_g (lw_at lw_m4 73 rfl) rfl
theorem q889 : (Jvm.Cond.superclass "java/lang/Exception" "java/lang/Throwable") ∈ lw_all := lw_g (lw_at lw_m4 102 rfl) rfl
theorem q917 : (Jvm.Cond.declares ({ cls := "java/lang/Exception", name := "<init>", desc := "()V" } : Jvm.MethodName)) ∈ lw_tbl := lw_at lw_m4 130 rfl
theorem q918 : (Jvm.Cond.declares ({ cls := "java/lang/Exception", name := "<init>", desc := "(Ljava/lang/String;)V" } : Jvm.MethodName)) ∈ lw_tbl := lw_at lw_m4 131 rfl
theorem q977 : (Jvm.Cond.instanceMethod ({ cls := "java/lang/Exception", name := "<init>", desc := "()V" } : Jvm.MethodName)) ∈ lw_all := lw_g (lw_at lw_m4 190 rfl) rfl
theorem q978 : (Jvm.Cond.code ({ cls := "java/lang/Exception", name := "<init>", desc := "()V" } : Jvm.MethodName) prog_31_method_1_code (1 : Nat) (Option.none : Option Jvm.ClassFile.FieldType)) ∈ lw_all := lw_g (lw_at lw_m4 191 rfl) rfl
theorem q979 : (Jvm.Cond.methodLink "java/lang/Exception" (1 : Nat) ({ cls := "java/lang/Throwable", name := "<init>", desc := "()V" } : Jvm.MethodName)) ∈ lw_all := lw_g (lw_at lw_m4 192 rfl) rfl

/-! BookPairs$Sort -/
set_option maxRecDepth 100000
def RX1 : String := "BookPairs$Sort"
def TX1 : u_T := fun k => match k with
  | _ => ("BookPairs$Sort", "cost", "LBookPairs$Cost;", true)
def tyX1 : Nat → FieldType := fun k => match k with
  | _ => .object "BookPairs$Cost"
abbrev wsX10 : List Cond := u_ws RX1 TX1 1
theorem nmX1 : ∀ a, a < 1 → ∀ b, b < 1 → a ≠ b → (TX1 a).2.1 ≠ (TX1 b).2.1 := by decide +kernel
theorem tyX1_ok : ∀ k, k < 1 → parseFieldDescriptor (TX1 k).2.2.1 = some (tyX1 k) := by decide +kernel
abbrev cX1_init : ByteArray := prog_21_method_1_code
def yX1_init : MethodName := ⟨RX1, "<init>", "(LBookPairs$Cost;)V"⟩
def dkwX1_init_0 : List UInt8 := [42, 183, 0, 1, 42, 43, 181, 0, 7, 177]
abbrev dktX1_init_0 : List UInt8 := dkwX1_init_0 ++ []
theorem dksX1_init_0 : cX1_init.data.toList.drop 0 = dktX1_init_0 := by decide +kernel
theorem dX1_init_0 : decode cX1_init 0 = .ok (.aload_n 0, 1) := dk_42 (dk_at dksX1_init_0 0 rfl rfl)
theorem dX1_init_1 : decode cX1_init 1 = .ok (.invokespecial 1, 3) := dk_183 0 1 (dk_at dksX1_init_0 1 rfl rfl)
theorem dX1_init_4 : decode cX1_init 4 = .ok (.aload_n 0, 1) := dk_42 (dk_at dksX1_init_0 4 rfl rfl)
theorem dX1_init_5 : decode cX1_init 5 = .ok (.aload_n 1, 1) := dk_43 (dk_at dksX1_init_0 5 rfl rfl)
theorem dX1_init_6 : decode cX1_init 6 = .ok (.putfield 7, 3) := dk_181 0 7 (dk_at dksX1_init_0 6 rfl rfl)
theorem dX1_init_9 : decode cX1_init 9 = .ok (.return_, 1) := dk_177 (dk_at dksX1_init_0 9 rfl rfl)
theorem q72 : (Jvm.Cond.initialized "BookPairs$Sort") ∈ lw_all := lw_g (lw_at lw_m1 5 rfl) rfl
theorem q147 : (Jvm.Cond.instantiable "BookPairs$Sort" (1 : Nat)) ∈ lw_all := lw_g (lw_at lw_m1 80 rfl) rfl
theorem q203 : (Jvm.Cond.instanceMethod ({ cls := "BookPairs$Sort", name := "<init>", desc := "(LBookPairs$Cost;)V" } : Jvm.MethodName)) ∈ lw_all := lw_g (lw_at lw_m1 136 rfl) rfl
theorem q204 : (Jvm.Cond.code ({ cls := "BookPairs$Sort", name := "<init>", desc := "(LBookPairs$Cost;)V" } : Jvm.MethodName) prog_21_method_1_code (2 : Nat) (Option.none : Option Jvm.ClassFile.FieldType)) ∈ lw_all := lw_g (lw_at lw_m1 137 rfl) rfl
theorem q205 : (Jvm.Cond.methodLink "BookPairs$Sort" (1 : Nat) ({ cls := "java/lang/Object", name := "<init>", desc := "()V" } : Jvm.MethodName)) ∈ lw_all := lw_g (lw_at lw_m1 138 rfl) rfl
theorem q206 : (Jvm.Cond.fieldLink "BookPairs$Sort" (7 : Nat) "BookPairs$Sort" "cost" "LBookPairs$Cost;") ∈ lw_all := lw_g (lw_at lw_m1 139 rfl) rfl
theorem q210 : (Jvm.Cond.laysFinal "BookPairs$Sort" "BookPairs$Sort" "cost" "LBookPairs$Cost;") ∈ lw_all := lw_g (lw_at lw_m1 143 rfl) rfl
theorem q211 : (Jvm.Cond.soleField "BookPairs$Sort" "cost") ∈ lw_all := lw_g (lw_at lw_m1 144 rfl) rfl
theorem q212 : (Jvm.Cond.superclass "BookPairs$Sort" "java/lang/Object") ∈ lw_all := lw_g (lw_at lw_m1 145 rfl) rfl
theorem q724 : (Jvm.Cond.selects "BookPairs$Sort" ({ cls := "java/lang/Object", name := "getClass", desc := "()Ljava/lang/Class;" } : Jvm.MethodName) ({ cls := "java/lang/Object", name := "getClass", desc := "()Ljava/lang/Class;" } : Jvm.MethodName)) ∈ lw_all := lw_g (lw_at lw_m3 177 rfl) rfl
theorem q1752 : (Jvm.Cond.castable "BookPairs$Sort" "java/lang/Object") ∈ lw_tbl := lw_at lw_m8 5 rfl
theorem in_X1 : ∀ w ∈ wsX10, w ∈ lw_all := lw_in wsX10 [210] (by decide +kernel) (by decide +kernel)

/-! BookPairs$2 -/
set_option maxRecDepth 100000
def RX10 : String := "BookPairs$2"
def TX10 : u_T := fun k => match k with
  | 0 => ("BookPairs$Sum", "sum", "I", false)
  | 1 => ("BookPairs$Sum", "this$0", "LBookPairs;", true)
  | 2 => ("BookPairs$2", "val$a", "I", true)
  | _ => ("BookPairs$2", "this$0", "LBookPairs;", true)
def tyX10 : Nat → FieldType := fun k => match k with
  | 0 => .int
  | 1 => .object "BookPairs"
  | 2 => .int
  | _ => .object "BookPairs"
abbrev wsX100 : List Cond := u_ws RX10 TX10 4
-- two fields of one name: no nmX10
theorem tyX10_ok : ∀ k, k < 4 → parseFieldDescriptor (TX10 k).2.2.1 = some (tyX10 k) := by decide +kernel
abbrev cX10_init : ByteArray := prog_4_method_1_code
def yX10_init : MethodName := ⟨RX10, "<init>", "(LBookPairs;I)V"⟩
def dkwX10_init_0 : List UInt8 := [42, 43, 181, 0, 1, 42, 28, 181, 0, 7, 42, 43, 183, 0, 11, 177]
abbrev dktX10_init_0 : List UInt8 := dkwX10_init_0 ++ []
theorem dksX10_init_0 : cX10_init.data.toList.drop 0 = dktX10_init_0 := by decide +kernel
theorem dX10_init_0 : decode cX10_init 0 = .ok (.aload_n 0, 1) := dk_42 (dk_at dksX10_init_0 0 rfl rfl)
theorem dX10_init_1 : decode cX10_init 1 = .ok (.aload_n 1, 1) := dk_43 (dk_at dksX10_init_0 1 rfl rfl)
theorem dX10_init_2 : decode cX10_init 2 = .ok (.putfield 1, 3) := dk_181 0 1 (dk_at dksX10_init_0 2 rfl rfl)
theorem dX10_init_5 : decode cX10_init 5 = .ok (.aload_n 0, 1) := dk_42 (dk_at dksX10_init_0 5 rfl rfl)
theorem dX10_init_6 : decode cX10_init 6 = .ok (.iload_n 2, 1) := dk_28 (dk_at dksX10_init_0 6 rfl rfl)
theorem dX10_init_7 : decode cX10_init 7 = .ok (.putfield 7, 3) := dk_181 0 7 (dk_at dksX10_init_0 7 rfl rfl)
theorem dX10_init_10 : decode cX10_init 10 = .ok (.aload_n 0, 1) := dk_42 (dk_at dksX10_init_0 10 rfl rfl)
theorem dX10_init_11 : decode cX10_init 11 = .ok (.aload_n 1, 1) := dk_43 (dk_at dksX10_init_0 11 rfl rfl)
theorem dX10_init_12 : decode cX10_init 12 = .ok (.invokespecial 11, 3) := dk_183 0 11 (dk_at dksX10_init_0 12 rfl rfl)
theorem dX10_init_15 : decode cX10_init 15 = .ok (.return_, 1) := dk_177 (dk_at dksX10_init_0 15 rfl rfl)
abbrev cX10_takes : ByteArray := prog_4_method_2_code
def yX10_takes : MethodName := ⟨RX10, "takes", "(LBookPairs$Bead;)V"⟩
def dkwX10_takes_1 : List UInt8 := [167, 0, 4, 3, 128, 181, 0, 17, 177]
abbrev dktX10_takes_1 : List UInt8 := dkwX10_takes_1 ++ []
def dkwX10_takes_0 : List UInt8 := [42, 89, 180, 0, 17, 43, 182, 0, 20, 42, 180, 0, 7, 122, 4, 126, 4, 160, 0, 10, 43, 182, 0, 26]
abbrev dktX10_takes_0 : List UInt8 := dkwX10_takes_0 ++ dktX10_takes_1
theorem dksX10_takes_0 : cX10_takes.data.toList.drop 0 = dktX10_takes_0 := by decide +kernel
theorem dksX10_takes_1 : cX10_takes.data.toList.drop 24 = dktX10_takes_1 := dk_seg dksX10_takes_0 24 rfl rfl
theorem dX10_takes_0 : decode cX10_takes 0 = .ok (.aload_n 0, 1) := dk_42 (dk_at dksX10_takes_0 0 rfl rfl)
theorem dX10_takes_1 : decode cX10_takes 1 = .ok (.dup, 1) := dk_89 (dk_at dksX10_takes_0 1 rfl rfl)
theorem dX10_takes_2 : decode cX10_takes 2 = .ok (.getfield 17, 3) := dk_180 0 17 (dk_at dksX10_takes_0 2 rfl rfl)
theorem dX10_takes_5 : decode cX10_takes 5 = .ok (.aload_n 1, 1) := dk_43 (dk_at dksX10_takes_0 5 rfl rfl)
theorem dX10_takes_6 : decode cX10_takes 6 = .ok (.invokevirtual 20, 3) := dk_182 0 20 (dk_at dksX10_takes_0 6 rfl rfl)
theorem dX10_takes_9 : decode cX10_takes 9 = .ok (.aload_n 0, 1) := dk_42 (dk_at dksX10_takes_0 9 rfl rfl)
theorem dX10_takes_10 : decode cX10_takes 10 = .ok (.getfield 7, 3) := dk_180 0 7 (dk_at dksX10_takes_0 10 rfl rfl)
theorem dX10_takes_13 : decode cX10_takes 13 = .ok (.ishr, 1) := dk_122 (dk_at dksX10_takes_0 13 rfl rfl)
theorem dX10_takes_14 : decode cX10_takes 14 = .ok (.iconst 1, 1) := dk_4 (dk_at dksX10_takes_0 14 rfl rfl)
theorem dX10_takes_15 : decode cX10_takes 15 = .ok (.iand, 1) := dk_126 (dk_at dksX10_takes_0 15 rfl rfl)
theorem dX10_takes_16 : decode cX10_takes 16 = .ok (.iconst 1, 1) := dk_4 (dk_at dksX10_takes_0 16 rfl rfl)
theorem dX10_takes_17 : decode cX10_takes 17 = .ok (.if_icmp .ne 10, 3) := dk_160 0 10 (dk_at dksX10_takes_0 17 rfl rfl)
theorem dX10_takes_20 : decode cX10_takes 20 = .ok (.aload_n 1, 1) := dk_43 (dk_at dksX10_takes_0 20 rfl rfl)
theorem dX10_takes_21 : decode cX10_takes 21 = .ok (.invokevirtual 26, 3) := dk_182 0 26 (dk_at dksX10_takes_0 21 rfl rfl)
theorem dX10_takes_24 : decode cX10_takes 24 = .ok (.goto 4, 3) := dk_167 0 4 (dk_at dksX10_takes_1 0 rfl rfl)
theorem dX10_takes_27 : decode cX10_takes 27 = .ok (.iconst 0, 1) := dk_3 (dk_at dksX10_takes_1 3 rfl rfl)
theorem dX10_takes_28 : decode cX10_takes 28 = .ok (.ior, 1) := dk_128 (dk_at dksX10_takes_1 4 rfl rfl)
theorem dX10_takes_29 : decode cX10_takes 29 = .ok (.putfield 17, 3) := dk_181 0 17 (dk_at dksX10_takes_1 5 rfl rfl)
theorem dX10_takes_32 : decode cX10_takes 32 = .ok (.return_, 1) := dk_177 (dk_at dksX10_takes_1 8 rfl rfl)
theorem q97 : (Jvm.Cond.initialized "BookPairs$2") ∈ lw_all := lw_g (lw_at lw_m1 30 rfl) rfl
theorem q390 : (Jvm.Cond.instantiable "BookPairs$2" (4 : Nat)) ∈ lw_all := lw_g (lw_at lw_m2 83 rfl) rfl
theorem q392 : (Jvm.Cond.instanceMethod ({ cls := "BookPairs$2", name := "<init>", desc := "(LBookPairs;I)V" } : Jvm.MethodName)) ∈ lw_all := lw_g (lw_at lw_m2 85 rfl) rfl
theorem q393 : (Jvm.Cond.code ({ cls := "BookPairs$2", name := "<init>", desc := "(LBookPairs;I)V" } : Jvm.MethodName) prog_4_method_1_code (3 : Nat) (Option.none : Option Jvm.ClassFile.FieldType)) ∈ lw_all := lw_g (lw_at lw_m2 86 rfl) rfl
theorem q394 : (Jvm.Cond.methodLinkNest "BookPairs$2" (11 : Nat) ({ cls := "BookPairs$Sum", name := "<init>", desc := "(LBookPairs;)V" } : Jvm.MethodName) "BookPairs") ∈ lw_tbl := lw_at lw_m2 87 rfl
theorem q398 : (Jvm.Cond.fieldLink "BookPairs$2" (7 : Nat) "BookPairs$2" "val$a" "I") ∈ lw_all := lw_g (lw_at lw_m2 91 rfl) rfl
theorem q399 : (Jvm.Cond.fieldLink "BookPairs$2" (1 : Nat) "BookPairs$2" "this$0" "LBookPairs;") ∈ lw_all := lw_g (lw_at lw_m2 92 rfl) rfl
theorem q404 : (Jvm.Cond.fieldLink "BookPairs$2" (17 : Nat) "BookPairs$2" "sum" "I") ∈ lw_all := lw_g (lw_at lw_m2 97 rfl) rfl
theorem q405 : (Jvm.Cond.sameField "BookPairs$2" "BookPairs$Sum" "sum" "I") ∈ lw_all := lw_g (lw_at lw_m2 98 rfl) rfl
theorem q408 : (Jvm.Cond.laysFinal "BookPairs$2" "BookPairs$2" "val$a" "I") ∈ lw_all := lw_g (lw_at lw_m2 101 rfl) rfl
theorem q409 : (Jvm.Cond.soleField "BookPairs$2" "val$a") ∈ lw_all := lw_g (lw_at lw_m2 102 rfl) rfl
theorem q410 : (Jvm.Cond.laysFinal "BookPairs$2" "BookPairs$2" "this$0" "LBookPairs;") ∈ lw_all := lw_g (lw_at lw_m2 103 rfl) rfl
theorem q411 : (Jvm.Cond.soleField "BookPairs$2" "this$0") ∈ lw_all := lw_g (lw_at lw_m2 104 rfl) rfl
theorem q412 : (Jvm.Cond.lays "BookPairs$2" "BookPairs$Sum" "sum" "I") ∈ lw_all := lw_g (lw_at lw_m2 105 rfl) rfl
theorem q414 : (Jvm.Cond.laysFinal "BookPairs$2" "BookPairs$Sum" "this$0" "LBookPairs;") ∈ lw_all := lw_g (lw_at lw_m2 107 rfl) rfl
theorem q416 : (Jvm.Cond.superclass "BookPairs$2" "BookPairs$Sum") ∈ lw_all := lw_g (lw_at lw_m2 109 rfl) rfl
theorem q422 : (Jvm.Cond.selects "BookPairs$2" ({ cls := "BookPairs$Sum", name := "all", desc := "()I" } : Jvm.MethodName) ({ cls := "BookPairs$Sum", name := "all", desc := "()I" } : Jvm.MethodName)) ∈ lw_all := lw_g (lw_at lw_m2 115 rfl) rfl
theorem q556 : (Jvm.Cond.selects "BookPairs$2" ({ cls := "BookPairs$Sum", name := "takes", desc := "(LBookPairs$Bead;)V" } : Jvm.MethodName) ({ cls := "BookPairs$2", name := "takes", desc := "(LBookPairs$Bead;)V" } : Jvm.MethodName)) ∈ lw_all := lw_g (lw_at lw_m3 9 rfl) rfl
theorem q557 : (Jvm.Cond.instanceMethod ({ cls := "BookPairs$2", name := "takes", desc := "(LBookPairs$Bead;)V" } : Jvm.MethodName)) ∈ lw_all := lw_g (lw_at lw_m3 10 rfl) rfl
theorem q558 : (Jvm.Cond.code ({ cls := "BookPairs$2", name := "takes", desc := "(LBookPairs$Bead;)V" } : Jvm.MethodName) prog_4_method_2_code (2 : Nat) (Option.none : Option Jvm.ClassFile.FieldType)) ∈ lw_all := lw_g (lw_at lw_m3 11 rfl) rfl
theorem q559 : (Jvm.Cond.methodLink "BookPairs$2" (20 : Nat) ({ cls := "BookPairs$Bead", name := "leftOnes", desc := "()I" } : Jvm.MethodName)) ∈ lw_all := lw_g (lw_at lw_m3 12 rfl) rfl
theorem q560 : (Jvm.Cond.methodLink "BookPairs$2" (26 : Nat) ({ cls := "BookPairs$Bead", name := "rightOnes", desc := "()I" } : Jvm.MethodName)) ∈ lw_all := lw_g (lw_at lw_m3 13 rfl) rfl
theorem q712 : (Jvm.Cond.selects "BookPairs$2" ({ cls := "java/lang/Object", name := "getClass", desc := "()Ljava/lang/Class;" } : Jvm.MethodName) ({ cls := "java/lang/Object", name := "getClass", desc := "()Ljava/lang/Class;" } : Jvm.MethodName)) ∈ lw_all := lw_g (lw_at lw_m3 165 rfl) rfl
theorem q1768 : (Jvm.Cond.castable "BookPairs$2" "java/lang/Object") ∈ lw_tbl := lw_at lw_m8 21 rfl
theorem in_X10 : ∀ w ∈ wsX100, w ∈ lw_all := lw_in wsX100 [412, 414, 408, 410] (by decide +kernel) (by decide +kernel)

/-! BookPairs$Best -/
set_option maxRecDepth 100000
def RX11 : String := "BookPairs$Best"
def TX11 : u_T := fun k => match k with
  | 0 => ("BookPairs$Best", "is", "Z", true)
  | _ => ("BookPairs$Best", "this$0", "LBookPairs;", true)
def tyX11 : Nat → FieldType := fun k => match k with
  | 0 => .boolean
  | _ => .object "BookPairs"
abbrev wsX110 : List Cond := u_ws RX11 TX11 2
theorem nmX11 : ∀ a, a < 2 → ∀ b, b < 2 → a ≠ b → (TX11 a).2.1 ≠ (TX11 b).2.1 := by decide +kernel
theorem tyX11_ok : ∀ k, k < 2 → parseFieldDescriptor (TX11 k).2.2.1 = some (tyX11 k) := by decide +kernel
abbrev cX11_init : ByteArray := prog_8_method_1_code
def yX11_init : MethodName := ⟨RX11, "<init>", "(LBookPairs;)V"⟩
def dkwX11_init_1 : List UInt8 := [18, 23, 162, 0, 7, 4, 167, 0, 4, 3, 181, 0, 24, 177]
abbrev dktX11_init_1 : List UInt8 := dkwX11_init_1 ++ []
def dkwX11_init_0 : List UInt8 := [42, 43, 181, 0, 3, 42, 183, 0, 9, 42, 42, 180, 0, 3, 42, 180, 0, 3, 180, 0, 15, 182, 0, 19]
abbrev dktX11_init_0 : List UInt8 := dkwX11_init_0 ++ dktX11_init_1
theorem dksX11_init_0 : cX11_init.data.toList.drop 0 = dktX11_init_0 := by decide +kernel
theorem dksX11_init_1 : cX11_init.data.toList.drop 24 = dktX11_init_1 := dk_seg dksX11_init_0 24 rfl rfl
theorem dX11_init_0 : decode cX11_init 0 = .ok (.aload_n 0, 1) := dk_42 (dk_at dksX11_init_0 0 rfl rfl)
theorem dX11_init_1 : decode cX11_init 1 = .ok (.aload_n 1, 1) := dk_43 (dk_at dksX11_init_0 1 rfl rfl)
theorem dX11_init_2 : decode cX11_init 2 = .ok (.putfield 3, 3) := dk_181 0 3 (dk_at dksX11_init_0 2 rfl rfl)
theorem dX11_init_5 : decode cX11_init 5 = .ok (.aload_n 0, 1) := dk_42 (dk_at dksX11_init_0 5 rfl rfl)
theorem dX11_init_6 : decode cX11_init 6 = .ok (.invokespecial 9, 3) := dk_183 0 9 (dk_at dksX11_init_0 6 rfl rfl)
theorem dX11_init_9 : decode cX11_init 9 = .ok (.aload_n 0, 1) := dk_42 (dk_at dksX11_init_0 9 rfl rfl)
theorem dX11_init_10 : decode cX11_init 10 = .ok (.aload_n 0, 1) := dk_42 (dk_at dksX11_init_0 10 rfl rfl)
theorem dX11_init_11 : decode cX11_init 11 = .ok (.getfield 3, 3) := dk_180 0 3 (dk_at dksX11_init_0 11 rfl rfl)
theorem dX11_init_14 : decode cX11_init 14 = .ok (.aload_n 0, 1) := dk_42 (dk_at dksX11_init_0 14 rfl rfl)
theorem dX11_init_15 : decode cX11_init 15 = .ok (.getfield 3, 3) := dk_180 0 3 (dk_at dksX11_init_0 15 rfl rfl)
theorem dX11_init_18 : decode cX11_init 18 = .ok (.getfield 15, 3) := dk_180 0 15 (dk_at dksX11_init_0 18 rfl rfl)
theorem dX11_init_21 : decode cX11_init 21 = .ok (.invokevirtual 19, 3) := dk_182 0 19 (dk_at dksX11_init_0 21 rfl rfl)
theorem dX11_init_24 : decode cX11_init 24 = .ok (.ldc 23, 2) := dk_18 23 (dk_at dksX11_init_1 0 rfl rfl)
theorem dX11_init_26 : decode cX11_init 26 = .ok (.if_icmp .ge 7, 3) := dk_162 0 7 (dk_at dksX11_init_1 2 rfl rfl)
theorem dX11_init_29 : decode cX11_init 29 = .ok (.iconst 1, 1) := dk_4 (dk_at dksX11_init_1 5 rfl rfl)
theorem dX11_init_30 : decode cX11_init 30 = .ok (.goto 4, 3) := dk_167 0 4 (dk_at dksX11_init_1 6 rfl rfl)
theorem dX11_init_33 : decode cX11_init 33 = .ok (.iconst 0, 1) := dk_3 (dk_at dksX11_init_1 9 rfl rfl)
theorem dX11_init_34 : decode cX11_init 34 = .ok (.putfield 24, 3) := dk_181 0 24 (dk_at dksX11_init_1 10 rfl rfl)
theorem dX11_init_37 : decode cX11_init 37 = .ok (.return_, 1) := dk_177 (dk_at dksX11_init_1 13 rfl rfl)
abbrev cX11_iterator : ByteArray := prog_8_method_2_code
def yX11_iterator : MethodName := ⟨RX11, "iterator", "()Ljava/util/Iterator;"⟩
def dkwX11_iterator_0 : List UInt8 := [187, 0, 28, 89, 42, 183, 0, 30, 176]
abbrev dktX11_iterator_0 : List UInt8 := dkwX11_iterator_0 ++ []
theorem dksX11_iterator_0 : cX11_iterator.data.toList.drop 0 = dktX11_iterator_0 := by decide +kernel
theorem dX11_iterator_0 : decode cX11_iterator 0 = .ok (.new 28, 3) := dk_187 0 28 (dk_at dksX11_iterator_0 0 rfl rfl)
theorem dX11_iterator_3 : decode cX11_iterator 3 = .ok (.dup, 1) := dk_89 (dk_at dksX11_iterator_0 3 rfl rfl)
theorem dX11_iterator_4 : decode cX11_iterator 4 = .ok (.aload_n 0, 1) := dk_42 (dk_at dksX11_iterator_0 4 rfl rfl)
theorem dX11_iterator_5 : decode cX11_iterator 5 = .ok (.invokespecial 30, 3) := dk_183 0 30 (dk_at dksX11_iterator_0 5 rfl rfl)
theorem dX11_iterator_8 : decode cX11_iterator 8 = .ok (.areturn, 1) := dk_176 (dk_at dksX11_iterator_0 8 rfl rfl)
theorem q98 : (Jvm.Cond.initialized "BookPairs$Best") ∈ lw_all := lw_g (lw_at lw_m1 31 rfl) rfl
theorem q303 : (Jvm.Cond.fieldLinkNest "BookPairs$Best" (15 : Nat) "BookPairs" "band" "I" "BookPairs") ∈ lw_tbl := lw_at lw_m1 236 rfl
theorem q425 : (Jvm.Cond.instantiable "BookPairs$Best" (2 : Nat)) ∈ lw_all := lw_g (lw_at lw_m2 118 rfl) rfl
theorem q427 : (Jvm.Cond.instanceMethod ({ cls := "BookPairs$Best", name := "<init>", desc := "(LBookPairs;)V" } : Jvm.MethodName)) ∈ lw_all := lw_g (lw_at lw_m2 120 rfl) rfl
theorem q428 : (Jvm.Cond.code ({ cls := "BookPairs$Best", name := "<init>", desc := "(LBookPairs;)V" } : Jvm.MethodName) prog_8_method_1_code (2 : Nat) (Option.none : Option Jvm.ClassFile.FieldType)) ∈ lw_all := lw_g (lw_at lw_m2 121 rfl) rfl
theorem q429 : (Jvm.Cond.methodLink "BookPairs$Best" (9 : Nat) ({ cls := "java/lang/Object", name := "<init>", desc := "()V" } : Jvm.MethodName)) ∈ lw_all := lw_g (lw_at lw_m2 122 rfl) rfl
theorem q430 : (Jvm.Cond.methodLinkNest "BookPairs$Best" (19 : Nat) ({ cls := "BookPairs", name := "aligns", desc := "(I)I" } : Jvm.MethodName) "BookPairs") ∈ lw_tbl := lw_at lw_m2 123 rfl
theorem q450 : (Jvm.Cond.constant "BookPairs$Best" (23 : Nat) (100000 : Int32)) ∈ lw_all := lw_g (lw_at lw_m2 143 rfl) rfl
theorem q451 : (Jvm.Cond.fieldLink "BookPairs$Best" (24 : Nat) "BookPairs$Best" "is" "Z") ∈ lw_all := lw_g (lw_at lw_m2 144 rfl) rfl
theorem q453 : (Jvm.Cond.fieldLink "BookPairs$Best" (3 : Nat) "BookPairs$Best" "this$0" "LBookPairs;") ∈ lw_all := lw_g (lw_at lw_m2 146 rfl) rfl
theorem q455 : (Jvm.Cond.laysFinal "BookPairs$Best" "BookPairs$Best" "is" "Z") ∈ lw_all := lw_g (lw_at lw_m2 148 rfl) rfl
theorem q456 : (Jvm.Cond.soleField "BookPairs$Best" "is") ∈ lw_all := lw_g (lw_at lw_m2 149 rfl) rfl
theorem q457 : (Jvm.Cond.laysFinal "BookPairs$Best" "BookPairs$Best" "this$0" "LBookPairs;") ∈ lw_all := lw_g (lw_at lw_m2 150 rfl) rfl
theorem q458 : (Jvm.Cond.soleField "BookPairs$Best" "this$0") ∈ lw_all := lw_g (lw_at lw_m2 151 rfl) rfl
theorem q459 : (Jvm.Cond.superclass "BookPairs$Best" "java/lang/Object") ∈ lw_all := lw_g (lw_at lw_m2 152 rfl) rfl
theorem q461 : (Jvm.Cond.instanceMethod ({ cls := "BookPairs$Best", name := "iterator", desc := "()Ljava/util/Iterator;" } : Jvm.MethodName)) ∈ lw_all := lw_g (lw_at lw_m2 154 rfl) rfl
theorem q462 : (Jvm.Cond.selects "BookPairs$Best" ({ cls := "BookPairs$Best", name := "iterator", desc := "()Ljava/util/Iterator;" } : Jvm.MethodName) ({ cls := "BookPairs$Best", name := "iterator", desc := "()Ljava/util/Iterator;" } : Jvm.MethodName)) ∈ lw_all := lw_g (lw_at lw_m2 155 rfl) rfl
theorem q463 : (Jvm.Cond.code ({ cls := "BookPairs$Best", name := "iterator", desc := "()Ljava/util/Iterator;" } : Jvm.MethodName) prog_8_method_2_code (1 : Nat) (Option.some (Jvm.ClassFile.FieldType.object "java/util/Iterator"))) ∈ lw_all := lw_g (lw_at lw_m2 156 rfl) rfl
theorem q464 : (Jvm.Cond.classLink "BookPairs$Best" (28 : Nat) "BookPairs$Best$Way") ∈ lw_all := lw_g (lw_at lw_m2 157 rfl) rfl
theorem q466 : (Jvm.Cond.methodLinkNest "BookPairs$Best" (30 : Nat) ({ cls := "BookPairs$Best$Way", name := "<init>", desc := "(LBookPairs$Best;)V" } : Jvm.MethodName) "BookPairs") ∈ lw_tbl := lw_at lw_m2 159 rfl
theorem q714 : (Jvm.Cond.selects "BookPairs$Best" ({ cls := "java/lang/Object", name := "getClass", desc := "()Ljava/lang/Class;" } : Jvm.MethodName) ({ cls := "java/lang/Object", name := "getClass", desc := "()Ljava/lang/Class;" } : Jvm.MethodName)) ∈ lw_all := lw_g (lw_at lw_m3 167 rfl) rfl
theorem q1769 : (Jvm.Cond.castable "BookPairs$Best" "java/lang/Object") ∈ lw_tbl := lw_at lw_m8 22 rfl
theorem in_X11 : ∀ w ∈ wsX110, w ∈ lw_all := lw_in wsX110 [455, 457] (by decide +kernel) (by decide +kernel)

/-! BookPairs$Best$Way -/
set_option maxRecDepth 100000
def RX12 : String := "BookPairs$Best$Way"
def TX12 : u_T := fun k => match k with
  | 0 => ("BookPairs$Best$Way", "i", "I", false)
  | 1 => ("BookPairs$Best$Way", "j", "I", false)
  | _ => ("BookPairs$Best$Way", "this$1", "LBookPairs$Best;", true)
def tyX12 : Nat → FieldType := fun k => match k with
  | 0 => .int
  | 1 => .int
  | _ => .object "BookPairs$Best"
abbrev wsX120 : List Cond := u_ws RX12 TX12 3
theorem nmX12 : ∀ a, a < 3 → ∀ b, b < 3 → a ≠ b → (TX12 a).2.1 ≠ (TX12 b).2.1 := by decide +kernel
theorem tyX12_ok : ∀ k, k < 3 → parseFieldDescriptor (TX12 k).2.2.1 = some (tyX12 k) := by decide +kernel
abbrev cX12_init : ByteArray := prog_9_method_1_code
def yX12_init : MethodName := ⟨RX12, "<init>", "(LBookPairs$Best;)V"⟩
def dkwX12_init_0 : List UInt8 := [42, 43, 181, 0, 3, 42, 183, 0, 9, 177]
abbrev dktX12_init_0 : List UInt8 := dkwX12_init_0 ++ []
theorem dksX12_init_0 : cX12_init.data.toList.drop 0 = dktX12_init_0 := by decide +kernel
theorem dX12_init_0 : decode cX12_init 0 = .ok (.aload_n 0, 1) := dk_42 (dk_at dksX12_init_0 0 rfl rfl)
theorem dX12_init_1 : decode cX12_init 1 = .ok (.aload_n 1, 1) := dk_43 (dk_at dksX12_init_0 1 rfl rfl)
theorem dX12_init_2 : decode cX12_init 2 = .ok (.putfield 3, 3) := dk_181 0 3 (dk_at dksX12_init_0 2 rfl rfl)
theorem dX12_init_5 : decode cX12_init 5 = .ok (.aload_n 0, 1) := dk_42 (dk_at dksX12_init_0 5 rfl rfl)
theorem dX12_init_6 : decode cX12_init 6 = .ok (.invokespecial 9, 3) := dk_183 0 9 (dk_at dksX12_init_0 6 rfl rfl)
theorem dX12_init_9 : decode cX12_init 9 = .ok (.return_, 1) := dk_177 (dk_at dksX12_init_0 9 rfl rfl)
abbrev cX12_hasNext : ByteArray := prog_9_method_2_code
def yX12_hasNext : MethodName := ⟨RX12, "hasNext", "()Z"⟩
def dkwX12_hasNext_2 : List UInt8 := [162, 0, 7, 4, 167, 0, 4, 3, 172]
abbrev dktX12_hasNext_2 : List UInt8 := dkwX12_hasNext_2 ++ []
def dkwX12_hasNext_1 : List UInt8 := [185, 0, 33, 1, 0, 161, 0, 20, 42, 180, 0, 39, 42, 180, 0, 3, 180, 0, 25, 180, 0, 42]
abbrev dktX12_hasNext_1 : List UInt8 := dkwX12_hasNext_1 ++ dktX12_hasNext_2
def dkwX12_hasNext_0 : List UInt8 := [42, 180, 0, 3, 180, 0, 15, 153, 0, 46, 42, 180, 0, 21, 42, 180, 0, 3, 180, 0, 25, 180, 0, 29]
abbrev dktX12_hasNext_0 : List UInt8 := dkwX12_hasNext_0 ++ dktX12_hasNext_1
theorem dksX12_hasNext_0 : cX12_hasNext.data.toList.drop 0 = dktX12_hasNext_0 := by decide +kernel
theorem dksX12_hasNext_1 : cX12_hasNext.data.toList.drop 24 = dktX12_hasNext_1 := dk_seg dksX12_hasNext_0 24 rfl rfl
theorem dksX12_hasNext_2 : cX12_hasNext.data.toList.drop 46 = dktX12_hasNext_2 := dk_seg dksX12_hasNext_1 22 rfl rfl
theorem dX12_hasNext_0 : decode cX12_hasNext 0 = .ok (.aload_n 0, 1) := dk_42 (dk_at dksX12_hasNext_0 0 rfl rfl)
theorem dX12_hasNext_1 : decode cX12_hasNext 1 = .ok (.getfield 3, 3) := dk_180 0 3 (dk_at dksX12_hasNext_0 1 rfl rfl)
theorem dX12_hasNext_4 : decode cX12_hasNext 4 = .ok (.getfield 15, 3) := dk_180 0 15 (dk_at dksX12_hasNext_0 4 rfl rfl)
theorem dX12_hasNext_7 : decode cX12_hasNext 7 = .ok (.ifCond .eq 46, 3) := dk_153 0 46 (dk_at dksX12_hasNext_0 7 rfl rfl)
theorem dX12_hasNext_10 : decode cX12_hasNext 10 = .ok (.aload_n 0, 1) := dk_42 (dk_at dksX12_hasNext_0 10 rfl rfl)
theorem dX12_hasNext_11 : decode cX12_hasNext 11 = .ok (.getfield 21, 3) := dk_180 0 21 (dk_at dksX12_hasNext_0 11 rfl rfl)
theorem dX12_hasNext_14 : decode cX12_hasNext 14 = .ok (.aload_n 0, 1) := dk_42 (dk_at dksX12_hasNext_0 14 rfl rfl)
theorem dX12_hasNext_15 : decode cX12_hasNext 15 = .ok (.getfield 3, 3) := dk_180 0 3 (dk_at dksX12_hasNext_0 15 rfl rfl)
theorem dX12_hasNext_18 : decode cX12_hasNext 18 = .ok (.getfield 25, 3) := dk_180 0 25 (dk_at dksX12_hasNext_0 18 rfl rfl)
theorem dX12_hasNext_21 : decode cX12_hasNext 21 = .ok (.getfield 29, 3) := dk_180 0 29 (dk_at dksX12_hasNext_0 21 rfl rfl)
theorem dX12_hasNext_24 : decode cX12_hasNext 24 = .ok (.invokeinterface 33 1, 5) := by decide +kernel
theorem dX12_hasNext_29 : decode cX12_hasNext 29 = .ok (.if_icmp .lt 20, 3) := dk_161 0 20 (dk_at dksX12_hasNext_1 5 rfl rfl)
theorem dX12_hasNext_32 : decode cX12_hasNext 32 = .ok (.aload_n 0, 1) := dk_42 (dk_at dksX12_hasNext_1 8 rfl rfl)
theorem dX12_hasNext_33 : decode cX12_hasNext 33 = .ok (.getfield 39, 3) := dk_180 0 39 (dk_at dksX12_hasNext_1 9 rfl rfl)
theorem dX12_hasNext_36 : decode cX12_hasNext 36 = .ok (.aload_n 0, 1) := dk_42 (dk_at dksX12_hasNext_1 12 rfl rfl)
theorem dX12_hasNext_37 : decode cX12_hasNext 37 = .ok (.getfield 3, 3) := dk_180 0 3 (dk_at dksX12_hasNext_1 13 rfl rfl)
theorem dX12_hasNext_40 : decode cX12_hasNext 40 = .ok (.getfield 25, 3) := dk_180 0 25 (dk_at dksX12_hasNext_1 16 rfl rfl)
theorem dX12_hasNext_43 : decode cX12_hasNext 43 = .ok (.getfield 42, 3) := dk_180 0 42 (dk_at dksX12_hasNext_1 19 rfl rfl)
theorem dX12_hasNext_46 : decode cX12_hasNext 46 = .ok (.if_icmp .ge 7, 3) := dk_162 0 7 (dk_at dksX12_hasNext_2 0 rfl rfl)
theorem dX12_hasNext_49 : decode cX12_hasNext 49 = .ok (.iconst 1, 1) := dk_4 (dk_at dksX12_hasNext_2 3 rfl rfl)
theorem dX12_hasNext_50 : decode cX12_hasNext 50 = .ok (.goto 4, 3) := dk_167 0 4 (dk_at dksX12_hasNext_2 4 rfl rfl)
theorem dX12_hasNext_53 : decode cX12_hasNext 53 = .ok (.iconst 0, 1) := dk_3 (dk_at dksX12_hasNext_2 7 rfl rfl)
theorem dX12_hasNext_54 : decode cX12_hasNext 54 = .ok (.ireturn, 1) := dk_172 (dk_at dksX12_hasNext_2 8 rfl rfl)
abbrev cX12_next : ByteArray := prog_9_method_5_code
def yX12_next : MethodName := ⟨RX12, "next", "()Ljava/lang/Object;"⟩
theorem dX12_next_0 : decode cX12_next 0 = .ok (.aload_n 0, 1) := by decide +kernel
theorem dX12_next_1 : decode cX12_next 1 = .ok (.invokevirtual 85, 3) := by decide +kernel
theorem dX12_next_4 : decode cX12_next 4 = .ok (.areturn, 1) := by decide +kernel
abbrev cX12_next_2 : ByteArray := prog_9_method_3_code
def yX12_next_2 : MethodName := ⟨RX12, "next", "()LBookPairs$Bead;"⟩
def dkwX12_next_2_2 : List UInt8 := [184, 0, 54, 96, 181, 0, 21, 42, 89, 180, 0, 39, 27, 184, 0, 58, 96, 181, 0, 39, 44, 176]
abbrev dktX12_next_2_2 : List UInt8 := dkwX12_next_2_2 ++ []
def dkwX12_next_2_1 : List UInt8 := [180, 0, 25, 27, 42, 180, 0, 21, 42, 180, 0, 39, 183, 0, 51, 77, 42, 89, 180, 0, 21, 27]
abbrev dktX12_next_2_1 : List UInt8 := dkwX12_next_2_1 ++ dktX12_next_2_2
def dkwX12_next_2_0 : List UInt8 := [3, 60, 42, 27, 182, 0, 45, 154, 0, 9, 132, 1, 1, 167, 255, 245, 187, 0, 49, 89, 42, 180, 0, 3]
abbrev dktX12_next_2_0 : List UInt8 := dkwX12_next_2_0 ++ dktX12_next_2_1
theorem dksX12_next_2_0 : cX12_next_2.data.toList.drop 0 = dktX12_next_2_0 := by decide +kernel
theorem dksX12_next_2_1 : cX12_next_2.data.toList.drop 24 = dktX12_next_2_1 := dk_seg dksX12_next_2_0 24 rfl rfl
theorem dksX12_next_2_2 : cX12_next_2.data.toList.drop 46 = dktX12_next_2_2 := dk_seg dksX12_next_2_1 22 rfl rfl
theorem dX12_next_2_0 : decode cX12_next_2 0 = .ok (.iconst 0, 1) := dk_3 (dk_at dksX12_next_2_0 0 rfl rfl)
theorem dX12_next_2_1 : decode cX12_next_2 1 = .ok (.istore_n 1, 1) := dk_60 (dk_at dksX12_next_2_0 1 rfl rfl)
theorem dX12_next_2_2 : decode cX12_next_2 2 = .ok (.aload_n 0, 1) := dk_42 (dk_at dksX12_next_2_0 2 rfl rfl)
theorem dX12_next_2_3 : decode cX12_next_2 3 = .ok (.iload_n 1, 1) := dk_27 (dk_at dksX12_next_2_0 3 rfl rfl)
theorem dX12_next_2_4 : decode cX12_next_2 4 = .ok (.invokevirtual 45, 3) := dk_182 0 45 (dk_at dksX12_next_2_0 4 rfl rfl)
theorem dX12_next_2_7 : decode cX12_next_2 7 = .ok (.ifCond .ne 9, 3) := dk_154 0 9 (dk_at dksX12_next_2_0 7 rfl rfl)
theorem dX12_next_2_10 : decode cX12_next_2 10 = .ok (.iinc 1 1, 3) := dk_132 1 1 (dk_at dksX12_next_2_0 10 rfl rfl)
theorem dX12_next_2_13 : decode cX12_next_2 13 = .ok (.goto (-11), 3) := dk_167 255 245 (dk_at dksX12_next_2_0 13 rfl rfl)
theorem dX12_next_2_16 : decode cX12_next_2 16 = .ok (.new 49, 3) := dk_187 0 49 (dk_at dksX12_next_2_0 16 rfl rfl)
theorem dX12_next_2_19 : decode cX12_next_2 19 = .ok (.dup, 1) := dk_89 (dk_at dksX12_next_2_0 19 rfl rfl)
theorem dX12_next_2_20 : decode cX12_next_2 20 = .ok (.aload_n 0, 1) := dk_42 (dk_at dksX12_next_2_0 20 rfl rfl)
theorem dX12_next_2_21 : decode cX12_next_2 21 = .ok (.getfield 3, 3) := dk_180 0 3 (dk_at dksX12_next_2_0 21 rfl rfl)
theorem dX12_next_2_24 : decode cX12_next_2 24 = .ok (.getfield 25, 3) := dk_180 0 25 (dk_at dksX12_next_2_1 0 rfl rfl)
theorem dX12_next_2_27 : decode cX12_next_2 27 = .ok (.iload_n 1, 1) := dk_27 (dk_at dksX12_next_2_1 3 rfl rfl)
theorem dX12_next_2_28 : decode cX12_next_2 28 = .ok (.aload_n 0, 1) := dk_42 (dk_at dksX12_next_2_1 4 rfl rfl)
theorem dX12_next_2_29 : decode cX12_next_2 29 = .ok (.getfield 21, 3) := dk_180 0 21 (dk_at dksX12_next_2_1 5 rfl rfl)
theorem dX12_next_2_32 : decode cX12_next_2 32 = .ok (.aload_n 0, 1) := dk_42 (dk_at dksX12_next_2_1 8 rfl rfl)
theorem dX12_next_2_33 : decode cX12_next_2 33 = .ok (.getfield 39, 3) := dk_180 0 39 (dk_at dksX12_next_2_1 9 rfl rfl)
theorem dX12_next_2_36 : decode cX12_next_2 36 = .ok (.invokespecial 51, 3) := dk_183 0 51 (dk_at dksX12_next_2_1 12 rfl rfl)
theorem dX12_next_2_39 : decode cX12_next_2 39 = .ok (.astore_n 2, 1) := dk_77 (dk_at dksX12_next_2_1 15 rfl rfl)
theorem dX12_next_2_40 : decode cX12_next_2 40 = .ok (.aload_n 0, 1) := dk_42 (dk_at dksX12_next_2_1 16 rfl rfl)
theorem dX12_next_2_41 : decode cX12_next_2 41 = .ok (.dup, 1) := dk_89 (dk_at dksX12_next_2_1 17 rfl rfl)
theorem dX12_next_2_42 : decode cX12_next_2 42 = .ok (.getfield 21, 3) := dk_180 0 21 (dk_at dksX12_next_2_1 18 rfl rfl)
theorem dX12_next_2_45 : decode cX12_next_2 45 = .ok (.iload_n 1, 1) := dk_27 (dk_at dksX12_next_2_1 21 rfl rfl)
theorem dX12_next_2_46 : decode cX12_next_2 46 = .ok (.invokestatic 54, 3) := dk_184 0 54 (dk_at dksX12_next_2_2 0 rfl rfl)
theorem dX12_next_2_49 : decode cX12_next_2 49 = .ok (.iadd, 1) := dk_96 (dk_at dksX12_next_2_2 3 rfl rfl)
theorem dX12_next_2_50 : decode cX12_next_2 50 = .ok (.putfield 21, 3) := dk_181 0 21 (dk_at dksX12_next_2_2 4 rfl rfl)
theorem dX12_next_2_53 : decode cX12_next_2 53 = .ok (.aload_n 0, 1) := dk_42 (dk_at dksX12_next_2_2 7 rfl rfl)
theorem dX12_next_2_54 : decode cX12_next_2 54 = .ok (.dup, 1) := dk_89 (dk_at dksX12_next_2_2 8 rfl rfl)
theorem dX12_next_2_55 : decode cX12_next_2 55 = .ok (.getfield 39, 3) := dk_180 0 39 (dk_at dksX12_next_2_2 9 rfl rfl)
theorem dX12_next_2_58 : decode cX12_next_2 58 = .ok (.iload_n 1, 1) := dk_27 (dk_at dksX12_next_2_2 12 rfl rfl)
theorem dX12_next_2_59 : decode cX12_next_2 59 = .ok (.invokestatic 58, 3) := dk_184 0 58 (dk_at dksX12_next_2_2 13 rfl rfl)
theorem dX12_next_2_62 : decode cX12_next_2 62 = .ok (.iadd, 1) := dk_96 (dk_at dksX12_next_2_2 16 rfl rfl)
theorem dX12_next_2_63 : decode cX12_next_2 63 = .ok (.putfield 39, 3) := dk_181 0 39 (dk_at dksX12_next_2_2 17 rfl rfl)
theorem dX12_next_2_66 : decode cX12_next_2 66 = .ok (.aload_n 2, 1) := dk_44 (dk_at dksX12_next_2_2 20 rfl rfl)
theorem dX12_next_2_67 : decode cX12_next_2 67 = .ok (.areturn, 1) := dk_176 (dk_at dksX12_next_2_2 21 rfl rfl)
abbrev cX12_isLeast : ByteArray := prog_9_method_4_code
def yX12_isLeast : MethodName := ⟨RX12, "isLeast", "(I)Z"⟩
def dkwX12_isLeast_5 : List UInt8 := [172]
abbrev dktX12_isLeast_5 : List UInt8 := dkwX12_isLeast_5 ++ []
def dkwX12_isLeast_4 : List UInt8 := [180, 0, 81, 16, 8, 42, 180, 0, 21, 104, 42, 180, 0, 39, 96, 46, 160, 0, 7, 4, 167, 0, 4, 3]
abbrev dktX12_isLeast_4 : List UInt8 := dkwX12_isLeast_4 ++ dktX12_isLeast_5
def dkwX12_isLeast_3 : List UInt8 := [184, 0, 54, 96, 104, 42, 180, 0, 39, 96, 27, 184, 0, 58, 96, 46, 96, 42, 180, 0, 3, 180, 0, 25]
abbrev dktX12_isLeast_3 : List UInt8 := dkwX12_isLeast_3 ++ dktX12_isLeast_4
def dkwX12_isLeast_2 : List UInt8 := [185, 0, 75, 3, 0, 42, 180, 0, 3, 180, 0, 25, 180, 0, 81, 16, 8, 42, 180, 0, 21, 27]
abbrev dktX12_isLeast_2 : List UInt8 := dkwX12_isLeast_2 ++ dktX12_isLeast_3
def dkwX12_isLeast_1 : List UInt8 := [180, 0, 3, 180, 0, 25, 180, 0, 65, 27, 50, 180, 0, 69, 42, 180, 0, 21, 42, 180, 0, 39]
abbrev dktX12_isLeast_1 : List UInt8 := dkwX12_isLeast_1 ++ dktX12_isLeast_2
def dkwX12_isLeast_0 : List UInt8 := [42, 180, 0, 3, 180, 0, 25, 27, 42, 180, 0, 21, 42, 180, 0, 39, 182, 0, 61, 153, 0, 95, 42]
abbrev dktX12_isLeast_0 : List UInt8 := dkwX12_isLeast_0 ++ dktX12_isLeast_1
theorem dksX12_isLeast_0 : cX12_isLeast.data.toList.drop 0 = dktX12_isLeast_0 := by decide +kernel
theorem dksX12_isLeast_1 : cX12_isLeast.data.toList.drop 23 = dktX12_isLeast_1 := dk_seg dksX12_isLeast_0 23 rfl rfl
theorem dksX12_isLeast_2 : cX12_isLeast.data.toList.drop 45 = dktX12_isLeast_2 := dk_seg dksX12_isLeast_1 22 rfl rfl
theorem dksX12_isLeast_3 : cX12_isLeast.data.toList.drop 67 = dktX12_isLeast_3 := dk_seg dksX12_isLeast_2 22 rfl rfl
theorem dksX12_isLeast_4 : cX12_isLeast.data.toList.drop 91 = dktX12_isLeast_4 := dk_seg dksX12_isLeast_3 24 rfl rfl
theorem dksX12_isLeast_5 : cX12_isLeast.data.toList.drop 115 = dktX12_isLeast_5 := dk_seg dksX12_isLeast_4 24 rfl rfl
theorem dX12_isLeast_0 : decode cX12_isLeast 0 = .ok (.aload_n 0, 1) := dk_42 (dk_at dksX12_isLeast_0 0 rfl rfl)
theorem dX12_isLeast_1 : decode cX12_isLeast 1 = .ok (.getfield 3, 3) := dk_180 0 3 (dk_at dksX12_isLeast_0 1 rfl rfl)
theorem dX12_isLeast_4 : decode cX12_isLeast 4 = .ok (.getfield 25, 3) := dk_180 0 25 (dk_at dksX12_isLeast_0 4 rfl rfl)
theorem dX12_isLeast_7 : decode cX12_isLeast 7 = .ok (.iload_n 1, 1) := dk_27 (dk_at dksX12_isLeast_0 7 rfl rfl)
theorem dX12_isLeast_8 : decode cX12_isLeast 8 = .ok (.aload_n 0, 1) := dk_42 (dk_at dksX12_isLeast_0 8 rfl rfl)
theorem dX12_isLeast_9 : decode cX12_isLeast 9 = .ok (.getfield 21, 3) := dk_180 0 21 (dk_at dksX12_isLeast_0 9 rfl rfl)
theorem dX12_isLeast_12 : decode cX12_isLeast 12 = .ok (.aload_n 0, 1) := dk_42 (dk_at dksX12_isLeast_0 12 rfl rfl)
theorem dX12_isLeast_13 : decode cX12_isLeast 13 = .ok (.getfield 39, 3) := dk_180 0 39 (dk_at dksX12_isLeast_0 13 rfl rfl)
theorem dX12_isLeast_16 : decode cX12_isLeast 16 = .ok (.invokevirtual 61, 3) := dk_182 0 61 (dk_at dksX12_isLeast_0 16 rfl rfl)
theorem dX12_isLeast_19 : decode cX12_isLeast 19 = .ok (.ifCond .eq 95, 3) := dk_153 0 95 (dk_at dksX12_isLeast_0 19 rfl rfl)
theorem dX12_isLeast_22 : decode cX12_isLeast 22 = .ok (.aload_n 0, 1) := dk_42 (dk_at dksX12_isLeast_0 22 rfl rfl)
theorem dX12_isLeast_23 : decode cX12_isLeast 23 = .ok (.getfield 3, 3) := dk_180 0 3 (dk_at dksX12_isLeast_1 0 rfl rfl)
theorem dX12_isLeast_26 : decode cX12_isLeast 26 = .ok (.getfield 25, 3) := dk_180 0 25 (dk_at dksX12_isLeast_1 3 rfl rfl)
theorem dX12_isLeast_29 : decode cX12_isLeast 29 = .ok (.getfield 65, 3) := dk_180 0 65 (dk_at dksX12_isLeast_1 6 rfl rfl)
theorem dX12_isLeast_32 : decode cX12_isLeast 32 = .ok (.iload_n 1, 1) := dk_27 (dk_at dksX12_isLeast_1 9 rfl rfl)
theorem dX12_isLeast_33 : decode cX12_isLeast 33 = .ok (.aaload, 1) := dk_50 (dk_at dksX12_isLeast_1 10 rfl rfl)
theorem dX12_isLeast_34 : decode cX12_isLeast 34 = .ok (.getfield 69, 3) := dk_180 0 69 (dk_at dksX12_isLeast_1 11 rfl rfl)
theorem dX12_isLeast_37 : decode cX12_isLeast 37 = .ok (.aload_n 0, 1) := dk_42 (dk_at dksX12_isLeast_1 14 rfl rfl)
theorem dX12_isLeast_38 : decode cX12_isLeast 38 = .ok (.getfield 21, 3) := dk_180 0 21 (dk_at dksX12_isLeast_1 15 rfl rfl)
theorem dX12_isLeast_41 : decode cX12_isLeast 41 = .ok (.aload_n 0, 1) := dk_42 (dk_at dksX12_isLeast_1 18 rfl rfl)
theorem dX12_isLeast_42 : decode cX12_isLeast 42 = .ok (.getfield 39, 3) := dk_180 0 39 (dk_at dksX12_isLeast_1 19 rfl rfl)
theorem dX12_isLeast_45 : decode cX12_isLeast 45 = .ok (.invokeinterface 75 3, 5) := by decide +kernel
theorem dX12_isLeast_50 : decode cX12_isLeast 50 = .ok (.aload_n 0, 1) := dk_42 (dk_at dksX12_isLeast_2 5 rfl rfl)
theorem dX12_isLeast_51 : decode cX12_isLeast 51 = .ok (.getfield 3, 3) := dk_180 0 3 (dk_at dksX12_isLeast_2 6 rfl rfl)
theorem dX12_isLeast_54 : decode cX12_isLeast 54 = .ok (.getfield 25, 3) := dk_180 0 25 (dk_at dksX12_isLeast_2 9 rfl rfl)
theorem dX12_isLeast_57 : decode cX12_isLeast 57 = .ok (.getfield 81, 3) := dk_180 0 81 (dk_at dksX12_isLeast_2 12 rfl rfl)
theorem dX12_isLeast_60 : decode cX12_isLeast 60 = .ok (.bipush 8, 2) := dk_16 8 (dk_at dksX12_isLeast_2 15 rfl rfl)
theorem dX12_isLeast_62 : decode cX12_isLeast 62 = .ok (.aload_n 0, 1) := dk_42 (dk_at dksX12_isLeast_2 17 rfl rfl)
theorem dX12_isLeast_63 : decode cX12_isLeast 63 = .ok (.getfield 21, 3) := dk_180 0 21 (dk_at dksX12_isLeast_2 18 rfl rfl)
theorem dX12_isLeast_66 : decode cX12_isLeast 66 = .ok (.iload_n 1, 1) := dk_27 (dk_at dksX12_isLeast_2 21 rfl rfl)
theorem dX12_isLeast_67 : decode cX12_isLeast 67 = .ok (.invokestatic 54, 3) := dk_184 0 54 (dk_at dksX12_isLeast_3 0 rfl rfl)
theorem dX12_isLeast_70 : decode cX12_isLeast 70 = .ok (.iadd, 1) := dk_96 (dk_at dksX12_isLeast_3 3 rfl rfl)
theorem dX12_isLeast_71 : decode cX12_isLeast 71 = .ok (.imul, 1) := dk_104 (dk_at dksX12_isLeast_3 4 rfl rfl)
theorem dX12_isLeast_72 : decode cX12_isLeast 72 = .ok (.aload_n 0, 1) := dk_42 (dk_at dksX12_isLeast_3 5 rfl rfl)
theorem dX12_isLeast_73 : decode cX12_isLeast 73 = .ok (.getfield 39, 3) := dk_180 0 39 (dk_at dksX12_isLeast_3 6 rfl rfl)
theorem dX12_isLeast_76 : decode cX12_isLeast 76 = .ok (.iadd, 1) := dk_96 (dk_at dksX12_isLeast_3 9 rfl rfl)
theorem dX12_isLeast_77 : decode cX12_isLeast 77 = .ok (.iload_n 1, 1) := dk_27 (dk_at dksX12_isLeast_3 10 rfl rfl)
theorem dX12_isLeast_78 : decode cX12_isLeast 78 = .ok (.invokestatic 58, 3) := dk_184 0 58 (dk_at dksX12_isLeast_3 11 rfl rfl)
theorem dX12_isLeast_81 : decode cX12_isLeast 81 = .ok (.iadd, 1) := dk_96 (dk_at dksX12_isLeast_3 14 rfl rfl)
theorem dX12_isLeast_82 : decode cX12_isLeast 82 = .ok (.iaload, 1) := dk_46 (dk_at dksX12_isLeast_3 15 rfl rfl)
theorem dX12_isLeast_83 : decode cX12_isLeast 83 = .ok (.iadd, 1) := dk_96 (dk_at dksX12_isLeast_3 16 rfl rfl)
theorem dX12_isLeast_84 : decode cX12_isLeast 84 = .ok (.aload_n 0, 1) := dk_42 (dk_at dksX12_isLeast_3 17 rfl rfl)
theorem dX12_isLeast_85 : decode cX12_isLeast 85 = .ok (.getfield 3, 3) := dk_180 0 3 (dk_at dksX12_isLeast_3 18 rfl rfl)
theorem dX12_isLeast_88 : decode cX12_isLeast 88 = .ok (.getfield 25, 3) := dk_180 0 25 (dk_at dksX12_isLeast_3 21 rfl rfl)
theorem dX12_isLeast_91 : decode cX12_isLeast 91 = .ok (.getfield 81, 3) := dk_180 0 81 (dk_at dksX12_isLeast_4 0 rfl rfl)
theorem dX12_isLeast_94 : decode cX12_isLeast 94 = .ok (.bipush 8, 2) := dk_16 8 (dk_at dksX12_isLeast_4 3 rfl rfl)
theorem dX12_isLeast_96 : decode cX12_isLeast 96 = .ok (.aload_n 0, 1) := dk_42 (dk_at dksX12_isLeast_4 5 rfl rfl)
theorem dX12_isLeast_97 : decode cX12_isLeast 97 = .ok (.getfield 21, 3) := dk_180 0 21 (dk_at dksX12_isLeast_4 6 rfl rfl)
theorem dX12_isLeast_100 : decode cX12_isLeast 100 = .ok (.imul, 1) := dk_104 (dk_at dksX12_isLeast_4 9 rfl rfl)
theorem dX12_isLeast_101 : decode cX12_isLeast 101 = .ok (.aload_n 0, 1) := dk_42 (dk_at dksX12_isLeast_4 10 rfl rfl)
theorem dX12_isLeast_102 : decode cX12_isLeast 102 = .ok (.getfield 39, 3) := dk_180 0 39 (dk_at dksX12_isLeast_4 11 rfl rfl)
theorem dX12_isLeast_105 : decode cX12_isLeast 105 = .ok (.iadd, 1) := dk_96 (dk_at dksX12_isLeast_4 14 rfl rfl)
theorem dX12_isLeast_106 : decode cX12_isLeast 106 = .ok (.iaload, 1) := dk_46 (dk_at dksX12_isLeast_4 15 rfl rfl)
theorem dX12_isLeast_107 : decode cX12_isLeast 107 = .ok (.if_icmp .ne 7, 3) := dk_160 0 7 (dk_at dksX12_isLeast_4 16 rfl rfl)
theorem dX12_isLeast_110 : decode cX12_isLeast 110 = .ok (.iconst 1, 1) := dk_4 (dk_at dksX12_isLeast_4 19 rfl rfl)
theorem dX12_isLeast_111 : decode cX12_isLeast 111 = .ok (.goto 4, 3) := dk_167 0 4 (dk_at dksX12_isLeast_4 20 rfl rfl)
theorem dX12_isLeast_114 : decode cX12_isLeast 114 = .ok (.iconst 0, 1) := dk_3 (dk_at dksX12_isLeast_4 23 rfl rfl)
theorem dX12_isLeast_115 : decode cX12_isLeast 115 = .ok (.ireturn, 1) := dk_172 (dk_at dksX12_isLeast_5 0 rfl rfl)
theorem q99 : (Jvm.Cond.initialized "BookPairs$Best$Way") ∈ lw_all := lw_g (lw_at lw_m1 32 rfl) rfl
theorem q208 : (Jvm.Cond.fieldLinkNest "BookPairs$Best$Way" (69 : Nat) "BookPairs$Sort" "cost" "LBookPairs$Cost;" "BookPairs") ∈ lw_tbl := lw_at lw_m1 141 rfl
theorem q291 : (Jvm.Cond.fieldLinkNest "BookPairs$Best$Way" (65 : Nat) "BookPairs" "sorts" "[LBookPairs$Sort;" "BookPairs") ∈ lw_tbl := lw_at lw_m1 224 rfl
theorem q295 : (Jvm.Cond.fieldLinkNest "BookPairs$Best$Way" (29 : Nat) "BookPairs" "left" "Ljava/util/List;" "BookPairs") ∈ lw_tbl := lw_at lw_m1 228 rfl
theorem q297 : (Jvm.Cond.fieldLinkNest "BookPairs$Best$Way" (42 : Nat) "BookPairs" "rights" "I" "BookPairs") ∈ lw_tbl := lw_at lw_m1 230 rfl
theorem q307 : (Jvm.Cond.fieldLinkNest "BookPairs$Best$Way" (81 : Nat) "BookPairs" "leastFrom" "[I" "BookPairs") ∈ lw_tbl := lw_at lw_m2 0 rfl
theorem q452 : (Jvm.Cond.fieldLinkNest "BookPairs$Best$Way" (15 : Nat) "BookPairs$Best" "is" "Z" "BookPairs") ∈ lw_tbl := lw_at lw_m2 145 rfl
theorem q454 : (Jvm.Cond.fieldLink "BookPairs$Best$Way" (25 : Nat) "BookPairs$Best" "this$0" "LBookPairs;") ∈ lw_all := lw_g (lw_at lw_m2 147 rfl) rfl
theorem q465 : (Jvm.Cond.instantiable "BookPairs$Best$Way" (3 : Nat)) ∈ lw_all := lw_g (lw_at lw_m2 158 rfl) rfl
theorem q467 : (Jvm.Cond.instanceMethod ({ cls := "BookPairs$Best$Way", name := "<init>", desc := "(LBookPairs$Best;)V" } : Jvm.MethodName)) ∈ lw_all := lw_g (lw_at lw_m2 160 rfl) rfl
theorem q468 : (Jvm.Cond.code ({ cls := "BookPairs$Best$Way", name := "<init>", desc := "(LBookPairs$Best;)V" } : Jvm.MethodName) prog_9_method_1_code (2 : Nat) (Option.none : Option Jvm.ClassFile.FieldType)) ∈ lw_all := lw_g (lw_at lw_m2 161 rfl) rfl
theorem q469 : (Jvm.Cond.methodLink "BookPairs$Best$Way" (9 : Nat) ({ cls := "java/lang/Object", name := "<init>", desc := "()V" } : Jvm.MethodName)) ∈ lw_all := lw_g (lw_at lw_m2 162 rfl) rfl
theorem q470 : (Jvm.Cond.fieldLink "BookPairs$Best$Way" (21 : Nat) "BookPairs$Best$Way" "i" "I") ∈ lw_all := lw_g (lw_at lw_m2 163 rfl) rfl
theorem q471 : (Jvm.Cond.fieldLink "BookPairs$Best$Way" (39 : Nat) "BookPairs$Best$Way" "j" "I") ∈ lw_all := lw_g (lw_at lw_m2 164 rfl) rfl
theorem q472 : (Jvm.Cond.fieldLink "BookPairs$Best$Way" (3 : Nat) "BookPairs$Best$Way" "this$1" "LBookPairs$Best;") ∈ lw_all := lw_g (lw_at lw_m2 165 rfl) rfl
theorem q473 : (Jvm.Cond.lays "BookPairs$Best$Way" "BookPairs$Best$Way" "i" "I") ∈ lw_all := lw_g (lw_at lw_m2 166 rfl) rfl
theorem q474 : (Jvm.Cond.soleField "BookPairs$Best$Way" "i") ∈ lw_all := lw_g (lw_at lw_m2 167 rfl) rfl
theorem q475 : (Jvm.Cond.lays "BookPairs$Best$Way" "BookPairs$Best$Way" "j" "I") ∈ lw_all := lw_g (lw_at lw_m2 168 rfl) rfl
theorem q476 : (Jvm.Cond.soleField "BookPairs$Best$Way" "j") ∈ lw_all := lw_g (lw_at lw_m2 169 rfl) rfl
theorem q477 : (Jvm.Cond.laysFinal "BookPairs$Best$Way" "BookPairs$Best$Way" "this$1" "LBookPairs$Best;") ∈ lw_all := lw_g (lw_at lw_m2 170 rfl) rfl
theorem q478 : (Jvm.Cond.soleField "BookPairs$Best$Way" "this$1") ∈ lw_all := lw_g (lw_at lw_m2 171 rfl) rfl
theorem q479 : (Jvm.Cond.superclass "BookPairs$Best$Way" "java/lang/Object") ∈ lw_all := lw_g (lw_at lw_m2 172 rfl) rfl
theorem q484 : (Jvm.Cond.castable "BookPairs$Best$Way" "java/util/Iterator") ∈ lw_tbl := lw_at lw_m2 177 rfl
theorem q485 : (Jvm.Cond.selects "BookPairs$Best$Way" ({ cls := "java/util/Iterator", name := "hasNext", desc := "()Z" } : Jvm.MethodName) ({ cls := "BookPairs$Best$Way", name := "hasNext", desc := "()Z" } : Jvm.MethodName)) ∈ lw_all := lw_g (lw_at lw_m2 178 rfl) rfl
theorem q486 : (Jvm.Cond.unhidden "BookPairs$Best$Way" "hasNext" "()Z") ∈ lw_tbl := lw_at lw_m2 179 rfl
theorem q487 : (Jvm.Cond.instanceMethod ({ cls := "BookPairs$Best$Way", name := "hasNext", desc := "()Z" } : Jvm.MethodName)) ∈ lw_all := lw_g (lw_at lw_m2 180 rfl) rfl
theorem q488 : (Jvm.Cond.publicMethod ({ cls := "BookPairs$Best$Way", name := "hasNext", desc := "()Z" } : Jvm.MethodName)) ∈ lw_tbl := lw_at lw_m2 181 rfl
theorem q489 : (Jvm.Cond.code ({ cls := "BookPairs$Best$Way", name := "hasNext", desc := "()Z" } : Jvm.MethodName) prog_9_method_2_code (1 : Nat) (Option.some Jvm.ClassFile.FieldType.boolean)) ∈ lw_all := lw_g (lw_at lw_m2 182 rfl) rfl
theorem q490 : (Jvm.Cond.interfaceEntry "BookPairs$Best$Way" (33 : Nat)) ∈ lw_tbl := lw_at lw_m2 183 rfl
theorem q491 : (Jvm.Cond.methodLink "BookPairs$Best$Way" (33 : Nat) ({ cls := "java/util/List", name := "size", desc := "()I" } : Jvm.MethodName)) ∈ lw_all := lw_g (lw_at lw_m2 184 rfl) rfl
theorem q496 : (Jvm.Cond.selects "BookPairs$Best$Way" ({ cls := "java/util/Iterator", name := "next", desc := "()Ljava/lang/Object;" } : Jvm.MethodName) ({ cls := "BookPairs$Best$Way", name := "next", desc := "()Ljava/lang/Object;" } : Jvm.MethodName)) ∈ lw_all := lw_g (lw_at lw_m2 189 rfl) rfl
theorem q497 : (Jvm.Cond.unhidden "BookPairs$Best$Way" "next" "()Ljava/lang/Object;") ∈ lw_tbl := lw_at lw_m2 190 rfl
theorem q498 : (Jvm.Cond.instanceMethod ({ cls := "BookPairs$Best$Way", name := "next", desc := "()Ljava/lang/Object;" } : Jvm.MethodName)) ∈ lw_all := lw_g (lw_at lw_m2 191 rfl) rfl
theorem q499 : (Jvm.Cond.publicMethod ({ cls := "BookPairs$Best$Way", name := "next", desc := "()Ljava/lang/Object;" } : Jvm.MethodName)) ∈ lw_tbl := lw_at lw_m2 192 rfl
theorem q500 : (Jvm.Cond.code ({ cls := "BookPairs$Best$Way", name := "next", desc := "()Ljava/lang/Object;" } : Jvm.MethodName) prog_9_method_5_code (1 : Nat) (Option.some (Jvm.ClassFile.FieldType.object "java/lang/Object"))) ∈ lw_all := lw_g (lw_at lw_m2 193 rfl) rfl
theorem q501 : (Jvm.Cond.methodLink "BookPairs$Best$Way" (85 : Nat) ({ cls := "BookPairs$Best$Way", name := "next", desc := "()LBookPairs$Bead;" } : Jvm.MethodName)) ∈ lw_all := lw_g (lw_at lw_m2 194 rfl) rfl
theorem q502 : (Jvm.Cond.instanceMethod ({ cls := "BookPairs$Best$Way", name := "next", desc := "()LBookPairs$Bead;" } : Jvm.MethodName)) ∈ lw_all := lw_g (lw_at lw_m2 195 rfl) rfl
theorem q503 : (Jvm.Cond.selects "BookPairs$Best$Way" ({ cls := "BookPairs$Best$Way", name := "next", desc := "()LBookPairs$Bead;" } : Jvm.MethodName) ({ cls := "BookPairs$Best$Way", name := "next", desc := "()LBookPairs$Bead;" } : Jvm.MethodName)) ∈ lw_all := lw_g (lw_at lw_m2 196 rfl) rfl
theorem q504 : (Jvm.Cond.code ({ cls := "BookPairs$Best$Way", name := "next", desc := "()LBookPairs$Bead;" } : Jvm.MethodName) prog_9_method_3_code (3 : Nat) (Option.some (Jvm.ClassFile.FieldType.object "BookPairs$Bead"))) ∈ lw_all := lw_g (lw_at lw_m2 197 rfl) rfl
theorem q505 : (Jvm.Cond.methodLink "BookPairs$Best$Way" (45 : Nat) ({ cls := "BookPairs$Best$Way", name := "isLeast", desc := "(I)Z" } : Jvm.MethodName)) ∈ lw_all := lw_g (lw_at lw_m2 198 rfl) rfl
theorem q506 : (Jvm.Cond.privateMethod ({ cls := "BookPairs$Best$Way", name := "isLeast", desc := "(I)Z" } : Jvm.MethodName)) ∈ lw_tbl := lw_at lw_m2 199 rfl
theorem q507 : (Jvm.Cond.instanceMethod ({ cls := "BookPairs$Best$Way", name := "isLeast", desc := "(I)Z" } : Jvm.MethodName)) ∈ lw_all := lw_g (lw_at lw_m2 200 rfl) rfl
theorem q508 : (Jvm.Cond.code ({ cls := "BookPairs$Best$Way", name := "isLeast", desc := "(I)Z" } : Jvm.MethodName) prog_9_method_4_code (2 : Nat) (Option.some Jvm.ClassFile.FieldType.boolean)) ∈ lw_all := lw_g (lw_at lw_m2 201 rfl) rfl
theorem q509 : (Jvm.Cond.methodLinkNest "BookPairs$Best$Way" (61 : Nat) ({ cls := "BookPairs", name := "areThere", desc := "(III)Z" } : Jvm.MethodName) "BookPairs") ∈ lw_tbl := lw_at lw_m2 202 rfl
theorem q510 : (Jvm.Cond.interfaceEntry "BookPairs$Best$Way" (75 : Nat)) ∈ lw_tbl := lw_at lw_m2 203 rfl
theorem q511 : (Jvm.Cond.methodLink "BookPairs$Best$Way" (75 : Nat) ({ cls := "BookPairs$Cost", name := "of", desc := "(II)I" } : Jvm.MethodName)) ∈ lw_all := lw_g (lw_at lw_m2 204 rfl) rfl
theorem q512 : (Jvm.Cond.methodLinkNest "BookPairs$Best$Way" (54 : Nat) ({ cls := "BookPairs", name := "leftOf", desc := "(I)I" } : Jvm.MethodName) "BookPairs") ∈ lw_tbl := lw_at lw_m2 205 rfl
theorem q513 : (Jvm.Cond.methodLinkNest "BookPairs$Best$Way" (58 : Nat) ({ cls := "BookPairs", name := "rightOf", desc := "(I)I" } : Jvm.MethodName) "BookPairs") ∈ lw_tbl := lw_at lw_m2 206 rfl
theorem q514 : (Jvm.Cond.classLink "BookPairs$Best$Way" (49 : Nat) "BookPairs$Bead") ∈ lw_all := lw_g (lw_at lw_m2 207 rfl) rfl
theorem q516 : (Jvm.Cond.methodLink "BookPairs$Best$Way" (51 : Nat) ({ cls := "BookPairs$Bead", name := "<init>", desc := "(LBookPairs;III)V" } : Jvm.MethodName)) ∈ lw_all := lw_g (lw_at lw_m2 209 rfl) rfl
theorem q715 : (Jvm.Cond.selects "BookPairs$Best$Way" ({ cls := "java/lang/Object", name := "getClass", desc := "()Ljava/lang/Class;" } : Jvm.MethodName) ({ cls := "java/lang/Object", name := "getClass", desc := "()Ljava/lang/Class;" } : Jvm.MethodName)) ∈ lw_all := lw_g (lw_at lw_m3 168 rfl) rfl
theorem q1770 : (Jvm.Cond.castable "BookPairs$Best$Way" "java/lang/Object") ∈ lw_tbl := lw_at lw_m8 23 rfl
theorem in_X12 : ∀ w ∈ wsX120, w ∈ lw_all := lw_in wsX120 [473, 475, 477] (by decide +kernel) (by decide +kernel)

/-! BookPairs$Bead -/
set_option maxRecDepth 100000
def RX13 : String := "BookPairs$Bead"
def TX13 : u_T := fun k => match k with
  | 0 => ("BookPairs$Bead", "sort", "I", true)
  | 1 => ("BookPairs$Bead", "i", "I", true)
  | 2 => ("BookPairs$Bead", "j", "I", true)
  | _ => ("BookPairs$Bead", "this$0", "LBookPairs;", true)
def tyX13 : Nat → FieldType := fun k => match k with
  | 0 => .int
  | 1 => .int
  | 2 => .int
  | _ => .object "BookPairs"
abbrev wsX130 : List Cond := u_ws RX13 TX13 4
theorem nmX13 : ∀ a, a < 4 → ∀ b, b < 4 → a ≠ b → (TX13 a).2.1 ≠ (TX13 b).2.1 := by decide +kernel
theorem tyX13_ok : ∀ k, k < 4 → parseFieldDescriptor (TX13 k).2.2.1 = some (tyX13 k) := by decide +kernel
abbrev cX13_init : ByteArray := prog_7_method_1_code
def yX13_init : MethodName := ⟨RX13, "<init>", "(LBookPairs;III)V"⟩
def dkwX13_init_1 : List UInt8 := [181, 0, 20, 177]
abbrev dktX13_init_1 : List UInt8 := dkwX13_init_1 ++ []
def dkwX13_init_0 : List UInt8 := [42, 43, 181, 0, 1, 42, 183, 0, 7, 42, 28, 181, 0, 13, 42, 29, 181, 0, 17, 42, 21, 4]
abbrev dktX13_init_0 : List UInt8 := dkwX13_init_0 ++ dktX13_init_1
theorem dksX13_init_0 : cX13_init.data.toList.drop 0 = dktX13_init_0 := by decide +kernel
theorem dksX13_init_1 : cX13_init.data.toList.drop 22 = dktX13_init_1 := dk_seg dksX13_init_0 22 rfl rfl
theorem dX13_init_0 : decode cX13_init 0 = .ok (.aload_n 0, 1) := dk_42 (dk_at dksX13_init_0 0 rfl rfl)
theorem dX13_init_1 : decode cX13_init 1 = .ok (.aload_n 1, 1) := dk_43 (dk_at dksX13_init_0 1 rfl rfl)
theorem dX13_init_2 : decode cX13_init 2 = .ok (.putfield 1, 3) := dk_181 0 1 (dk_at dksX13_init_0 2 rfl rfl)
theorem dX13_init_5 : decode cX13_init 5 = .ok (.aload_n 0, 1) := dk_42 (dk_at dksX13_init_0 5 rfl rfl)
theorem dX13_init_6 : decode cX13_init 6 = .ok (.invokespecial 7, 3) := dk_183 0 7 (dk_at dksX13_init_0 6 rfl rfl)
theorem dX13_init_9 : decode cX13_init 9 = .ok (.aload_n 0, 1) := dk_42 (dk_at dksX13_init_0 9 rfl rfl)
theorem dX13_init_10 : decode cX13_init 10 = .ok (.iload_n 2, 1) := dk_28 (dk_at dksX13_init_0 10 rfl rfl)
theorem dX13_init_11 : decode cX13_init 11 = .ok (.putfield 13, 3) := dk_181 0 13 (dk_at dksX13_init_0 11 rfl rfl)
theorem dX13_init_14 : decode cX13_init 14 = .ok (.aload_n 0, 1) := dk_42 (dk_at dksX13_init_0 14 rfl rfl)
theorem dX13_init_15 : decode cX13_init 15 = .ok (.iload_n 3, 1) := dk_29 (dk_at dksX13_init_0 15 rfl rfl)
theorem dX13_init_16 : decode cX13_init 16 = .ok (.putfield 17, 3) := dk_181 0 17 (dk_at dksX13_init_0 16 rfl rfl)
theorem dX13_init_19 : decode cX13_init 19 = .ok (.aload_n 0, 1) := dk_42 (dk_at dksX13_init_0 19 rfl rfl)
theorem dX13_init_20 : decode cX13_init 20 = .ok (.iload 4, 2) := dk_21 4 (dk_at dksX13_init_0 20 rfl rfl)
theorem dX13_init_22 : decode cX13_init 22 = .ok (.putfield 20, 3) := dk_181 0 20 (dk_at dksX13_init_1 0 rfl rfl)
theorem dX13_init_25 : decode cX13_init 25 = .ok (.return_, 1) := dk_177 (dk_at dksX13_init_1 3 rfl rfl)
abbrev cX13_rightOnes : ByteArray := prog_7_method_3_code
def yX13_rightOnes : MethodName := ⟨RX13, "rightOnes", "()I"⟩
def dkwX13_rightOnes_0 : List UInt8 := [4, 42, 180, 0, 13, 184, 0, 41, 120, 4, 100, 42, 180, 0, 20, 120, 172]
abbrev dktX13_rightOnes_0 : List UInt8 := dkwX13_rightOnes_0 ++ []
theorem dksX13_rightOnes_0 : cX13_rightOnes.data.toList.drop 0 = dktX13_rightOnes_0 := by decide +kernel
theorem dX13_rightOnes_0 : decode cX13_rightOnes 0 = .ok (.iconst 1, 1) := dk_4 (dk_at dksX13_rightOnes_0 0 rfl rfl)
theorem dX13_rightOnes_1 : decode cX13_rightOnes 1 = .ok (.aload_n 0, 1) := dk_42 (dk_at dksX13_rightOnes_0 1 rfl rfl)
theorem dX13_rightOnes_2 : decode cX13_rightOnes 2 = .ok (.getfield 13, 3) := dk_180 0 13 (dk_at dksX13_rightOnes_0 2 rfl rfl)
theorem dX13_rightOnes_5 : decode cX13_rightOnes 5 = .ok (.invokestatic 41, 3) := dk_184 0 41 (dk_at dksX13_rightOnes_0 5 rfl rfl)
theorem dX13_rightOnes_8 : decode cX13_rightOnes 8 = .ok (.ishl, 1) := dk_120 (dk_at dksX13_rightOnes_0 8 rfl rfl)
theorem dX13_rightOnes_9 : decode cX13_rightOnes 9 = .ok (.iconst 1, 1) := dk_4 (dk_at dksX13_rightOnes_0 9 rfl rfl)
theorem dX13_rightOnes_10 : decode cX13_rightOnes 10 = .ok (.isub, 1) := dk_100 (dk_at dksX13_rightOnes_0 10 rfl rfl)
theorem dX13_rightOnes_11 : decode cX13_rightOnes 11 = .ok (.aload_n 0, 1) := dk_42 (dk_at dksX13_rightOnes_0 11 rfl rfl)
theorem dX13_rightOnes_12 : decode cX13_rightOnes 12 = .ok (.getfield 20, 3) := dk_180 0 20 (dk_at dksX13_rightOnes_0 12 rfl rfl)
theorem dX13_rightOnes_15 : decode cX13_rightOnes 15 = .ok (.ishl, 1) := dk_120 (dk_at dksX13_rightOnes_0 15 rfl rfl)
theorem dX13_rightOnes_16 : decode cX13_rightOnes 16 = .ok (.ireturn, 1) := dk_172 (dk_at dksX13_rightOnes_0 16 rfl rfl)
abbrev cX13_leftOnes : ByteArray := prog_7_method_4_code
def yX13_leftOnes : MethodName := ⟨RX13, "leftOnes", "()I"⟩
def dkwX13_leftOnes_0 : List UInt8 := [4, 42, 180, 0, 13, 184, 0, 45, 120, 4, 100, 42, 180, 0, 17, 120, 172]
abbrev dktX13_leftOnes_0 : List UInt8 := dkwX13_leftOnes_0 ++ []
theorem dksX13_leftOnes_0 : cX13_leftOnes.data.toList.drop 0 = dktX13_leftOnes_0 := by decide +kernel
theorem dX13_leftOnes_0 : decode cX13_leftOnes 0 = .ok (.iconst 1, 1) := dk_4 (dk_at dksX13_leftOnes_0 0 rfl rfl)
theorem dX13_leftOnes_1 : decode cX13_leftOnes 1 = .ok (.aload_n 0, 1) := dk_42 (dk_at dksX13_leftOnes_0 1 rfl rfl)
theorem dX13_leftOnes_2 : decode cX13_leftOnes 2 = .ok (.getfield 13, 3) := dk_180 0 13 (dk_at dksX13_leftOnes_0 2 rfl rfl)
theorem dX13_leftOnes_5 : decode cX13_leftOnes 5 = .ok (.invokestatic 45, 3) := dk_184 0 45 (dk_at dksX13_leftOnes_0 5 rfl rfl)
theorem dX13_leftOnes_8 : decode cX13_leftOnes 8 = .ok (.ishl, 1) := dk_120 (dk_at dksX13_leftOnes_0 8 rfl rfl)
theorem dX13_leftOnes_9 : decode cX13_leftOnes 9 = .ok (.iconst 1, 1) := dk_4 (dk_at dksX13_leftOnes_0 9 rfl rfl)
theorem dX13_leftOnes_10 : decode cX13_leftOnes 10 = .ok (.isub, 1) := dk_100 (dk_at dksX13_leftOnes_0 10 rfl rfl)
theorem dX13_leftOnes_11 : decode cX13_leftOnes 11 = .ok (.aload_n 0, 1) := dk_42 (dk_at dksX13_leftOnes_0 11 rfl rfl)
theorem dX13_leftOnes_12 : decode cX13_leftOnes 12 = .ok (.getfield 17, 3) := dk_180 0 17 (dk_at dksX13_leftOnes_0 12 rfl rfl)
theorem dX13_leftOnes_15 : decode cX13_leftOnes 15 = .ok (.ishl, 1) := dk_120 (dk_at dksX13_leftOnes_0 15 rfl rfl)
theorem dX13_leftOnes_16 : decode cX13_leftOnes 16 = .ok (.ireturn, 1) := dk_172 (dk_at dksX13_leftOnes_0 16 rfl rfl)
abbrev cX13_cost : ByteArray := prog_7_method_2_code
def yX13_cost : MethodName := ⟨RX13, "cost", "()I"⟩
def dkwX13_cost_1 : List UInt8 := [185, 0, 35, 3, 0, 172]
abbrev dktX13_cost_1 : List UInt8 := dkwX13_cost_1 ++ []
def dkwX13_cost_0 : List UInt8 := [42, 180, 0, 1, 180, 0, 23, 42, 180, 0, 13, 50, 180, 0, 29, 42, 180, 0, 17, 42, 180, 0, 20]
abbrev dktX13_cost_0 : List UInt8 := dkwX13_cost_0 ++ dktX13_cost_1
theorem dksX13_cost_0 : cX13_cost.data.toList.drop 0 = dktX13_cost_0 := by decide +kernel
theorem dksX13_cost_1 : cX13_cost.data.toList.drop 23 = dktX13_cost_1 := dk_seg dksX13_cost_0 23 rfl rfl
theorem dX13_cost_0 : decode cX13_cost 0 = .ok (.aload_n 0, 1) := dk_42 (dk_at dksX13_cost_0 0 rfl rfl)
theorem dX13_cost_1 : decode cX13_cost 1 = .ok (.getfield 1, 3) := dk_180 0 1 (dk_at dksX13_cost_0 1 rfl rfl)
theorem dX13_cost_4 : decode cX13_cost 4 = .ok (.getfield 23, 3) := dk_180 0 23 (dk_at dksX13_cost_0 4 rfl rfl)
theorem dX13_cost_7 : decode cX13_cost 7 = .ok (.aload_n 0, 1) := dk_42 (dk_at dksX13_cost_0 7 rfl rfl)
theorem dX13_cost_8 : decode cX13_cost 8 = .ok (.getfield 13, 3) := dk_180 0 13 (dk_at dksX13_cost_0 8 rfl rfl)
theorem dX13_cost_11 : decode cX13_cost 11 = .ok (.aaload, 1) := dk_50 (dk_at dksX13_cost_0 11 rfl rfl)
theorem dX13_cost_12 : decode cX13_cost 12 = .ok (.getfield 29, 3) := dk_180 0 29 (dk_at dksX13_cost_0 12 rfl rfl)
theorem dX13_cost_15 : decode cX13_cost 15 = .ok (.aload_n 0, 1) := dk_42 (dk_at dksX13_cost_0 15 rfl rfl)
theorem dX13_cost_16 : decode cX13_cost 16 = .ok (.getfield 17, 3) := dk_180 0 17 (dk_at dksX13_cost_0 16 rfl rfl)
theorem dX13_cost_19 : decode cX13_cost 19 = .ok (.aload_n 0, 1) := dk_42 (dk_at dksX13_cost_0 19 rfl rfl)
theorem dX13_cost_20 : decode cX13_cost 20 = .ok (.getfield 20, 3) := dk_180 0 20 (dk_at dksX13_cost_0 20 rfl rfl)
theorem dX13_cost_23 : decode cX13_cost 23 = .ok (.invokeinterface 35 3, 5) := by decide +kernel
theorem dX13_cost_28 : decode cX13_cost 28 = .ok (.ireturn, 1) := dk_172 (dk_at dksX13_cost_1 5 rfl rfl)
theorem q100 : (Jvm.Cond.initialized "BookPairs$Bead") ∈ lw_all := lw_g (lw_at lw_m1 33 rfl) rfl
theorem q207 : (Jvm.Cond.fieldLinkNest "BookPairs$Bead" (29 : Nat) "BookPairs$Sort" "cost" "LBookPairs$Cost;" "BookPairs") ∈ lw_tbl := lw_at lw_m1 140 rfl
theorem q289 : (Jvm.Cond.fieldLinkNest "BookPairs$Bead" (23 : Nat) "BookPairs" "sorts" "[LBookPairs$Sort;" "BookPairs") ∈ lw_tbl := lw_at lw_m1 222 rfl
theorem q515 : (Jvm.Cond.instantiable "BookPairs$Bead" (4 : Nat)) ∈ lw_all := lw_g (lw_at lw_m2 208 rfl) rfl
theorem q517 : (Jvm.Cond.instanceMethod ({ cls := "BookPairs$Bead", name := "<init>", desc := "(LBookPairs;III)V" } : Jvm.MethodName)) ∈ lw_all := lw_g (lw_at lw_m2 210 rfl) rfl
theorem q518 : (Jvm.Cond.code ({ cls := "BookPairs$Bead", name := "<init>", desc := "(LBookPairs;III)V" } : Jvm.MethodName) prog_7_method_1_code (5 : Nat) (Option.none : Option Jvm.ClassFile.FieldType)) ∈ lw_all := lw_g (lw_at lw_m2 211 rfl) rfl
theorem q519 : (Jvm.Cond.methodLink "BookPairs$Bead" (7 : Nat) ({ cls := "java/lang/Object", name := "<init>", desc := "()V" } : Jvm.MethodName)) ∈ lw_all := lw_g (lw_at lw_m2 212 rfl) rfl
theorem q520 : (Jvm.Cond.fieldLink "BookPairs$Bead" (13 : Nat) "BookPairs$Bead" "sort" "I") ∈ lw_all := lw_g (lw_at lw_m2 213 rfl) rfl
theorem q522 : (Jvm.Cond.fieldLink "BookPairs$Bead" (17 : Nat) "BookPairs$Bead" "i" "I") ∈ lw_all := lw_g (lw_at lw_m2 215 rfl) rfl
theorem q524 : (Jvm.Cond.fieldLink "BookPairs$Bead" (20 : Nat) "BookPairs$Bead" "j" "I") ∈ lw_all := lw_g (lw_at lw_m2 217 rfl) rfl
theorem q526 : (Jvm.Cond.fieldLink "BookPairs$Bead" (1 : Nat) "BookPairs$Bead" "this$0" "LBookPairs;") ∈ lw_all := lw_g (lw_at lw_m2 219 rfl) rfl
theorem q527 : (Jvm.Cond.laysFinal "BookPairs$Bead" "BookPairs$Bead" "sort" "I") ∈ lw_all := lw_g (lw_at lw_m2 220 rfl) rfl
theorem q528 : (Jvm.Cond.soleField "BookPairs$Bead" "sort") ∈ lw_all := lw_g (lw_at lw_m2 221 rfl) rfl
theorem q529 : (Jvm.Cond.laysFinal "BookPairs$Bead" "BookPairs$Bead" "i" "I") ∈ lw_all := lw_g (lw_at lw_m2 222 rfl) rfl
theorem q530 : (Jvm.Cond.soleField "BookPairs$Bead" "i") ∈ lw_all := lw_g (lw_at lw_m2 223 rfl) rfl
theorem q531 : (Jvm.Cond.laysFinal "BookPairs$Bead" "BookPairs$Bead" "j" "I") ∈ lw_all := lw_g (lw_at lw_m2 224 rfl) rfl
theorem q532 : (Jvm.Cond.soleField "BookPairs$Bead" "j") ∈ lw_all := lw_g (lw_at lw_m2 225 rfl) rfl
theorem q533 : (Jvm.Cond.laysFinal "BookPairs$Bead" "BookPairs$Bead" "this$0" "LBookPairs;") ∈ lw_all := lw_g (lw_at lw_m2 226 rfl) rfl
theorem q534 : (Jvm.Cond.soleField "BookPairs$Bead" "this$0") ∈ lw_all := lw_g (lw_at lw_m2 227 rfl) rfl
theorem q535 : (Jvm.Cond.superclass "BookPairs$Bead" "java/lang/Object") ∈ lw_all := lw_g (lw_at lw_m2 228 rfl) rfl
theorem q547 : (Jvm.Cond.instanceMethod ({ cls := "BookPairs$Bead", name := "rightOnes", desc := "()I" } : Jvm.MethodName)) ∈ lw_all := lw_g (lw_at lw_m3 0 rfl) rfl
theorem q548 : (Jvm.Cond.selects "BookPairs$Bead" ({ cls := "BookPairs$Bead", name := "rightOnes", desc := "()I" } : Jvm.MethodName) ({ cls := "BookPairs$Bead", name := "rightOnes", desc := "()I" } : Jvm.MethodName)) ∈ lw_all := lw_g (lw_at lw_m3 1 rfl) rfl
theorem q549 : (Jvm.Cond.code ({ cls := "BookPairs$Bead", name := "rightOnes", desc := "()I" } : Jvm.MethodName) prog_7_method_3_code (1 : Nat) (Option.some Jvm.ClassFile.FieldType.int)) ∈ lw_all := lw_g (lw_at lw_m3 2 rfl) rfl
theorem q550 : (Jvm.Cond.methodLinkNest "BookPairs$Bead" (41 : Nat) ({ cls := "BookPairs", name := "rightOf", desc := "(I)I" } : Jvm.MethodName) "BookPairs") ∈ lw_tbl := lw_at lw_m3 3 rfl
theorem q552 : (Jvm.Cond.instanceMethod ({ cls := "BookPairs$Bead", name := "leftOnes", desc := "()I" } : Jvm.MethodName)) ∈ lw_all := lw_g (lw_at lw_m3 5 rfl) rfl
theorem q553 : (Jvm.Cond.selects "BookPairs$Bead" ({ cls := "BookPairs$Bead", name := "leftOnes", desc := "()I" } : Jvm.MethodName) ({ cls := "BookPairs$Bead", name := "leftOnes", desc := "()I" } : Jvm.MethodName)) ∈ lw_all := lw_g (lw_at lw_m3 6 rfl) rfl
theorem q554 : (Jvm.Cond.code ({ cls := "BookPairs$Bead", name := "leftOnes", desc := "()I" } : Jvm.MethodName) prog_7_method_4_code (1 : Nat) (Option.some Jvm.ClassFile.FieldType.int)) ∈ lw_all := lw_g (lw_at lw_m3 7 rfl) rfl
theorem q555 : (Jvm.Cond.methodLinkNest "BookPairs$Bead" (45 : Nat) ({ cls := "BookPairs", name := "leftOf", desc := "(I)I" } : Jvm.MethodName) "BookPairs") ∈ lw_tbl := lw_at lw_m3 8 rfl
theorem q639 : (Jvm.Cond.instanceMethod ({ cls := "BookPairs$Bead", name := "cost", desc := "()I" } : Jvm.MethodName)) ∈ lw_all := lw_g (lw_at lw_m3 92 rfl) rfl
theorem q640 : (Jvm.Cond.selects "BookPairs$Bead" ({ cls := "BookPairs$Bead", name := "cost", desc := "()I" } : Jvm.MethodName) ({ cls := "BookPairs$Bead", name := "cost", desc := "()I" } : Jvm.MethodName)) ∈ lw_all := lw_g (lw_at lw_m3 93 rfl) rfl
theorem q641 : (Jvm.Cond.code ({ cls := "BookPairs$Bead", name := "cost", desc := "()I" } : Jvm.MethodName) prog_7_method_2_code (1 : Nat) (Option.some Jvm.ClassFile.FieldType.int)) ∈ lw_all := lw_g (lw_at lw_m3 94 rfl) rfl
theorem q642 : (Jvm.Cond.interfaceEntry "BookPairs$Bead" (35 : Nat)) ∈ lw_tbl := lw_at lw_m3 95 rfl
theorem q643 : (Jvm.Cond.methodLink "BookPairs$Bead" (35 : Nat) ({ cls := "BookPairs$Cost", name := "of", desc := "(II)I" } : Jvm.MethodName)) ∈ lw_all := lw_g (lw_at lw_m3 96 rfl) rfl
theorem q713 : (Jvm.Cond.selects "BookPairs$Bead" ({ cls := "java/lang/Object", name := "getClass", desc := "()Ljava/lang/Class;" } : Jvm.MethodName) ({ cls := "java/lang/Object", name := "getClass", desc := "()Ljava/lang/Class;" } : Jvm.MethodName)) ∈ lw_all := lw_g (lw_at lw_m3 166 rfl) rfl
theorem q1771 : (Jvm.Cond.castable "BookPairs$Bead" "java/lang/Object") ∈ lw_tbl := lw_at lw_m8 24 rfl
theorem in_X13 : ∀ w ∈ wsX130, w ∈ lw_all := lw_in wsX130 [527, 529, 531, 533] (by decide +kernel) (by decide +kernel)

/-! BookPairs$1Partners -/
set_option maxRecDepth 100000
def RX14 : String := "BookPairs$1Partners"
def TX14 : u_T := fun k => match k with
  | 0 => ("BookPairs$Sum", "sum", "I", false)
  | 1 => ("BookPairs$Sum", "this$0", "LBookPairs;", true)
  | 2 => ("BookPairs$1Partners", "val$b", "I", true)
  | _ => ("BookPairs$1Partners", "this$0", "LBookPairs;", true)
def tyX14 : Nat → FieldType := fun k => match k with
  | 0 => .int
  | 1 => .object "BookPairs"
  | 2 => .int
  | _ => .object "BookPairs"
abbrev wsX140 : List Cond := u_ws RX14 TX14 4
-- two fields of one name: no nmX14
theorem tyX14_ok : ∀ k, k < 4 → parseFieldDescriptor (TX14 k).2.2.1 = some (tyX14 k) := by decide +kernel
abbrev cX14_takes : ByteArray := prog_3_method_2_code
def yX14_takes : MethodName := ⟨RX14, "takes", "(LBookPairs$Bead;)V"⟩
def dkwX14_takes_1 : List UInt8 := [167, 0, 4, 3, 128, 181, 0, 17, 177]
abbrev dktX14_takes_1 : List UInt8 := dkwX14_takes_1 ++ []
def dkwX14_takes_0 : List UInt8 := [42, 89, 180, 0, 17, 43, 182, 0, 20, 42, 180, 0, 7, 122, 4, 126, 4, 160, 0, 10, 43, 182, 0, 26]
abbrev dktX14_takes_0 : List UInt8 := dkwX14_takes_0 ++ dktX14_takes_1
theorem dksX14_takes_0 : cX14_takes.data.toList.drop 0 = dktX14_takes_0 := by decide +kernel
theorem dksX14_takes_1 : cX14_takes.data.toList.drop 24 = dktX14_takes_1 := dk_seg dksX14_takes_0 24 rfl rfl
theorem dX14_takes_0 : decode cX14_takes 0 = .ok (.aload_n 0, 1) := dk_42 (dk_at dksX14_takes_0 0 rfl rfl)
theorem dX14_takes_1 : decode cX14_takes 1 = .ok (.dup, 1) := dk_89 (dk_at dksX14_takes_0 1 rfl rfl)
theorem dX14_takes_2 : decode cX14_takes 2 = .ok (.getfield 17, 3) := dk_180 0 17 (dk_at dksX14_takes_0 2 rfl rfl)
theorem dX14_takes_5 : decode cX14_takes 5 = .ok (.aload_n 1, 1) := dk_43 (dk_at dksX14_takes_0 5 rfl rfl)
theorem dX14_takes_6 : decode cX14_takes 6 = .ok (.invokevirtual 20, 3) := dk_182 0 20 (dk_at dksX14_takes_0 6 rfl rfl)
theorem dX14_takes_9 : decode cX14_takes 9 = .ok (.aload_n 0, 1) := dk_42 (dk_at dksX14_takes_0 9 rfl rfl)
theorem dX14_takes_10 : decode cX14_takes 10 = .ok (.getfield 7, 3) := dk_180 0 7 (dk_at dksX14_takes_0 10 rfl rfl)
theorem dX14_takes_13 : decode cX14_takes 13 = .ok (.ishr, 1) := dk_122 (dk_at dksX14_takes_0 13 rfl rfl)
theorem dX14_takes_14 : decode cX14_takes 14 = .ok (.iconst 1, 1) := dk_4 (dk_at dksX14_takes_0 14 rfl rfl)
theorem dX14_takes_15 : decode cX14_takes 15 = .ok (.iand, 1) := dk_126 (dk_at dksX14_takes_0 15 rfl rfl)
theorem dX14_takes_16 : decode cX14_takes 16 = .ok (.iconst 1, 1) := dk_4 (dk_at dksX14_takes_0 16 rfl rfl)
theorem dX14_takes_17 : decode cX14_takes 17 = .ok (.if_icmp .ne 10, 3) := dk_160 0 10 (dk_at dksX14_takes_0 17 rfl rfl)
theorem dX14_takes_20 : decode cX14_takes 20 = .ok (.aload_n 1, 1) := dk_43 (dk_at dksX14_takes_0 20 rfl rfl)
theorem dX14_takes_21 : decode cX14_takes 21 = .ok (.invokevirtual 26, 3) := dk_182 0 26 (dk_at dksX14_takes_0 21 rfl rfl)
theorem dX14_takes_24 : decode cX14_takes 24 = .ok (.goto 4, 3) := dk_167 0 4 (dk_at dksX14_takes_1 0 rfl rfl)
theorem dX14_takes_27 : decode cX14_takes 27 = .ok (.iconst 0, 1) := dk_3 (dk_at dksX14_takes_1 3 rfl rfl)
theorem dX14_takes_28 : decode cX14_takes 28 = .ok (.ior, 1) := dk_128 (dk_at dksX14_takes_1 4 rfl rfl)
theorem dX14_takes_29 : decode cX14_takes 29 = .ok (.putfield 17, 3) := dk_181 0 17 (dk_at dksX14_takes_1 5 rfl rfl)
theorem dX14_takes_32 : decode cX14_takes 32 = .ok (.return_, 1) := dk_177 (dk_at dksX14_takes_1 8 rfl rfl)
abbrev cX14_init : ByteArray := prog_3_method_1_code
def yX14_init : MethodName := ⟨RX14, "<init>", "(LBookPairs;I)V"⟩
def dkwX14_init_0 : List UInt8 := [42, 43, 181, 0, 1, 42, 28, 181, 0, 7, 42, 43, 183, 0, 11, 177]
abbrev dktX14_init_0 : List UInt8 := dkwX14_init_0 ++ []
theorem dksX14_init_0 : cX14_init.data.toList.drop 0 = dktX14_init_0 := by decide +kernel
theorem dX14_init_0 : decode cX14_init 0 = .ok (.aload_n 0, 1) := dk_42 (dk_at dksX14_init_0 0 rfl rfl)
theorem dX14_init_1 : decode cX14_init 1 = .ok (.aload_n 1, 1) := dk_43 (dk_at dksX14_init_0 1 rfl rfl)
theorem dX14_init_2 : decode cX14_init 2 = .ok (.putfield 1, 3) := dk_181 0 1 (dk_at dksX14_init_0 2 rfl rfl)
theorem dX14_init_5 : decode cX14_init 5 = .ok (.aload_n 0, 1) := dk_42 (dk_at dksX14_init_0 5 rfl rfl)
theorem dX14_init_6 : decode cX14_init 6 = .ok (.iload_n 2, 1) := dk_28 (dk_at dksX14_init_0 6 rfl rfl)
theorem dX14_init_7 : decode cX14_init 7 = .ok (.putfield 7, 3) := dk_181 0 7 (dk_at dksX14_init_0 7 rfl rfl)
theorem dX14_init_10 : decode cX14_init 10 = .ok (.aload_n 0, 1) := dk_42 (dk_at dksX14_init_0 10 rfl rfl)
theorem dX14_init_11 : decode cX14_init 11 = .ok (.aload_n 1, 1) := dk_43 (dk_at dksX14_init_0 11 rfl rfl)
theorem dX14_init_12 : decode cX14_init 12 = .ok (.invokespecial 11, 3) := dk_183 0 11 (dk_at dksX14_init_0 12 rfl rfl)
theorem dX14_init_15 : decode cX14_init 15 = .ok (.return_, 1) := dk_177 (dk_at dksX14_init_0 15 rfl rfl)
theorem q101 : (Jvm.Cond.initialized "BookPairs$1Partners") ∈ lw_all := lw_g (lw_at lw_m1 34 rfl) rfl
theorem q402 : (Jvm.Cond.fieldLink "BookPairs$1Partners" (17 : Nat) "BookPairs$1Partners" "sum" "I") ∈ lw_all := lw_g (lw_at lw_m2 95 rfl) rfl
theorem q403 : (Jvm.Cond.sameField "BookPairs$1Partners" "BookPairs$Sum" "sum" "I") ∈ lw_all := lw_g (lw_at lw_m2 96 rfl) rfl
theorem q421 : (Jvm.Cond.selects "BookPairs$1Partners" ({ cls := "BookPairs$Sum", name := "all", desc := "()I" } : Jvm.MethodName) ({ cls := "BookPairs$Sum", name := "all", desc := "()I" } : Jvm.MethodName)) ∈ lw_all := lw_g (lw_at lw_m2 114 rfl) rfl
theorem q543 : (Jvm.Cond.selects "BookPairs$1Partners" ({ cls := "BookPairs$Sum", name := "takes", desc := "(LBookPairs$Bead;)V" } : Jvm.MethodName) ({ cls := "BookPairs$1Partners", name := "takes", desc := "(LBookPairs$Bead;)V" } : Jvm.MethodName)) ∈ lw_all := lw_g (lw_at lw_m2 236 rfl) rfl
theorem q544 : (Jvm.Cond.instanceMethod ({ cls := "BookPairs$1Partners", name := "takes", desc := "(LBookPairs$Bead;)V" } : Jvm.MethodName)) ∈ lw_all := lw_g (lw_at lw_m2 237 rfl) rfl
theorem q545 : (Jvm.Cond.code ({ cls := "BookPairs$1Partners", name := "takes", desc := "(LBookPairs$Bead;)V" } : Jvm.MethodName) prog_3_method_2_code (2 : Nat) (Option.none : Option Jvm.ClassFile.FieldType)) ∈ lw_all := lw_g (lw_at lw_m2 238 rfl) rfl
theorem q546 : (Jvm.Cond.methodLink "BookPairs$1Partners" (20 : Nat) ({ cls := "BookPairs$Bead", name := "rightOnes", desc := "()I" } : Jvm.MethodName)) ∈ lw_all := lw_g (lw_at lw_m2 239 rfl) rfl
theorem q551 : (Jvm.Cond.methodLink "BookPairs$1Partners" (26 : Nat) ({ cls := "BookPairs$Bead", name := "leftOnes", desc := "()I" } : Jvm.MethodName)) ∈ lw_all := lw_g (lw_at lw_m3 4 rfl) rfl
theorem q570 : (Jvm.Cond.instantiable "BookPairs$1Partners" (4 : Nat)) ∈ lw_all := lw_g (lw_at lw_m3 23 rfl) rfl
theorem q572 : (Jvm.Cond.instanceMethod ({ cls := "BookPairs$1Partners", name := "<init>", desc := "(LBookPairs;I)V" } : Jvm.MethodName)) ∈ lw_all := lw_g (lw_at lw_m3 25 rfl) rfl
theorem q573 : (Jvm.Cond.code ({ cls := "BookPairs$1Partners", name := "<init>", desc := "(LBookPairs;I)V" } : Jvm.MethodName) prog_3_method_1_code (3 : Nat) (Option.none : Option Jvm.ClassFile.FieldType)) ∈ lw_all := lw_g (lw_at lw_m3 26 rfl) rfl
theorem q574 : (Jvm.Cond.methodLinkNest "BookPairs$1Partners" (11 : Nat) ({ cls := "BookPairs$Sum", name := "<init>", desc := "(LBookPairs;)V" } : Jvm.MethodName) "BookPairs") ∈ lw_tbl := lw_at lw_m3 27 rfl
theorem q575 : (Jvm.Cond.fieldLink "BookPairs$1Partners" (7 : Nat) "BookPairs$1Partners" "val$b" "I") ∈ lw_all := lw_g (lw_at lw_m3 28 rfl) rfl
theorem q576 : (Jvm.Cond.fieldLink "BookPairs$1Partners" (1 : Nat) "BookPairs$1Partners" "this$0" "LBookPairs;") ∈ lw_all := lw_g (lw_at lw_m3 29 rfl) rfl
theorem q577 : (Jvm.Cond.laysFinal "BookPairs$1Partners" "BookPairs$1Partners" "val$b" "I") ∈ lw_all := lw_g (lw_at lw_m3 30 rfl) rfl
theorem q578 : (Jvm.Cond.soleField "BookPairs$1Partners" "val$b") ∈ lw_all := lw_g (lw_at lw_m3 31 rfl) rfl
theorem q579 : (Jvm.Cond.laysFinal "BookPairs$1Partners" "BookPairs$1Partners" "this$0" "LBookPairs;") ∈ lw_all := lw_g (lw_at lw_m3 32 rfl) rfl
theorem q580 : (Jvm.Cond.soleField "BookPairs$1Partners" "this$0") ∈ lw_all := lw_g (lw_at lw_m3 33 rfl) rfl
theorem q581 : (Jvm.Cond.lays "BookPairs$1Partners" "BookPairs$Sum" "sum" "I") ∈ lw_all := lw_g (lw_at lw_m3 34 rfl) rfl
theorem q582 : (Jvm.Cond.laysFinal "BookPairs$1Partners" "BookPairs$Sum" "this$0" "LBookPairs;") ∈ lw_all := lw_g (lw_at lw_m3 35 rfl) rfl
theorem q583 : (Jvm.Cond.superclass "BookPairs$1Partners" "BookPairs$Sum") ∈ lw_all := lw_g (lw_at lw_m3 36 rfl) rfl
theorem q585 : (Jvm.Cond.sameMethod "BookPairs$1Partners" "BookPairs$Sum" "all" "()I") ∈ lw_all := lw_g (lw_at lw_m3 38 rfl) rfl
theorem q587 : (Jvm.Cond.selects "BookPairs$1Partners" ({ cls := "BookPairs$1Partners", name := "all", desc := "()I" } : Jvm.MethodName) ({ cls := "BookPairs$Sum", name := "all", desc := "()I" } : Jvm.MethodName)) ∈ lw_all := lw_g (lw_at lw_m3 40 rfl) rfl
theorem q711 : (Jvm.Cond.selects "BookPairs$1Partners" ({ cls := "java/lang/Object", name := "getClass", desc := "()Ljava/lang/Class;" } : Jvm.MethodName) ({ cls := "java/lang/Object", name := "getClass", desc := "()Ljava/lang/Class;" } : Jvm.MethodName)) ∈ lw_all := lw_g (lw_at lw_m3 164 rfl) rfl
theorem q1772 : (Jvm.Cond.castable "BookPairs$1Partners" "java/lang/Object") ∈ lw_tbl := lw_at lw_m8 25 rfl
theorem in_X14 : ∀ w ∈ wsX140, w ∈ lw_all := lw_in wsX140 [581, 582, 577, 579] (by decide +kernel) (by decide +kernel)

/-! BookPairs$1 -/
set_option maxRecDepth 100000
def RX15 : String := "BookPairs$1"
def TX15 : u_T := fun k => match k with
  | 0 => ("BookPairs$Sum", "sum", "I", false)
  | 1 => ("BookPairs$Sum", "this$0", "LBookPairs;", true)
  | _ => ("BookPairs$1", "this$0", "LBookPairs;", true)
def tyX15 : Nat → FieldType := fun k => match k with
  | 0 => .int
  | 1 => .object "BookPairs"
  | _ => .object "BookPairs"
abbrev wsX150 : List Cond := u_ws RX15 TX15 3
-- two fields of one name: no nmX15
theorem tyX15_ok : ∀ k, k < 3 → parseFieldDescriptor (TX15 k).2.2.1 = some (tyX15 k) := by decide +kernel
abbrev cX15_takes : ByteArray := prog_2_method_2_code
def yX15_takes : MethodName := ⟨RX15, "takes", "(LBookPairs$Bead;)V"⟩
def dkwX15_takes_0 : List UInt8 := [42, 89, 180, 0, 13, 4, 96, 181, 0, 13, 177]
abbrev dktX15_takes_0 : List UInt8 := dkwX15_takes_0 ++ []
theorem dksX15_takes_0 : cX15_takes.data.toList.drop 0 = dktX15_takes_0 := by decide +kernel
theorem dX15_takes_0 : decode cX15_takes 0 = .ok (.aload_n 0, 1) := dk_42 (dk_at dksX15_takes_0 0 rfl rfl)
theorem dX15_takes_1 : decode cX15_takes 1 = .ok (.dup, 1) := dk_89 (dk_at dksX15_takes_0 1 rfl rfl)
theorem dX15_takes_2 : decode cX15_takes 2 = .ok (.getfield 13, 3) := dk_180 0 13 (dk_at dksX15_takes_0 2 rfl rfl)
theorem dX15_takes_5 : decode cX15_takes 5 = .ok (.iconst 1, 1) := dk_4 (dk_at dksX15_takes_0 5 rfl rfl)
theorem dX15_takes_6 : decode cX15_takes 6 = .ok (.iadd, 1) := dk_96 (dk_at dksX15_takes_0 6 rfl rfl)
theorem dX15_takes_7 : decode cX15_takes 7 = .ok (.putfield 13, 3) := dk_181 0 13 (dk_at dksX15_takes_0 7 rfl rfl)
theorem dX15_takes_10 : decode cX15_takes 10 = .ok (.return_, 1) := dk_177 (dk_at dksX15_takes_0 10 rfl rfl)
abbrev cX15_init : ByteArray := prog_2_method_1_code
def yX15_init : MethodName := ⟨RX15, "<init>", "(LBookPairs;)V"⟩
def dkwX15_init_0 : List UInt8 := [42, 43, 181, 0, 1, 42, 43, 183, 0, 7, 177]
abbrev dktX15_init_0 : List UInt8 := dkwX15_init_0 ++ []
theorem dksX15_init_0 : cX15_init.data.toList.drop 0 = dktX15_init_0 := by decide +kernel
theorem dX15_init_0 : decode cX15_init 0 = .ok (.aload_n 0, 1) := dk_42 (dk_at dksX15_init_0 0 rfl rfl)
theorem dX15_init_1 : decode cX15_init 1 = .ok (.aload_n 1, 1) := dk_43 (dk_at dksX15_init_0 1 rfl rfl)
theorem dX15_init_2 : decode cX15_init 2 = .ok (.putfield 1, 3) := dk_181 0 1 (dk_at dksX15_init_0 2 rfl rfl)
theorem dX15_init_5 : decode cX15_init 5 = .ok (.aload_n 0, 1) := dk_42 (dk_at dksX15_init_0 5 rfl rfl)
theorem dX15_init_6 : decode cX15_init 6 = .ok (.aload_n 1, 1) := dk_43 (dk_at dksX15_init_0 6 rfl rfl)
theorem dX15_init_7 : decode cX15_init 7 = .ok (.invokespecial 7, 3) := dk_183 0 7 (dk_at dksX15_init_0 7 rfl rfl)
theorem dX15_init_10 : decode cX15_init 10 = .ok (.return_, 1) := dk_177 (dk_at dksX15_init_0 10 rfl rfl)
theorem q102 : (Jvm.Cond.initialized "BookPairs$1") ∈ lw_all := lw_g (lw_at lw_m1 35 rfl) rfl
theorem q400 : (Jvm.Cond.fieldLink "BookPairs$1" (13 : Nat) "BookPairs$1" "sum" "I") ∈ lw_all := lw_g (lw_at lw_m2 93 rfl) rfl
theorem q401 : (Jvm.Cond.sameField "BookPairs$1" "BookPairs$Sum" "sum" "I") ∈ lw_all := lw_g (lw_at lw_m2 94 rfl) rfl
theorem q420 : (Jvm.Cond.selects "BookPairs$1" ({ cls := "BookPairs$Sum", name := "all", desc := "()I" } : Jvm.MethodName) ({ cls := "BookPairs$Sum", name := "all", desc := "()I" } : Jvm.MethodName)) ∈ lw_all := lw_g (lw_at lw_m2 113 rfl) rfl
theorem q540 : (Jvm.Cond.selects "BookPairs$1" ({ cls := "BookPairs$Sum", name := "takes", desc := "(LBookPairs$Bead;)V" } : Jvm.MethodName) ({ cls := "BookPairs$1", name := "takes", desc := "(LBookPairs$Bead;)V" } : Jvm.MethodName)) ∈ lw_all := lw_g (lw_at lw_m2 233 rfl) rfl
theorem q541 : (Jvm.Cond.instanceMethod ({ cls := "BookPairs$1", name := "takes", desc := "(LBookPairs$Bead;)V" } : Jvm.MethodName)) ∈ lw_all := lw_g (lw_at lw_m2 234 rfl) rfl
theorem q542 : (Jvm.Cond.code ({ cls := "BookPairs$1", name := "takes", desc := "(LBookPairs$Bead;)V" } : Jvm.MethodName) prog_2_method_2_code (2 : Nat) (Option.none : Option Jvm.ClassFile.FieldType)) ∈ lw_all := lw_g (lw_at lw_m2 235 rfl) rfl
theorem q609 : (Jvm.Cond.instantiable "BookPairs$1" (3 : Nat)) ∈ lw_all := lw_g (lw_at lw_m3 62 rfl) rfl
theorem q611 : (Jvm.Cond.instanceMethod ({ cls := "BookPairs$1", name := "<init>", desc := "(LBookPairs;)V" } : Jvm.MethodName)) ∈ lw_all := lw_g (lw_at lw_m3 64 rfl) rfl
theorem q612 : (Jvm.Cond.code ({ cls := "BookPairs$1", name := "<init>", desc := "(LBookPairs;)V" } : Jvm.MethodName) prog_2_method_1_code (2 : Nat) (Option.none : Option Jvm.ClassFile.FieldType)) ∈ lw_all := lw_g (lw_at lw_m3 65 rfl) rfl
theorem q613 : (Jvm.Cond.methodLinkNest "BookPairs$1" (7 : Nat) ({ cls := "BookPairs$Sum", name := "<init>", desc := "(LBookPairs;)V" } : Jvm.MethodName) "BookPairs") ∈ lw_tbl := lw_at lw_m3 66 rfl
theorem q614 : (Jvm.Cond.fieldLink "BookPairs$1" (1 : Nat) "BookPairs$1" "this$0" "LBookPairs;") ∈ lw_all := lw_g (lw_at lw_m3 67 rfl) rfl
theorem q615 : (Jvm.Cond.laysFinal "BookPairs$1" "BookPairs$1" "this$0" "LBookPairs;") ∈ lw_all := lw_g (lw_at lw_m3 68 rfl) rfl
theorem q616 : (Jvm.Cond.soleField "BookPairs$1" "this$0") ∈ lw_all := lw_g (lw_at lw_m3 69 rfl) rfl
theorem q617 : (Jvm.Cond.lays "BookPairs$1" "BookPairs$Sum" "sum" "I") ∈ lw_all := lw_g (lw_at lw_m3 70 rfl) rfl
theorem q618 : (Jvm.Cond.laysFinal "BookPairs$1" "BookPairs$Sum" "this$0" "LBookPairs;") ∈ lw_all := lw_g (lw_at lw_m3 71 rfl) rfl
theorem q619 : (Jvm.Cond.superclass "BookPairs$1" "BookPairs$Sum") ∈ lw_all := lw_g (lw_at lw_m3 72 rfl) rfl
theorem q621 : (Jvm.Cond.sameMethod "BookPairs$1" "BookPairs$Sum" "all" "()I") ∈ lw_all := lw_g (lw_at lw_m3 74 rfl) rfl
theorem q622 : (Jvm.Cond.selects "BookPairs$1" ({ cls := "BookPairs$1", name := "all", desc := "()I" } : Jvm.MethodName) ({ cls := "BookPairs$Sum", name := "all", desc := "()I" } : Jvm.MethodName)) ∈ lw_all := lw_g (lw_at lw_m3 75 rfl) rfl
theorem q710 : (Jvm.Cond.selects "BookPairs$1" ({ cls := "java/lang/Object", name := "getClass", desc := "()Ljava/lang/Class;" } : Jvm.MethodName) ({ cls := "java/lang/Object", name := "getClass", desc := "()Ljava/lang/Class;" } : Jvm.MethodName)) ∈ lw_all := lw_g (lw_at lw_m3 163 rfl) rfl
theorem q1773 : (Jvm.Cond.castable "BookPairs$1" "java/lang/Object") ∈ lw_tbl := lw_at lw_m8 26 rfl
theorem in_X15 : ∀ w ∈ wsX150, w ∈ lw_all := lw_in wsX150 [617, 618, 615] (by decide +kernel) (by decide +kernel)

/-! BookPairs$Reading -/
set_option maxRecDepth 100000
def RX16 : String := "BookPairs$Reading"
def TX16 : u_T := fun k => match k with
  | 0 => ("BookPairs$Reading", "w", "I", true)
  | _ => ("BookPairs$Reading", "c", "I", true)
def tyX16 : Nat → FieldType := fun k => match k with
  | 0 => .int
  | _ => .int
abbrev wsX160 : List Cond := u_ws RX16 TX16 2
theorem nmX16 : ∀ a, a < 2 → ∀ b, b < 2 → a ≠ b → (TX16 a).2.1 ≠ (TX16 b).2.1 := by decide +kernel
theorem tyX16_ok : ∀ k, k < 2 → parseFieldDescriptor (TX16 k).2.2.1 = some (tyX16 k) := by decide +kernel
abbrev cX16_init : ByteArray := prog_19_method_1_code
def yX16_init : MethodName := ⟨RX16, "<init>", "(II)V"⟩
def dkwX16_init_0 : List UInt8 := [42, 183, 0, 1, 42, 27, 181, 0, 7, 42, 28, 181, 0, 13, 177]
abbrev dktX16_init_0 : List UInt8 := dkwX16_init_0 ++ []
theorem dksX16_init_0 : cX16_init.data.toList.drop 0 = dktX16_init_0 := by decide +kernel
theorem dX16_init_0 : decode cX16_init 0 = .ok (.aload_n 0, 1) := dk_42 (dk_at dksX16_init_0 0 rfl rfl)
theorem dX16_init_1 : decode cX16_init 1 = .ok (.invokespecial 1, 3) := dk_183 0 1 (dk_at dksX16_init_0 1 rfl rfl)
theorem dX16_init_4 : decode cX16_init 4 = .ok (.aload_n 0, 1) := dk_42 (dk_at dksX16_init_0 4 rfl rfl)
theorem dX16_init_5 : decode cX16_init 5 = .ok (.iload_n 1, 1) := dk_27 (dk_at dksX16_init_0 5 rfl rfl)
theorem dX16_init_6 : decode cX16_init 6 = .ok (.putfield 7, 3) := dk_181 0 7 (dk_at dksX16_init_0 6 rfl rfl)
theorem dX16_init_9 : decode cX16_init 9 = .ok (.aload_n 0, 1) := dk_42 (dk_at dksX16_init_0 9 rfl rfl)
theorem dX16_init_10 : decode cX16_init 10 = .ok (.iload_n 2, 1) := dk_28 (dk_at dksX16_init_0 10 rfl rfl)
theorem dX16_init_11 : decode cX16_init 11 = .ok (.putfield 13, 3) := dk_181 0 13 (dk_at dksX16_init_0 11 rfl rfl)
theorem dX16_init_14 : decode cX16_init 14 = .ok (.return_, 1) := dk_177 (dk_at dksX16_init_0 14 rfl rfl)
theorem q103 : (Jvm.Cond.initialized "BookPairs$Reading") ∈ lw_all := lw_g (lw_at lw_m1 36 rfl) rfl
theorem q658 : (Jvm.Cond.instantiable "BookPairs$Reading" (2 : Nat)) ∈ lw_all := lw_g (lw_at lw_m3 111 rfl) rfl
theorem q660 : (Jvm.Cond.instanceMethod ({ cls := "BookPairs$Reading", name := "<init>", desc := "(II)V" } : Jvm.MethodName)) ∈ lw_all := lw_g (lw_at lw_m3 113 rfl) rfl
theorem q661 : (Jvm.Cond.code ({ cls := "BookPairs$Reading", name := "<init>", desc := "(II)V" } : Jvm.MethodName) prog_19_method_1_code (3 : Nat) (Option.none : Option Jvm.ClassFile.FieldType)) ∈ lw_all := lw_g (lw_at lw_m3 114 rfl) rfl
theorem q662 : (Jvm.Cond.methodLink "BookPairs$Reading" (1 : Nat) ({ cls := "java/lang/Object", name := "<init>", desc := "()V" } : Jvm.MethodName)) ∈ lw_all := lw_g (lw_at lw_m3 115 rfl) rfl
theorem q663 : (Jvm.Cond.fieldLink "BookPairs$Reading" (7 : Nat) "BookPairs$Reading" "w" "I") ∈ lw_all := lw_g (lw_at lw_m3 116 rfl) rfl
theorem q665 : (Jvm.Cond.fieldLink "BookPairs$Reading" (13 : Nat) "BookPairs$Reading" "c" "I") ∈ lw_all := lw_g (lw_at lw_m3 118 rfl) rfl
theorem q667 : (Jvm.Cond.laysFinal "BookPairs$Reading" "BookPairs$Reading" "w" "I") ∈ lw_all := lw_g (lw_at lw_m3 120 rfl) rfl
theorem q668 : (Jvm.Cond.soleField "BookPairs$Reading" "w") ∈ lw_all := lw_g (lw_at lw_m3 121 rfl) rfl
theorem q669 : (Jvm.Cond.laysFinal "BookPairs$Reading" "BookPairs$Reading" "c" "I") ∈ lw_all := lw_g (lw_at lw_m3 122 rfl) rfl
theorem q670 : (Jvm.Cond.soleField "BookPairs$Reading" "c") ∈ lw_all := lw_g (lw_at lw_m3 123 rfl) rfl
theorem q671 : (Jvm.Cond.superclass "BookPairs$Reading" "java/lang/Object") ∈ lw_all := lw_g (lw_at lw_m3 124 rfl) rfl
theorem q722 : (Jvm.Cond.selects "BookPairs$Reading" ({ cls := "java/lang/Object", name := "getClass", desc := "()Ljava/lang/Class;" } : Jvm.MethodName) ({ cls := "java/lang/Object", name := "getClass", desc := "()Ljava/lang/Class;" } : Jvm.MethodName)) ∈ lw_all := lw_g (lw_at lw_m3 175 rfl) rfl
theorem q1774 : (Jvm.Cond.castable "BookPairs$Reading" "java/lang/Object") ∈ lw_tbl := lw_at lw_m8 27 rfl
theorem in_X16 : ∀ w ∈ wsX160, w ∈ lw_all := lw_in wsX160 [667, 669] (by decide +kernel) (by decide +kernel)

/-! BookPairs$Sheet -/
set_option maxRecDepth 100000
def RX17 : String := "BookPairs$Sheet"
def TX17 : u_T := fun k => match k with
  | _ => ("BookPairs$Sheet", "row", "Ljava/lang/Object;", true)
def tyX17 : Nat → FieldType := fun k => match k with
  | _ => .object "java/lang/Object"
abbrev wsX170 : List Cond := u_ws RX17 TX17 1
theorem nmX17 : ∀ a, a < 1 → ∀ b, b < 1 → a ≠ b → (TX17 a).2.1 ≠ (TX17 b).2.1 := by decide +kernel
theorem tyX17_ok : ∀ k, k < 1 → parseFieldDescriptor (TX17 k).2.2.1 = some (tyX17 k) := by decide +kernel
abbrev cX17_init : ByteArray := prog_20_method_1_code
def yX17_init : MethodName := ⟨RX17, "<init>", "(Ljava/lang/Object;)V"⟩
def dkwX17_init_0 : List UInt8 := [42, 183, 0, 1, 42, 43, 181, 0, 7, 177]
abbrev dktX17_init_0 : List UInt8 := dkwX17_init_0 ++ []
theorem dksX17_init_0 : cX17_init.data.toList.drop 0 = dktX17_init_0 := by decide +kernel
theorem dX17_init_0 : decode cX17_init 0 = .ok (.aload_n 0, 1) := dk_42 (dk_at dksX17_init_0 0 rfl rfl)
theorem dX17_init_1 : decode cX17_init 1 = .ok (.invokespecial 1, 3) := dk_183 0 1 (dk_at dksX17_init_0 1 rfl rfl)
theorem dX17_init_4 : decode cX17_init 4 = .ok (.aload_n 0, 1) := dk_42 (dk_at dksX17_init_0 4 rfl rfl)
theorem dX17_init_5 : decode cX17_init 5 = .ok (.aload_n 1, 1) := dk_43 (dk_at dksX17_init_0 5 rfl rfl)
theorem dX17_init_6 : decode cX17_init 6 = .ok (.putfield 7, 3) := dk_181 0 7 (dk_at dksX17_init_0 6 rfl rfl)
theorem dX17_init_9 : decode cX17_init 9 = .ok (.return_, 1) := dk_177 (dk_at dksX17_init_0 9 rfl rfl)
theorem q104 : (Jvm.Cond.initialized "BookPairs$Sheet") ∈ lw_all := lw_g (lw_at lw_m1 37 rfl) rfl
theorem q723 : (Jvm.Cond.selects "BookPairs$Sheet" ({ cls := "java/lang/Object", name := "getClass", desc := "()Ljava/lang/Class;" } : Jvm.MethodName) ({ cls := "java/lang/Object", name := "getClass", desc := "()Ljava/lang/Class;" } : Jvm.MethodName)) ∈ lw_all := lw_g (lw_at lw_m3 176 rfl) rfl
theorem q944 : (Jvm.Cond.instantiable "BookPairs$Sheet" (1 : Nat)) ∈ lw_all := lw_g (lw_at lw_m4 157 rfl) rfl
theorem q949 : (Jvm.Cond.instanceMethod ({ cls := "BookPairs$Sheet", name := "<init>", desc := "(Ljava/lang/Object;)V" } : Jvm.MethodName)) ∈ lw_all := lw_g (lw_at lw_m4 162 rfl) rfl
theorem q950 : (Jvm.Cond.code ({ cls := "BookPairs$Sheet", name := "<init>", desc := "(Ljava/lang/Object;)V" } : Jvm.MethodName) prog_20_method_1_code (2 : Nat) (Option.none : Option Jvm.ClassFile.FieldType)) ∈ lw_all := lw_g (lw_at lw_m4 163 rfl) rfl
theorem q951 : (Jvm.Cond.methodLink "BookPairs$Sheet" (1 : Nat) ({ cls := "java/lang/Object", name := "<init>", desc := "()V" } : Jvm.MethodName)) ∈ lw_all := lw_g (lw_at lw_m4 164 rfl) rfl
theorem q952 : (Jvm.Cond.fieldLink "BookPairs$Sheet" (7 : Nat) "BookPairs$Sheet" "row" "Ljava/lang/Object;") ∈ lw_all := lw_g (lw_at lw_m4 165 rfl) rfl
theorem q954 : (Jvm.Cond.laysFinal "BookPairs$Sheet" "BookPairs$Sheet" "row" "Ljava/lang/Object;") ∈ lw_all := lw_g (lw_at lw_m4 167 rfl) rfl
theorem q955 : (Jvm.Cond.soleField "BookPairs$Sheet" "row") ∈ lw_all := lw_g (lw_at lw_m4 168 rfl) rfl
theorem q956 : (Jvm.Cond.superclass "BookPairs$Sheet" "java/lang/Object") ∈ lw_all := lw_g (lw_at lw_m4 169 rfl) rfl
theorem q1754 : (Jvm.Cond.castable "BookPairs$Sheet" "java/lang/Object") ∈ lw_tbl := lw_at lw_m8 7 rfl
theorem in_X17 : ∀ w ∈ wsX170, w ∈ lw_all := lw_in wsX170 [954] (by decide +kernel) (by decide +kernel)

/-! BookPairs$Copying -/
set_option maxRecDepth 100000
def RX18 : String := "BookPairs$Copying"
def TX18 : u_T := fun k => match k with
  | 0 => ("BookPairs$Act", "this$0", "LBookPairs;", true)
  | 1 => ("BookPairs$Copying", "from", "I", true)
  | 2 => ("BookPairs$Copying", "i", "I", true)
  | 3 => ("BookPairs$Copying", "to", "I", true)
  | 4 => ("BookPairs$Copying", "j", "I", true)
  | 5 => ("BookPairs$Copying", "n", "I", true)
  | _ => ("BookPairs$Copying", "this$0", "LBookPairs;", true)
def tyX18 : Nat → FieldType := fun k => match k with
  | 0 => .object "BookPairs"
  | 1 => .int
  | 2 => .int
  | 3 => .int
  | 4 => .int
  | 5 => .int
  | _ => .object "BookPairs"
abbrev wsX180 : List Cond := u_ws RX18 TX18 7
-- two fields of one name: no nmX18
theorem tyX18_ok : ∀ k, k < 7 → parseFieldDescriptor (TX18 k).2.2.1 = some (tyX18 k) := by decide +kernel
abbrev cX18_done : ByteArray := prog_10_method_2_code
def yX18_done : MethodName := ⟨RX18, "done", "()I"⟩
def dkwX18_done_1 : List UInt8 := [182, 0, 29, 42, 180, 0, 23, 42, 180, 0, 26, 184, 0, 35, 42, 180, 0, 26, 172]
abbrev dktX18_done_1 : List UInt8 := dkwX18_done_1 ++ []
def dkwX18_done_0 : List UInt8 := [42, 180, 0, 1, 42, 180, 0, 13, 182, 0, 29, 42, 180, 0, 17, 42, 180, 0, 1, 42, 180, 0, 20]
abbrev dktX18_done_0 : List UInt8 := dkwX18_done_0 ++ dktX18_done_1
theorem dksX18_done_0 : cX18_done.data.toList.drop 0 = dktX18_done_0 := by decide +kernel
theorem dksX18_done_1 : cX18_done.data.toList.drop 23 = dktX18_done_1 := dk_seg dksX18_done_0 23 rfl rfl
theorem dX18_done_0 : decode cX18_done 0 = .ok (.aload_n 0, 1) := dk_42 (dk_at dksX18_done_0 0 rfl rfl)
theorem dX18_done_1 : decode cX18_done 1 = .ok (.getfield 1, 3) := dk_180 0 1 (dk_at dksX18_done_0 1 rfl rfl)
theorem dX18_done_4 : decode cX18_done 4 = .ok (.aload_n 0, 1) := dk_42 (dk_at dksX18_done_0 4 rfl rfl)
theorem dX18_done_5 : decode cX18_done 5 = .ok (.getfield 13, 3) := dk_180 0 13 (dk_at dksX18_done_0 5 rfl rfl)
theorem dX18_done_8 : decode cX18_done 8 = .ok (.invokevirtual 29, 3) := dk_182 0 29 (dk_at dksX18_done_0 8 rfl rfl)
theorem dX18_done_11 : decode cX18_done 11 = .ok (.aload_n 0, 1) := dk_42 (dk_at dksX18_done_0 11 rfl rfl)
theorem dX18_done_12 : decode cX18_done 12 = .ok (.getfield 17, 3) := dk_180 0 17 (dk_at dksX18_done_0 12 rfl rfl)
theorem dX18_done_15 : decode cX18_done 15 = .ok (.aload_n 0, 1) := dk_42 (dk_at dksX18_done_0 15 rfl rfl)
theorem dX18_done_16 : decode cX18_done 16 = .ok (.getfield 1, 3) := dk_180 0 1 (dk_at dksX18_done_0 16 rfl rfl)
theorem dX18_done_19 : decode cX18_done 19 = .ok (.aload_n 0, 1) := dk_42 (dk_at dksX18_done_0 19 rfl rfl)
theorem dX18_done_20 : decode cX18_done 20 = .ok (.getfield 20, 3) := dk_180 0 20 (dk_at dksX18_done_0 20 rfl rfl)
theorem dX18_done_23 : decode cX18_done 23 = .ok (.invokevirtual 29, 3) := dk_182 0 29 (dk_at dksX18_done_1 0 rfl rfl)
theorem dX18_done_26 : decode cX18_done 26 = .ok (.aload_n 0, 1) := dk_42 (dk_at dksX18_done_1 3 rfl rfl)
theorem dX18_done_27 : decode cX18_done 27 = .ok (.getfield 23, 3) := dk_180 0 23 (dk_at dksX18_done_1 4 rfl rfl)
theorem dX18_done_30 : decode cX18_done 30 = .ok (.aload_n 0, 1) := dk_42 (dk_at dksX18_done_1 7 rfl rfl)
theorem dX18_done_31 : decode cX18_done 31 = .ok (.getfield 26, 3) := dk_180 0 26 (dk_at dksX18_done_1 8 rfl rfl)
theorem dX18_done_34 : decode cX18_done 34 = .ok (.invokestatic 35, 3) := dk_184 0 35 (dk_at dksX18_done_1 11 rfl rfl)
theorem dX18_done_37 : decode cX18_done 37 = .ok (.aload_n 0, 1) := dk_42 (dk_at dksX18_done_1 14 rfl rfl)
theorem dX18_done_38 : decode cX18_done 38 = .ok (.getfield 26, 3) := dk_180 0 26 (dk_at dksX18_done_1 15 rfl rfl)
theorem dX18_done_41 : decode cX18_done 41 = .ok (.ireturn, 1) := dk_172 (dk_at dksX18_done_1 18 rfl rfl)
abbrev cX18_init : ByteArray := prog_10_method_1_code
def yX18_init : MethodName := ⟨RX18, "<init>", "(LBookPairs;IIIII)V"⟩
def dkwX18_init_1 : List UInt8 := [181, 0, 20, 42, 21, 5, 181, 0, 23, 42, 21, 6, 181, 0, 26, 177]
abbrev dktX18_init_1 : List UInt8 := dkwX18_init_1 ++ []
def dkwX18_init_0 : List UInt8 := [42, 43, 181, 0, 1, 42, 43, 183, 0, 7, 42, 28, 181, 0, 13, 42, 29, 181, 0, 17, 42, 21, 4]
abbrev dktX18_init_0 : List UInt8 := dkwX18_init_0 ++ dktX18_init_1
theorem dksX18_init_0 : cX18_init.data.toList.drop 0 = dktX18_init_0 := by decide +kernel
theorem dksX18_init_1 : cX18_init.data.toList.drop 23 = dktX18_init_1 := dk_seg dksX18_init_0 23 rfl rfl
theorem dX18_init_0 : decode cX18_init 0 = .ok (.aload_n 0, 1) := dk_42 (dk_at dksX18_init_0 0 rfl rfl)
theorem dX18_init_1 : decode cX18_init 1 = .ok (.aload_n 1, 1) := dk_43 (dk_at dksX18_init_0 1 rfl rfl)
theorem dX18_init_2 : decode cX18_init 2 = .ok (.putfield 1, 3) := dk_181 0 1 (dk_at dksX18_init_0 2 rfl rfl)
theorem dX18_init_5 : decode cX18_init 5 = .ok (.aload_n 0, 1) := dk_42 (dk_at dksX18_init_0 5 rfl rfl)
theorem dX18_init_6 : decode cX18_init 6 = .ok (.aload_n 1, 1) := dk_43 (dk_at dksX18_init_0 6 rfl rfl)
theorem dX18_init_7 : decode cX18_init 7 = .ok (.invokespecial 7, 3) := dk_183 0 7 (dk_at dksX18_init_0 7 rfl rfl)
theorem dX18_init_10 : decode cX18_init 10 = .ok (.aload_n 0, 1) := dk_42 (dk_at dksX18_init_0 10 rfl rfl)
theorem dX18_init_11 : decode cX18_init 11 = .ok (.iload_n 2, 1) := dk_28 (dk_at dksX18_init_0 11 rfl rfl)
theorem dX18_init_12 : decode cX18_init 12 = .ok (.putfield 13, 3) := dk_181 0 13 (dk_at dksX18_init_0 12 rfl rfl)
theorem dX18_init_15 : decode cX18_init 15 = .ok (.aload_n 0, 1) := dk_42 (dk_at dksX18_init_0 15 rfl rfl)
theorem dX18_init_16 : decode cX18_init 16 = .ok (.iload_n 3, 1) := dk_29 (dk_at dksX18_init_0 16 rfl rfl)
theorem dX18_init_17 : decode cX18_init 17 = .ok (.putfield 17, 3) := dk_181 0 17 (dk_at dksX18_init_0 17 rfl rfl)
theorem dX18_init_20 : decode cX18_init 20 = .ok (.aload_n 0, 1) := dk_42 (dk_at dksX18_init_0 20 rfl rfl)
theorem dX18_init_21 : decode cX18_init 21 = .ok (.iload 4, 2) := dk_21 4 (dk_at dksX18_init_0 21 rfl rfl)
theorem dX18_init_23 : decode cX18_init 23 = .ok (.putfield 20, 3) := dk_181 0 20 (dk_at dksX18_init_1 0 rfl rfl)
theorem dX18_init_26 : decode cX18_init 26 = .ok (.aload_n 0, 1) := dk_42 (dk_at dksX18_init_1 3 rfl rfl)
theorem dX18_init_27 : decode cX18_init 27 = .ok (.iload 5, 2) := dk_21 5 (dk_at dksX18_init_1 4 rfl rfl)
theorem dX18_init_29 : decode cX18_init 29 = .ok (.putfield 23, 3) := dk_181 0 23 (dk_at dksX18_init_1 6 rfl rfl)
theorem dX18_init_32 : decode cX18_init 32 = .ok (.aload_n 0, 1) := dk_42 (dk_at dksX18_init_1 9 rfl rfl)
theorem dX18_init_33 : decode cX18_init 33 = .ok (.iload 6, 2) := dk_21 6 (dk_at dksX18_init_1 10 rfl rfl)
theorem dX18_init_35 : decode cX18_init 35 = .ok (.putfield 26, 3) := dk_181 0 26 (dk_at dksX18_init_1 12 rfl rfl)
theorem dX18_init_38 : decode cX18_init 38 = .ok (.return_, 1) := dk_177 (dk_at dksX18_init_1 15 rfl rfl)
theorem q105 : (Jvm.Cond.initialized "BookPairs$Copying") ∈ lw_all := lw_g (lw_at lw_m1 38 rfl) rfl
theorem q716 : (Jvm.Cond.selects "BookPairs$Copying" ({ cls := "java/lang/Object", name := "getClass", desc := "()Ljava/lang/Class;" } : Jvm.MethodName) ({ cls := "java/lang/Object", name := "getClass", desc := "()Ljava/lang/Class;" } : Jvm.MethodName)) ∈ lw_all := lw_g (lw_at lw_m3 169 rfl) rfl
theorem q1171 : (Jvm.Cond.selects "BookPairs$Copying" ({ cls := "BookPairs$Act", name := "done", desc := "()I" } : Jvm.MethodName) ({ cls := "BookPairs$Copying", name := "done", desc := "()I" } : Jvm.MethodName)) ∈ lw_all := lw_g (lw_at lw_m5 144 rfl) rfl
theorem q1172 : (Jvm.Cond.instanceMethod ({ cls := "BookPairs$Copying", name := "done", desc := "()I" } : Jvm.MethodName)) ∈ lw_all := lw_g (lw_at lw_m5 145 rfl) rfl
theorem q1173 : (Jvm.Cond.code ({ cls := "BookPairs$Copying", name := "done", desc := "()I" } : Jvm.MethodName) prog_10_method_2_code (1 : Nat) (Option.some Jvm.ClassFile.FieldType.int)) ∈ lw_all := lw_g (lw_at lw_m5 146 rfl) rfl
theorem q1174 : (Jvm.Cond.methodLinkNest "BookPairs$Copying" (29 : Nat) ({ cls := "BookPairs", name := "rowIn", desc := "(I)Ljava/lang/Object;" } : Jvm.MethodName) "BookPairs") ∈ lw_tbl := lw_at lw_m5 147 rfl
theorem q1175 : (Jvm.Cond.methodLink "BookPairs$Copying" (35 : Nat) ({ cls := "java/lang/System", name := "arraycopy", desc := "(Ljava/lang/Object;ILjava/lang/Object;II)V" } : Jvm.MethodName)) ∈ lw_all := lw_g (lw_at lw_m5 148 rfl) rfl
theorem q1244 : (Jvm.Cond.instantiable "BookPairs$Copying" (7 : Nat)) ∈ lw_all := lw_g (lw_at lw_m5 217 rfl) rfl
theorem q1246 : (Jvm.Cond.instanceMethod ({ cls := "BookPairs$Copying", name := "<init>", desc := "(LBookPairs;IIIII)V" } : Jvm.MethodName)) ∈ lw_all := lw_g (lw_at lw_m5 219 rfl) rfl
theorem q1247 : (Jvm.Cond.code ({ cls := "BookPairs$Copying", name := "<init>", desc := "(LBookPairs;IIIII)V" } : Jvm.MethodName) prog_10_method_1_code (7 : Nat) (Option.none : Option Jvm.ClassFile.FieldType)) ∈ lw_all := lw_g (lw_at lw_m5 220 rfl) rfl
theorem q1248 : (Jvm.Cond.methodLinkNest "BookPairs$Copying" (7 : Nat) ({ cls := "BookPairs$Act", name := "<init>", desc := "(LBookPairs;)V" } : Jvm.MethodName) "BookPairs") ∈ lw_tbl := lw_at lw_m5 221 rfl
theorem q1249 : (Jvm.Cond.fieldLink "BookPairs$Copying" (13 : Nat) "BookPairs$Copying" "from" "I") ∈ lw_all := lw_g (lw_at lw_m5 222 rfl) rfl
theorem q1250 : (Jvm.Cond.fieldLink "BookPairs$Copying" (17 : Nat) "BookPairs$Copying" "i" "I") ∈ lw_all := lw_g (lw_at lw_m5 223 rfl) rfl
theorem q1251 : (Jvm.Cond.fieldLink "BookPairs$Copying" (20 : Nat) "BookPairs$Copying" "to" "I") ∈ lw_all := lw_g (lw_at lw_m5 224 rfl) rfl
theorem q1252 : (Jvm.Cond.fieldLink "BookPairs$Copying" (23 : Nat) "BookPairs$Copying" "j" "I") ∈ lw_all := lw_g (lw_at lw_m5 225 rfl) rfl
theorem q1253 : (Jvm.Cond.fieldLink "BookPairs$Copying" (26 : Nat) "BookPairs$Copying" "n" "I") ∈ lw_all := lw_g (lw_at lw_m5 226 rfl) rfl
theorem q1254 : (Jvm.Cond.fieldLink "BookPairs$Copying" (1 : Nat) "BookPairs$Copying" "this$0" "LBookPairs;") ∈ lw_all := lw_g (lw_at lw_m5 227 rfl) rfl
theorem q1255 : (Jvm.Cond.laysFinal "BookPairs$Copying" "BookPairs$Copying" "from" "I") ∈ lw_all := lw_g (lw_at lw_m5 228 rfl) rfl
theorem q1256 : (Jvm.Cond.soleField "BookPairs$Copying" "from") ∈ lw_all := lw_g (lw_at lw_m5 229 rfl) rfl
theorem q1257 : (Jvm.Cond.laysFinal "BookPairs$Copying" "BookPairs$Copying" "i" "I") ∈ lw_all := lw_g (lw_at lw_m5 230 rfl) rfl
theorem q1258 : (Jvm.Cond.soleField "BookPairs$Copying" "i") ∈ lw_all := lw_g (lw_at lw_m5 231 rfl) rfl
theorem q1259 : (Jvm.Cond.laysFinal "BookPairs$Copying" "BookPairs$Copying" "to" "I") ∈ lw_all := lw_g (lw_at lw_m5 232 rfl) rfl
theorem q1260 : (Jvm.Cond.soleField "BookPairs$Copying" "to") ∈ lw_all := lw_g (lw_at lw_m5 233 rfl) rfl
theorem q1261 : (Jvm.Cond.laysFinal "BookPairs$Copying" "BookPairs$Copying" "j" "I") ∈ lw_all := lw_g (lw_at lw_m5 234 rfl) rfl
theorem q1262 : (Jvm.Cond.soleField "BookPairs$Copying" "j") ∈ lw_all := lw_g (lw_at lw_m5 235 rfl) rfl
theorem q1263 : (Jvm.Cond.laysFinal "BookPairs$Copying" "BookPairs$Copying" "n" "I") ∈ lw_all := lw_g (lw_at lw_m5 236 rfl) rfl
theorem q1264 : (Jvm.Cond.soleField "BookPairs$Copying" "n") ∈ lw_all := lw_g (lw_at lw_m5 237 rfl) rfl
theorem q1265 : (Jvm.Cond.laysFinal "BookPairs$Copying" "BookPairs$Copying" "this$0" "LBookPairs;") ∈ lw_all := lw_g (lw_at lw_m5 238 rfl) rfl
theorem q1266 : (Jvm.Cond.soleField "BookPairs$Copying" "this$0") ∈ lw_all := lw_g (lw_at lw_m5 239 rfl) rfl
theorem q1267 : (Jvm.Cond.laysFinal "BookPairs$Copying" "BookPairs$Act" "this$0" "LBookPairs;") ∈ lw_all := lw_g (lw_at lw_m6 0 rfl) rfl
theorem q1268 : (Jvm.Cond.superclass "BookPairs$Copying" "BookPairs$Act") ∈ lw_all := lw_g (lw_at lw_m6 1 rfl) rfl
theorem q1270 : (Jvm.Cond.sameMethod "BookPairs$Copying" "BookPairs$Act" "tried" "()I") ∈ lw_all := lw_g (lw_at lw_m6 3 rfl) rfl
theorem q1271 : (Jvm.Cond.selects "BookPairs$Copying" ({ cls := "BookPairs$Copying", name := "tried", desc := "()I" } : Jvm.MethodName) ({ cls := "BookPairs$Act", name := "tried", desc := "()I" } : Jvm.MethodName)) ∈ lw_all := lw_g (lw_at lw_m6 4 rfl) rfl
theorem q1775 : (Jvm.Cond.castable "BookPairs$Copying" "java/lang/Object") ∈ lw_tbl := lw_at lw_m8 28 rfl
theorem in_X18 : ∀ w ∈ wsX180, w ∈ lw_all := lw_in wsX180 [1267, 1255, 1257, 1259, 1261, 1263, 1265] (by decide +kernel) (by decide +kernel)

/-! BookPairs$Taking -/
set_option maxRecDepth 100000
def RX19 : String := "BookPairs$Taking"
def TX19 : u_T := fun k => match k with
  | 0 => ("BookPairs$Act", "this$0", "LBookPairs;", true)
  | 1 => ("BookPairs$Taking", "one", "LBookPairs$Plain;", true)
  | 2 => ("BookPairs$Taking", "kind", "I", true)
  | _ => ("BookPairs$Taking", "this$0", "LBookPairs;", true)
def tyX19 : Nat → FieldType := fun k => match k with
  | 0 => .object "BookPairs"
  | 1 => .object "BookPairs$Plain"
  | 2 => .int
  | _ => .object "BookPairs"
abbrev wsX190 : List Cond := u_ws RX19 TX19 4
-- two fields of one name: no nmX19
theorem tyX19_ok : ∀ k, k < 4 → parseFieldDescriptor (TX19 k).2.2.1 = some (tyX19 k) := by decide +kernel
abbrev cX19_done : ByteArray := prog_23_method_2_code
def yX19_done : MethodName := ⟨RX19, "done", "()I"⟩
def dkwX19_done_2 : List UInt8 := [180, 0, 31, 60, 27, 156, 0, 7, 3, 167, 0, 4, 4, 172]
abbrev dktX19_done_2 : List UInt8 := dkwX19_done_2 ++ []
def dkwX19_done_1 : List UInt8 := [160, 0, 16, 42, 180, 0, 13, 192, 0, 26, 180, 0, 28, 167, 0, 13, 42, 180, 0, 13, 192, 0, 29]
abbrev dktX19_done_1 : List UInt8 := dkwX19_done_1 ++ dktX19_done_2
def dkwX19_done_0 : List UInt8 := [42, 180, 0, 17, 154, 0, 13, 42, 180, 0, 13, 180, 0, 21, 167, 0, 34, 42, 180, 0, 17, 4]
abbrev dktX19_done_0 : List UInt8 := dkwX19_done_0 ++ dktX19_done_1
theorem dksX19_done_0 : cX19_done.data.toList.drop 0 = dktX19_done_0 := by decide +kernel
theorem dksX19_done_1 : cX19_done.data.toList.drop 22 = dktX19_done_1 := dk_seg dksX19_done_0 22 rfl rfl
theorem dksX19_done_2 : cX19_done.data.toList.drop 45 = dktX19_done_2 := dk_seg dksX19_done_1 23 rfl rfl
theorem dX19_done_0 : decode cX19_done 0 = .ok (.aload_n 0, 1) := dk_42 (dk_at dksX19_done_0 0 rfl rfl)
theorem dX19_done_1 : decode cX19_done 1 = .ok (.getfield 17, 3) := dk_180 0 17 (dk_at dksX19_done_0 1 rfl rfl)
theorem dX19_done_4 : decode cX19_done 4 = .ok (.ifCond .ne 13, 3) := dk_154 0 13 (dk_at dksX19_done_0 4 rfl rfl)
theorem dX19_done_7 : decode cX19_done 7 = .ok (.aload_n 0, 1) := dk_42 (dk_at dksX19_done_0 7 rfl rfl)
theorem dX19_done_8 : decode cX19_done 8 = .ok (.getfield 13, 3) := dk_180 0 13 (dk_at dksX19_done_0 8 rfl rfl)
theorem dX19_done_11 : decode cX19_done 11 = .ok (.getfield 21, 3) := dk_180 0 21 (dk_at dksX19_done_0 11 rfl rfl)
theorem dX19_done_14 : decode cX19_done 14 = .ok (.goto 34, 3) := dk_167 0 34 (dk_at dksX19_done_0 14 rfl rfl)
theorem dX19_done_17 : decode cX19_done 17 = .ok (.aload_n 0, 1) := dk_42 (dk_at dksX19_done_0 17 rfl rfl)
theorem dX19_done_18 : decode cX19_done 18 = .ok (.getfield 17, 3) := dk_180 0 17 (dk_at dksX19_done_0 18 rfl rfl)
theorem dX19_done_21 : decode cX19_done 21 = .ok (.iconst 1, 1) := dk_4 (dk_at dksX19_done_0 21 rfl rfl)
theorem dX19_done_22 : decode cX19_done 22 = .ok (.if_icmp .ne 16, 3) := dk_160 0 16 (dk_at dksX19_done_1 0 rfl rfl)
theorem dX19_done_25 : decode cX19_done 25 = .ok (.aload_n 0, 1) := dk_42 (dk_at dksX19_done_1 3 rfl rfl)
theorem dX19_done_26 : decode cX19_done 26 = .ok (.getfield 13, 3) := dk_180 0 13 (dk_at dksX19_done_1 4 rfl rfl)
theorem dX19_done_29 : decode cX19_done 29 = .ok (.checkcast 26, 3) := dk_192 0 26 (dk_at dksX19_done_1 7 rfl rfl)
theorem dX19_done_32 : decode cX19_done 32 = .ok (.getfield 28, 3) := dk_180 0 28 (dk_at dksX19_done_1 10 rfl rfl)
theorem dX19_done_35 : decode cX19_done 35 = .ok (.goto 13, 3) := dk_167 0 13 (dk_at dksX19_done_1 13 rfl rfl)
theorem dX19_done_38 : decode cX19_done 38 = .ok (.aload_n 0, 1) := dk_42 (dk_at dksX19_done_1 16 rfl rfl)
theorem dX19_done_39 : decode cX19_done 39 = .ok (.getfield 13, 3) := dk_180 0 13 (dk_at dksX19_done_1 17 rfl rfl)
theorem dX19_done_42 : decode cX19_done 42 = .ok (.checkcast 29, 3) := dk_192 0 29 (dk_at dksX19_done_1 20 rfl rfl)
theorem dX19_done_45 : decode cX19_done 45 = .ok (.getfield 31, 3) := dk_180 0 31 (dk_at dksX19_done_2 0 rfl rfl)
theorem dX19_done_48 : decode cX19_done 48 = .ok (.istore_n 1, 1) := dk_60 (dk_at dksX19_done_2 3 rfl rfl)
theorem dX19_done_49 : decode cX19_done 49 = .ok (.iload_n 1, 1) := dk_27 (dk_at dksX19_done_2 4 rfl rfl)
theorem dX19_done_50 : decode cX19_done 50 = .ok (.ifCond .ge 7, 3) := dk_156 0 7 (dk_at dksX19_done_2 5 rfl rfl)
theorem dX19_done_53 : decode cX19_done 53 = .ok (.iconst 0, 1) := dk_3 (dk_at dksX19_done_2 8 rfl rfl)
theorem dX19_done_54 : decode cX19_done 54 = .ok (.goto 4, 3) := dk_167 0 4 (dk_at dksX19_done_2 9 rfl rfl)
theorem dX19_done_57 : decode cX19_done 57 = .ok (.iconst 1, 1) := dk_4 (dk_at dksX19_done_2 12 rfl rfl)
theorem dX19_done_58 : decode cX19_done 58 = .ok (.ireturn, 1) := dk_172 (dk_at dksX19_done_2 13 rfl rfl)
abbrev cX19_init : ByteArray := prog_23_method_1_code
def yX19_init : MethodName := ⟨RX19, "<init>", "(LBookPairs;LBookPairs$Plain;I)V"⟩
def dkwX19_init_0 : List UInt8 := [42, 43, 181, 0, 1, 42, 43, 183, 0, 7, 42, 44, 181, 0, 13, 42, 29, 181, 0, 17, 177]
abbrev dktX19_init_0 : List UInt8 := dkwX19_init_0 ++ []
theorem dksX19_init_0 : cX19_init.data.toList.drop 0 = dktX19_init_0 := by decide +kernel
theorem dX19_init_0 : decode cX19_init 0 = .ok (.aload_n 0, 1) := dk_42 (dk_at dksX19_init_0 0 rfl rfl)
theorem dX19_init_1 : decode cX19_init 1 = .ok (.aload_n 1, 1) := dk_43 (dk_at dksX19_init_0 1 rfl rfl)
theorem dX19_init_2 : decode cX19_init 2 = .ok (.putfield 1, 3) := dk_181 0 1 (dk_at dksX19_init_0 2 rfl rfl)
theorem dX19_init_5 : decode cX19_init 5 = .ok (.aload_n 0, 1) := dk_42 (dk_at dksX19_init_0 5 rfl rfl)
theorem dX19_init_6 : decode cX19_init 6 = .ok (.aload_n 1, 1) := dk_43 (dk_at dksX19_init_0 6 rfl rfl)
theorem dX19_init_7 : decode cX19_init 7 = .ok (.invokespecial 7, 3) := dk_183 0 7 (dk_at dksX19_init_0 7 rfl rfl)
theorem dX19_init_10 : decode cX19_init 10 = .ok (.aload_n 0, 1) := dk_42 (dk_at dksX19_init_0 10 rfl rfl)
theorem dX19_init_11 : decode cX19_init 11 = .ok (.aload_n 2, 1) := dk_44 (dk_at dksX19_init_0 11 rfl rfl)
theorem dX19_init_12 : decode cX19_init 12 = .ok (.putfield 13, 3) := dk_181 0 13 (dk_at dksX19_init_0 12 rfl rfl)
theorem dX19_init_15 : decode cX19_init 15 = .ok (.aload_n 0, 1) := dk_42 (dk_at dksX19_init_0 15 rfl rfl)
theorem dX19_init_16 : decode cX19_init 16 = .ok (.iload_n 3, 1) := dk_29 (dk_at dksX19_init_0 16 rfl rfl)
theorem dX19_init_17 : decode cX19_init 17 = .ok (.putfield 17, 3) := dk_181 0 17 (dk_at dksX19_init_0 17 rfl rfl)
theorem dX19_init_20 : decode cX19_init 20 = .ok (.return_, 1) := dk_177 (dk_at dksX19_init_0 20 rfl rfl)
theorem q106 : (Jvm.Cond.initialized "BookPairs$Taking") ∈ lw_all := lw_g (lw_at lw_m1 39 rfl) rfl
theorem q725 : (Jvm.Cond.selects "BookPairs$Taking" ({ cls := "java/lang/Object", name := "getClass", desc := "()Ljava/lang/Class;" } : Jvm.MethodName) ({ cls := "java/lang/Object", name := "getClass", desc := "()Ljava/lang/Class;" } : Jvm.MethodName)) ∈ lw_all := lw_g (lw_at lw_m3 178 rfl) rfl
theorem q781 : (Jvm.Cond.fieldLink "BookPairs$Taking" (21 : Nat) "BookPairs$Plain" "letters" "I") ∈ lw_all := lw_g (lw_at lw_m3 234 rfl) rfl
theorem q782 : (Jvm.Cond.fieldLink "BookPairs$Taking" (28 : Nat) "BookPairs$Longer" "letters" "I") ∈ lw_all := lw_g (lw_at lw_m3 235 rfl) rfl
theorem q784 : (Jvm.Cond.fieldLink "BookPairs$Taking" (31 : Nat) "BookPairs$Doubled" "letters" "I") ∈ lw_all := lw_g (lw_at lw_m3 237 rfl) rfl
theorem q1205 : (Jvm.Cond.selects "BookPairs$Taking" ({ cls := "BookPairs$Act", name := "done", desc := "()I" } : Jvm.MethodName) ({ cls := "BookPairs$Taking", name := "done", desc := "()I" } : Jvm.MethodName)) ∈ lw_all := lw_g (lw_at lw_m5 178 rfl) rfl
theorem q1206 : (Jvm.Cond.instanceMethod ({ cls := "BookPairs$Taking", name := "done", desc := "()I" } : Jvm.MethodName)) ∈ lw_all := lw_g (lw_at lw_m5 179 rfl) rfl
theorem q1207 : (Jvm.Cond.code ({ cls := "BookPairs$Taking", name := "done", desc := "()I" } : Jvm.MethodName) prog_23_method_2_code (2 : Nat) (Option.some Jvm.ClassFile.FieldType.int)) ∈ lw_all := lw_g (lw_at lw_m5 180 rfl) rfl
theorem q1208 : (Jvm.Cond.classLink "BookPairs$Taking" (26 : Nat) "BookPairs$Longer") ∈ lw_all := lw_g (lw_at lw_m5 181 rfl) rfl
theorem q1209 : (Jvm.Cond.classLink "BookPairs$Taking" (29 : Nat) "BookPairs$Doubled") ∈ lw_all := lw_g (lw_at lw_m5 182 rfl) rfl
theorem q1357 : (Jvm.Cond.instantiable "BookPairs$Taking" (4 : Nat)) ∈ lw_all := lw_g (lw_at lw_m6 90 rfl) rfl
theorem q1359 : (Jvm.Cond.instanceMethod ({ cls := "BookPairs$Taking", name := "<init>", desc := "(LBookPairs;LBookPairs$Plain;I)V" } : Jvm.MethodName)) ∈ lw_all := lw_g (lw_at lw_m6 92 rfl) rfl
theorem q1360 : (Jvm.Cond.code ({ cls := "BookPairs$Taking", name := "<init>", desc := "(LBookPairs;LBookPairs$Plain;I)V" } : Jvm.MethodName) prog_23_method_1_code (4 : Nat) (Option.none : Option Jvm.ClassFile.FieldType)) ∈ lw_all := lw_g (lw_at lw_m6 93 rfl) rfl
theorem q1361 : (Jvm.Cond.methodLinkNest "BookPairs$Taking" (7 : Nat) ({ cls := "BookPairs$Act", name := "<init>", desc := "(LBookPairs;)V" } : Jvm.MethodName) "BookPairs") ∈ lw_tbl := lw_at lw_m6 94 rfl
theorem q1362 : (Jvm.Cond.fieldLink "BookPairs$Taking" (13 : Nat) "BookPairs$Taking" "one" "LBookPairs$Plain;") ∈ lw_all := lw_g (lw_at lw_m6 95 rfl) rfl
theorem q1363 : (Jvm.Cond.fieldLink "BookPairs$Taking" (17 : Nat) "BookPairs$Taking" "kind" "I") ∈ lw_all := lw_g (lw_at lw_m6 96 rfl) rfl
theorem q1364 : (Jvm.Cond.fieldLink "BookPairs$Taking" (1 : Nat) "BookPairs$Taking" "this$0" "LBookPairs;") ∈ lw_all := lw_g (lw_at lw_m6 97 rfl) rfl
theorem q1365 : (Jvm.Cond.laysFinal "BookPairs$Taking" "BookPairs$Taking" "one" "LBookPairs$Plain;") ∈ lw_all := lw_g (lw_at lw_m6 98 rfl) rfl
theorem q1366 : (Jvm.Cond.soleField "BookPairs$Taking" "one") ∈ lw_all := lw_g (lw_at lw_m6 99 rfl) rfl
theorem q1367 : (Jvm.Cond.laysFinal "BookPairs$Taking" "BookPairs$Taking" "kind" "I") ∈ lw_all := lw_g (lw_at lw_m6 100 rfl) rfl
theorem q1368 : (Jvm.Cond.soleField "BookPairs$Taking" "kind") ∈ lw_all := lw_g (lw_at lw_m6 101 rfl) rfl
theorem q1369 : (Jvm.Cond.laysFinal "BookPairs$Taking" "BookPairs$Taking" "this$0" "LBookPairs;") ∈ lw_all := lw_g (lw_at lw_m6 102 rfl) rfl
theorem q1370 : (Jvm.Cond.soleField "BookPairs$Taking" "this$0") ∈ lw_all := lw_g (lw_at lw_m6 103 rfl) rfl
theorem q1371 : (Jvm.Cond.laysFinal "BookPairs$Taking" "BookPairs$Act" "this$0" "LBookPairs;") ∈ lw_all := lw_g (lw_at lw_m6 104 rfl) rfl
theorem q1372 : (Jvm.Cond.superclass "BookPairs$Taking" "BookPairs$Act") ∈ lw_all := lw_g (lw_at lw_m6 105 rfl) rfl
theorem q1374 : (Jvm.Cond.sameMethod "BookPairs$Taking" "BookPairs$Act" "tried" "()I") ∈ lw_all := lw_g (lw_at lw_m6 107 rfl) rfl
theorem q1375 : (Jvm.Cond.selects "BookPairs$Taking" ({ cls := "BookPairs$Taking", name := "tried", desc := "()I" } : Jvm.MethodName) ({ cls := "BookPairs$Act", name := "tried", desc := "()I" } : Jvm.MethodName)) ∈ lw_all := lw_g (lw_at lw_m6 108 rfl) rfl
theorem q1776 : (Jvm.Cond.castable "BookPairs$Taking" "java/lang/Object") ∈ lw_tbl := lw_at lw_m8 29 rfl
theorem in_X19 : ∀ w ∈ wsX190, w ∈ lw_all := lw_in wsX190 [1371, 1365, 1367, 1369] (by decide +kernel) (by decide +kernel)

/-! BookPairs$Doing -/
set_option maxRecDepth 100000
def RX2 : String := "BookPairs$Doing"
def TX2 : u_T := fun k => match k with
  | _ => ("BookPairs$Doing", "deed", "LBookPairs$Deed;", true)
def tyX2 : Nat → FieldType := fun k => match k with
  | _ => .object "BookPairs$Deed"
abbrev wsX20 : List Cond := u_ws RX2 TX2 1
theorem nmX2 : ∀ a, a < 1 → ∀ b, b < 1 → a ≠ b → (TX2 a).2.1 ≠ (TX2 b).2.1 := by decide +kernel
theorem tyX2_ok : ∀ k, k < 1 → parseFieldDescriptor (TX2 k).2.2.1 = some (tyX2 k) := by decide +kernel
abbrev cX2_init : ByteArray := prog_13_method_1_code
def yX2_init : MethodName := ⟨RX2, "<init>", "(LBookPairs$Deed;)V"⟩
def dkwX2_init_0 : List UInt8 := [42, 183, 0, 1, 42, 43, 181, 0, 7, 177]
abbrev dktX2_init_0 : List UInt8 := dkwX2_init_0 ++ []
theorem dksX2_init_0 : cX2_init.data.toList.drop 0 = dktX2_init_0 := by decide +kernel
theorem dX2_init_0 : decode cX2_init 0 = .ok (.aload_n 0, 1) := dk_42 (dk_at dksX2_init_0 0 rfl rfl)
theorem dX2_init_1 : decode cX2_init 1 = .ok (.invokespecial 1, 3) := dk_183 0 1 (dk_at dksX2_init_0 1 rfl rfl)
theorem dX2_init_4 : decode cX2_init 4 = .ok (.aload_n 0, 1) := dk_42 (dk_at dksX2_init_0 4 rfl rfl)
theorem dX2_init_5 : decode cX2_init 5 = .ok (.aload_n 1, 1) := dk_43 (dk_at dksX2_init_0 5 rfl rfl)
theorem dX2_init_6 : decode cX2_init 6 = .ok (.putfield 7, 3) := dk_181 0 7 (dk_at dksX2_init_0 6 rfl rfl)
theorem dX2_init_9 : decode cX2_init 9 = .ok (.return_, 1) := dk_177 (dk_at dksX2_init_0 9 rfl rfl)
theorem q76 : (Jvm.Cond.initialized "BookPairs$Doing") ∈ lw_all := lw_g (lw_at lw_m1 9 rfl) rfl
theorem q226 : (Jvm.Cond.instantiable "BookPairs$Doing" (1 : Nat)) ∈ lw_all := lw_g (lw_at lw_m1 159 rfl) rfl
theorem q256 : (Jvm.Cond.instanceMethod ({ cls := "BookPairs$Doing", name := "<init>", desc := "(LBookPairs$Deed;)V" } : Jvm.MethodName)) ∈ lw_all := lw_g (lw_at lw_m1 189 rfl) rfl
theorem q257 : (Jvm.Cond.code ({ cls := "BookPairs$Doing", name := "<init>", desc := "(LBookPairs$Deed;)V" } : Jvm.MethodName) prog_13_method_1_code (2 : Nat) (Option.none : Option Jvm.ClassFile.FieldType)) ∈ lw_all := lw_g (lw_at lw_m1 190 rfl) rfl
theorem q258 : (Jvm.Cond.methodLink "BookPairs$Doing" (1 : Nat) ({ cls := "java/lang/Object", name := "<init>", desc := "()V" } : Jvm.MethodName)) ∈ lw_all := lw_g (lw_at lw_m1 191 rfl) rfl
theorem q259 : (Jvm.Cond.fieldLink "BookPairs$Doing" (7 : Nat) "BookPairs$Doing" "deed" "LBookPairs$Deed;") ∈ lw_all := lw_g (lw_at lw_m1 192 rfl) rfl
theorem q261 : (Jvm.Cond.laysFinal "BookPairs$Doing" "BookPairs$Doing" "deed" "LBookPairs$Deed;") ∈ lw_all := lw_g (lw_at lw_m1 194 rfl) rfl
theorem q262 : (Jvm.Cond.soleField "BookPairs$Doing" "deed") ∈ lw_all := lw_g (lw_at lw_m1 195 rfl) rfl
theorem q263 : (Jvm.Cond.superclass "BookPairs$Doing" "java/lang/Object") ∈ lw_all := lw_g (lw_at lw_m1 196 rfl) rfl
theorem q717 : (Jvm.Cond.selects "BookPairs$Doing" ({ cls := "java/lang/Object", name := "getClass", desc := "()Ljava/lang/Class;" } : Jvm.MethodName) ({ cls := "java/lang/Object", name := "getClass", desc := "()Ljava/lang/Class;" } : Jvm.MethodName)) ∈ lw_all := lw_g (lw_at lw_m3 170 rfl) rfl
theorem q1753 : (Jvm.Cond.castable "BookPairs$Doing" "java/lang/Object") ∈ lw_tbl := lw_at lw_m8 6 rfl
theorem in_X2 : ∀ w ∈ wsX20, w ∈ lw_all := lw_in wsX20 [261] (by decide +kernel) (by decide +kernel)

/-! BookPairs$Aloud -/
set_option maxRecDepth 100000
def RX20 : String := "BookPairs$Aloud"
abbrev cX20_readAloud : ByteArray := prog_6_method_3_code
def yX20_readAloud : MethodName := ⟨RX20, "readAloud", "()I"⟩
def dkwX20_readAloud_0 : List UInt8 := [42, 7, 185, 0, 1, 2, 0, 42, 185, 0, 7, 1, 0, 96, 172]
abbrev dktX20_readAloud_0 : List UInt8 := dkwX20_readAloud_0 ++ []
theorem dksX20_readAloud_0 : cX20_readAloud.data.toList.drop 0 = dktX20_readAloud_0 := by decide +kernel
theorem dX20_readAloud_0 : decode cX20_readAloud 0 = .ok (.aload_n 0, 1) := dk_42 (dk_at dksX20_readAloud_0 0 rfl rfl)
theorem dX20_readAloud_1 : decode cX20_readAloud 1 = .ok (.iconst 4, 1) := dk_7 (dk_at dksX20_readAloud_0 1 rfl rfl)
theorem dX20_readAloud_2 : decode cX20_readAloud 2 = .ok (.invokeinterface 1 2, 5) := by decide +kernel
theorem dX20_readAloud_7 : decode cX20_readAloud 7 = .ok (.aload_n 0, 1) := dk_42 (dk_at dksX20_readAloud_0 7 rfl rfl)
theorem dX20_readAloud_8 : decode cX20_readAloud 8 = .ok (.invokeinterface 7 1, 5) := by decide +kernel
theorem dX20_readAloud_13 : decode cX20_readAloud 13 = .ok (.iadd, 1) := dk_96 (dk_at dksX20_readAloud_0 13 rfl rfl)
theorem dX20_readAloud_14 : decode cX20_readAloud 14 = .ok (.ireturn, 1) := dk_172 (dk_at dksX20_readAloud_0 14 rfl rfl)
theorem q1313 : (Jvm.Cond.interfaceMethod "BookPairs$Aloud" "BookPairs$Aloud" "readAloud" "()I") ∈ lw_tbl := lw_at lw_m6 46 rfl
theorem q1314 : (Jvm.Cond.declares ({ cls := "BookPairs$Aloud", name := "readAloud", desc := "()I" } : Jvm.MethodName)) ∈ lw_tbl := lw_at lw_m6 47 rfl
theorem q1321 : (Jvm.Cond.instanceMethod ({ cls := "BookPairs$Aloud", name := "readAloud", desc := "()I" } : Jvm.MethodName)) ∈ lw_all := lw_g (lw_at lw_m6 54 rfl) rfl
theorem q1322 : (Jvm.Cond.code ({ cls := "BookPairs$Aloud", name := "readAloud", desc := "()I" } : Jvm.MethodName) prog_6_method_3_code (1 : Nat) (Option.some Jvm.ClassFile.FieldType.int)) ∈ lw_all := lw_g (lw_at lw_m6 55 rfl) rfl
theorem q1323 : (Jvm.Cond.interfaceEntry "BookPairs$Aloud" (1 : Nat)) ∈ lw_tbl := lw_at lw_m6 56 rfl
theorem q1324 : (Jvm.Cond.methodLink "BookPairs$Aloud" (1 : Nat) ({ cls := "BookPairs$Aloud", name := "tracedBy", desc := "(I)I" } : Jvm.MethodName)) ∈ lw_all := lw_g (lw_at lw_m6 57 rfl) rfl
theorem q1325 : (Jvm.Cond.interfaceMethod "BookPairs$Aloud" "BookPairs$Aloud" "tracedBy" "(I)I") ∈ lw_tbl := lw_at lw_m6 58 rfl
theorem q1326 : (Jvm.Cond.declares ({ cls := "BookPairs$Aloud", name := "tracedBy", desc := "(I)I" } : Jvm.MethodName)) ∈ lw_tbl := lw_at lw_m6 59 rfl
theorem q1336 : (Jvm.Cond.interfaceEntry "BookPairs$Aloud" (7 : Nat)) ∈ lw_tbl := lw_at lw_m6 69 rfl
theorem q1337 : (Jvm.Cond.methodLink "BookPairs$Aloud" (7 : Nat) ({ cls := "BookPairs$Aloud", name := "anchor", desc := "()I" } : Jvm.MethodName)) ∈ lw_all := lw_g (lw_at lw_m6 70 rfl) rfl
theorem q1338 : (Jvm.Cond.interfaceMethod "BookPairs$Aloud" "BookPairs$Aloud" "anchor" "()I") ∈ lw_tbl := lw_at lw_m6 71 rfl
theorem q1339 : (Jvm.Cond.declares ({ cls := "BookPairs$Aloud", name := "anchor", desc := "()I" } : Jvm.MethodName)) ∈ lw_tbl := lw_at lw_m6 72 rfl
theorem q1350 : (Jvm.Cond.publicMethod ({ cls := "BookPairs$Aloud", name := "readAloud", desc := "()I" } : Jvm.MethodName)) ∈ lw_tbl := lw_at lw_m6 83 rfl
theorem q1747 : (Jvm.Cond.initialized "BookPairs$Aloud") ∈ lw_all := lw_g (lw_at lw_m8 0 rfl) rfl

/-! BookPairs$Act -/
set_option maxRecDepth 100000
def RX4 : String := "BookPairs$Act"
abbrev cX4_init : ByteArray := prog_5_method_1_code
def yX4_init : MethodName := ⟨RX4, "<init>", "(LBookPairs;)V"⟩
def dkwX4_init_0 : List UInt8 := [42, 43, 181, 0, 3, 42, 183, 0, 9, 177]
abbrev dktX4_init_0 : List UInt8 := dkwX4_init_0 ++ []
theorem dksX4_init_0 : cX4_init.data.toList.drop 0 = dktX4_init_0 := by decide +kernel
theorem dX4_init_0 : decode cX4_init 0 = .ok (.aload_n 0, 1) := dk_42 (dk_at dksX4_init_0 0 rfl rfl)
theorem dX4_init_1 : decode cX4_init 1 = .ok (.aload_n 1, 1) := dk_43 (dk_at dksX4_init_0 1 rfl rfl)
theorem dX4_init_2 : decode cX4_init 2 = .ok (.putfield 3, 3) := dk_181 0 3 (dk_at dksX4_init_0 2 rfl rfl)
theorem dX4_init_5 : decode cX4_init 5 = .ok (.aload_n 0, 1) := dk_42 (dk_at dksX4_init_0 5 rfl rfl)
theorem dX4_init_6 : decode cX4_init 6 = .ok (.invokespecial 9, 3) := dk_183 0 9 (dk_at dksX4_init_0 6 rfl rfl)
theorem dX4_init_9 : decode cX4_init 9 = .ok (.return_, 1) := dk_177 (dk_at dksX4_init_0 9 rfl rfl)
abbrev cX4_tried : ByteArray := prog_5_method_3_code
def yX4_tried : MethodName := ⟨RX4, "tried", "()I"⟩
def dkwX4_tried_2 : List UInt8 := [6, 182, 0, 25, 172]
abbrev dktX4_tried_2 : List UInt8 := dkwX4_tried_2 ++ []
def dkwX4_tried_1 : List UInt8 := [42, 180, 0, 3, 5, 182, 0, 25, 172, 76, 42, 180, 0, 3, 7, 182, 0, 25, 172, 76, 42, 180, 0, 3]
abbrev dktX4_tried_1 : List UInt8 := dkwX4_tried_1 ++ dktX4_tried_2
def dkwX4_tried_0 : List UInt8 := [42, 180, 0, 3, 3, 181, 0, 15, 42, 182, 0, 19, 172, 76, 42, 180, 0, 3, 4, 182, 0, 25, 172, 76]
abbrev dktX4_tried_0 : List UInt8 := dkwX4_tried_0 ++ dktX4_tried_1
theorem dksX4_tried_0 : cX4_tried.data.toList.drop 0 = dktX4_tried_0 := by decide +kernel
theorem dksX4_tried_1 : cX4_tried.data.toList.drop 24 = dktX4_tried_1 := dk_seg dksX4_tried_0 24 rfl rfl
theorem dksX4_tried_2 : cX4_tried.data.toList.drop 48 = dktX4_tried_2 := dk_seg dksX4_tried_1 24 rfl rfl
theorem dX4_tried_0 : decode cX4_tried 0 = .ok (.aload_n 0, 1) := dk_42 (dk_at dksX4_tried_0 0 rfl rfl)
theorem dX4_tried_1 : decode cX4_tried 1 = .ok (.getfield 3, 3) := dk_180 0 3 (dk_at dksX4_tried_0 1 rfl rfl)
theorem dX4_tried_4 : decode cX4_tried 4 = .ok (.iconst 0, 1) := dk_3 (dk_at dksX4_tried_0 4 rfl rfl)
theorem dX4_tried_5 : decode cX4_tried 5 = .ok (.putfield 15, 3) := dk_181 0 15 (dk_at dksX4_tried_0 5 rfl rfl)
theorem dX4_tried_8 : decode cX4_tried 8 = .ok (.aload_n 0, 1) := dk_42 (dk_at dksX4_tried_0 8 rfl rfl)
theorem dX4_tried_9 : decode cX4_tried 9 = .ok (.invokevirtual 19, 3) := dk_182 0 19 (dk_at dksX4_tried_0 9 rfl rfl)
theorem dX4_tried_12 : decode cX4_tried 12 = .ok (.ireturn, 1) := dk_172 (dk_at dksX4_tried_0 12 rfl rfl)
theorem dX4_tried_13 : decode cX4_tried 13 = .ok (.astore_n 1, 1) := dk_76 (dk_at dksX4_tried_0 13 rfl rfl)
theorem dX4_tried_14 : decode cX4_tried 14 = .ok (.aload_n 0, 1) := dk_42 (dk_at dksX4_tried_0 14 rfl rfl)
theorem dX4_tried_15 : decode cX4_tried 15 = .ok (.getfield 3, 3) := dk_180 0 3 (dk_at dksX4_tried_0 15 rfl rfl)
theorem dX4_tried_18 : decode cX4_tried 18 = .ok (.iconst 1, 1) := dk_4 (dk_at dksX4_tried_0 18 rfl rfl)
theorem dX4_tried_19 : decode cX4_tried 19 = .ok (.invokevirtual 25, 3) := dk_182 0 25 (dk_at dksX4_tried_0 19 rfl rfl)
theorem dX4_tried_22 : decode cX4_tried 22 = .ok (.ireturn, 1) := dk_172 (dk_at dksX4_tried_0 22 rfl rfl)
theorem dX4_tried_23 : decode cX4_tried 23 = .ok (.astore_n 1, 1) := dk_76 (dk_at dksX4_tried_0 23 rfl rfl)
theorem dX4_tried_24 : decode cX4_tried 24 = .ok (.aload_n 0, 1) := dk_42 (dk_at dksX4_tried_1 0 rfl rfl)
theorem dX4_tried_25 : decode cX4_tried 25 = .ok (.getfield 3, 3) := dk_180 0 3 (dk_at dksX4_tried_1 1 rfl rfl)
theorem dX4_tried_28 : decode cX4_tried 28 = .ok (.iconst 2, 1) := dk_5 (dk_at dksX4_tried_1 4 rfl rfl)
theorem dX4_tried_29 : decode cX4_tried 29 = .ok (.invokevirtual 25, 3) := dk_182 0 25 (dk_at dksX4_tried_1 5 rfl rfl)
theorem dX4_tried_32 : decode cX4_tried 32 = .ok (.ireturn, 1) := dk_172 (dk_at dksX4_tried_1 8 rfl rfl)
theorem dX4_tried_33 : decode cX4_tried 33 = .ok (.astore_n 1, 1) := dk_76 (dk_at dksX4_tried_1 9 rfl rfl)
theorem dX4_tried_34 : decode cX4_tried 34 = .ok (.aload_n 0, 1) := dk_42 (dk_at dksX4_tried_1 10 rfl rfl)
theorem dX4_tried_35 : decode cX4_tried 35 = .ok (.getfield 3, 3) := dk_180 0 3 (dk_at dksX4_tried_1 11 rfl rfl)
theorem dX4_tried_38 : decode cX4_tried 38 = .ok (.iconst 4, 1) := dk_7 (dk_at dksX4_tried_1 14 rfl rfl)
theorem dX4_tried_39 : decode cX4_tried 39 = .ok (.invokevirtual 25, 3) := dk_182 0 25 (dk_at dksX4_tried_1 15 rfl rfl)
theorem dX4_tried_42 : decode cX4_tried 42 = .ok (.ireturn, 1) := dk_172 (dk_at dksX4_tried_1 18 rfl rfl)
theorem dX4_tried_43 : decode cX4_tried 43 = .ok (.astore_n 1, 1) := dk_76 (dk_at dksX4_tried_1 19 rfl rfl)
theorem dX4_tried_44 : decode cX4_tried 44 = .ok (.aload_n 0, 1) := dk_42 (dk_at dksX4_tried_1 20 rfl rfl)
theorem dX4_tried_45 : decode cX4_tried 45 = .ok (.getfield 3, 3) := dk_180 0 3 (dk_at dksX4_tried_1 21 rfl rfl)
theorem dX4_tried_48 : decode cX4_tried 48 = .ok (.iconst 3, 1) := dk_6 (dk_at dksX4_tried_2 0 rfl rfl)
theorem dX4_tried_49 : decode cX4_tried 49 = .ok (.invokevirtual 25, 3) := dk_182 0 25 (dk_at dksX4_tried_2 1 rfl rfl)
theorem dX4_tried_52 : decode cX4_tried 52 = .ok (.ireturn, 1) := dk_172 (dk_at dksX4_tried_2 4 rfl rfl)
theorem q78 : (Jvm.Cond.initialized "BookPairs$Act") ∈ lw_all := lw_g (lw_at lw_m1 11 rfl) rfl
theorem q313 : (Jvm.Cond.fieldLinkNest "BookPairs$Act" (15 : Nat) "BookPairs" "fault" "I" "BookPairs") ∈ lw_tbl := lw_at lw_m2 6 rfl
theorem q1113 : (Jvm.Cond.instanceMethod ({ cls := "BookPairs$Act", name := "<init>", desc := "(LBookPairs;)V" } : Jvm.MethodName)) ∈ lw_all := lw_g (lw_at lw_m5 86 rfl) rfl
theorem q1114 : (Jvm.Cond.code ({ cls := "BookPairs$Act", name := "<init>", desc := "(LBookPairs;)V" } : Jvm.MethodName) prog_5_method_1_code (2 : Nat) (Option.none : Option Jvm.ClassFile.FieldType)) ∈ lw_all := lw_g (lw_at lw_m5 87 rfl) rfl
theorem q1115 : (Jvm.Cond.methodLink "BookPairs$Act" (9 : Nat) ({ cls := "java/lang/Object", name := "<init>", desc := "()V" } : Jvm.MethodName)) ∈ lw_all := lw_g (lw_at lw_m5 88 rfl) rfl
theorem q1124 : (Jvm.Cond.fieldLink "BookPairs$Act" (3 : Nat) "BookPairs$Act" "this$0" "LBookPairs;") ∈ lw_all := lw_g (lw_at lw_m5 97 rfl) rfl
theorem q1138 : (Jvm.Cond.soleField "BookPairs$Act" "this$0") ∈ lw_all := lw_g (lw_at lw_m5 111 rfl) rfl
theorem q1146 : (Jvm.Cond.declares ({ cls := "BookPairs$Act", name := "tried", desc := "()I" } : Jvm.MethodName)) ∈ lw_tbl := lw_at lw_m5 119 rfl
theorem q1148 : (Jvm.Cond.instanceMethod ({ cls := "BookPairs$Act", name := "tried", desc := "()I" } : Jvm.MethodName)) ∈ lw_all := lw_g (lw_at lw_m5 121 rfl) rfl
theorem q1149 : (Jvm.Cond.codeWith ({ cls := "BookPairs$Act", name := "tried", desc := "()I" } : Jvm.MethodName) prog_5_method_3_code (2 : Nat) (Option.some Jvm.ClassFile.FieldType.int) [((8 : Nat), (12 : Nat), (13 : Nat), (23 : Nat)), ((8 : Nat), (12 : Nat), (23 : Nat), (29 : Nat)), ((8 : Nat), (12 : Nat), (23 : Nat), (31 : Nat)), ((8 : Nat), (12 : Nat), (33 : Nat), (33 : Nat)), ((8 : Nat), (12 : Nat), (43 : Nat), (35 : Nat))]) ∈ lw_all := lw_g (lw_at lw_m5 122 rfl) rfl
theorem q1150 : (Jvm.Cond.classLink "BookPairs$Act" (23 : Nat) "java/lang/NullPointerException") ∈ lw_all := lw_g (lw_at lw_m5 123 rfl) rfl
theorem q1151 : (Jvm.Cond.classLink "BookPairs$Act" (29 : Nat) "java/lang/ClassCastException") ∈ lw_all := lw_g (lw_at lw_m5 124 rfl) rfl
theorem q1152 : (Jvm.Cond.classLink "BookPairs$Act" (31 : Nat) "java/lang/ArrayStoreException") ∈ lw_all := lw_g (lw_at lw_m5 125 rfl) rfl
theorem q1166 : (Jvm.Cond.classLink "BookPairs$Act" (33 : Nat) "java/lang/NegativeArraySizeException") ∈ lw_all := lw_g (lw_at lw_m5 139 rfl) rfl
theorem q1167 : (Jvm.Cond.classLink "BookPairs$Act" (35 : Nat) "java/lang/IndexOutOfBoundsException") ∈ lw_all := lw_g (lw_at lw_m5 140 rfl) rfl
theorem q1168 : (Jvm.Cond.methodLink "BookPairs$Act" (19 : Nat) ({ cls := "BookPairs$Act", name := "done", desc := "()I" } : Jvm.MethodName)) ∈ lw_all := lw_g (lw_at lw_m5 141 rfl) rfl
theorem q1169 : (Jvm.Cond.declares ({ cls := "BookPairs$Act", name := "done", desc := "()I" } : Jvm.MethodName)) ∈ lw_tbl := lw_at lw_m5 142 rfl
theorem q1170 : (Jvm.Cond.sameMethod "BookPairs$Act" "BookPairs$Act" "done" "()I") ∈ lw_all := lw_g (lw_at lw_m5 143 rfl) rfl
theorem q1210 : (Jvm.Cond.methodLinkNest "BookPairs$Act" (25 : Nat) ({ cls := "BookPairs", name := "fails", desc := "(I)I" } : Jvm.MethodName) "BookPairs") ∈ lw_tbl := lw_at lw_m5 183 rfl

/-! BookPairs$Looking -/
set_option maxRecDepth 100000
def RX5 : String := "BookPairs$Looking"
def TX5 : u_T := fun k => match k with
  | 0 => ("BookPairs$Act", "this$0", "LBookPairs;", true)
  | 1 => ("BookPairs$Looking", "sheet", "I", true)
  | 2 => ("BookPairs$Looking", "lane", "I", true)
  | 3 => ("BookPairs$Looking", "i", "I", true)
  | 4 => ("BookPairs$Looking", "n", "I", true)
  | 5 => ("BookPairs$Looking", "reader", "LBookPairs$Reader;", true)
  | _ => ("BookPairs$Looking", "this$0", "LBookPairs;", true)
def tyX5 : Nat → FieldType := fun k => match k with
  | 0 => .object "BookPairs"
  | 1 => .int
  | 2 => .int
  | 3 => .int
  | 4 => .int
  | 5 => .object "BookPairs$Reader"
  | _ => .object "BookPairs"
abbrev wsX50 : List Cond := u_ws RX5 TX5 7
-- two fields of one name: no nmX5
theorem tyX5_ok : ∀ k, k < 7 → parseFieldDescriptor (TX5 k).2.2.1 = some (tyX5 k) := by decide +kernel
abbrev cX5_init : ByteArray := prog_16_method_1_code
def yX5_init : MethodName := ⟨RX5, "<init>", "(LBookPairs;IIIILBookPairs$Reader;)V"⟩
def dkwX5_init_1 : List UInt8 := [181, 0, 20, 42, 21, 5, 181, 0, 23, 42, 25, 6, 181, 0, 26, 177]
abbrev dktX5_init_1 : List UInt8 := dkwX5_init_1 ++ []
def dkwX5_init_0 : List UInt8 := [42, 43, 181, 0, 1, 42, 43, 183, 0, 7, 42, 28, 181, 0, 13, 42, 29, 181, 0, 17, 42, 21, 4]
abbrev dktX5_init_0 : List UInt8 := dkwX5_init_0 ++ dktX5_init_1
theorem dksX5_init_0 : cX5_init.data.toList.drop 0 = dktX5_init_0 := by decide +kernel
theorem dksX5_init_1 : cX5_init.data.toList.drop 23 = dktX5_init_1 := dk_seg dksX5_init_0 23 rfl rfl
theorem dX5_init_0 : decode cX5_init 0 = .ok (.aload_n 0, 1) := dk_42 (dk_at dksX5_init_0 0 rfl rfl)
theorem dX5_init_1 : decode cX5_init 1 = .ok (.aload_n 1, 1) := dk_43 (dk_at dksX5_init_0 1 rfl rfl)
theorem dX5_init_2 : decode cX5_init 2 = .ok (.putfield 1, 3) := dk_181 0 1 (dk_at dksX5_init_0 2 rfl rfl)
theorem dX5_init_5 : decode cX5_init 5 = .ok (.aload_n 0, 1) := dk_42 (dk_at dksX5_init_0 5 rfl rfl)
theorem dX5_init_6 : decode cX5_init 6 = .ok (.aload_n 1, 1) := dk_43 (dk_at dksX5_init_0 6 rfl rfl)
theorem dX5_init_7 : decode cX5_init 7 = .ok (.invokespecial 7, 3) := dk_183 0 7 (dk_at dksX5_init_0 7 rfl rfl)
theorem dX5_init_10 : decode cX5_init 10 = .ok (.aload_n 0, 1) := dk_42 (dk_at dksX5_init_0 10 rfl rfl)
theorem dX5_init_11 : decode cX5_init 11 = .ok (.iload_n 2, 1) := dk_28 (dk_at dksX5_init_0 11 rfl rfl)
theorem dX5_init_12 : decode cX5_init 12 = .ok (.putfield 13, 3) := dk_181 0 13 (dk_at dksX5_init_0 12 rfl rfl)
theorem dX5_init_15 : decode cX5_init 15 = .ok (.aload_n 0, 1) := dk_42 (dk_at dksX5_init_0 15 rfl rfl)
theorem dX5_init_16 : decode cX5_init 16 = .ok (.iload_n 3, 1) := dk_29 (dk_at dksX5_init_0 16 rfl rfl)
theorem dX5_init_17 : decode cX5_init 17 = .ok (.putfield 17, 3) := dk_181 0 17 (dk_at dksX5_init_0 17 rfl rfl)
theorem dX5_init_20 : decode cX5_init 20 = .ok (.aload_n 0, 1) := dk_42 (dk_at dksX5_init_0 20 rfl rfl)
theorem dX5_init_21 : decode cX5_init 21 = .ok (.iload 4, 2) := dk_21 4 (dk_at dksX5_init_0 21 rfl rfl)
theorem dX5_init_23 : decode cX5_init 23 = .ok (.putfield 20, 3) := dk_181 0 20 (dk_at dksX5_init_1 0 rfl rfl)
theorem dX5_init_26 : decode cX5_init 26 = .ok (.aload_n 0, 1) := dk_42 (dk_at dksX5_init_1 3 rfl rfl)
theorem dX5_init_27 : decode cX5_init 27 = .ok (.iload 5, 2) := dk_21 5 (dk_at dksX5_init_1 4 rfl rfl)
theorem dX5_init_29 : decode cX5_init 29 = .ok (.putfield 23, 3) := dk_181 0 23 (dk_at dksX5_init_1 6 rfl rfl)
theorem dX5_init_32 : decode cX5_init 32 = .ok (.aload_n 0, 1) := dk_42 (dk_at dksX5_init_1 9 rfl rfl)
theorem dX5_init_33 : decode cX5_init 33 = .ok (.aload 6, 2) := dk_25 6 (dk_at dksX5_init_1 10 rfl rfl)
theorem dX5_init_35 : decode cX5_init 35 = .ok (.putfield 26, 3) := dk_181 0 26 (dk_at dksX5_init_1 12 rfl rfl)
theorem dX5_init_38 : decode cX5_init 38 = .ok (.return_, 1) := dk_177 (dk_at dksX5_init_1 15 rfl rfl)
abbrev cX5_done : ByteArray := prog_16_method_2_code
def yX5_done : MethodName := ⟨RX5, "done", "()I"⟩
def dkwX5_done_1 : List UInt8 := [180, 0, 23, 184, 0, 36, 185, 0, 40, 2, 0, 172]
abbrev dktX5_done_1 : List UInt8 := dkwX5_done_1 ++ []
def dkwX5_done_0 : List UInt8 := [42, 180, 0, 26, 42, 180, 0, 1, 42, 180, 0, 13, 182, 0, 30, 42, 180, 0, 17, 42, 180, 0, 20, 42]
abbrev dktX5_done_0 : List UInt8 := dkwX5_done_0 ++ dktX5_done_1
theorem dksX5_done_0 : cX5_done.data.toList.drop 0 = dktX5_done_0 := by decide +kernel
theorem dksX5_done_1 : cX5_done.data.toList.drop 24 = dktX5_done_1 := dk_seg dksX5_done_0 24 rfl rfl
theorem dX5_done_0 : decode cX5_done 0 = .ok (.aload_n 0, 1) := dk_42 (dk_at dksX5_done_0 0 rfl rfl)
theorem dX5_done_1 : decode cX5_done 1 = .ok (.getfield 26, 3) := dk_180 0 26 (dk_at dksX5_done_0 1 rfl rfl)
theorem dX5_done_4 : decode cX5_done 4 = .ok (.aload_n 0, 1) := dk_42 (dk_at dksX5_done_0 4 rfl rfl)
theorem dX5_done_5 : decode cX5_done 5 = .ok (.getfield 1, 3) := dk_180 0 1 (dk_at dksX5_done_0 5 rfl rfl)
theorem dX5_done_8 : decode cX5_done 8 = .ok (.aload_n 0, 1) := dk_42 (dk_at dksX5_done_0 8 rfl rfl)
theorem dX5_done_9 : decode cX5_done 9 = .ok (.getfield 13, 3) := dk_180 0 13 (dk_at dksX5_done_0 9 rfl rfl)
theorem dX5_done_12 : decode cX5_done 12 = .ok (.invokevirtual 30, 3) := dk_182 0 30 (dk_at dksX5_done_0 12 rfl rfl)
theorem dX5_done_15 : decode cX5_done 15 = .ok (.aload_n 0, 1) := dk_42 (dk_at dksX5_done_0 15 rfl rfl)
theorem dX5_done_16 : decode cX5_done 16 = .ok (.getfield 17, 3) := dk_180 0 17 (dk_at dksX5_done_0 16 rfl rfl)
theorem dX5_done_19 : decode cX5_done 19 = .ok (.aload_n 0, 1) := dk_42 (dk_at dksX5_done_0 19 rfl rfl)
theorem dX5_done_20 : decode cX5_done 20 = .ok (.getfield 20, 3) := dk_180 0 20 (dk_at dksX5_done_0 20 rfl rfl)
theorem dX5_done_23 : decode cX5_done 23 = .ok (.aload_n 0, 1) := dk_42 (dk_at dksX5_done_0 23 rfl rfl)
theorem dX5_done_24 : decode cX5_done 24 = .ok (.getfield 23, 3) := dk_180 0 23 (dk_at dksX5_done_1 0 rfl rfl)
theorem dX5_done_27 : decode cX5_done 27 = .ok (.invokestatic 36, 3) := dk_184 0 36 (dk_at dksX5_done_1 3 rfl rfl)
theorem dX5_done_30 : decode cX5_done 30 = .ok (.invokeinterface 40 2, 5) := by decide +kernel
theorem dX5_done_35 : decode cX5_done 35 = .ok (.ireturn, 1) := dk_172 (dk_at dksX5_done_1 11 rfl rfl)
theorem q79 : (Jvm.Cond.initialized "BookPairs$Looking") ∈ lw_all := lw_g (lw_at lw_m1 12 rfl) rfl
theorem q720 : (Jvm.Cond.selects "BookPairs$Looking" ({ cls := "java/lang/Object", name := "getClass", desc := "()Ljava/lang/Class;" } : Jvm.MethodName) ({ cls := "java/lang/Object", name := "getClass", desc := "()Ljava/lang/Class;" } : Jvm.MethodName)) ∈ lw_all := lw_g (lw_at lw_m3 173 rfl) rfl
theorem q1054 : (Jvm.Cond.instantiable "BookPairs$Looking" (7 : Nat)) ∈ lw_all := lw_g (lw_at lw_m5 27 rfl) rfl
theorem q1110 : (Jvm.Cond.instanceMethod ({ cls := "BookPairs$Looking", name := "<init>", desc := "(LBookPairs;IIIILBookPairs$Reader;)V" } : Jvm.MethodName)) ∈ lw_all := lw_g (lw_at lw_m5 83 rfl) rfl
theorem q1111 : (Jvm.Cond.code ({ cls := "BookPairs$Looking", name := "<init>", desc := "(LBookPairs;IIIILBookPairs$Reader;)V" } : Jvm.MethodName) prog_16_method_1_code (7 : Nat) (Option.none : Option Jvm.ClassFile.FieldType)) ∈ lw_all := lw_g (lw_at lw_m5 84 rfl) rfl
theorem q1112 : (Jvm.Cond.methodLinkNest "BookPairs$Looking" (7 : Nat) ({ cls := "BookPairs$Act", name := "<init>", desc := "(LBookPairs;)V" } : Jvm.MethodName) "BookPairs") ∈ lw_tbl := lw_at lw_m5 85 rfl
theorem q1116 : (Jvm.Cond.fieldLink "BookPairs$Looking" (13 : Nat) "BookPairs$Looking" "sheet" "I") ∈ lw_all := lw_g (lw_at lw_m5 89 rfl) rfl
theorem q1118 : (Jvm.Cond.fieldLink "BookPairs$Looking" (17 : Nat) "BookPairs$Looking" "lane" "I") ∈ lw_all := lw_g (lw_at lw_m5 91 rfl) rfl
theorem q1120 : (Jvm.Cond.fieldLink "BookPairs$Looking" (20 : Nat) "BookPairs$Looking" "i" "I") ∈ lw_all := lw_g (lw_at lw_m5 93 rfl) rfl
theorem q1121 : (Jvm.Cond.fieldLink "BookPairs$Looking" (23 : Nat) "BookPairs$Looking" "n" "I") ∈ lw_all := lw_g (lw_at lw_m5 94 rfl) rfl
theorem q1122 : (Jvm.Cond.fieldLink "BookPairs$Looking" (26 : Nat) "BookPairs$Looking" "reader" "LBookPairs$Reader;") ∈ lw_all := lw_g (lw_at lw_m5 95 rfl) rfl
theorem q1123 : (Jvm.Cond.fieldLink "BookPairs$Looking" (1 : Nat) "BookPairs$Looking" "this$0" "LBookPairs;") ∈ lw_all := lw_g (lw_at lw_m5 96 rfl) rfl
theorem q1125 : (Jvm.Cond.laysFinal "BookPairs$Looking" "BookPairs$Looking" "sheet" "I") ∈ lw_all := lw_g (lw_at lw_m5 98 rfl) rfl
theorem q1126 : (Jvm.Cond.soleField "BookPairs$Looking" "sheet") ∈ lw_all := lw_g (lw_at lw_m5 99 rfl) rfl
theorem q1127 : (Jvm.Cond.laysFinal "BookPairs$Looking" "BookPairs$Looking" "lane" "I") ∈ lw_all := lw_g (lw_at lw_m5 100 rfl) rfl
theorem q1128 : (Jvm.Cond.soleField "BookPairs$Looking" "lane") ∈ lw_all := lw_g (lw_at lw_m5 101 rfl) rfl
theorem q1129 : (Jvm.Cond.laysFinal "BookPairs$Looking" "BookPairs$Looking" "i" "I") ∈ lw_all := lw_g (lw_at lw_m5 102 rfl) rfl
theorem q1130 : (Jvm.Cond.soleField "BookPairs$Looking" "i") ∈ lw_all := lw_g (lw_at lw_m5 103 rfl) rfl
theorem q1131 : (Jvm.Cond.laysFinal "BookPairs$Looking" "BookPairs$Looking" "n" "I") ∈ lw_all := lw_g (lw_at lw_m5 104 rfl) rfl
theorem q1132 : (Jvm.Cond.soleField "BookPairs$Looking" "n") ∈ lw_all := lw_g (lw_at lw_m5 105 rfl) rfl
theorem q1133 : (Jvm.Cond.laysFinal "BookPairs$Looking" "BookPairs$Looking" "reader" "LBookPairs$Reader;") ∈ lw_all := lw_g (lw_at lw_m5 106 rfl) rfl
theorem q1134 : (Jvm.Cond.soleField "BookPairs$Looking" "reader") ∈ lw_all := lw_g (lw_at lw_m5 107 rfl) rfl
theorem q1135 : (Jvm.Cond.laysFinal "BookPairs$Looking" "BookPairs$Looking" "this$0" "LBookPairs;") ∈ lw_all := lw_g (lw_at lw_m5 108 rfl) rfl
theorem q1136 : (Jvm.Cond.soleField "BookPairs$Looking" "this$0") ∈ lw_all := lw_g (lw_at lw_m5 109 rfl) rfl
theorem q1137 : (Jvm.Cond.laysFinal "BookPairs$Looking" "BookPairs$Act" "this$0" "LBookPairs;") ∈ lw_all := lw_g (lw_at lw_m5 110 rfl) rfl
theorem q1139 : (Jvm.Cond.superclass "BookPairs$Looking" "BookPairs$Act") ∈ lw_all := lw_g (lw_at lw_m5 112 rfl) rfl
theorem q1145 : (Jvm.Cond.sameMethod "BookPairs$Looking" "BookPairs$Act" "tried" "()I") ∈ lw_all := lw_g (lw_at lw_m5 118 rfl) rfl
theorem q1147 : (Jvm.Cond.selects "BookPairs$Looking" ({ cls := "BookPairs$Looking", name := "tried", desc := "()I" } : Jvm.MethodName) ({ cls := "BookPairs$Act", name := "tried", desc := "()I" } : Jvm.MethodName)) ∈ lw_all := lw_g (lw_at lw_m5 120 rfl) rfl
theorem q1176 : (Jvm.Cond.selects "BookPairs$Looking" ({ cls := "BookPairs$Act", name := "done", desc := "()I" } : Jvm.MethodName) ({ cls := "BookPairs$Looking", name := "done", desc := "()I" } : Jvm.MethodName)) ∈ lw_all := lw_g (lw_at lw_m5 149 rfl) rfl
theorem q1177 : (Jvm.Cond.instanceMethod ({ cls := "BookPairs$Looking", name := "done", desc := "()I" } : Jvm.MethodName)) ∈ lw_all := lw_g (lw_at lw_m5 150 rfl) rfl
theorem q1178 : (Jvm.Cond.code ({ cls := "BookPairs$Looking", name := "done", desc := "()I" } : Jvm.MethodName) prog_16_method_2_code (1 : Nat) (Option.some Jvm.ClassFile.FieldType.int)) ∈ lw_all := lw_g (lw_at lw_m5 151 rfl) rfl
theorem q1179 : (Jvm.Cond.methodLinkNest "BookPairs$Looking" (30 : Nat) ({ cls := "BookPairs", name := "rowIn", desc := "(I)Ljava/lang/Object;" } : Jvm.MethodName) "BookPairs") ∈ lw_tbl := lw_at lw_m5 152 rfl
theorem q1180 : (Jvm.Cond.methodLinkNest "BookPairs$Looking" (36 : Nat) ({ cls := "BookPairs", name := "cellsOf", desc := "(Ljava/lang/Object;III)[I" } : Jvm.MethodName) "BookPairs") ∈ lw_tbl := lw_at lw_m5 153 rfl
theorem q1201 : (Jvm.Cond.interfaceEntry "BookPairs$Looking" (40 : Nat)) ∈ lw_tbl := lw_at lw_m5 174 rfl
theorem q1202 : (Jvm.Cond.methodLink "BookPairs$Looking" (40 : Nat) ({ cls := "BookPairs$Reader", name := "read", desc := "([I)I" } : Jvm.MethodName)) ∈ lw_all := lw_g (lw_at lw_m5 175 rfl) rfl
theorem q1758 : (Jvm.Cond.castable "BookPairs$Looking" "java/lang/Object") ∈ lw_tbl := lw_at lw_m8 11 rfl
theorem in_X5 : ∀ w ∈ wsX50, w ∈ lw_all := lw_in wsX50 [1137, 1125, 1127, 1129, 1131, 1133, 1135] (by decide +kernel) (by decide +kernel)

/-! BookPairs$Plain -/
set_option maxRecDepth 100000
def RX6 : String := "BookPairs$Plain"
def TX6 : u_T := fun k => match k with
  | 0 => ("BookPairs$Plain", "anchor", "I", true)
  | 1 => ("BookPairs$Plain", "letters", "I", false)
  | _ => ("BookPairs$Plain", "this$0", "LBookPairs;", true)
def tyX6 : Nat → FieldType := fun k => match k with
  | 0 => .int
  | 1 => .int
  | _ => .object "BookPairs"
abbrev wsX60 : List Cond := u_ws RX6 TX6 3
theorem nmX6 : ∀ a, a < 3 → ∀ b, b < 3 → a ≠ b → (TX6 a).2.1 ≠ (TX6 b).2.1 := by decide +kernel
theorem tyX6_ok : ∀ k, k < 3 → parseFieldDescriptor (TX6 k).2.2.1 = some (tyX6 k) := by decide +kernel
abbrev cX6_length : ByteArray := prog_17_method_4_code
def yX6_length : MethodName := ⟨RX6, "length", "()I"⟩
theorem dX6_length_0 : decode cX6_length 0 = .ok (.aload_n 0, 1) := by decide +kernel
theorem dX6_length_1 : decode cX6_length 1 = .ok (.getfield 13, 3) := by decide +kernel
theorem dX6_length_4 : decode cX6_length 4 = .ok (.ireturn, 1) := by decide +kernel
abbrev cX6_kind : ByteArray := prog_17_method_3_code
def yX6_kind : MethodName := ⟨RX6, "kind", "()I"⟩
theorem dX6_kind_0 : decode cX6_kind 0 = .ok (.iconst 0, 1) := by decide +kernel
theorem dX6_kind_1 : decode cX6_kind 1 = .ok (.ireturn, 1) := by decide +kernel
abbrev cX6_init : ByteArray := prog_17_method_1_code
def yX6_init : MethodName := ⟨RX6, "<init>", "(LBookPairs;II)V"⟩
def dkwX6_init_0 : List UInt8 := [42, 43, 181, 0, 1, 42, 183, 0, 7, 42, 28, 181, 0, 13, 42, 29, 181, 0, 17, 177]
abbrev dktX6_init_0 : List UInt8 := dkwX6_init_0 ++ []
theorem dksX6_init_0 : cX6_init.data.toList.drop 0 = dktX6_init_0 := by decide +kernel
theorem dX6_init_0 : decode cX6_init 0 = .ok (.aload_n 0, 1) := dk_42 (dk_at dksX6_init_0 0 rfl rfl)
theorem dX6_init_1 : decode cX6_init 1 = .ok (.aload_n 1, 1) := dk_43 (dk_at dksX6_init_0 1 rfl rfl)
theorem dX6_init_2 : decode cX6_init 2 = .ok (.putfield 1, 3) := dk_181 0 1 (dk_at dksX6_init_0 2 rfl rfl)
theorem dX6_init_5 : decode cX6_init 5 = .ok (.aload_n 0, 1) := dk_42 (dk_at dksX6_init_0 5 rfl rfl)
theorem dX6_init_6 : decode cX6_init 6 = .ok (.invokespecial 7, 3) := dk_183 0 7 (dk_at dksX6_init_0 6 rfl rfl)
theorem dX6_init_9 : decode cX6_init 9 = .ok (.aload_n 0, 1) := dk_42 (dk_at dksX6_init_0 9 rfl rfl)
theorem dX6_init_10 : decode cX6_init 10 = .ok (.iload_n 2, 1) := dk_28 (dk_at dksX6_init_0 10 rfl rfl)
theorem dX6_init_11 : decode cX6_init 11 = .ok (.putfield 13, 3) := dk_181 0 13 (dk_at dksX6_init_0 11 rfl rfl)
theorem dX6_init_14 : decode cX6_init 14 = .ok (.aload_n 0, 1) := dk_42 (dk_at dksX6_init_0 14 rfl rfl)
theorem dX6_init_15 : decode cX6_init 15 = .ok (.iload_n 3, 1) := dk_29 (dk_at dksX6_init_0 15 rfl rfl)
theorem dX6_init_16 : decode cX6_init 16 = .ok (.putfield 17, 3) := dk_181 0 17 (dk_at dksX6_init_0 16 rfl rfl)
theorem dX6_init_19 : decode cX6_init 19 = .ok (.return_, 1) := dk_177 (dk_at dksX6_init_0 19 rfl rfl)
abbrev cX6_tracedBy : ByteArray := prog_17_method_5_code
def yX6_tracedBy : MethodName := ⟨RX6, "tracedBy", "(I)I"⟩
def dkwX6_tracedBy_0 : List UInt8 := [42, 180, 0, 1, 16, 31, 42, 180, 0, 1, 180, 0, 20, 104, 27, 96, 181, 0, 20, 3, 172]
abbrev dktX6_tracedBy_0 : List UInt8 := dkwX6_tracedBy_0 ++ []
theorem dksX6_tracedBy_0 : cX6_tracedBy.data.toList.drop 0 = dktX6_tracedBy_0 := by decide +kernel
theorem dX6_tracedBy_0 : decode cX6_tracedBy 0 = .ok (.aload_n 0, 1) := dk_42 (dk_at dksX6_tracedBy_0 0 rfl rfl)
theorem dX6_tracedBy_1 : decode cX6_tracedBy 1 = .ok (.getfield 1, 3) := dk_180 0 1 (dk_at dksX6_tracedBy_0 1 rfl rfl)
theorem dX6_tracedBy_4 : decode cX6_tracedBy 4 = .ok (.bipush 31, 2) := dk_16 31 (dk_at dksX6_tracedBy_0 4 rfl rfl)
theorem dX6_tracedBy_6 : decode cX6_tracedBy 6 = .ok (.aload_n 0, 1) := dk_42 (dk_at dksX6_tracedBy_0 6 rfl rfl)
theorem dX6_tracedBy_7 : decode cX6_tracedBy 7 = .ok (.getfield 1, 3) := dk_180 0 1 (dk_at dksX6_tracedBy_0 7 rfl rfl)
theorem dX6_tracedBy_10 : decode cX6_tracedBy 10 = .ok (.getfield 20, 3) := dk_180 0 20 (dk_at dksX6_tracedBy_0 10 rfl rfl)
theorem dX6_tracedBy_13 : decode cX6_tracedBy 13 = .ok (.imul, 1) := dk_104 (dk_at dksX6_tracedBy_0 13 rfl rfl)
theorem dX6_tracedBy_14 : decode cX6_tracedBy 14 = .ok (.iload_n 1, 1) := dk_27 (dk_at dksX6_tracedBy_0 14 rfl rfl)
theorem dX6_tracedBy_15 : decode cX6_tracedBy 15 = .ok (.iadd, 1) := dk_96 (dk_at dksX6_tracedBy_0 15 rfl rfl)
theorem dX6_tracedBy_16 : decode cX6_tracedBy 16 = .ok (.putfield 20, 3) := dk_181 0 20 (dk_at dksX6_tracedBy_0 16 rfl rfl)
theorem dX6_tracedBy_19 : decode cX6_tracedBy 19 = .ok (.iconst 0, 1) := dk_3 (dk_at dksX6_tracedBy_0 19 rfl rfl)
theorem dX6_tracedBy_20 : decode cX6_tracedBy 20 = .ok (.ireturn, 1) := dk_172 (dk_at dksX6_tracedBy_0 20 rfl rfl)
abbrev cX6_said : ByteArray := prog_17_method_6_code
def yX6_said : MethodName := ⟨RX6, "said", "()I"⟩
def dkwX6_said_0 : List UInt8 := [42, 4, 182, 0, 25, 42, 180, 0, 13, 96, 172]
abbrev dktX6_said_0 : List UInt8 := dkwX6_said_0 ++ []
theorem dksX6_said_0 : cX6_said.data.toList.drop 0 = dktX6_said_0 := by decide +kernel
theorem dX6_said_0 : decode cX6_said 0 = .ok (.aload_n 0, 1) := dk_42 (dk_at dksX6_said_0 0 rfl rfl)
theorem dX6_said_1 : decode cX6_said 1 = .ok (.iconst 1, 1) := dk_4 (dk_at dksX6_said_0 1 rfl rfl)
theorem dX6_said_2 : decode cX6_said 2 = .ok (.invokevirtual 25, 3) := dk_182 0 25 (dk_at dksX6_said_0 2 rfl rfl)
theorem dX6_said_5 : decode cX6_said 5 = .ok (.aload_n 0, 1) := dk_42 (dk_at dksX6_said_0 5 rfl rfl)
theorem dX6_said_6 : decode cX6_said 6 = .ok (.getfield 13, 3) := dk_180 0 13 (dk_at dksX6_said_0 6 rfl rfl)
theorem dX6_said_9 : decode cX6_said 9 = .ok (.iadd, 1) := dk_96 (dk_at dksX6_said_0 9 rfl rfl)
theorem dX6_said_10 : decode cX6_said 10 = .ok (.ireturn, 1) := dk_172 (dk_at dksX6_said_0 10 rfl rfl)
abbrev cX6_anchor : ByteArray := prog_17_method_2_code
def yX6_anchor : MethodName := ⟨RX6, "anchor", "()I"⟩
theorem dX6_anchor_0 : decode cX6_anchor 0 = .ok (.aload_n 0, 1) := by decide +kernel
theorem dX6_anchor_1 : decode cX6_anchor 1 = .ok (.getfield 17, 3) := by decide +kernel
theorem dX6_anchor_4 : decode cX6_anchor 4 = .ok (.ireturn, 1) := by decide +kernel
theorem q80 : (Jvm.Cond.initialized "BookPairs$Plain") ∈ lw_all := lw_g (lw_at lw_m1 13 rfl) rfl
theorem q177 : (Jvm.Cond.instanceMethod ({ cls := "BookPairs$Plain", name := "length", desc := "()I" } : Jvm.MethodName)) ∈ lw_all := lw_g (lw_at lw_m1 110 rfl) rfl
theorem q178 : (Jvm.Cond.selects "BookPairs$Plain" ({ cls := "BookPairs$Plain", name := "length", desc := "()I" } : Jvm.MethodName) ({ cls := "BookPairs$Plain", name := "length", desc := "()I" } : Jvm.MethodName)) ∈ lw_all := lw_g (lw_at lw_m1 111 rfl) rfl
theorem q179 : (Jvm.Cond.sameMethod "BookPairs$Plain" "BookPairs$Plain" "length" "()I") ∈ lw_all := lw_g (lw_at lw_m1 112 rfl) rfl
theorem q191 : (Jvm.Cond.code ({ cls := "BookPairs$Plain", name := "length", desc := "()I" } : Jvm.MethodName) prog_17_method_4_code (1 : Nat) (Option.some Jvm.ClassFile.FieldType.int)) ∈ lw_all := lw_g (lw_at lw_m1 124 rfl) rfl
theorem q293 : (Jvm.Cond.fieldLinkNest "BookPairs$Plain" (20 : Nat) "BookPairs" "trace" "I" "BookPairs") ∈ lw_tbl := lw_at lw_m1 226 rfl
theorem q375 : (Jvm.Cond.instanceMethod ({ cls := "BookPairs$Plain", name := "kind", desc := "()I" } : Jvm.MethodName)) ∈ lw_all := lw_g (lw_at lw_m2 68 rfl) rfl
theorem q376 : (Jvm.Cond.selects "BookPairs$Plain" ({ cls := "BookPairs$Plain", name := "kind", desc := "()I" } : Jvm.MethodName) ({ cls := "BookPairs$Plain", name := "kind", desc := "()I" } : Jvm.MethodName)) ∈ lw_all := lw_g (lw_at lw_m2 69 rfl) rfl
theorem q377 : (Jvm.Cond.sameMethod "BookPairs$Plain" "BookPairs$Plain" "kind" "()I") ∈ lw_all := lw_g (lw_at lw_m2 70 rfl) rfl
theorem q384 : (Jvm.Cond.code ({ cls := "BookPairs$Plain", name := "kind", desc := "()I" } : Jvm.MethodName) prog_17_method_3_code (1 : Nat) (Option.some Jvm.ClassFile.FieldType.int)) ∈ lw_all := lw_g (lw_at lw_m2 77 rfl) rfl
theorem q721 : (Jvm.Cond.selects "BookPairs$Plain" ({ cls := "java/lang/Object", name := "getClass", desc := "()Ljava/lang/Class;" } : Jvm.MethodName) ({ cls := "java/lang/Object", name := "getClass", desc := "()Ljava/lang/Class;" } : Jvm.MethodName)) ∈ lw_all := lw_g (lw_at lw_m3 174 rfl) rfl
theorem q773 : (Jvm.Cond.instantiable "BookPairs$Plain" (3 : Nat)) ∈ lw_all := lw_g (lw_at lw_m3 226 rfl) rfl
theorem q775 : (Jvm.Cond.instanceMethod ({ cls := "BookPairs$Plain", name := "<init>", desc := "(LBookPairs;II)V" } : Jvm.MethodName)) ∈ lw_all := lw_g (lw_at lw_m3 228 rfl) rfl
theorem q776 : (Jvm.Cond.code ({ cls := "BookPairs$Plain", name := "<init>", desc := "(LBookPairs;II)V" } : Jvm.MethodName) prog_17_method_1_code (4 : Nat) (Option.none : Option Jvm.ClassFile.FieldType)) ∈ lw_all := lw_g (lw_at lw_m3 229 rfl) rfl
theorem q777 : (Jvm.Cond.methodLink "BookPairs$Plain" (7 : Nat) ({ cls := "java/lang/Object", name := "<init>", desc := "()V" } : Jvm.MethodName)) ∈ lw_all := lw_g (lw_at lw_m3 230 rfl) rfl
theorem q778 : (Jvm.Cond.fieldLink "BookPairs$Plain" (17 : Nat) "BookPairs$Plain" "anchor" "I") ∈ lw_all := lw_g (lw_at lw_m3 231 rfl) rfl
theorem q780 : (Jvm.Cond.fieldLink "BookPairs$Plain" (13 : Nat) "BookPairs$Plain" "letters" "I") ∈ lw_all := lw_g (lw_at lw_m3 233 rfl) rfl
theorem q787 : (Jvm.Cond.fieldLink "BookPairs$Plain" (1 : Nat) "BookPairs$Plain" "this$0" "LBookPairs;") ∈ lw_all := lw_g (lw_at lw_m4 0 rfl) rfl
theorem q788 : (Jvm.Cond.laysFinal "BookPairs$Plain" "BookPairs$Plain" "anchor" "I") ∈ lw_all := lw_g (lw_at lw_m4 1 rfl) rfl
theorem q789 : (Jvm.Cond.soleField "BookPairs$Plain" "anchor") ∈ lw_all := lw_g (lw_at lw_m4 2 rfl) rfl
theorem q790 : (Jvm.Cond.lays "BookPairs$Plain" "BookPairs$Plain" "letters" "I") ∈ lw_all := lw_g (lw_at lw_m4 3 rfl) rfl
theorem q791 : (Jvm.Cond.soleField "BookPairs$Plain" "letters") ∈ lw_all := lw_g (lw_at lw_m4 4 rfl) rfl
theorem q792 : (Jvm.Cond.laysFinal "BookPairs$Plain" "BookPairs$Plain" "this$0" "LBookPairs;") ∈ lw_all := lw_g (lw_at lw_m4 5 rfl) rfl
theorem q793 : (Jvm.Cond.soleField "BookPairs$Plain" "this$0") ∈ lw_all := lw_g (lw_at lw_m4 6 rfl) rfl
theorem q794 : (Jvm.Cond.superclass "BookPairs$Plain" "java/lang/Object") ∈ lw_all := lw_g (lw_at lw_m4 7 rfl) rfl
theorem q1277 : (Jvm.Cond.instanceMethod ({ cls := "BookPairs$Plain", name := "said", desc := "()I" } : Jvm.MethodName)) ∈ lw_all := lw_g (lw_at lw_m6 10 rfl) rfl
theorem q1278 : (Jvm.Cond.selects "BookPairs$Plain" ({ cls := "BookPairs$Plain", name := "said", desc := "()I" } : Jvm.MethodName) ({ cls := "BookPairs$Plain", name := "said", desc := "()I" } : Jvm.MethodName)) ∈ lw_all := lw_g (lw_at lw_m6 11 rfl) rfl
theorem q1279 : (Jvm.Cond.sameMethod "BookPairs$Plain" "BookPairs$Plain" "said" "()I") ∈ lw_all := lw_g (lw_at lw_m6 12 rfl) rfl
theorem q1285 : (Jvm.Cond.declares ({ cls := "BookPairs$Plain", name := "tracedBy", desc := "(I)I" } : Jvm.MethodName)) ∈ lw_tbl := lw_at lw_m6 18 rfl
theorem q1287 : (Jvm.Cond.instanceMethod ({ cls := "BookPairs$Plain", name := "tracedBy", desc := "(I)I" } : Jvm.MethodName)) ∈ lw_all := lw_g (lw_at lw_m6 20 rfl) rfl
theorem q1288 : (Jvm.Cond.code ({ cls := "BookPairs$Plain", name := "tracedBy", desc := "(I)I" } : Jvm.MethodName) prog_17_method_5_code (2 : Nat) (Option.some Jvm.ClassFile.FieldType.int)) ∈ lw_all := lw_g (lw_at lw_m6 21 rfl) rfl
theorem q1297 : (Jvm.Cond.code ({ cls := "BookPairs$Plain", name := "said", desc := "()I" } : Jvm.MethodName) prog_17_method_6_code (1 : Nat) (Option.some Jvm.ClassFile.FieldType.int)) ∈ lw_all := lw_g (lw_at lw_m6 30 rfl) rfl
theorem q1298 : (Jvm.Cond.methodLink "BookPairs$Plain" (25 : Nat) ({ cls := "BookPairs$Plain", name := "tracedBy", desc := "(I)I" } : Jvm.MethodName)) ∈ lw_all := lw_g (lw_at lw_m6 31 rfl) rfl
theorem q1329 : (Jvm.Cond.publicMethod ({ cls := "BookPairs$Plain", name := "tracedBy", desc := "(I)I" } : Jvm.MethodName)) ∈ lw_tbl := lw_at lw_m6 62 rfl
theorem q1333 : (Jvm.Cond.castable "BookPairs$Plain" "BookPairs$Aloud") ∈ lw_tbl := lw_at lw_m6 66 rfl
theorem q1334 : (Jvm.Cond.selects "BookPairs$Plain" ({ cls := "BookPairs$Aloud", name := "tracedBy", desc := "(I)I" } : Jvm.MethodName) ({ cls := "BookPairs$Plain", name := "tracedBy", desc := "(I)I" } : Jvm.MethodName)) ∈ lw_all := lw_g (lw_at lw_m6 67 rfl) rfl
theorem q1335 : (Jvm.Cond.unhidden "BookPairs$Plain" "tracedBy" "(I)I") ∈ lw_tbl := lw_at lw_m6 68 rfl
theorem q1342 : (Jvm.Cond.instanceMethod ({ cls := "BookPairs$Plain", name := "anchor", desc := "()I" } : Jvm.MethodName)) ∈ lw_all := lw_g (lw_at lw_m6 75 rfl) rfl
theorem q1343 : (Jvm.Cond.publicMethod ({ cls := "BookPairs$Plain", name := "anchor", desc := "()I" } : Jvm.MethodName)) ∈ lw_tbl := lw_at lw_m6 76 rfl
theorem q1344 : (Jvm.Cond.code ({ cls := "BookPairs$Plain", name := "anchor", desc := "()I" } : Jvm.MethodName) prog_17_method_2_code (1 : Nat) (Option.some Jvm.ClassFile.FieldType.int)) ∈ lw_all := lw_g (lw_at lw_m6 77 rfl) rfl
theorem q1347 : (Jvm.Cond.selects "BookPairs$Plain" ({ cls := "BookPairs$Aloud", name := "anchor", desc := "()I" } : Jvm.MethodName) ({ cls := "BookPairs$Plain", name := "anchor", desc := "()I" } : Jvm.MethodName)) ∈ lw_all := lw_g (lw_at lw_m6 80 rfl) rfl
theorem q1348 : (Jvm.Cond.unhidden "BookPairs$Plain" "anchor" "()I") ∈ lw_tbl := lw_at lw_m6 81 rfl
theorem q1351 : (Jvm.Cond.unhidden "BookPairs$Plain" "readAloud" "()I") ∈ lw_tbl := lw_at lw_m6 84 rfl
theorem q1742 : (Jvm.Cond.sameMethod "BookPairs$Plain" "BookPairs$Plain" "tracedBy" "(I)I") ∈ lw_all := lw_g (lw_at lw_m7 235 rfl) rfl
theorem q1745 : (Jvm.Cond.selects "BookPairs$Plain" ({ cls := "BookPairs$Plain", name := "tracedBy", desc := "(I)I" } : Jvm.MethodName) ({ cls := "BookPairs$Plain", name := "tracedBy", desc := "(I)I" } : Jvm.MethodName)) ∈ lw_all := lw_g (lw_at lw_m7 238 rfl) rfl
theorem q1759 : (Jvm.Cond.castable "BookPairs$Plain" "java/lang/Object") ∈ lw_tbl := lw_at lw_m8 12 rfl
theorem in_X6 : ∀ w ∈ wsX60, w ∈ lw_all := lw_in wsX60 [788, 790, 792] (by decide +kernel) (by decide +kernel)

/-! BookPairs$Longer -/
set_option maxRecDepth 100000
def RX7 : String := "BookPairs$Longer"
def TX7 : u_T := fun k => match k with
  | 0 => ("BookPairs$Plain", "anchor", "I", true)
  | 1 => ("BookPairs$Plain", "letters", "I", false)
  | 2 => ("BookPairs$Plain", "this$0", "LBookPairs;", true)
  | _ => ("BookPairs$Longer", "this$0", "LBookPairs;", true)
def tyX7 : Nat → FieldType := fun k => match k with
  | 0 => .int
  | 1 => .int
  | 2 => .object "BookPairs"
  | _ => .object "BookPairs"
abbrev wsX70 : List Cond := u_ws RX7 TX7 4
-- two fields of one name: no nmX7
theorem tyX7_ok : ∀ k, k < 4 → parseFieldDescriptor (TX7 k).2.2.1 = some (tyX7 k) := by decide +kernel
abbrev cX7_plainLength : ByteArray := prog_15_method_4_code
def yX7_plainLength : MethodName := ⟨RX7, "plainLength", "()I"⟩
theorem dX7_plainLength_0 : decode cX7_plainLength 0 = .ok (.aload_n 0, 1) := by decide +kernel
theorem dX7_plainLength_1 : decode cX7_plainLength 1 = .ok (.invokespecial 17, 3) := by decide +kernel
theorem dX7_plainLength_4 : decode cX7_plainLength 4 = .ok (.ireturn, 1) := by decide +kernel
abbrev cX7_length : ByteArray := prog_15_method_3_code
def yX7_length : MethodName := ⟨RX7, "length", "()I"⟩
def dkwX7_length_0 : List UInt8 := [42, 182, 0, 13, 4, 96, 172]
abbrev dktX7_length_0 : List UInt8 := dkwX7_length_0 ++ []
theorem dksX7_length_0 : cX7_length.data.toList.drop 0 = dktX7_length_0 := by decide +kernel
theorem dX7_length_0 : decode cX7_length 0 = .ok (.aload_n 0, 1) := dk_42 (dk_at dksX7_length_0 0 rfl rfl)
theorem dX7_length_1 : decode cX7_length 1 = .ok (.invokevirtual 13, 3) := dk_182 0 13 (dk_at dksX7_length_0 1 rfl rfl)
theorem dX7_length_4 : decode cX7_length 4 = .ok (.iconst 1, 1) := dk_4 (dk_at dksX7_length_0 4 rfl rfl)
theorem dX7_length_5 : decode cX7_length 5 = .ok (.iadd, 1) := dk_96 (dk_at dksX7_length_0 5 rfl rfl)
theorem dX7_length_6 : decode cX7_length 6 = .ok (.ireturn, 1) := dk_172 (dk_at dksX7_length_0 6 rfl rfl)
abbrev cX7_kind : ByteArray := prog_15_method_2_code
def yX7_kind : MethodName := ⟨RX7, "kind", "()I"⟩
theorem dX7_kind_0 : decode cX7_kind 0 = .ok (.iconst 1, 1) := by decide +kernel
theorem dX7_kind_1 : decode cX7_kind 1 = .ok (.ireturn, 1) := by decide +kernel
abbrev cX7_init : ByteArray := prog_15_method_1_code
def yX7_init : MethodName := ⟨RX7, "<init>", "(LBookPairs;II)V"⟩
def dkwX7_init_0 : List UInt8 := [42, 43, 181, 0, 1, 42, 43, 28, 29, 183, 0, 7, 177]
abbrev dktX7_init_0 : List UInt8 := dkwX7_init_0 ++ []
theorem dksX7_init_0 : cX7_init.data.toList.drop 0 = dktX7_init_0 := by decide +kernel
theorem dX7_init_0 : decode cX7_init 0 = .ok (.aload_n 0, 1) := dk_42 (dk_at dksX7_init_0 0 rfl rfl)
theorem dX7_init_1 : decode cX7_init 1 = .ok (.aload_n 1, 1) := dk_43 (dk_at dksX7_init_0 1 rfl rfl)
theorem dX7_init_2 : decode cX7_init 2 = .ok (.putfield 1, 3) := dk_181 0 1 (dk_at dksX7_init_0 2 rfl rfl)
theorem dX7_init_5 : decode cX7_init 5 = .ok (.aload_n 0, 1) := dk_42 (dk_at dksX7_init_0 5 rfl rfl)
theorem dX7_init_6 : decode cX7_init 6 = .ok (.aload_n 1, 1) := dk_43 (dk_at dksX7_init_0 6 rfl rfl)
theorem dX7_init_7 : decode cX7_init 7 = .ok (.iload_n 2, 1) := dk_28 (dk_at dksX7_init_0 7 rfl rfl)
theorem dX7_init_8 : decode cX7_init 8 = .ok (.iload_n 3, 1) := dk_29 (dk_at dksX7_init_0 8 rfl rfl)
theorem dX7_init_9 : decode cX7_init 9 = .ok (.invokespecial 7, 3) := dk_183 0 7 (dk_at dksX7_init_0 9 rfl rfl)
theorem dX7_init_12 : decode cX7_init 12 = .ok (.return_, 1) := dk_177 (dk_at dksX7_init_0 12 rfl rfl)
abbrev cX7_said : ByteArray := prog_15_method_5_code
def yX7_said : MethodName := ⟨RX7, "said", "()I"⟩
def dkwX7_said_0 : List UInt8 := [42, 5, 182, 0, 20, 42, 183, 0, 24, 96, 16, 100, 96, 172]
abbrev dktX7_said_0 : List UInt8 := dkwX7_said_0 ++ []
theorem dksX7_said_0 : cX7_said.data.toList.drop 0 = dktX7_said_0 := by decide +kernel
theorem dX7_said_0 : decode cX7_said 0 = .ok (.aload_n 0, 1) := dk_42 (dk_at dksX7_said_0 0 rfl rfl)
theorem dX7_said_1 : decode cX7_said 1 = .ok (.iconst 2, 1) := dk_5 (dk_at dksX7_said_0 1 rfl rfl)
theorem dX7_said_2 : decode cX7_said 2 = .ok (.invokevirtual 20, 3) := dk_182 0 20 (dk_at dksX7_said_0 2 rfl rfl)
theorem dX7_said_5 : decode cX7_said 5 = .ok (.aload_n 0, 1) := dk_42 (dk_at dksX7_said_0 5 rfl rfl)
theorem dX7_said_6 : decode cX7_said 6 = .ok (.invokespecial 24, 3) := dk_183 0 24 (dk_at dksX7_said_0 6 rfl rfl)
theorem dX7_said_9 : decode cX7_said 9 = .ok (.iadd, 1) := dk_96 (dk_at dksX7_said_0 9 rfl rfl)
theorem dX7_said_10 : decode cX7_said 10 = .ok (.bipush 100, 2) := dk_16 100 (dk_at dksX7_said_0 10 rfl rfl)
theorem dX7_said_12 : decode cX7_said 12 = .ok (.iadd, 1) := dk_96 (dk_at dksX7_said_0 12 rfl rfl)
theorem dX7_said_13 : decode cX7_said 13 = .ok (.ireturn, 1) := dk_172 (dk_at dksX7_said_0 13 rfl rfl)
abbrev cX7_plainly : ByteArray := prog_15_method_6_code
def yX7_plainly : MethodName := ⟨RX7, "plainly", "()I"⟩
theorem dX7_plainly_0 : decode cX7_plainly 0 = .ok (.aload_n 0, 1) := by decide +kernel
theorem dX7_plainly_1 : decode cX7_plainly 1 = .ok (.invokespecial 24, 3) := by decide +kernel
theorem dX7_plainly_4 : decode cX7_plainly 4 = .ok (.ireturn, 1) := by decide +kernel
theorem q81 : (Jvm.Cond.initialized "BookPairs$Longer") ∈ lw_all := lw_g (lw_at lw_m1 14 rfl) rfl
theorem q185 : (Jvm.Cond.declares ({ cls := "BookPairs$Longer", name := "plainLength", desc := "()I" } : Jvm.MethodName)) ∈ lw_tbl := lw_at lw_m1 118 rfl
theorem q187 : (Jvm.Cond.instanceMethod ({ cls := "BookPairs$Longer", name := "plainLength", desc := "()I" } : Jvm.MethodName)) ∈ lw_all := lw_g (lw_at lw_m1 120 rfl) rfl
theorem q188 : (Jvm.Cond.code ({ cls := "BookPairs$Longer", name := "plainLength", desc := "()I" } : Jvm.MethodName) prog_15_method_4_code (1 : Nat) (Option.some Jvm.ClassFile.FieldType.int)) ∈ lw_all := lw_g (lw_at lw_m1 121 rfl) rfl
theorem q189 : (Jvm.Cond.methodLink "BookPairs$Longer" (17 : Nat) ({ cls := "BookPairs$Plain", name := "length", desc := "()I" } : Jvm.MethodName)) ∈ lw_all := lw_g (lw_at lw_m1 122 rfl) rfl
theorem q190 : (Jvm.Cond.superclass "BookPairs$Longer" "BookPairs$Plain") ∈ lw_all := lw_g (lw_at lw_m1 123 rfl) rfl
theorem q192 : (Jvm.Cond.selects "BookPairs$Longer" ({ cls := "BookPairs$Plain", name := "length", desc := "()I" } : Jvm.MethodName) ({ cls := "BookPairs$Longer", name := "length", desc := "()I" } : Jvm.MethodName)) ∈ lw_all := lw_g (lw_at lw_m1 125 rfl) rfl
theorem q193 : (Jvm.Cond.instanceMethod ({ cls := "BookPairs$Longer", name := "length", desc := "()I" } : Jvm.MethodName)) ∈ lw_all := lw_g (lw_at lw_m1 126 rfl) rfl
theorem q194 : (Jvm.Cond.code ({ cls := "BookPairs$Longer", name := "length", desc := "()I" } : Jvm.MethodName) prog_15_method_3_code (1 : Nat) (Option.some Jvm.ClassFile.FieldType.int)) ∈ lw_all := lw_g (lw_at lw_m1 127 rfl) rfl
theorem q195 : (Jvm.Cond.methodLink "BookPairs$Longer" (13 : Nat) ({ cls := "BookPairs$Longer", name := "plainLength", desc := "()I" } : Jvm.MethodName)) ∈ lw_all := lw_g (lw_at lw_m1 128 rfl) rfl
theorem q381 : (Jvm.Cond.selects "BookPairs$Longer" ({ cls := "BookPairs$Plain", name := "kind", desc := "()I" } : Jvm.MethodName) ({ cls := "BookPairs$Longer", name := "kind", desc := "()I" } : Jvm.MethodName)) ∈ lw_all := lw_g (lw_at lw_m2 74 rfl) rfl
theorem q382 : (Jvm.Cond.instanceMethod ({ cls := "BookPairs$Longer", name := "kind", desc := "()I" } : Jvm.MethodName)) ∈ lw_all := lw_g (lw_at lw_m2 75 rfl) rfl
theorem q383 : (Jvm.Cond.code ({ cls := "BookPairs$Longer", name := "kind", desc := "()I" } : Jvm.MethodName) prog_15_method_2_code (1 : Nat) (Option.some Jvm.ClassFile.FieldType.int)) ∈ lw_all := lw_g (lw_at lw_m2 76 rfl) rfl
theorem q719 : (Jvm.Cond.selects "BookPairs$Longer" ({ cls := "java/lang/Object", name := "getClass", desc := "()Ljava/lang/Class;" } : Jvm.MethodName) ({ cls := "java/lang/Object", name := "getClass", desc := "()Ljava/lang/Class;" } : Jvm.MethodName)) ∈ lw_all := lw_g (lw_at lw_m3 172 rfl) rfl
theorem q783 : (Jvm.Cond.sameField "BookPairs$Longer" "BookPairs$Plain" "letters" "I") ∈ lw_all := lw_g (lw_at lw_m3 236 rfl) rfl
theorem q796 : (Jvm.Cond.instantiable "BookPairs$Longer" (4 : Nat)) ∈ lw_all := lw_g (lw_at lw_m4 9 rfl) rfl
theorem q798 : (Jvm.Cond.instanceMethod ({ cls := "BookPairs$Longer", name := "<init>", desc := "(LBookPairs;II)V" } : Jvm.MethodName)) ∈ lw_all := lw_g (lw_at lw_m4 11 rfl) rfl
theorem q799 : (Jvm.Cond.code ({ cls := "BookPairs$Longer", name := "<init>", desc := "(LBookPairs;II)V" } : Jvm.MethodName) prog_15_method_1_code (4 : Nat) (Option.none : Option Jvm.ClassFile.FieldType)) ∈ lw_all := lw_g (lw_at lw_m4 12 rfl) rfl
theorem q800 : (Jvm.Cond.methodLink "BookPairs$Longer" (7 : Nat) ({ cls := "BookPairs$Plain", name := "<init>", desc := "(LBookPairs;II)V" } : Jvm.MethodName)) ∈ lw_all := lw_g (lw_at lw_m4 13 rfl) rfl
theorem q801 : (Jvm.Cond.fieldLink "BookPairs$Longer" (1 : Nat) "BookPairs$Longer" "this$0" "LBookPairs;") ∈ lw_all := lw_g (lw_at lw_m4 14 rfl) rfl
theorem q802 : (Jvm.Cond.laysFinal "BookPairs$Longer" "BookPairs$Longer" "this$0" "LBookPairs;") ∈ lw_all := lw_g (lw_at lw_m4 15 rfl) rfl
theorem q803 : (Jvm.Cond.soleField "BookPairs$Longer" "this$0") ∈ lw_all := lw_g (lw_at lw_m4 16 rfl) rfl
theorem q804 : (Jvm.Cond.laysFinal "BookPairs$Longer" "BookPairs$Plain" "anchor" "I") ∈ lw_all := lw_g (lw_at lw_m4 17 rfl) rfl
theorem q805 : (Jvm.Cond.lays "BookPairs$Longer" "BookPairs$Plain" "letters" "I") ∈ lw_all := lw_g (lw_at lw_m4 18 rfl) rfl
theorem q806 : (Jvm.Cond.laysFinal "BookPairs$Longer" "BookPairs$Plain" "this$0" "LBookPairs;") ∈ lw_all := lw_g (lw_at lw_m4 19 rfl) rfl
theorem q1290 : (Jvm.Cond.instanceMethod ({ cls := "BookPairs$Longer", name := "said", desc := "()I" } : Jvm.MethodName)) ∈ lw_all := lw_g (lw_at lw_m6 23 rfl) rfl
theorem q1291 : (Jvm.Cond.code ({ cls := "BookPairs$Longer", name := "said", desc := "()I" } : Jvm.MethodName) prog_15_method_5_code (1 : Nat) (Option.some Jvm.ClassFile.FieldType.int)) ∈ lw_all := lw_g (lw_at lw_m6 24 rfl) rfl
theorem q1292 : (Jvm.Cond.methodLink "BookPairs$Longer" (20 : Nat) ({ cls := "BookPairs$Longer", name := "tracedBy", desc := "(I)I" } : Jvm.MethodName)) ∈ lw_all := lw_g (lw_at lw_m6 25 rfl) rfl
theorem q1293 : (Jvm.Cond.sameMethod "BookPairs$Longer" "BookPairs$Plain" "tracedBy" "(I)I") ∈ lw_all := lw_g (lw_at lw_m6 26 rfl) rfl
theorem q1295 : (Jvm.Cond.selects "BookPairs$Longer" ({ cls := "BookPairs$Longer", name := "tracedBy", desc := "(I)I" } : Jvm.MethodName) ({ cls := "BookPairs$Plain", name := "tracedBy", desc := "(I)I" } : Jvm.MethodName)) ∈ lw_all := lw_g (lw_at lw_m6 28 rfl) rfl
theorem q1296 : (Jvm.Cond.methodLink "BookPairs$Longer" (24 : Nat) ({ cls := "BookPairs$Plain", name := "said", desc := "()I" } : Jvm.MethodName)) ∈ lw_all := lw_g (lw_at lw_m6 29 rfl) rfl
theorem q1301 : (Jvm.Cond.declares ({ cls := "BookPairs$Longer", name := "plainly", desc := "()I" } : Jvm.MethodName)) ∈ lw_tbl := lw_at lw_m6 34 rfl
theorem q1303 : (Jvm.Cond.instanceMethod ({ cls := "BookPairs$Longer", name := "plainly", desc := "()I" } : Jvm.MethodName)) ∈ lw_all := lw_g (lw_at lw_m6 36 rfl) rfl
theorem q1304 : (Jvm.Cond.code ({ cls := "BookPairs$Longer", name := "plainly", desc := "()I" } : Jvm.MethodName) prog_15_method_6_code (1 : Nat) (Option.some Jvm.ClassFile.FieldType.int)) ∈ lw_all := lw_g (lw_at lw_m6 37 rfl) rfl
theorem q1305 : (Jvm.Cond.selects "BookPairs$Longer" ({ cls := "BookPairs$Plain", name := "said", desc := "()I" } : Jvm.MethodName) ({ cls := "BookPairs$Longer", name := "said", desc := "()I" } : Jvm.MethodName)) ∈ lw_all := lw_g (lw_at lw_m6 38 rfl) rfl
theorem q1330 : (Jvm.Cond.castable "BookPairs$Longer" "BookPairs$Aloud") ∈ lw_tbl := lw_at lw_m6 63 rfl
theorem q1331 : (Jvm.Cond.selects "BookPairs$Longer" ({ cls := "BookPairs$Aloud", name := "tracedBy", desc := "(I)I" } : Jvm.MethodName) ({ cls := "BookPairs$Plain", name := "tracedBy", desc := "(I)I" } : Jvm.MethodName)) ∈ lw_all := lw_g (lw_at lw_m6 64 rfl) rfl
theorem q1332 : (Jvm.Cond.unhidden "BookPairs$Longer" "tracedBy" "(I)I") ∈ lw_tbl := lw_at lw_m6 65 rfl
theorem q1345 : (Jvm.Cond.selects "BookPairs$Longer" ({ cls := "BookPairs$Aloud", name := "anchor", desc := "()I" } : Jvm.MethodName) ({ cls := "BookPairs$Plain", name := "anchor", desc := "()I" } : Jvm.MethodName)) ∈ lw_all := lw_g (lw_at lw_m6 78 rfl) rfl
theorem q1346 : (Jvm.Cond.unhidden "BookPairs$Longer" "anchor" "()I") ∈ lw_tbl := lw_at lw_m6 79 rfl
theorem q1349 : (Jvm.Cond.unhidden "BookPairs$Longer" "readAloud" "()I") ∈ lw_tbl := lw_at lw_m6 82 rfl
theorem q1737 : (Jvm.Cond.sameMethod "BookPairs$Longer" "BookPairs$Longer" "plainLength" "()I") ∈ lw_all := lw_g (lw_at lw_m7 230 rfl) rfl
theorem q1739 : (Jvm.Cond.selects "BookPairs$Longer" ({ cls := "BookPairs$Longer", name := "plainLength", desc := "()I" } : Jvm.MethodName) ({ cls := "BookPairs$Longer", name := "plainLength", desc := "()I" } : Jvm.MethodName)) ∈ lw_all := lw_g (lw_at lw_m7 232 rfl) rfl
theorem q1741 : (Jvm.Cond.sameMethod "BookPairs$Longer" "BookPairs$Longer" "said" "()I") ∈ lw_all := lw_g (lw_at lw_m7 234 rfl) rfl
theorem q1744 : (Jvm.Cond.selects "BookPairs$Longer" ({ cls := "BookPairs$Plain", name := "tracedBy", desc := "(I)I" } : Jvm.MethodName) ({ cls := "BookPairs$Plain", name := "tracedBy", desc := "(I)I" } : Jvm.MethodName)) ∈ lw_all := lw_g (lw_at lw_m7 237 rfl) rfl
theorem q1750 : (Jvm.Cond.castable "BookPairs$Longer" "BookPairs$Plain") ∈ lw_tbl := lw_at lw_m8 3 rfl
theorem q1760 : (Jvm.Cond.castable "BookPairs$Longer" "java/lang/Object") ∈ lw_tbl := lw_at lw_m8 13 rfl
theorem in_X7 : ∀ w ∈ wsX70, w ∈ lw_all := lw_in wsX70 [804, 805, 806, 802] (by decide +kernel) (by decide +kernel)

/-! BookPairs$Doubled -/
set_option maxRecDepth 100000
def RX8 : String := "BookPairs$Doubled"
def TX8 : u_T := fun k => match k with
  | 0 => ("BookPairs$Plain", "anchor", "I", true)
  | 1 => ("BookPairs$Plain", "letters", "I", false)
  | 2 => ("BookPairs$Plain", "this$0", "LBookPairs;", true)
  | 3 => ("BookPairs$Longer", "this$0", "LBookPairs;", true)
  | _ => ("BookPairs$Doubled", "this$0", "LBookPairs;", true)
def tyX8 : Nat → FieldType := fun k => match k with
  | 0 => .int
  | 1 => .int
  | 2 => .object "BookPairs"
  | 3 => .object "BookPairs"
  | _ => .object "BookPairs"
abbrev wsX80 : List Cond := u_ws RX8 TX8 5
-- two fields of one name: no nmX8
theorem tyX8_ok : ∀ k, k < 5 → parseFieldDescriptor (TX8 k).2.2.1 = some (tyX8 k) := by decide +kernel
abbrev cX8_length : ByteArray := prog_14_method_3_code
def yX8_length : MethodName := ⟨RX8, "length", "()I"⟩
def dkwX8_length_0 : List UInt8 := [5, 42, 182, 0, 13, 104, 172]
abbrev dktX8_length_0 : List UInt8 := dkwX8_length_0 ++ []
theorem dksX8_length_0 : cX8_length.data.toList.drop 0 = dktX8_length_0 := by decide +kernel
theorem dX8_length_0 : decode cX8_length 0 = .ok (.iconst 2, 1) := dk_5 (dk_at dksX8_length_0 0 rfl rfl)
theorem dX8_length_1 : decode cX8_length 1 = .ok (.aload_n 0, 1) := dk_42 (dk_at dksX8_length_0 1 rfl rfl)
theorem dX8_length_2 : decode cX8_length 2 = .ok (.invokevirtual 13, 3) := dk_182 0 13 (dk_at dksX8_length_0 2 rfl rfl)
theorem dX8_length_5 : decode cX8_length 5 = .ok (.imul, 1) := dk_104 (dk_at dksX8_length_0 5 rfl rfl)
theorem dX8_length_6 : decode cX8_length 6 = .ok (.ireturn, 1) := dk_172 (dk_at dksX8_length_0 6 rfl rfl)
abbrev cX8_kind : ByteArray := prog_14_method_2_code
def yX8_kind : MethodName := ⟨RX8, "kind", "()I"⟩
theorem dX8_kind_0 : decode cX8_kind 0 = .ok (.iconst 2, 1) := by decide +kernel
theorem dX8_kind_1 : decode cX8_kind 1 = .ok (.ireturn, 1) := by decide +kernel
abbrev cX8_init : ByteArray := prog_14_method_1_code
def yX8_init : MethodName := ⟨RX8, "<init>", "(LBookPairs;II)V"⟩
def dkwX8_init_0 : List UInt8 := [42, 43, 181, 0, 1, 42, 43, 28, 29, 183, 0, 7, 177]
abbrev dktX8_init_0 : List UInt8 := dkwX8_init_0 ++ []
theorem dksX8_init_0 : cX8_init.data.toList.drop 0 = dktX8_init_0 := by decide +kernel
theorem dX8_init_0 : decode cX8_init 0 = .ok (.aload_n 0, 1) := dk_42 (dk_at dksX8_init_0 0 rfl rfl)
theorem dX8_init_1 : decode cX8_init 1 = .ok (.aload_n 1, 1) := dk_43 (dk_at dksX8_init_0 1 rfl rfl)
theorem dX8_init_2 : decode cX8_init 2 = .ok (.putfield 1, 3) := dk_181 0 1 (dk_at dksX8_init_0 2 rfl rfl)
theorem dX8_init_5 : decode cX8_init 5 = .ok (.aload_n 0, 1) := dk_42 (dk_at dksX8_init_0 5 rfl rfl)
theorem dX8_init_6 : decode cX8_init 6 = .ok (.aload_n 1, 1) := dk_43 (dk_at dksX8_init_0 6 rfl rfl)
theorem dX8_init_7 : decode cX8_init 7 = .ok (.iload_n 2, 1) := dk_28 (dk_at dksX8_init_0 7 rfl rfl)
theorem dX8_init_8 : decode cX8_init 8 = .ok (.iload_n 3, 1) := dk_29 (dk_at dksX8_init_0 8 rfl rfl)
theorem dX8_init_9 : decode cX8_init 9 = .ok (.invokespecial 7, 3) := dk_183 0 7 (dk_at dksX8_init_0 9 rfl rfl)
theorem dX8_init_12 : decode cX8_init 12 = .ok (.return_, 1) := dk_177 (dk_at dksX8_init_0 12 rfl rfl)
abbrev cX8_said : ByteArray := prog_14_method_4_code
def yX8_said : MethodName := ⟨RX8, "said", "()I"⟩
def dkwX8_said_0 : List UInt8 := [42, 6, 182, 0, 17, 42, 183, 0, 21, 96, 42, 182, 0, 24, 96, 172]
abbrev dktX8_said_0 : List UInt8 := dkwX8_said_0 ++ []
theorem dksX8_said_0 : cX8_said.data.toList.drop 0 = dktX8_said_0 := by decide +kernel
theorem dX8_said_0 : decode cX8_said 0 = .ok (.aload_n 0, 1) := dk_42 (dk_at dksX8_said_0 0 rfl rfl)
theorem dX8_said_1 : decode cX8_said 1 = .ok (.iconst 3, 1) := dk_6 (dk_at dksX8_said_0 1 rfl rfl)
theorem dX8_said_2 : decode cX8_said 2 = .ok (.invokevirtual 17, 3) := dk_182 0 17 (dk_at dksX8_said_0 2 rfl rfl)
theorem dX8_said_5 : decode cX8_said 5 = .ok (.aload_n 0, 1) := dk_42 (dk_at dksX8_said_0 5 rfl rfl)
theorem dX8_said_6 : decode cX8_said 6 = .ok (.invokespecial 21, 3) := dk_183 0 21 (dk_at dksX8_said_0 6 rfl rfl)
theorem dX8_said_9 : decode cX8_said 9 = .ok (.iadd, 1) := dk_96 (dk_at dksX8_said_0 9 rfl rfl)
theorem dX8_said_10 : decode cX8_said 10 = .ok (.aload_n 0, 1) := dk_42 (dk_at dksX8_said_0 10 rfl rfl)
theorem dX8_said_11 : decode cX8_said 11 = .ok (.invokevirtual 24, 3) := dk_182 0 24 (dk_at dksX8_said_0 11 rfl rfl)
theorem dX8_said_14 : decode cX8_said 14 = .ok (.iadd, 1) := dk_96 (dk_at dksX8_said_0 14 rfl rfl)
theorem dX8_said_15 : decode cX8_said 15 = .ok (.ireturn, 1) := dk_172 (dk_at dksX8_said_0 15 rfl rfl)
abbrev cX8_readAloud : ByteArray := prog_14_method_5_code
def yX8_readAloud : MethodName := ⟨RX8, "readAloud", "()I"⟩
def dkwX8_readAloud_0 : List UInt8 := [42, 8, 182, 0, 17, 42, 183, 0, 27, 96, 16, 80, 96, 172]
abbrev dktX8_readAloud_0 : List UInt8 := dkwX8_readAloud_0 ++ []
theorem dksX8_readAloud_0 : cX8_readAloud.data.toList.drop 0 = dktX8_readAloud_0 := by decide +kernel
theorem dX8_readAloud_0 : decode cX8_readAloud 0 = .ok (.aload_n 0, 1) := dk_42 (dk_at dksX8_readAloud_0 0 rfl rfl)
theorem dX8_readAloud_1 : decode cX8_readAloud 1 = .ok (.iconst 5, 1) := dk_8 (dk_at dksX8_readAloud_0 1 rfl rfl)
theorem dX8_readAloud_2 : decode cX8_readAloud 2 = .ok (.invokevirtual 17, 3) := dk_182 0 17 (dk_at dksX8_readAloud_0 2 rfl rfl)
theorem dX8_readAloud_5 : decode cX8_readAloud 5 = .ok (.aload_n 0, 1) := dk_42 (dk_at dksX8_readAloud_0 5 rfl rfl)
theorem dX8_readAloud_6 : decode cX8_readAloud 6 = .ok (.invokespecial 27, 3) := dk_183 0 27 (dk_at dksX8_readAloud_0 6 rfl rfl)
theorem dX8_readAloud_9 : decode cX8_readAloud 9 = .ok (.iadd, 1) := dk_96 (dk_at dksX8_readAloud_0 9 rfl rfl)
theorem dX8_readAloud_10 : decode cX8_readAloud 10 = .ok (.bipush 80, 2) := dk_16 80 (dk_at dksX8_readAloud_0 10 rfl rfl)
theorem dX8_readAloud_12 : decode cX8_readAloud 12 = .ok (.iadd, 1) := dk_96 (dk_at dksX8_readAloud_0 12 rfl rfl)
theorem dX8_readAloud_13 : decode cX8_readAloud 13 = .ok (.ireturn, 1) := dk_172 (dk_at dksX8_readAloud_0 13 rfl rfl)
theorem q82 : (Jvm.Cond.initialized "BookPairs$Doubled") ∈ lw_all := lw_g (lw_at lw_m1 15 rfl) rfl
theorem q180 : (Jvm.Cond.selects "BookPairs$Doubled" ({ cls := "BookPairs$Plain", name := "length", desc := "()I" } : Jvm.MethodName) ({ cls := "BookPairs$Doubled", name := "length", desc := "()I" } : Jvm.MethodName)) ∈ lw_all := lw_g (lw_at lw_m1 113 rfl) rfl
theorem q181 : (Jvm.Cond.instanceMethod ({ cls := "BookPairs$Doubled", name := "length", desc := "()I" } : Jvm.MethodName)) ∈ lw_all := lw_g (lw_at lw_m1 114 rfl) rfl
theorem q182 : (Jvm.Cond.code ({ cls := "BookPairs$Doubled", name := "length", desc := "()I" } : Jvm.MethodName) prog_14_method_3_code (1 : Nat) (Option.some Jvm.ClassFile.FieldType.int)) ∈ lw_all := lw_g (lw_at lw_m1 115 rfl) rfl
theorem q183 : (Jvm.Cond.methodLink "BookPairs$Doubled" (13 : Nat) ({ cls := "BookPairs$Doubled", name := "plainLength", desc := "()I" } : Jvm.MethodName)) ∈ lw_all := lw_g (lw_at lw_m1 116 rfl) rfl
theorem q184 : (Jvm.Cond.sameMethod "BookPairs$Doubled" "BookPairs$Longer" "plainLength" "()I") ∈ lw_all := lw_g (lw_at lw_m1 117 rfl) rfl
theorem q186 : (Jvm.Cond.selects "BookPairs$Doubled" ({ cls := "BookPairs$Doubled", name := "plainLength", desc := "()I" } : Jvm.MethodName) ({ cls := "BookPairs$Longer", name := "plainLength", desc := "()I" } : Jvm.MethodName)) ∈ lw_all := lw_g (lw_at lw_m1 119 rfl) rfl
theorem q378 : (Jvm.Cond.selects "BookPairs$Doubled" ({ cls := "BookPairs$Plain", name := "kind", desc := "()I" } : Jvm.MethodName) ({ cls := "BookPairs$Doubled", name := "kind", desc := "()I" } : Jvm.MethodName)) ∈ lw_all := lw_g (lw_at lw_m2 71 rfl) rfl
theorem q379 : (Jvm.Cond.instanceMethod ({ cls := "BookPairs$Doubled", name := "kind", desc := "()I" } : Jvm.MethodName)) ∈ lw_all := lw_g (lw_at lw_m2 72 rfl) rfl
theorem q380 : (Jvm.Cond.code ({ cls := "BookPairs$Doubled", name := "kind", desc := "()I" } : Jvm.MethodName) prog_14_method_2_code (1 : Nat) (Option.some Jvm.ClassFile.FieldType.int)) ∈ lw_all := lw_g (lw_at lw_m2 73 rfl) rfl
theorem q718 : (Jvm.Cond.selects "BookPairs$Doubled" ({ cls := "java/lang/Object", name := "getClass", desc := "()Ljava/lang/Class;" } : Jvm.MethodName) ({ cls := "java/lang/Object", name := "getClass", desc := "()Ljava/lang/Class;" } : Jvm.MethodName)) ∈ lw_all := lw_g (lw_at lw_m3 171 rfl) rfl
theorem q785 : (Jvm.Cond.sameField "BookPairs$Doubled" "BookPairs$Plain" "letters" "I") ∈ lw_all := lw_g (lw_at lw_m3 238 rfl) rfl
theorem q808 : (Jvm.Cond.instantiable "BookPairs$Doubled" (5 : Nat)) ∈ lw_all := lw_g (lw_at lw_m4 21 rfl) rfl
theorem q810 : (Jvm.Cond.instanceMethod ({ cls := "BookPairs$Doubled", name := "<init>", desc := "(LBookPairs;II)V" } : Jvm.MethodName)) ∈ lw_all := lw_g (lw_at lw_m4 23 rfl) rfl
theorem q811 : (Jvm.Cond.code ({ cls := "BookPairs$Doubled", name := "<init>", desc := "(LBookPairs;II)V" } : Jvm.MethodName) prog_14_method_1_code (4 : Nat) (Option.none : Option Jvm.ClassFile.FieldType)) ∈ lw_all := lw_g (lw_at lw_m4 24 rfl) rfl
theorem q812 : (Jvm.Cond.methodLink "BookPairs$Doubled" (7 : Nat) ({ cls := "BookPairs$Longer", name := "<init>", desc := "(LBookPairs;II)V" } : Jvm.MethodName)) ∈ lw_all := lw_g (lw_at lw_m4 25 rfl) rfl
theorem q813 : (Jvm.Cond.fieldLink "BookPairs$Doubled" (1 : Nat) "BookPairs$Doubled" "this$0" "LBookPairs;") ∈ lw_all := lw_g (lw_at lw_m4 26 rfl) rfl
theorem q814 : (Jvm.Cond.laysFinal "BookPairs$Doubled" "BookPairs$Doubled" "this$0" "LBookPairs;") ∈ lw_all := lw_g (lw_at lw_m4 27 rfl) rfl
theorem q815 : (Jvm.Cond.soleField "BookPairs$Doubled" "this$0") ∈ lw_all := lw_g (lw_at lw_m4 28 rfl) rfl
theorem q816 : (Jvm.Cond.laysFinal "BookPairs$Doubled" "BookPairs$Longer" "this$0" "LBookPairs;") ∈ lw_all := lw_g (lw_at lw_m4 29 rfl) rfl
theorem q817 : (Jvm.Cond.laysFinal "BookPairs$Doubled" "BookPairs$Plain" "anchor" "I") ∈ lw_all := lw_g (lw_at lw_m4 30 rfl) rfl
theorem q818 : (Jvm.Cond.lays "BookPairs$Doubled" "BookPairs$Plain" "letters" "I") ∈ lw_all := lw_g (lw_at lw_m4 31 rfl) rfl
theorem q819 : (Jvm.Cond.laysFinal "BookPairs$Doubled" "BookPairs$Plain" "this$0" "LBookPairs;") ∈ lw_all := lw_g (lw_at lw_m4 32 rfl) rfl
theorem q820 : (Jvm.Cond.superclass "BookPairs$Doubled" "BookPairs$Longer") ∈ lw_all := lw_g (lw_at lw_m4 33 rfl) rfl
theorem q1280 : (Jvm.Cond.selects "BookPairs$Doubled" ({ cls := "BookPairs$Plain", name := "said", desc := "()I" } : Jvm.MethodName) ({ cls := "BookPairs$Doubled", name := "said", desc := "()I" } : Jvm.MethodName)) ∈ lw_all := lw_g (lw_at lw_m6 13 rfl) rfl
theorem q1281 : (Jvm.Cond.instanceMethod ({ cls := "BookPairs$Doubled", name := "said", desc := "()I" } : Jvm.MethodName)) ∈ lw_all := lw_g (lw_at lw_m6 14 rfl) rfl
theorem q1282 : (Jvm.Cond.code ({ cls := "BookPairs$Doubled", name := "said", desc := "()I" } : Jvm.MethodName) prog_14_method_4_code (1 : Nat) (Option.some Jvm.ClassFile.FieldType.int)) ∈ lw_all := lw_g (lw_at lw_m6 15 rfl) rfl
theorem q1283 : (Jvm.Cond.methodLink "BookPairs$Doubled" (17 : Nat) ({ cls := "BookPairs$Doubled", name := "tracedBy", desc := "(I)I" } : Jvm.MethodName)) ∈ lw_all := lw_g (lw_at lw_m6 16 rfl) rfl
theorem q1284 : (Jvm.Cond.sameMethod "BookPairs$Doubled" "BookPairs$Plain" "tracedBy" "(I)I") ∈ lw_all := lw_g (lw_at lw_m6 17 rfl) rfl
theorem q1286 : (Jvm.Cond.selects "BookPairs$Doubled" ({ cls := "BookPairs$Doubled", name := "tracedBy", desc := "(I)I" } : Jvm.MethodName) ({ cls := "BookPairs$Plain", name := "tracedBy", desc := "(I)I" } : Jvm.MethodName)) ∈ lw_all := lw_g (lw_at lw_m6 19 rfl) rfl
theorem q1289 : (Jvm.Cond.methodLink "BookPairs$Doubled" (21 : Nat) ({ cls := "BookPairs$Longer", name := "said", desc := "()I" } : Jvm.MethodName)) ∈ lw_all := lw_g (lw_at lw_m6 22 rfl) rfl
theorem q1294 : (Jvm.Cond.selects "BookPairs$Doubled" ({ cls := "BookPairs$Longer", name := "tracedBy", desc := "(I)I" } : Jvm.MethodName) ({ cls := "BookPairs$Plain", name := "tracedBy", desc := "(I)I" } : Jvm.MethodName)) ∈ lw_all := lw_g (lw_at lw_m6 27 rfl) rfl
theorem q1299 : (Jvm.Cond.methodLink "BookPairs$Doubled" (24 : Nat) ({ cls := "BookPairs$Doubled", name := "plainly", desc := "()I" } : Jvm.MethodName)) ∈ lw_all := lw_g (lw_at lw_m6 32 rfl) rfl
theorem q1300 : (Jvm.Cond.sameMethod "BookPairs$Doubled" "BookPairs$Longer" "plainly" "()I") ∈ lw_all := lw_g (lw_at lw_m6 33 rfl) rfl
theorem q1302 : (Jvm.Cond.selects "BookPairs$Doubled" ({ cls := "BookPairs$Doubled", name := "plainly", desc := "()I" } : Jvm.MethodName) ({ cls := "BookPairs$Longer", name := "plainly", desc := "()I" } : Jvm.MethodName)) ∈ lw_all := lw_g (lw_at lw_m6 35 rfl) rfl
theorem q1315 : (Jvm.Cond.castable "BookPairs$Doubled" "BookPairs$Aloud") ∈ lw_tbl := lw_at lw_m6 48 rfl
theorem q1316 : (Jvm.Cond.selects "BookPairs$Doubled" ({ cls := "BookPairs$Aloud", name := "readAloud", desc := "()I" } : Jvm.MethodName) ({ cls := "BookPairs$Doubled", name := "readAloud", desc := "()I" } : Jvm.MethodName)) ∈ lw_all := lw_g (lw_at lw_m6 49 rfl) rfl
theorem q1317 : (Jvm.Cond.unhidden "BookPairs$Doubled" "readAloud" "()I") ∈ lw_tbl := lw_at lw_m6 50 rfl
theorem q1318 : (Jvm.Cond.instanceMethod ({ cls := "BookPairs$Doubled", name := "readAloud", desc := "()I" } : Jvm.MethodName)) ∈ lw_all := lw_g (lw_at lw_m6 51 rfl) rfl
theorem q1319 : (Jvm.Cond.publicMethod ({ cls := "BookPairs$Doubled", name := "readAloud", desc := "()I" } : Jvm.MethodName)) ∈ lw_tbl := lw_at lw_m6 52 rfl
theorem q1320 : (Jvm.Cond.code ({ cls := "BookPairs$Doubled", name := "readAloud", desc := "()I" } : Jvm.MethodName) prog_14_method_5_code (1 : Nat) (Option.some Jvm.ClassFile.FieldType.int)) ∈ lw_all := lw_g (lw_at lw_m6 53 rfl) rfl
theorem q1327 : (Jvm.Cond.selects "BookPairs$Doubled" ({ cls := "BookPairs$Aloud", name := "tracedBy", desc := "(I)I" } : Jvm.MethodName) ({ cls := "BookPairs$Plain", name := "tracedBy", desc := "(I)I" } : Jvm.MethodName)) ∈ lw_all := lw_g (lw_at lw_m6 60 rfl) rfl
theorem q1328 : (Jvm.Cond.unhidden "BookPairs$Doubled" "tracedBy" "(I)I") ∈ lw_tbl := lw_at lw_m6 61 rfl
theorem q1340 : (Jvm.Cond.selects "BookPairs$Doubled" ({ cls := "BookPairs$Aloud", name := "anchor", desc := "()I" } : Jvm.MethodName) ({ cls := "BookPairs$Plain", name := "anchor", desc := "()I" } : Jvm.MethodName)) ∈ lw_all := lw_g (lw_at lw_m6 73 rfl) rfl
theorem q1341 : (Jvm.Cond.unhidden "BookPairs$Doubled" "anchor" "()I") ∈ lw_tbl := lw_at lw_m6 74 rfl
theorem q1738 : (Jvm.Cond.selects "BookPairs$Doubled" ({ cls := "BookPairs$Longer", name := "plainLength", desc := "()I" } : Jvm.MethodName) ({ cls := "BookPairs$Longer", name := "plainLength", desc := "()I" } : Jvm.MethodName)) ∈ lw_all := lw_g (lw_at lw_m7 231 rfl) rfl
theorem q1743 : (Jvm.Cond.selects "BookPairs$Doubled" ({ cls := "BookPairs$Plain", name := "tracedBy", desc := "(I)I" } : Jvm.MethodName) ({ cls := "BookPairs$Plain", name := "tracedBy", desc := "(I)I" } : Jvm.MethodName)) ∈ lw_all := lw_g (lw_at lw_m7 236 rfl) rfl
theorem q1749 : (Jvm.Cond.castable "BookPairs$Doubled" "BookPairs$Plain") ∈ lw_tbl := lw_at lw_m8 2 rfl
theorem q1751 : (Jvm.Cond.castable "BookPairs$Doubled" "BookPairs$Longer") ∈ lw_tbl := lw_at lw_m8 4 rfl
theorem q1761 : (Jvm.Cond.castable "BookPairs$Doubled" "java/lang/Object") ∈ lw_tbl := lw_at lw_m8 14 rfl
theorem in_X8 : ∀ w ∈ wsX80, w ∈ lw_all := lw_in wsX80 [817, 818, 819, 816, 814] (by decide +kernel) (by decide +kernel)

/-! BookPairs$Sum -/
set_option maxRecDepth 100000
def RX9 : String := "BookPairs$Sum"
abbrev cX9_init : ByteArray := prog_22_method_1_code
def yX9_init : MethodName := ⟨RX9, "<init>", "(LBookPairs;)V"⟩
def dkwX9_init_0 : List UInt8 := [42, 43, 181, 0, 1, 42, 183, 0, 7, 177]
abbrev dktX9_init_0 : List UInt8 := dkwX9_init_0 ++ []
theorem dksX9_init_0 : cX9_init.data.toList.drop 0 = dktX9_init_0 := by decide +kernel
theorem dX9_init_0 : decode cX9_init 0 = .ok (.aload_n 0, 1) := dk_42 (dk_at dksX9_init_0 0 rfl rfl)
theorem dX9_init_1 : decode cX9_init 1 = .ok (.aload_n 1, 1) := dk_43 (dk_at dksX9_init_0 1 rfl rfl)
theorem dX9_init_2 : decode cX9_init 2 = .ok (.putfield 1, 3) := dk_181 0 1 (dk_at dksX9_init_0 2 rfl rfl)
theorem dX9_init_5 : decode cX9_init 5 = .ok (.aload_n 0, 1) := dk_42 (dk_at dksX9_init_0 5 rfl rfl)
theorem dX9_init_6 : decode cX9_init 6 = .ok (.invokespecial 7, 3) := dk_183 0 7 (dk_at dksX9_init_0 6 rfl rfl)
theorem dX9_init_9 : decode cX9_init 9 = .ok (.return_, 1) := dk_177 (dk_at dksX9_init_0 9 rfl rfl)
abbrev cX9_all : ByteArray := prog_22_method_3_code
def yX9_all : MethodName := ⟨RX9, "all", "()I"⟩
def dkwX9_all_1 : List UInt8 := [43, 185, 0, 28, 1, 0, 192, 0, 32, 77, 42, 44, 182, 0, 34, 167, 255, 232, 42, 180, 0, 38, 172]
abbrev dktX9_all_1 : List UInt8 := dkwX9_all_1 ++ []
def dkwX9_all_0 : List UInt8 := [187, 0, 13, 89, 42, 180, 0, 1, 183, 0, 15, 182, 0, 18, 76, 43, 185, 0, 22, 1, 0, 153, 0, 21]
abbrev dktX9_all_0 : List UInt8 := dkwX9_all_0 ++ dktX9_all_1
theorem dksX9_all_0 : cX9_all.data.toList.drop 0 = dktX9_all_0 := by decide +kernel
theorem dksX9_all_1 : cX9_all.data.toList.drop 24 = dktX9_all_1 := dk_seg dksX9_all_0 24 rfl rfl
theorem dX9_all_0 : decode cX9_all 0 = .ok (.new 13, 3) := dk_187 0 13 (dk_at dksX9_all_0 0 rfl rfl)
theorem dX9_all_3 : decode cX9_all 3 = .ok (.dup, 1) := dk_89 (dk_at dksX9_all_0 3 rfl rfl)
theorem dX9_all_4 : decode cX9_all 4 = .ok (.aload_n 0, 1) := dk_42 (dk_at dksX9_all_0 4 rfl rfl)
theorem dX9_all_5 : decode cX9_all 5 = .ok (.getfield 1, 3) := dk_180 0 1 (dk_at dksX9_all_0 5 rfl rfl)
theorem dX9_all_8 : decode cX9_all 8 = .ok (.invokespecial 15, 3) := dk_183 0 15 (dk_at dksX9_all_0 8 rfl rfl)
theorem dX9_all_11 : decode cX9_all 11 = .ok (.invokevirtual 18, 3) := dk_182 0 18 (dk_at dksX9_all_0 11 rfl rfl)
theorem dX9_all_14 : decode cX9_all 14 = .ok (.astore_n 1, 1) := dk_76 (dk_at dksX9_all_0 14 rfl rfl)
theorem dX9_all_15 : decode cX9_all 15 = .ok (.aload_n 1, 1) := dk_43 (dk_at dksX9_all_0 15 rfl rfl)
theorem dX9_all_16 : decode cX9_all 16 = .ok (.invokeinterface 22 1, 5) := by decide +kernel
theorem dX9_all_21 : decode cX9_all 21 = .ok (.ifCond .eq 21, 3) := dk_153 0 21 (dk_at dksX9_all_0 21 rfl rfl)
theorem dX9_all_24 : decode cX9_all 24 = .ok (.aload_n 1, 1) := dk_43 (dk_at dksX9_all_1 0 rfl rfl)
theorem dX9_all_25 : decode cX9_all 25 = .ok (.invokeinterface 28 1, 5) := by decide +kernel
theorem dX9_all_30 : decode cX9_all 30 = .ok (.checkcast 32, 3) := dk_192 0 32 (dk_at dksX9_all_1 6 rfl rfl)
theorem dX9_all_33 : decode cX9_all 33 = .ok (.astore_n 2, 1) := dk_77 (dk_at dksX9_all_1 9 rfl rfl)
theorem dX9_all_34 : decode cX9_all 34 = .ok (.aload_n 0, 1) := dk_42 (dk_at dksX9_all_1 10 rfl rfl)
theorem dX9_all_35 : decode cX9_all 35 = .ok (.aload_n 2, 1) := dk_44 (dk_at dksX9_all_1 11 rfl rfl)
theorem dX9_all_36 : decode cX9_all 36 = .ok (.invokevirtual 34, 3) := dk_182 0 34 (dk_at dksX9_all_1 12 rfl rfl)
theorem dX9_all_39 : decode cX9_all 39 = .ok (.goto (-24), 3) := dk_167 255 232 (dk_at dksX9_all_1 15 rfl rfl)
theorem dX9_all_42 : decode cX9_all 42 = .ok (.aload_n 0, 1) := dk_42 (dk_at dksX9_all_1 18 rfl rfl)
theorem dX9_all_43 : decode cX9_all 43 = .ok (.getfield 38, 3) := dk_180 0 38 (dk_at dksX9_all_1 19 rfl rfl)
theorem dX9_all_46 : decode cX9_all 46 = .ok (.ireturn, 1) := dk_172 (dk_at dksX9_all_1 22 rfl rfl)
theorem q96 : (Jvm.Cond.initialized "BookPairs$Sum") ∈ lw_all := lw_g (lw_at lw_m1 29 rfl) rfl
theorem q395 : (Jvm.Cond.instanceMethod ({ cls := "BookPairs$Sum", name := "<init>", desc := "(LBookPairs;)V" } : Jvm.MethodName)) ∈ lw_all := lw_g (lw_at lw_m2 88 rfl) rfl
theorem q396 : (Jvm.Cond.code ({ cls := "BookPairs$Sum", name := "<init>", desc := "(LBookPairs;)V" } : Jvm.MethodName) prog_22_method_1_code (2 : Nat) (Option.none : Option Jvm.ClassFile.FieldType)) ∈ lw_all := lw_g (lw_at lw_m2 89 rfl) rfl
theorem q397 : (Jvm.Cond.methodLink "BookPairs$Sum" (7 : Nat) ({ cls := "java/lang/Object", name := "<init>", desc := "()V" } : Jvm.MethodName)) ∈ lw_all := lw_g (lw_at lw_m2 90 rfl) rfl
theorem q406 : (Jvm.Cond.fieldLink "BookPairs$Sum" (38 : Nat) "BookPairs$Sum" "sum" "I") ∈ lw_all := lw_g (lw_at lw_m2 99 rfl) rfl
theorem q407 : (Jvm.Cond.fieldLink "BookPairs$Sum" (1 : Nat) "BookPairs$Sum" "this$0" "LBookPairs;") ∈ lw_all := lw_g (lw_at lw_m2 100 rfl) rfl
theorem q413 : (Jvm.Cond.soleField "BookPairs$Sum" "sum") ∈ lw_all := lw_g (lw_at lw_m2 106 rfl) rfl
theorem q415 : (Jvm.Cond.soleField "BookPairs$Sum" "this$0") ∈ lw_all := lw_g (lw_at lw_m2 108 rfl) rfl
theorem q418 : (Jvm.Cond.instanceMethod ({ cls := "BookPairs$Sum", name := "all", desc := "()I" } : Jvm.MethodName)) ∈ lw_all := lw_g (lw_at lw_m2 111 rfl) rfl
theorem q419 : (Jvm.Cond.sameMethod "BookPairs$Sum" "BookPairs$Sum" "all" "()I") ∈ lw_all := lw_g (lw_at lw_m2 112 rfl) rfl
theorem q423 : (Jvm.Cond.code ({ cls := "BookPairs$Sum", name := "all", desc := "()I" } : Jvm.MethodName) prog_22_method_3_code (3 : Nat) (Option.some Jvm.ClassFile.FieldType.int)) ∈ lw_all := lw_g (lw_at lw_m2 116 rfl) rfl
theorem q424 : (Jvm.Cond.classLink "BookPairs$Sum" (13 : Nat) "BookPairs$Best") ∈ lw_all := lw_g (lw_at lw_m2 117 rfl) rfl
theorem q426 : (Jvm.Cond.methodLinkNest "BookPairs$Sum" (15 : Nat) ({ cls := "BookPairs$Best", name := "<init>", desc := "(LBookPairs;)V" } : Jvm.MethodName) "BookPairs") ∈ lw_tbl := lw_at lw_m2 119 rfl
theorem q460 : (Jvm.Cond.methodLink "BookPairs$Sum" (18 : Nat) ({ cls := "BookPairs$Best", name := "iterator", desc := "()Ljava/util/Iterator;" } : Jvm.MethodName)) ∈ lw_all := lw_g (lw_at lw_m2 153 rfl) rfl
theorem q480 : (Jvm.Cond.interfaceEntry "BookPairs$Sum" (22 : Nat)) ∈ lw_tbl := lw_at lw_m2 173 rfl
theorem q481 : (Jvm.Cond.methodLink "BookPairs$Sum" (22 : Nat) ({ cls := "java/util/Iterator", name := "hasNext", desc := "()Z" } : Jvm.MethodName)) ∈ lw_all := lw_g (lw_at lw_m2 174 rfl) rfl
theorem q492 : (Jvm.Cond.interfaceEntry "BookPairs$Sum" (28 : Nat)) ∈ lw_tbl := lw_at lw_m2 185 rfl
theorem q493 : (Jvm.Cond.methodLink "BookPairs$Sum" (28 : Nat) ({ cls := "java/util/Iterator", name := "next", desc := "()Ljava/lang/Object;" } : Jvm.MethodName)) ∈ lw_all := lw_g (lw_at lw_m2 186 rfl) rfl
theorem q536 : (Jvm.Cond.classLink "BookPairs$Sum" (32 : Nat) "BookPairs$Bead") ∈ lw_all := lw_g (lw_at lw_m2 229 rfl) rfl
theorem q537 : (Jvm.Cond.methodLink "BookPairs$Sum" (34 : Nat) ({ cls := "BookPairs$Sum", name := "takes", desc := "(LBookPairs$Bead;)V" } : Jvm.MethodName)) ∈ lw_all := lw_g (lw_at lw_m2 230 rfl) rfl
theorem q538 : (Jvm.Cond.declares ({ cls := "BookPairs$Sum", name := "takes", desc := "(LBookPairs$Bead;)V" } : Jvm.MethodName)) ∈ lw_tbl := lw_at lw_m2 231 rfl
theorem q539 : (Jvm.Cond.sameMethod "BookPairs$Sum" "BookPairs$Sum" "takes" "(LBookPairs$Bead;)V") ∈ lw_all := lw_g (lw_at lw_m2 232 rfl) rfl
theorem q586 : (Jvm.Cond.declares ({ cls := "BookPairs$Sum", name := "all", desc := "()I" } : Jvm.MethodName)) ∈ lw_tbl := lw_at lw_m3 39 rfl

