/-! java/util/AbstractCollection -/
set_option maxRecDepth 100000
def RJ0 : String := "java/util/AbstractCollection"
abbrev cJ0_init : ByteArray := prog_41_method_1_code
def yJ0_init : MethodName := ⟨RJ0, "<init>", "()V"⟩
theorem dJ0_init_0 : decode cJ0_init 0 = .ok (.aload_n 0, 1) := by decide +kernel
theorem dJ0_init_1 : decode cJ0_init 1 = .ok (.invokespecial 1, 3) := by decide +kernel
theorem dJ0_init_4 : decode cJ0_init 4 = .ok (.return_, 1) := by decide +kernel
theorem q71 : (Jvm.Cond.initialized "java/util/AbstractCollection") ∈ lw_all := lw_g (lw_at lw_m1 4 rfl) rfl
theorem q143 : (Jvm.Cond.instanceMethod ({ cls := "java/util/AbstractCollection", name := "<init>", desc := "()V" } : Jvm.MethodName)) ∈ lw_all := lw_g (lw_at lw_m1 76 rfl) rfl
theorem q144 : (Jvm.Cond.code ({ cls := "java/util/AbstractCollection", name := "<init>", desc := "()V" } : Jvm.MethodName) prog_41_method_1_code (1 : Nat) (Option.none : Option Jvm.ClassFile.FieldType)) ∈ lw_all := lw_g (lw_at lw_m1 77 rfl) rfl
theorem q145 : (Jvm.Cond.methodLink "java/util/AbstractCollection" (1 : Nat) ({ cls := "java/lang/Object", name := "<init>", desc := "()V" } : Jvm.MethodName)) ∈ lw_all := lw_g (lw_at lw_m1 78 rfl) rfl
/-! java/util/AbstractList -/
set_option maxRecDepth 100000
def RJ1 : String := "java/util/AbstractList"
abbrev cJ1_init : ByteArray := prog_42_method_1_code
def yJ1_init : MethodName := ⟨RJ1, "<init>", "()V"⟩
def dkwJ1_init_0 : List UInt8 := [42, 183, 0, 1, 42, 3, 181, 0, 7, 177]
abbrev dktJ1_init_0 : List UInt8 := dkwJ1_init_0 ++ []
theorem dksJ1_init_0 : cJ1_init.data.toList.drop 0 = dktJ1_init_0 := by decide +kernel
theorem dJ1_init_0 : decode cJ1_init 0 = .ok (.aload_n 0, 1) := dk_42 (dk_at dksJ1_init_0 0 rfl rfl)
theorem dJ1_init_1 : decode cJ1_init 1 = .ok (.invokespecial 1, 3) := dk_183 0 1 (dk_at dksJ1_init_0 1 rfl rfl)
theorem dJ1_init_4 : decode cJ1_init 4 = .ok (.aload_n 0, 1) := dk_42 (dk_at dksJ1_init_0 4 rfl rfl)
theorem dJ1_init_5 : decode cJ1_init 5 = .ok (.iconst 0, 1) := dk_3 (dk_at dksJ1_init_0 5 rfl rfl)
theorem dJ1_init_6 : decode cJ1_init 6 = .ok (.putfield 7, 3) := dk_181 0 7 (dk_at dksJ1_init_0 6 rfl rfl)
theorem dJ1_init_9 : decode cJ1_init 9 = .ok (.return_, 1) := dk_177 (dk_at dksJ1_init_0 9 rfl rfl)
theorem q72 : (Jvm.Cond.initialized "java/util/AbstractList") ∈ lw_all := lw_g (lw_at lw_m1 5 rfl) rfl
theorem q140 : (Jvm.Cond.instanceMethod ({ cls := "java/util/AbstractList", name := "<init>", desc := "()V" } : Jvm.MethodName)) ∈ lw_all := lw_g (lw_at lw_m1 73 rfl) rfl
theorem q141 : (Jvm.Cond.code ({ cls := "java/util/AbstractList", name := "<init>", desc := "()V" } : Jvm.MethodName) prog_42_method_1_code (1 : Nat) (Option.none : Option Jvm.ClassFile.FieldType)) ∈ lw_all := lw_g (lw_at lw_m1 74 rfl) rfl
theorem q142 : (Jvm.Cond.methodLink "java/util/AbstractList" (1 : Nat) ({ cls := "java/util/AbstractCollection", name := "<init>", desc := "()V" } : Jvm.MethodName)) ∈ lw_all := lw_g (lw_at lw_m1 75 rfl) rfl
theorem q150 : (Jvm.Cond.fieldLink "java/util/AbstractList" (7 : Nat) "java/util/AbstractList" "modCount" "I") ∈ lw_all := lw_g (lw_at lw_m1 83 rfl) rfl
theorem q158 : (Jvm.Cond.soleField "java/util/AbstractList" "modCount") ∈ lw_all := lw_g (lw_at lw_m1 91 rfl) rfl
/-! java/lang/ArrayIndexOutOfBoundsException -/
set_option maxRecDepth 100000
def RJ10 : String := "java/lang/ArrayIndexOutOfBoundsException"
def TJ10 : u_T := fun k => match k with
  | 0 => ("java/lang/Throwable", "backtrace", "Ljava/lang/Object;", false)
  | 1 => ("java/lang/Throwable", "detailMessage", "Ljava/lang/String;", false)
  | 2 => ("java/lang/Throwable", "cause", "Ljava/lang/Throwable;", false)
  | 3 => ("java/lang/Throwable", "stackTrace", "[Ljava/lang/StackTraceElement;", false)
  | 4 => ("java/lang/Throwable", "depth", "I", false)
  | _ => ("java/lang/Throwable", "suppressedExceptions", "Ljava/util/List;", false)
def tyJ10 : Nat → FieldType := fun k => match k with
  | 0 => .object "java/lang/Object"
  | 1 => .object "java/lang/String"
  | 2 => .object "java/lang/Throwable"
  | 3 => .array (.object "java/lang/StackTraceElement")
  | 4 => .int
  | _ => .object "java/util/List"
abbrev wsJ100 : List Cond := u_ws RJ10 TJ10 6
theorem nmJ10 : ∀ a, a < 6 → ∀ b, b < 6 → a ≠ b → (TJ10 a).2.1 ≠ (TJ10 b).2.1 := by decide +kernel
theorem tyJ10_ok : ∀ k, k < 6 → parseFieldDescriptor (TJ10 k).2.2.1 = some (tyJ10 k) := by decide +kernel
abbrev cJ10_init : ByteArray := prog_19_method_2_code
def yJ10_init : MethodName := ⟨RJ10, "<init>", "(Ljava/lang/String;)V"⟩
def dkwJ10_init_0 : List UInt8 := [42, 43, 183, 0, 7, 177]
abbrev dktJ10_init_0 : List UInt8 := dkwJ10_init_0 ++ []
theorem dksJ10_init_0 : cJ10_init.data.toList.drop 0 = dktJ10_init_0 := by decide +kernel
theorem dJ10_init_0 : decode cJ10_init 0 = .ok (.aload_n 0, 1) := dk_42 (dk_at dksJ10_init_0 0 rfl rfl)
theorem dJ10_init_1 : decode cJ10_init 1 = .ok (.aload_n 1, 1) := dk_43 (dk_at dksJ10_init_0 1 rfl rfl)
theorem dJ10_init_2 : decode cJ10_init 2 = .ok (.invokespecial 7, 3) := dk_183 0 7 (dk_at dksJ10_init_0 2 rfl rfl)
theorem dJ10_init_5 : decode cJ10_init 5 = .ok (.return_, 1) := dk_177 (dk_at dksJ10_init_0 5 rfl rfl)
abbrev cJ10_init_2 : ByteArray := prog_19_method_1_code
def yJ10_init_2 : MethodName := ⟨RJ10, "<init>", "()V"⟩
theorem dJ10_init_2_0 : decode cJ10_init_2 0 = .ok (.aload_n 0, 1) := by decide +kernel
theorem dJ10_init_2_1 : decode cJ10_init_2 1 = .ok (.invokespecial 1, 3) := by decide +kernel
theorem dJ10_init_2_4 : decode cJ10_init_2 4 = .ok (.return_, 1) := by decide +kernel
theorem q83 : (Jvm.Cond.initialized "java/lang/ArrayIndexOutOfBoundsException") ∈ lw_all := lw_g (lw_at lw_m1 16 rfl) rfl
theorem q272 : (Jvm.Cond.selects "java/lang/ArrayIndexOutOfBoundsException" ({ cls := "java/lang/Throwable", name := "fillInStackTrace", desc := "()Ljava/lang/Throwable;" } : Jvm.MethodName) ({ cls := "java/lang/Throwable", name := "fillInStackTrace", desc := "()Ljava/lang/Throwable;" } : Jvm.MethodName)) ∈ lw_all := lw_g (lw_at lw_m1 205 rfl) rfl
theorem q388 : (Jvm.Cond.instantiable "java/lang/ArrayIndexOutOfBoundsException" (6 : Nat)) ∈ lw_all := lw_g (lw_at lw_m2 81 rfl) rfl
theorem q389 : (Jvm.Cond.instanceMethod ({ cls := "java/lang/ArrayIndexOutOfBoundsException", name := "<init>", desc := "(Ljava/lang/String;)V" } : Jvm.MethodName)) ∈ lw_all := lw_g (lw_at lw_m2 82 rfl) rfl
theorem q390 : (Jvm.Cond.code ({ cls := "java/lang/ArrayIndexOutOfBoundsException", name := "<init>", desc := "(Ljava/lang/String;)V" } : Jvm.MethodName) prog_19_method_2_code (2 : Nat) (Option.none : Option Jvm.ClassFile.FieldType)) ∈ lw_all := lw_g (lw_at lw_m2 83 rfl) rfl
theorem q391 : (Jvm.Cond.methodLink "java/lang/ArrayIndexOutOfBoundsException" (7 : Nat) ({ cls := "java/lang/IndexOutOfBoundsException", name := "<init>", desc := "(Ljava/lang/String;)V" } : Jvm.MethodName)) ∈ lw_all := lw_g (lw_at lw_m2 84 rfl) rfl
theorem q395 : (Jvm.Cond.lays "java/lang/ArrayIndexOutOfBoundsException" "java/lang/Throwable" "backtrace" "Ljava/lang/Object;") ∈ lw_all := lw_g (lw_at lw_m2 88 rfl) rfl
theorem q396 : (Jvm.Cond.lays "java/lang/ArrayIndexOutOfBoundsException" "java/lang/Throwable" "detailMessage" "Ljava/lang/String;") ∈ lw_all := lw_g (lw_at lw_m2 89 rfl) rfl
theorem q397 : (Jvm.Cond.lays "java/lang/ArrayIndexOutOfBoundsException" "java/lang/Throwable" "cause" "Ljava/lang/Throwable;") ∈ lw_all := lw_g (lw_at lw_m2 90 rfl) rfl
theorem q398 : (Jvm.Cond.lays "java/lang/ArrayIndexOutOfBoundsException" "java/lang/Throwable" "stackTrace" "[Ljava/lang/StackTraceElement;") ∈ lw_all := lw_g (lw_at lw_m2 91 rfl) rfl
theorem q399 : (Jvm.Cond.lays "java/lang/ArrayIndexOutOfBoundsException" "java/lang/Throwable" "depth" "I") ∈ lw_all := lw_g (lw_at lw_m2 92 rfl) rfl
theorem q400 : (Jvm.Cond.lays "java/lang/ArrayIndexOutOfBoundsException" "java/lang/Throwable" "suppressedExceptions" "Ljava/util/List;") ∈ lw_all := lw_g (lw_at lw_m2 93 rfl) rfl
theorem q401 : (Jvm.Cond.superclass "java/lang/ArrayIndexOutOfBoundsException" "java/lang/IndexOutOfBoundsException") ∈ lw_all := lw_g (lw_at lw_m2 94 rfl) rfl
theorem q402 : (Jvm.Cond.castable "java/lang/ArrayIndexOutOfBoundsException" "java/lang/ArrayIndexOutOfBoundsException") ∈ lw_tbl := lw_at lw_m2 95 rfl
theorem q405 : (Jvm.Cond.selects "java/lang/ArrayIndexOutOfBoundsException" ({ cls := "java/lang/Throwable", name := "fillInStackTrace", desc := "(I)Ljava/lang/Throwable;" } : Jvm.MethodName) ({ cls := "java/lang/Throwable", name := "fillInStackTrace", desc := "(I)Ljava/lang/Throwable;" } : Jvm.MethodName)) ∈ lw_all := lw_g (lw_at lw_m2 98 rfl) rfl
theorem q790 : (Jvm.Cond.selects "java/lang/ArrayIndexOutOfBoundsException" ({ cls := "java/lang/Object", name := "getClass", desc := "()Ljava/lang/Class;" } : Jvm.MethodName) ({ cls := "java/lang/Object", name := "getClass", desc := "()Ljava/lang/Class;" } : Jvm.MethodName)) ∈ lw_all := lw_g (lw_at lw_m4 3 rfl) rfl
theorem q1058 : (Jvm.Cond.instanceMethod ({ cls := "java/lang/ArrayIndexOutOfBoundsException", name := "<init>", desc := "()V" } : Jvm.MethodName)) ∈ lw_all := lw_g (lw_at lw_m5 31 rfl) rfl
theorem q1059 : (Jvm.Cond.code ({ cls := "java/lang/ArrayIndexOutOfBoundsException", name := "<init>", desc := "()V" } : Jvm.MethodName) prog_19_method_1_code (1 : Nat) (Option.none : Option Jvm.ClassFile.FieldType)) ∈ lw_all := lw_g (lw_at lw_m5 32 rfl) rfl
theorem q1060 : (Jvm.Cond.methodLink "java/lang/ArrayIndexOutOfBoundsException" (1 : Nat) ({ cls := "java/lang/IndexOutOfBoundsException", name := "<init>", desc := "()V" } : Jvm.MethodName)) ∈ lw_all := lw_g (lw_at lw_m5 33 rfl) rfl
theorem q1683 : (Jvm.Cond.castable "java/lang/ArrayIndexOutOfBoundsException" "java/lang/IndexOutOfBoundsException") ∈ lw_tbl := lw_at lw_m7 176 rfl
theorem q1700 : (Jvm.Cond.castable "java/lang/ArrayIndexOutOfBoundsException" "java/lang/Object") ∈ lw_tbl := lw_at lw_m7 193 rfl
theorem in_J10 : ∀ w ∈ wsJ100, w ∈ lw_all := lw_in wsJ100 [395, 396, 397, 398, 399, 400] (by decide +kernel) (by decide +kernel)
/-! java/lang/ArrayStoreException -/
set_option maxRecDepth 100000
def RJ11 : String := "java/lang/ArrayStoreException"
def TJ11 : u_T := fun k => match k with
  | 0 => ("java/lang/Throwable", "backtrace", "Ljava/lang/Object;", false)
  | 1 => ("java/lang/Throwable", "detailMessage", "Ljava/lang/String;", false)
  | 2 => ("java/lang/Throwable", "cause", "Ljava/lang/Throwable;", false)
  | 3 => ("java/lang/Throwable", "stackTrace", "[Ljava/lang/StackTraceElement;", false)
  | 4 => ("java/lang/Throwable", "depth", "I", false)
  | _ => ("java/lang/Throwable", "suppressedExceptions", "Ljava/util/List;", false)
def tyJ11 : Nat → FieldType := fun k => match k with
  | 0 => .object "java/lang/Object"
  | 1 => .object "java/lang/String"
  | 2 => .object "java/lang/Throwable"
  | 3 => .array (.object "java/lang/StackTraceElement")
  | 4 => .int
  | _ => .object "java/util/List"
abbrev wsJ110 : List Cond := u_ws RJ11 TJ11 6
theorem nmJ11 : ∀ a, a < 6 → ∀ b, b < 6 → a ≠ b → (TJ11 a).2.1 ≠ (TJ11 b).2.1 := by decide +kernel
theorem tyJ11_ok : ∀ k, k < 6 → parseFieldDescriptor (TJ11 k).2.2.1 = some (tyJ11 k) := by decide +kernel
abbrev cJ11_init : ByteArray := prog_20_method_2_code
def yJ11_init : MethodName := ⟨RJ11, "<init>", "(Ljava/lang/String;)V"⟩
def dkwJ11_init_0 : List UInt8 := [42, 43, 183, 0, 7, 177]
abbrev dktJ11_init_0 : List UInt8 := dkwJ11_init_0 ++ []
theorem dksJ11_init_0 : cJ11_init.data.toList.drop 0 = dktJ11_init_0 := by decide +kernel
theorem dJ11_init_0 : decode cJ11_init 0 = .ok (.aload_n 0, 1) := dk_42 (dk_at dksJ11_init_0 0 rfl rfl)
theorem dJ11_init_1 : decode cJ11_init 1 = .ok (.aload_n 1, 1) := dk_43 (dk_at dksJ11_init_0 1 rfl rfl)
theorem dJ11_init_2 : decode cJ11_init 2 = .ok (.invokespecial 7, 3) := dk_183 0 7 (dk_at dksJ11_init_0 2 rfl rfl)
theorem dJ11_init_5 : decode cJ11_init 5 = .ok (.return_, 1) := dk_177 (dk_at dksJ11_init_0 5 rfl rfl)
theorem q84 : (Jvm.Cond.initialized "java/lang/ArrayStoreException") ∈ lw_all := lw_g (lw_at lw_m1 17 rfl) rfl
theorem q273 : (Jvm.Cond.selects "java/lang/ArrayStoreException" ({ cls := "java/lang/Throwable", name := "fillInStackTrace", desc := "()Ljava/lang/Throwable;" } : Jvm.MethodName) ({ cls := "java/lang/Throwable", name := "fillInStackTrace", desc := "()Ljava/lang/Throwable;" } : Jvm.MethodName)) ∈ lw_all := lw_g (lw_at lw_m1 206 rfl) rfl
theorem q422 : (Jvm.Cond.instantiable "java/lang/ArrayStoreException" (6 : Nat)) ∈ lw_all := lw_g (lw_at lw_m2 115 rfl) rfl
theorem q423 : (Jvm.Cond.instanceMethod ({ cls := "java/lang/ArrayStoreException", name := "<init>", desc := "(Ljava/lang/String;)V" } : Jvm.MethodName)) ∈ lw_all := lw_g (lw_at lw_m2 116 rfl) rfl
theorem q424 : (Jvm.Cond.code ({ cls := "java/lang/ArrayStoreException", name := "<init>", desc := "(Ljava/lang/String;)V" } : Jvm.MethodName) prog_20_method_2_code (2 : Nat) (Option.none : Option Jvm.ClassFile.FieldType)) ∈ lw_all := lw_g (lw_at lw_m2 117 rfl) rfl
theorem q425 : (Jvm.Cond.methodLink "java/lang/ArrayStoreException" (7 : Nat) ({ cls := "java/lang/RuntimeException", name := "<init>", desc := "(Ljava/lang/String;)V" } : Jvm.MethodName)) ∈ lw_all := lw_g (lw_at lw_m2 118 rfl) rfl
theorem q426 : (Jvm.Cond.lays "java/lang/ArrayStoreException" "java/lang/Throwable" "backtrace" "Ljava/lang/Object;") ∈ lw_all := lw_g (lw_at lw_m2 119 rfl) rfl
theorem q427 : (Jvm.Cond.lays "java/lang/ArrayStoreException" "java/lang/Throwable" "detailMessage" "Ljava/lang/String;") ∈ lw_all := lw_g (lw_at lw_m2 120 rfl) rfl
theorem q428 : (Jvm.Cond.lays "java/lang/ArrayStoreException" "java/lang/Throwable" "cause" "Ljava/lang/Throwable;") ∈ lw_all := lw_g (lw_at lw_m2 121 rfl) rfl
theorem q429 : (Jvm.Cond.lays "java/lang/ArrayStoreException" "java/lang/Throwable" "stackTrace" "[Ljava/lang/StackTraceElement;") ∈ lw_all := lw_g (lw_at lw_m2 122 rfl) rfl
theorem q430 : (Jvm.Cond.lays "java/lang/ArrayStoreException" "java/lang/Throwable" "depth" "I") ∈ lw_all := lw_g (lw_at lw_m2 123 rfl) rfl
theorem q431 : (Jvm.Cond.lays "java/lang/ArrayStoreException" "java/lang/Throwable" "suppressedExceptions" "Ljava/util/List;") ∈ lw_all := lw_g (lw_at lw_m2 124 rfl) rfl
theorem q432 : (Jvm.Cond.superclass "java/lang/ArrayStoreException" "java/lang/RuntimeException") ∈ lw_all := lw_g (lw_at lw_m2 125 rfl) rfl
theorem q433 : (Jvm.Cond.castable "java/lang/ArrayStoreException" "java/lang/ArrayStoreException") ∈ lw_tbl := lw_at lw_m2 126 rfl
theorem q434 : (Jvm.Cond.selects "java/lang/ArrayStoreException" ({ cls := "java/lang/Throwable", name := "fillInStackTrace", desc := "(I)Ljava/lang/Throwable;" } : Jvm.MethodName) ({ cls := "java/lang/Throwable", name := "fillInStackTrace", desc := "(I)Ljava/lang/Throwable;" } : Jvm.MethodName)) ∈ lw_all := lw_g (lw_at lw_m2 127 rfl) rfl
theorem q791 : (Jvm.Cond.selects "java/lang/ArrayStoreException" ({ cls := "java/lang/Object", name := "getClass", desc := "()Ljava/lang/Class;" } : Jvm.MethodName) ({ cls := "java/lang/Object", name := "getClass", desc := "()Ljava/lang/Class;" } : Jvm.MethodName)) ∈ lw_all := lw_g (lw_at lw_m4 4 rfl) rfl
theorem q1701 : (Jvm.Cond.castable "java/lang/ArrayStoreException" "java/lang/Object") ∈ lw_tbl := lw_at lw_m7 194 rfl
theorem in_J11 : ∀ w ∈ wsJ110, w ∈ lw_all := lw_in wsJ110 [426, 427, 428, 429, 430, 431] (by decide +kernel) (by decide +kernel)
/-! java/lang/StringLatin1 -/
set_option maxRecDepth 100000
def RJ12 : String := "java/lang/StringLatin1"
abbrev cJ12_indexOf : ByteArray := prog_35_method_22_code
def yJ12_indexOf : MethodName := ⟨RJ12, "indexOf", "([BIII)I"⟩
def dkwJ12_indexOf_1 : List UInt8 := [161, 0, 5, 2, 172, 42, 27, 28, 29, 184, 0, 95, 172]
abbrev dktJ12_indexOf_1 : List UInt8 := dkwJ12_indexOf_1 ++ []
def dkwJ12_indexOf_0 : List UInt8 := [27, 184, 0, 88, 154, 0, 5, 2, 172, 28, 3, 184, 0, 92, 61, 29, 42, 190, 184, 0, 38, 62, 28, 29]
abbrev dktJ12_indexOf_0 : List UInt8 := dkwJ12_indexOf_0 ++ dktJ12_indexOf_1
theorem dksJ12_indexOf_0 : cJ12_indexOf.data.toList.drop 0 = dktJ12_indexOf_0 := by decide +kernel
theorem dksJ12_indexOf_1 : cJ12_indexOf.data.toList.drop 24 = dktJ12_indexOf_1 := dk_seg dksJ12_indexOf_0 24 rfl rfl
theorem dJ12_indexOf_0 : decode cJ12_indexOf 0 = .ok (.iload_n 1, 1) := dk_27 (dk_at dksJ12_indexOf_0 0 rfl rfl)
theorem dJ12_indexOf_1 : decode cJ12_indexOf 1 = .ok (.invokestatic 88, 3) := dk_184 0 88 (dk_at dksJ12_indexOf_0 1 rfl rfl)
theorem dJ12_indexOf_4 : decode cJ12_indexOf 4 = .ok (.ifCond .ne 5, 3) := dk_154 0 5 (dk_at dksJ12_indexOf_0 4 rfl rfl)
theorem dJ12_indexOf_7 : decode cJ12_indexOf 7 = .ok (.iconst (-1), 1) := dk_2 (dk_at dksJ12_indexOf_0 7 rfl rfl)
theorem dJ12_indexOf_8 : decode cJ12_indexOf 8 = .ok (.ireturn, 1) := dk_172 (dk_at dksJ12_indexOf_0 8 rfl rfl)
theorem dJ12_indexOf_9 : decode cJ12_indexOf 9 = .ok (.iload_n 2, 1) := dk_28 (dk_at dksJ12_indexOf_0 9 rfl rfl)
theorem dJ12_indexOf_10 : decode cJ12_indexOf 10 = .ok (.iconst 0, 1) := dk_3 (dk_at dksJ12_indexOf_0 10 rfl rfl)
theorem dJ12_indexOf_11 : decode cJ12_indexOf 11 = .ok (.invokestatic 92, 3) := dk_184 0 92 (dk_at dksJ12_indexOf_0 11 rfl rfl)
theorem dJ12_indexOf_14 : decode cJ12_indexOf 14 = .ok (.istore_n 2, 1) := dk_61 (dk_at dksJ12_indexOf_0 14 rfl rfl)
theorem dJ12_indexOf_15 : decode cJ12_indexOf 15 = .ok (.iload_n 3, 1) := dk_29 (dk_at dksJ12_indexOf_0 15 rfl rfl)
theorem dJ12_indexOf_16 : decode cJ12_indexOf 16 = .ok (.aload_n 0, 1) := dk_42 (dk_at dksJ12_indexOf_0 16 rfl rfl)
theorem dJ12_indexOf_17 : decode cJ12_indexOf 17 = .ok (.arraylength, 1) := dk_190 (dk_at dksJ12_indexOf_0 17 rfl rfl)
theorem dJ12_indexOf_18 : decode cJ12_indexOf 18 = .ok (.invokestatic 38, 3) := dk_184 0 38 (dk_at dksJ12_indexOf_0 18 rfl rfl)
theorem dJ12_indexOf_21 : decode cJ12_indexOf 21 = .ok (.istore_n 3, 1) := dk_62 (dk_at dksJ12_indexOf_0 21 rfl rfl)
theorem dJ12_indexOf_22 : decode cJ12_indexOf 22 = .ok (.iload_n 2, 1) := dk_28 (dk_at dksJ12_indexOf_0 22 rfl rfl)
theorem dJ12_indexOf_23 : decode cJ12_indexOf 23 = .ok (.iload_n 3, 1) := dk_29 (dk_at dksJ12_indexOf_0 23 rfl rfl)
theorem dJ12_indexOf_24 : decode cJ12_indexOf 24 = .ok (.if_icmp .lt 5, 3) := dk_161 0 5 (dk_at dksJ12_indexOf_1 0 rfl rfl)
theorem dJ12_indexOf_27 : decode cJ12_indexOf 27 = .ok (.iconst (-1), 1) := dk_2 (dk_at dksJ12_indexOf_1 3 rfl rfl)
theorem dJ12_indexOf_28 : decode cJ12_indexOf 28 = .ok (.ireturn, 1) := dk_172 (dk_at dksJ12_indexOf_1 4 rfl rfl)
theorem dJ12_indexOf_29 : decode cJ12_indexOf 29 = .ok (.aload_n 0, 1) := dk_42 (dk_at dksJ12_indexOf_1 5 rfl rfl)
theorem dJ12_indexOf_30 : decode cJ12_indexOf 30 = .ok (.iload_n 1, 1) := dk_27 (dk_at dksJ12_indexOf_1 6 rfl rfl)
theorem dJ12_indexOf_31 : decode cJ12_indexOf 31 = .ok (.iload_n 2, 1) := dk_28 (dk_at dksJ12_indexOf_1 7 rfl rfl)
theorem dJ12_indexOf_32 : decode cJ12_indexOf 32 = .ok (.iload_n 3, 1) := dk_29 (dk_at dksJ12_indexOf_1 8 rfl rfl)
theorem dJ12_indexOf_33 : decode cJ12_indexOf 33 = .ok (.invokestatic 95, 3) := dk_184 0 95 (dk_at dksJ12_indexOf_1 9 rfl rfl)
theorem dJ12_indexOf_36 : decode cJ12_indexOf 36 = .ok (.ireturn, 1) := dk_172 (dk_at dksJ12_indexOf_1 12 rfl rfl)
abbrev cJ12_canEncode : ByteArray := prog_35_method_4_code
def yJ12_canEncode : MethodName := ⟨RJ12, "canEncode", "(I)Z"⟩
def dkwJ12_canEncode_0 : List UInt8 := [26, 155, 0, 14, 26, 17, 0, 255, 163, 0, 7, 4, 167, 0, 4, 3, 172]
abbrev dktJ12_canEncode_0 : List UInt8 := dkwJ12_canEncode_0 ++ []
theorem dksJ12_canEncode_0 : cJ12_canEncode.data.toList.drop 0 = dktJ12_canEncode_0 := by decide +kernel
theorem dJ12_canEncode_0 : decode cJ12_canEncode 0 = .ok (.iload_n 0, 1) := dk_26 (dk_at dksJ12_canEncode_0 0 rfl rfl)
theorem dJ12_canEncode_1 : decode cJ12_canEncode 1 = .ok (.ifCond .lt 14, 3) := dk_155 0 14 (dk_at dksJ12_canEncode_0 1 rfl rfl)
theorem dJ12_canEncode_4 : decode cJ12_canEncode 4 = .ok (.iload_n 0, 1) := dk_26 (dk_at dksJ12_canEncode_0 4 rfl rfl)
theorem dJ12_canEncode_5 : decode cJ12_canEncode 5 = .ok (.sipush 255, 3) := dk_17 0 255 (dk_at dksJ12_canEncode_0 5 rfl rfl)
theorem dJ12_canEncode_8 : decode cJ12_canEncode 8 = .ok (.if_icmp .gt 7, 3) := dk_163 0 7 (dk_at dksJ12_canEncode_0 8 rfl rfl)
theorem dJ12_canEncode_11 : decode cJ12_canEncode 11 = .ok (.iconst 1, 1) := dk_4 (dk_at dksJ12_canEncode_0 11 rfl rfl)
theorem dJ12_canEncode_12 : decode cJ12_canEncode 12 = .ok (.goto 4, 3) := dk_167 0 4 (dk_at dksJ12_canEncode_0 12 rfl rfl)
theorem dJ12_canEncode_15 : decode cJ12_canEncode 15 = .ok (.iconst 0, 1) := dk_3 (dk_at dksJ12_canEncode_0 15 rfl rfl)
theorem dJ12_canEncode_16 : decode cJ12_canEncode 16 = .ok (.ireturn, 1) := dk_172 (dk_at dksJ12_canEncode_0 16 rfl rfl)
abbrev cJ12_indexOfChar : ByteArray := prog_35_method_23_code
def yJ12_indexOfChar : MethodName := ⟨RJ12, "indexOfChar", "([BIII)I"⟩
def dkwJ12_indexOfChar_1 : List UInt8 := [172, 132, 5, 1, 167, 255, 235, 2, 172]
abbrev dktJ12_indexOfChar_1 : List UInt8 := dkwJ12_indexOfChar_1 ++ []
def dkwJ12_indexOfChar_0 : List UInt8 := [27, 145, 54, 4, 28, 54, 5, 21, 5, 29, 162, 0, 21, 42, 21, 5, 51, 21, 4, 160, 0, 6, 21, 5]
abbrev dktJ12_indexOfChar_0 : List UInt8 := dkwJ12_indexOfChar_0 ++ dktJ12_indexOfChar_1
theorem dksJ12_indexOfChar_0 : cJ12_indexOfChar.data.toList.drop 0 = dktJ12_indexOfChar_0 := by decide +kernel
theorem dksJ12_indexOfChar_1 : cJ12_indexOfChar.data.toList.drop 24 = dktJ12_indexOfChar_1 := dk_seg dksJ12_indexOfChar_0 24 rfl rfl
theorem dJ12_indexOfChar_0 : decode cJ12_indexOfChar 0 = .ok (.iload_n 1, 1) := dk_27 (dk_at dksJ12_indexOfChar_0 0 rfl rfl)
theorem dJ12_indexOfChar_1 : decode cJ12_indexOfChar 1 = .ok (.i2b, 1) := dk_145 (dk_at dksJ12_indexOfChar_0 1 rfl rfl)
theorem dJ12_indexOfChar_2 : decode cJ12_indexOfChar 2 = .ok (.istore 4, 2) := dk_54 4 (dk_at dksJ12_indexOfChar_0 2 rfl rfl)
theorem dJ12_indexOfChar_4 : decode cJ12_indexOfChar 4 = .ok (.iload_n 2, 1) := dk_28 (dk_at dksJ12_indexOfChar_0 4 rfl rfl)
theorem dJ12_indexOfChar_5 : decode cJ12_indexOfChar 5 = .ok (.istore 5, 2) := dk_54 5 (dk_at dksJ12_indexOfChar_0 5 rfl rfl)
theorem dJ12_indexOfChar_7 : decode cJ12_indexOfChar 7 = .ok (.iload 5, 2) := dk_21 5 (dk_at dksJ12_indexOfChar_0 7 rfl rfl)
theorem dJ12_indexOfChar_9 : decode cJ12_indexOfChar 9 = .ok (.iload_n 3, 1) := dk_29 (dk_at dksJ12_indexOfChar_0 9 rfl rfl)
theorem dJ12_indexOfChar_10 : decode cJ12_indexOfChar 10 = .ok (.if_icmp .ge 21, 3) := dk_162 0 21 (dk_at dksJ12_indexOfChar_0 10 rfl rfl)
theorem dJ12_indexOfChar_13 : decode cJ12_indexOfChar 13 = .ok (.aload_n 0, 1) := dk_42 (dk_at dksJ12_indexOfChar_0 13 rfl rfl)
theorem dJ12_indexOfChar_14 : decode cJ12_indexOfChar 14 = .ok (.iload 5, 2) := dk_21 5 (dk_at dksJ12_indexOfChar_0 14 rfl rfl)
theorem dJ12_indexOfChar_16 : decode cJ12_indexOfChar 16 = .ok (.baload, 1) := dk_51 (dk_at dksJ12_indexOfChar_0 16 rfl rfl)
theorem dJ12_indexOfChar_17 : decode cJ12_indexOfChar 17 = .ok (.iload 4, 2) := dk_21 4 (dk_at dksJ12_indexOfChar_0 17 rfl rfl)
theorem dJ12_indexOfChar_19 : decode cJ12_indexOfChar 19 = .ok (.if_icmp .ne 6, 3) := dk_160 0 6 (dk_at dksJ12_indexOfChar_0 19 rfl rfl)
theorem dJ12_indexOfChar_22 : decode cJ12_indexOfChar 22 = .ok (.iload 5, 2) := dk_21 5 (dk_at dksJ12_indexOfChar_0 22 rfl rfl)
theorem dJ12_indexOfChar_24 : decode cJ12_indexOfChar 24 = .ok (.ireturn, 1) := dk_172 (dk_at dksJ12_indexOfChar_1 0 rfl rfl)
theorem dJ12_indexOfChar_25 : decode cJ12_indexOfChar 25 = .ok (.iinc 5 1, 3) := dk_132 5 1 (dk_at dksJ12_indexOfChar_1 1 rfl rfl)
theorem dJ12_indexOfChar_28 : decode cJ12_indexOfChar 28 = .ok (.goto (-21), 3) := dk_167 255 235 (dk_at dksJ12_indexOfChar_1 4 rfl rfl)
theorem dJ12_indexOfChar_31 : decode cJ12_indexOfChar 31 = .ok (.iconst (-1), 1) := dk_2 (dk_at dksJ12_indexOfChar_1 7 rfl rfl)
theorem dJ12_indexOfChar_32 : decode cJ12_indexOfChar 32 = .ok (.ireturn, 1) := dk_172 (dk_at dksJ12_indexOfChar_1 8 rfl rfl)
theorem q88 : (Jvm.Cond.initialized "java/lang/StringLatin1") ∈ lw_all := lw_g (lw_at lw_m1 21 rfl) rfl
theorem q579 : (Jvm.Cond.static ({ cls := "java/lang/StringLatin1", name := "indexOf", desc := "([BIII)I" } : Jvm.MethodName)) ∈ lw_all := lw_g (lw_at lw_m3 32 rfl) rfl
theorem q580 : (Jvm.Cond.code ({ cls := "java/lang/StringLatin1", name := "indexOf", desc := "([BIII)I" } : Jvm.MethodName) prog_35_method_22_code (4 : Nat) (Option.some Jvm.ClassFile.FieldType.int)) ∈ lw_all := lw_g (lw_at lw_m3 33 rfl) rfl
theorem q581 : (Jvm.Cond.methodLink "java/lang/StringLatin1" (88 : Nat) ({ cls := "java/lang/StringLatin1", name := "canEncode", desc := "(I)Z" } : Jvm.MethodName)) ∈ lw_all := lw_g (lw_at lw_m3 34 rfl) rfl
theorem q582 : (Jvm.Cond.static ({ cls := "java/lang/StringLatin1", name := "canEncode", desc := "(I)Z" } : Jvm.MethodName)) ∈ lw_all := lw_g (lw_at lw_m3 35 rfl) rfl
theorem q583 : (Jvm.Cond.code ({ cls := "java/lang/StringLatin1", name := "canEncode", desc := "(I)Z" } : Jvm.MethodName) prog_35_method_4_code (1 : Nat) (Option.some Jvm.ClassFile.FieldType.boolean)) ∈ lw_all := lw_g (lw_at lw_m3 36 rfl) rfl
theorem q584 : (Jvm.Cond.methodLink "java/lang/StringLatin1" (92 : Nat) ({ cls := "java/lang/Math", name := "max", desc := "(II)I" } : Jvm.MethodName)) ∈ lw_all := lw_g (lw_at lw_m3 37 rfl) rfl
theorem q587 : (Jvm.Cond.methodLink "java/lang/StringLatin1" (38 : Nat) ({ cls := "java/lang/Math", name := "min", desc := "(II)I" } : Jvm.MethodName)) ∈ lw_all := lw_g (lw_at lw_m3 40 rfl) rfl
theorem q590 : (Jvm.Cond.methodLink "java/lang/StringLatin1" (95 : Nat) ({ cls := "java/lang/StringLatin1", name := "indexOfChar", desc := "([BIII)I" } : Jvm.MethodName)) ∈ lw_all := lw_g (lw_at lw_m3 43 rfl) rfl
theorem q591 : (Jvm.Cond.static ({ cls := "java/lang/StringLatin1", name := "indexOfChar", desc := "([BIII)I" } : Jvm.MethodName)) ∈ lw_all := lw_g (lw_at lw_m3 44 rfl) rfl
theorem q592 : (Jvm.Cond.code ({ cls := "java/lang/StringLatin1", name := "indexOfChar", desc := "([BIII)I" } : Jvm.MethodName) prog_35_method_23_code (6 : Nat) (Option.some Jvm.ClassFile.FieldType.int)) ∈ lw_all := lw_g (lw_at lw_m3 45 rfl) rfl
/-! java/lang/Math -/
set_option maxRecDepth 100000
def RJ13 : String := "java/lang/Math"
abbrev cJ13_max : ByteArray := prog_30_method_65_code
def yJ13_max : MethodName := ⟨RJ13, "max", "(II)I"⟩
def dkwJ13_max_0 : List UInt8 := [26, 27, 161, 0, 7, 26, 167, 0, 4, 27, 172]
abbrev dktJ13_max_0 : List UInt8 := dkwJ13_max_0 ++ []
theorem dksJ13_max_0 : cJ13_max.data.toList.drop 0 = dktJ13_max_0 := by decide +kernel
theorem dJ13_max_0 : decode cJ13_max 0 = .ok (.iload_n 0, 1) := dk_26 (dk_at dksJ13_max_0 0 rfl rfl)
theorem dJ13_max_1 : decode cJ13_max 1 = .ok (.iload_n 1, 1) := dk_27 (dk_at dksJ13_max_0 1 rfl rfl)
theorem dJ13_max_2 : decode cJ13_max 2 = .ok (.if_icmp .lt 7, 3) := dk_161 0 7 (dk_at dksJ13_max_0 2 rfl rfl)
theorem dJ13_max_5 : decode cJ13_max 5 = .ok (.iload_n 0, 1) := dk_26 (dk_at dksJ13_max_0 5 rfl rfl)
theorem dJ13_max_6 : decode cJ13_max 6 = .ok (.goto 4, 3) := dk_167 0 4 (dk_at dksJ13_max_0 6 rfl rfl)
theorem dJ13_max_9 : decode cJ13_max 9 = .ok (.iload_n 1, 1) := dk_27 (dk_at dksJ13_max_0 9 rfl rfl)
theorem dJ13_max_10 : decode cJ13_max 10 = .ok (.ireturn, 1) := dk_172 (dk_at dksJ13_max_0 10 rfl rfl)
abbrev cJ13_min : ByteArray := prog_30_method_69_code
def yJ13_min : MethodName := ⟨RJ13, "min", "(II)I"⟩
def dkwJ13_min_0 : List UInt8 := [26, 27, 163, 0, 7, 26, 167, 0, 4, 27, 172]
abbrev dktJ13_min_0 : List UInt8 := dkwJ13_min_0 ++ []
theorem dksJ13_min_0 : cJ13_min.data.toList.drop 0 = dktJ13_min_0 := by decide +kernel
theorem dJ13_min_0 : decode cJ13_min 0 = .ok (.iload_n 0, 1) := dk_26 (dk_at dksJ13_min_0 0 rfl rfl)
theorem dJ13_min_1 : decode cJ13_min 1 = .ok (.iload_n 1, 1) := dk_27 (dk_at dksJ13_min_0 1 rfl rfl)
theorem dJ13_min_2 : decode cJ13_min 2 = .ok (.if_icmp .gt 7, 3) := dk_163 0 7 (dk_at dksJ13_min_0 2 rfl rfl)
theorem dJ13_min_5 : decode cJ13_min 5 = .ok (.iload_n 0, 1) := dk_26 (dk_at dksJ13_min_0 5 rfl rfl)
theorem dJ13_min_6 : decode cJ13_min 6 = .ok (.goto 4, 3) := dk_167 0 4 (dk_at dksJ13_min_0 6 rfl rfl)
theorem dJ13_min_9 : decode cJ13_min 9 = .ok (.iload_n 1, 1) := dk_27 (dk_at dksJ13_min_0 9 rfl rfl)
theorem dJ13_min_10 : decode cJ13_min 10 = .ok (.ireturn, 1) := dk_172 (dk_at dksJ13_min_0 10 rfl rfl)
theorem q89 : (Jvm.Cond.initialized "java/lang/Math") ∈ lw_all := lw_g (lw_at lw_m1 22 rfl) rfl
theorem q585 : (Jvm.Cond.static ({ cls := "java/lang/Math", name := "max", desc := "(II)I" } : Jvm.MethodName)) ∈ lw_all := lw_g (lw_at lw_m3 38 rfl) rfl
theorem q586 : (Jvm.Cond.code ({ cls := "java/lang/Math", name := "max", desc := "(II)I" } : Jvm.MethodName) prog_30_method_65_code (2 : Nat) (Option.some Jvm.ClassFile.FieldType.int)) ∈ lw_all := lw_g (lw_at lw_m3 39 rfl) rfl
theorem q588 : (Jvm.Cond.static ({ cls := "java/lang/Math", name := "min", desc := "(II)I" } : Jvm.MethodName)) ∈ lw_all := lw_g (lw_at lw_m3 41 rfl) rfl
theorem q589 : (Jvm.Cond.code ({ cls := "java/lang/Math", name := "min", desc := "(II)I" } : Jvm.MethodName) prog_30_method_69_code (2 : Nat) (Option.some Jvm.ClassFile.FieldType.int)) ∈ lw_all := lw_g (lw_at lw_m3 42 rfl) rfl
/-! java/lang/StringUTF16 -/
set_option maxRecDepth 100000
def RJ14 : String := "java/lang/StringUTF16"
abbrev cJ14_indexOf : ByteArray := prog_36_method_40_code
def yJ14_indexOf : MethodName := ⟨RJ14, "indexOf", "([BIII)I"⟩
def dkwJ14_indexOf_1 : List UInt8 := [18, 227, 162, 0, 11, 42, 27, 28, 29, 184, 0, 228, 172, 42, 27, 28, 29, 184, 0, 232, 172]
abbrev dktJ14_indexOf_1 : List UInt8 := dkwJ14_indexOf_1 ++ []
def dkwJ14_indexOf_0 : List UInt8 := [28, 3, 184, 0, 224, 61, 29, 42, 190, 4, 122, 184, 0, 183, 62, 28, 29, 161, 0, 5, 2, 172, 27]
abbrev dktJ14_indexOf_0 : List UInt8 := dkwJ14_indexOf_0 ++ dktJ14_indexOf_1
theorem dksJ14_indexOf_0 : cJ14_indexOf.data.toList.drop 0 = dktJ14_indexOf_0 := by decide +kernel
theorem dksJ14_indexOf_1 : cJ14_indexOf.data.toList.drop 23 = dktJ14_indexOf_1 := dk_seg dksJ14_indexOf_0 23 rfl rfl
theorem dJ14_indexOf_0 : decode cJ14_indexOf 0 = .ok (.iload_n 2, 1) := dk_28 (dk_at dksJ14_indexOf_0 0 rfl rfl)
theorem dJ14_indexOf_1 : decode cJ14_indexOf 1 = .ok (.iconst 0, 1) := dk_3 (dk_at dksJ14_indexOf_0 1 rfl rfl)
theorem dJ14_indexOf_2 : decode cJ14_indexOf 2 = .ok (.invokestatic 224, 3) := dk_184 0 224 (dk_at dksJ14_indexOf_0 2 rfl rfl)
theorem dJ14_indexOf_5 : decode cJ14_indexOf 5 = .ok (.istore_n 2, 1) := dk_61 (dk_at dksJ14_indexOf_0 5 rfl rfl)
theorem dJ14_indexOf_6 : decode cJ14_indexOf 6 = .ok (.iload_n 3, 1) := dk_29 (dk_at dksJ14_indexOf_0 6 rfl rfl)
theorem dJ14_indexOf_7 : decode cJ14_indexOf 7 = .ok (.aload_n 0, 1) := dk_42 (dk_at dksJ14_indexOf_0 7 rfl rfl)
theorem dJ14_indexOf_8 : decode cJ14_indexOf 8 = .ok (.arraylength, 1) := dk_190 (dk_at dksJ14_indexOf_0 8 rfl rfl)
theorem dJ14_indexOf_9 : decode cJ14_indexOf 9 = .ok (.iconst 1, 1) := dk_4 (dk_at dksJ14_indexOf_0 9 rfl rfl)
theorem dJ14_indexOf_10 : decode cJ14_indexOf 10 = .ok (.ishr, 1) := dk_122 (dk_at dksJ14_indexOf_0 10 rfl rfl)
theorem dJ14_indexOf_11 : decode cJ14_indexOf 11 = .ok (.invokestatic 183, 3) := dk_184 0 183 (dk_at dksJ14_indexOf_0 11 rfl rfl)
theorem dJ14_indexOf_14 : decode cJ14_indexOf 14 = .ok (.istore_n 3, 1) := dk_62 (dk_at dksJ14_indexOf_0 14 rfl rfl)
theorem dJ14_indexOf_15 : decode cJ14_indexOf 15 = .ok (.iload_n 2, 1) := dk_28 (dk_at dksJ14_indexOf_0 15 rfl rfl)
theorem dJ14_indexOf_16 : decode cJ14_indexOf 16 = .ok (.iload_n 3, 1) := dk_29 (dk_at dksJ14_indexOf_0 16 rfl rfl)
theorem dJ14_indexOf_17 : decode cJ14_indexOf 17 = .ok (.if_icmp .lt 5, 3) := dk_161 0 5 (dk_at dksJ14_indexOf_0 17 rfl rfl)
theorem dJ14_indexOf_20 : decode cJ14_indexOf 20 = .ok (.iconst (-1), 1) := dk_2 (dk_at dksJ14_indexOf_0 20 rfl rfl)
theorem dJ14_indexOf_21 : decode cJ14_indexOf 21 = .ok (.ireturn, 1) := dk_172 (dk_at dksJ14_indexOf_0 21 rfl rfl)
theorem dJ14_indexOf_22 : decode cJ14_indexOf 22 = .ok (.iload_n 1, 1) := dk_27 (dk_at dksJ14_indexOf_0 22 rfl rfl)
theorem dJ14_indexOf_23 : decode cJ14_indexOf 23 = .ok (.ldc 227, 2) := dk_18 227 (dk_at dksJ14_indexOf_1 0 rfl rfl)
theorem dJ14_indexOf_25 : decode cJ14_indexOf 25 = .ok (.if_icmp .ge 11, 3) := dk_162 0 11 (dk_at dksJ14_indexOf_1 2 rfl rfl)
theorem dJ14_indexOf_28 : decode cJ14_indexOf 28 = .ok (.aload_n 0, 1) := dk_42 (dk_at dksJ14_indexOf_1 5 rfl rfl)
theorem dJ14_indexOf_29 : decode cJ14_indexOf 29 = .ok (.iload_n 1, 1) := dk_27 (dk_at dksJ14_indexOf_1 6 rfl rfl)
theorem dJ14_indexOf_30 : decode cJ14_indexOf 30 = .ok (.iload_n 2, 1) := dk_28 (dk_at dksJ14_indexOf_1 7 rfl rfl)
theorem dJ14_indexOf_31 : decode cJ14_indexOf 31 = .ok (.iload_n 3, 1) := dk_29 (dk_at dksJ14_indexOf_1 8 rfl rfl)
theorem dJ14_indexOf_32 : decode cJ14_indexOf 32 = .ok (.invokestatic 228, 3) := dk_184 0 228 (dk_at dksJ14_indexOf_1 9 rfl rfl)
theorem dJ14_indexOf_35 : decode cJ14_indexOf 35 = .ok (.ireturn, 1) := dk_172 (dk_at dksJ14_indexOf_1 12 rfl rfl)
theorem dJ14_indexOf_36 : decode cJ14_indexOf 36 = .ok (.aload_n 0, 1) := dk_42 (dk_at dksJ14_indexOf_1 13 rfl rfl)
theorem dJ14_indexOf_37 : decode cJ14_indexOf 37 = .ok (.iload_n 1, 1) := dk_27 (dk_at dksJ14_indexOf_1 14 rfl rfl)
theorem dJ14_indexOf_38 : decode cJ14_indexOf 38 = .ok (.iload_n 2, 1) := dk_28 (dk_at dksJ14_indexOf_1 15 rfl rfl)
theorem dJ14_indexOf_39 : decode cJ14_indexOf 39 = .ok (.iload_n 3, 1) := dk_29 (dk_at dksJ14_indexOf_1 16 rfl rfl)
theorem dJ14_indexOf_40 : decode cJ14_indexOf 40 = .ok (.invokestatic 232, 3) := dk_184 0 232 (dk_at dksJ14_indexOf_1 17 rfl rfl)
theorem dJ14_indexOf_43 : decode cJ14_indexOf 43 = .ok (.ireturn, 1) := dk_172 (dk_at dksJ14_indexOf_1 20 rfl rfl)
abbrev cJ14_indexOfChar : ByteArray := prog_36_method_47_code
def yJ14_indexOfChar : MethodName := ⟨RJ14, "indexOfChar", "([BIII)I"⟩
def dkwJ14_indexOfChar_0 : List UInt8 := [28, 29, 42, 184, 0, 96, 42, 27, 28, 29, 184, 0, 244, 172]
abbrev dktJ14_indexOfChar_0 : List UInt8 := dkwJ14_indexOfChar_0 ++ []
theorem dksJ14_indexOfChar_0 : cJ14_indexOfChar.data.toList.drop 0 = dktJ14_indexOfChar_0 := by decide +kernel
theorem dJ14_indexOfChar_0 : decode cJ14_indexOfChar 0 = .ok (.iload_n 2, 1) := dk_28 (dk_at dksJ14_indexOfChar_0 0 rfl rfl)
theorem dJ14_indexOfChar_1 : decode cJ14_indexOfChar 1 = .ok (.iload_n 3, 1) := dk_29 (dk_at dksJ14_indexOfChar_0 1 rfl rfl)
theorem dJ14_indexOfChar_2 : decode cJ14_indexOfChar 2 = .ok (.aload_n 0, 1) := dk_42 (dk_at dksJ14_indexOfChar_0 2 rfl rfl)
theorem dJ14_indexOfChar_3 : decode cJ14_indexOfChar 3 = .ok (.invokestatic 96, 3) := dk_184 0 96 (dk_at dksJ14_indexOfChar_0 3 rfl rfl)
theorem dJ14_indexOfChar_6 : decode cJ14_indexOfChar 6 = .ok (.aload_n 0, 1) := dk_42 (dk_at dksJ14_indexOfChar_0 6 rfl rfl)
theorem dJ14_indexOfChar_7 : decode cJ14_indexOfChar 7 = .ok (.iload_n 1, 1) := dk_27 (dk_at dksJ14_indexOfChar_0 7 rfl rfl)
theorem dJ14_indexOfChar_8 : decode cJ14_indexOfChar 8 = .ok (.iload_n 2, 1) := dk_28 (dk_at dksJ14_indexOfChar_0 8 rfl rfl)
theorem dJ14_indexOfChar_9 : decode cJ14_indexOfChar 9 = .ok (.iload_n 3, 1) := dk_29 (dk_at dksJ14_indexOfChar_0 9 rfl rfl)
theorem dJ14_indexOfChar_10 : decode cJ14_indexOfChar 10 = .ok (.invokestatic 244, 3) := dk_184 0 244 (dk_at dksJ14_indexOfChar_0 10 rfl rfl)
theorem dJ14_indexOfChar_13 : decode cJ14_indexOfChar 13 = .ok (.ireturn, 1) := dk_172 (dk_at dksJ14_indexOfChar_0 13 rfl rfl)
abbrev cJ14_checkBoundsBeginEnd : ByteArray := prog_36_method_93_code
def yJ14_checkBoundsBeginEnd : MethodName := ⟨RJ14, "checkBoundsBeginEnd", "(II[B)V"⟩
def dkwJ14_checkBoundsBeginEnd_0 : List UInt8 := [26, 27, 44, 184, 0, 48, 184, 0, 241, 177]
abbrev dktJ14_checkBoundsBeginEnd_0 : List UInt8 := dkwJ14_checkBoundsBeginEnd_0 ++ []
theorem dksJ14_checkBoundsBeginEnd_0 : cJ14_checkBoundsBeginEnd.data.toList.drop 0 = dktJ14_checkBoundsBeginEnd_0 := by decide +kernel
theorem dJ14_checkBoundsBeginEnd_0 : decode cJ14_checkBoundsBeginEnd 0 = .ok (.iload_n 0, 1) := dk_26 (dk_at dksJ14_checkBoundsBeginEnd_0 0 rfl rfl)
theorem dJ14_checkBoundsBeginEnd_1 : decode cJ14_checkBoundsBeginEnd 1 = .ok (.iload_n 1, 1) := dk_27 (dk_at dksJ14_checkBoundsBeginEnd_0 1 rfl rfl)
theorem dJ14_checkBoundsBeginEnd_2 : decode cJ14_checkBoundsBeginEnd 2 = .ok (.aload_n 2, 1) := dk_44 (dk_at dksJ14_checkBoundsBeginEnd_0 2 rfl rfl)
theorem dJ14_checkBoundsBeginEnd_3 : decode cJ14_checkBoundsBeginEnd 3 = .ok (.invokestatic 48, 3) := dk_184 0 48 (dk_at dksJ14_checkBoundsBeginEnd_0 3 rfl rfl)
theorem dJ14_checkBoundsBeginEnd_6 : decode cJ14_checkBoundsBeginEnd 6 = .ok (.invokestatic 241, 3) := dk_184 0 241 (dk_at dksJ14_checkBoundsBeginEnd_0 6 rfl rfl)
theorem dJ14_checkBoundsBeginEnd_9 : decode cJ14_checkBoundsBeginEnd 9 = .ok (.return_, 1) := dk_177 (dk_at dksJ14_checkBoundsBeginEnd_0 9 rfl rfl)
abbrev cJ14_length : ByteArray := prog_36_method_6_code
def yJ14_length : MethodName := ⟨RJ14, "length", "([B)I"⟩
def dkwJ14_length_0 : List UInt8 := [42, 190, 4, 122, 172]
abbrev dktJ14_length_0 : List UInt8 := dkwJ14_length_0 ++ []
theorem dksJ14_length_0 : cJ14_length.data.toList.drop 0 = dktJ14_length_0 := by decide +kernel
theorem dJ14_length_0 : decode cJ14_length 0 = .ok (.aload_n 0, 1) := dk_42 (dk_at dksJ14_length_0 0 rfl rfl)
theorem dJ14_length_1 : decode cJ14_length 1 = .ok (.arraylength, 1) := dk_190 (dk_at dksJ14_length_0 1 rfl rfl)
theorem dJ14_length_2 : decode cJ14_length 2 = .ok (.iconst 1, 1) := dk_4 (dk_at dksJ14_length_0 2 rfl rfl)
theorem dJ14_length_3 : decode cJ14_length 3 = .ok (.ishr, 1) := dk_122 (dk_at dksJ14_length_0 3 rfl rfl)
theorem dJ14_length_4 : decode cJ14_length 4 = .ok (.ireturn, 1) := dk_172 (dk_at dksJ14_length_0 4 rfl rfl)
abbrev cJ14_indexOfCharUnsafe : ByteArray := prog_36_method_48_code
def yJ14_indexOfCharUnsafe : MethodName := ⟨RJ14, "indexOfCharUnsafe", "([BIII)I"⟩
def dkwJ14_indexOfCharUnsafe_1 : List UInt8 := [132, 4, 1, 167, 255, 234, 2, 172]
abbrev dktJ14_indexOfCharUnsafe_1 : List UInt8 := dkwJ14_indexOfCharUnsafe_1 ++ []
def dkwJ14_indexOfCharUnsafe_0 : List UInt8 := [28, 54, 4, 21, 4, 29, 162, 0, 22, 42, 21, 4, 184, 0, 71, 27, 160, 0, 6, 21, 4, 172]
abbrev dktJ14_indexOfCharUnsafe_0 : List UInt8 := dkwJ14_indexOfCharUnsafe_0 ++ dktJ14_indexOfCharUnsafe_1
theorem dksJ14_indexOfCharUnsafe_0 : cJ14_indexOfCharUnsafe.data.toList.drop 0 = dktJ14_indexOfCharUnsafe_0 := by decide +kernel
theorem dksJ14_indexOfCharUnsafe_1 : cJ14_indexOfCharUnsafe.data.toList.drop 22 = dktJ14_indexOfCharUnsafe_1 := dk_seg dksJ14_indexOfCharUnsafe_0 22 rfl rfl
theorem dJ14_indexOfCharUnsafe_0 : decode cJ14_indexOfCharUnsafe 0 = .ok (.iload_n 2, 1) := dk_28 (dk_at dksJ14_indexOfCharUnsafe_0 0 rfl rfl)
theorem dJ14_indexOfCharUnsafe_1 : decode cJ14_indexOfCharUnsafe 1 = .ok (.istore 4, 2) := dk_54 4 (dk_at dksJ14_indexOfCharUnsafe_0 1 rfl rfl)
theorem dJ14_indexOfCharUnsafe_3 : decode cJ14_indexOfCharUnsafe 3 = .ok (.iload 4, 2) := dk_21 4 (dk_at dksJ14_indexOfCharUnsafe_0 3 rfl rfl)
theorem dJ14_indexOfCharUnsafe_5 : decode cJ14_indexOfCharUnsafe 5 = .ok (.iload_n 3, 1) := dk_29 (dk_at dksJ14_indexOfCharUnsafe_0 5 rfl rfl)
theorem dJ14_indexOfCharUnsafe_6 : decode cJ14_indexOfCharUnsafe 6 = .ok (.if_icmp .ge 22, 3) := dk_162 0 22 (dk_at dksJ14_indexOfCharUnsafe_0 6 rfl rfl)
theorem dJ14_indexOfCharUnsafe_9 : decode cJ14_indexOfCharUnsafe 9 = .ok (.aload_n 0, 1) := dk_42 (dk_at dksJ14_indexOfCharUnsafe_0 9 rfl rfl)
theorem dJ14_indexOfCharUnsafe_10 : decode cJ14_indexOfCharUnsafe 10 = .ok (.iload 4, 2) := dk_21 4 (dk_at dksJ14_indexOfCharUnsafe_0 10 rfl rfl)
theorem dJ14_indexOfCharUnsafe_12 : decode cJ14_indexOfCharUnsafe 12 = .ok (.invokestatic 71, 3) := dk_184 0 71 (dk_at dksJ14_indexOfCharUnsafe_0 12 rfl rfl)
theorem dJ14_indexOfCharUnsafe_15 : decode cJ14_indexOfCharUnsafe 15 = .ok (.iload_n 1, 1) := dk_27 (dk_at dksJ14_indexOfCharUnsafe_0 15 rfl rfl)
theorem dJ14_indexOfCharUnsafe_16 : decode cJ14_indexOfCharUnsafe 16 = .ok (.if_icmp .ne 6, 3) := dk_160 0 6 (dk_at dksJ14_indexOfCharUnsafe_0 16 rfl rfl)
theorem dJ14_indexOfCharUnsafe_19 : decode cJ14_indexOfCharUnsafe 19 = .ok (.iload 4, 2) := dk_21 4 (dk_at dksJ14_indexOfCharUnsafe_0 19 rfl rfl)
theorem dJ14_indexOfCharUnsafe_21 : decode cJ14_indexOfCharUnsafe 21 = .ok (.ireturn, 1) := dk_172 (dk_at dksJ14_indexOfCharUnsafe_0 21 rfl rfl)
theorem dJ14_indexOfCharUnsafe_22 : decode cJ14_indexOfCharUnsafe 22 = .ok (.iinc 4 1, 3) := dk_132 4 1 (dk_at dksJ14_indexOfCharUnsafe_1 0 rfl rfl)
theorem dJ14_indexOfCharUnsafe_25 : decode cJ14_indexOfCharUnsafe 25 = .ok (.goto (-22), 3) := dk_167 255 234 (dk_at dksJ14_indexOfCharUnsafe_1 3 rfl rfl)
theorem dJ14_indexOfCharUnsafe_28 : decode cJ14_indexOfCharUnsafe 28 = .ok (.iconst (-1), 1) := dk_2 (dk_at dksJ14_indexOfCharUnsafe_1 6 rfl rfl)
theorem dJ14_indexOfCharUnsafe_29 : decode cJ14_indexOfCharUnsafe 29 = .ok (.ireturn, 1) := dk_172 (dk_at dksJ14_indexOfCharUnsafe_1 7 rfl rfl)
abbrev cJ14_getChar : ByteArray := prog_36_method_5_code
def yJ14_getChar : MethodName := ⟨RJ14, "getChar", "([BI)C"⟩
def dkwJ14_getChar_2 : List UInt8 := [51, 17, 0, 255, 126, 178, 0, 63, 120, 128, 146, 172]
abbrev dktJ14_getChar_2 : List UInt8 := dkwJ14_getChar_2 ++ []
def dkwJ14_getChar_1 : List UInt8 := [183, 0, 56, 191, 27, 4, 120, 60, 42, 27, 132, 1, 1, 51, 17, 0, 255, 126, 178, 0, 59, 120, 42, 27]
abbrev dktJ14_getChar_1 : List UInt8 := dkwJ14_getChar_1 ++ dktJ14_getChar_2
def dkwJ14_getChar_0 : List UInt8 := [178, 0, 44, 154, 0, 25, 27, 155, 0, 11, 27, 42, 184, 0, 48, 161, 0, 13, 187, 0, 52, 89, 18, 54]
abbrev dktJ14_getChar_0 : List UInt8 := dkwJ14_getChar_0 ++ dktJ14_getChar_1
theorem dksJ14_getChar_0 : cJ14_getChar.data.toList.drop 0 = dktJ14_getChar_0 := by decide +kernel
theorem dksJ14_getChar_1 : cJ14_getChar.data.toList.drop 24 = dktJ14_getChar_1 := dk_seg dksJ14_getChar_0 24 rfl rfl
theorem dksJ14_getChar_2 : cJ14_getChar.data.toList.drop 48 = dktJ14_getChar_2 := dk_seg dksJ14_getChar_1 24 rfl rfl
theorem dJ14_getChar_0 : decode cJ14_getChar 0 = .ok (.getstatic 44, 3) := dk_178 0 44 (dk_at dksJ14_getChar_0 0 rfl rfl)
theorem dJ14_getChar_3 : decode cJ14_getChar 3 = .ok (.ifCond .ne 25, 3) := dk_154 0 25 (dk_at dksJ14_getChar_0 3 rfl rfl)
theorem dJ14_getChar_6 : decode cJ14_getChar 6 = .ok (.iload_n 1, 1) := dk_27 (dk_at dksJ14_getChar_0 6 rfl rfl)
theorem dJ14_getChar_7 : decode cJ14_getChar 7 = .ok (.ifCond .lt 11, 3) := dk_155 0 11 (dk_at dksJ14_getChar_0 7 rfl rfl)
theorem dJ14_getChar_10 : decode cJ14_getChar 10 = .ok (.iload_n 1, 1) := dk_27 (dk_at dksJ14_getChar_0 10 rfl rfl)
theorem dJ14_getChar_11 : decode cJ14_getChar 11 = .ok (.aload_n 0, 1) := dk_42 (dk_at dksJ14_getChar_0 11 rfl rfl)
theorem dJ14_getChar_12 : decode cJ14_getChar 12 = .ok (.invokestatic 48, 3) := dk_184 0 48 (dk_at dksJ14_getChar_0 12 rfl rfl)
theorem dJ14_getChar_15 : decode cJ14_getChar 15 = .ok (.if_icmp .lt 13, 3) := dk_161 0 13 (dk_at dksJ14_getChar_0 15 rfl rfl)
theorem dJ14_getChar_18 : decode cJ14_getChar 18 = .ok (.new 52, 3) := dk_187 0 52 (dk_at dksJ14_getChar_0 18 rfl rfl)
theorem dJ14_getChar_21 : decode cJ14_getChar 21 = .ok (.dup, 1) := dk_89 (dk_at dksJ14_getChar_0 21 rfl rfl)
theorem dJ14_getChar_22 : decode cJ14_getChar 22 = .ok (.ldc 54, 2) := dk_18 54 (dk_at dksJ14_getChar_0 22 rfl rfl)
theorem dJ14_getChar_24 : decode cJ14_getChar 24 = .ok (.invokespecial 56, 3) := dk_183 0 56 (dk_at dksJ14_getChar_1 0 rfl rfl)
theorem dJ14_getChar_27 : decode cJ14_getChar 27 = .ok (.athrow, 1) := dk_191 (dk_at dksJ14_getChar_1 3 rfl rfl)
theorem dJ14_getChar_28 : decode cJ14_getChar 28 = .ok (.iload_n 1, 1) := dk_27 (dk_at dksJ14_getChar_1 4 rfl rfl)
theorem dJ14_getChar_29 : decode cJ14_getChar 29 = .ok (.iconst 1, 1) := dk_4 (dk_at dksJ14_getChar_1 5 rfl rfl)
theorem dJ14_getChar_30 : decode cJ14_getChar 30 = .ok (.ishl, 1) := dk_120 (dk_at dksJ14_getChar_1 6 rfl rfl)
theorem dJ14_getChar_31 : decode cJ14_getChar 31 = .ok (.istore_n 1, 1) := dk_60 (dk_at dksJ14_getChar_1 7 rfl rfl)
theorem dJ14_getChar_32 : decode cJ14_getChar 32 = .ok (.aload_n 0, 1) := dk_42 (dk_at dksJ14_getChar_1 8 rfl rfl)
theorem dJ14_getChar_33 : decode cJ14_getChar 33 = .ok (.iload_n 1, 1) := dk_27 (dk_at dksJ14_getChar_1 9 rfl rfl)
theorem dJ14_getChar_34 : decode cJ14_getChar 34 = .ok (.iinc 1 1, 3) := dk_132 1 1 (dk_at dksJ14_getChar_1 10 rfl rfl)
theorem dJ14_getChar_37 : decode cJ14_getChar 37 = .ok (.baload, 1) := dk_51 (dk_at dksJ14_getChar_1 13 rfl rfl)
theorem dJ14_getChar_38 : decode cJ14_getChar 38 = .ok (.sipush 255, 3) := dk_17 0 255 (dk_at dksJ14_getChar_1 14 rfl rfl)
theorem dJ14_getChar_41 : decode cJ14_getChar 41 = .ok (.iand, 1) := dk_126 (dk_at dksJ14_getChar_1 17 rfl rfl)
theorem dJ14_getChar_42 : decode cJ14_getChar 42 = .ok (.getstatic 59, 3) := dk_178 0 59 (dk_at dksJ14_getChar_1 18 rfl rfl)
theorem dJ14_getChar_45 : decode cJ14_getChar 45 = .ok (.ishl, 1) := dk_120 (dk_at dksJ14_getChar_1 21 rfl rfl)
theorem dJ14_getChar_46 : decode cJ14_getChar 46 = .ok (.aload_n 0, 1) := dk_42 (dk_at dksJ14_getChar_1 22 rfl rfl)
theorem dJ14_getChar_47 : decode cJ14_getChar 47 = .ok (.iload_n 1, 1) := dk_27 (dk_at dksJ14_getChar_1 23 rfl rfl)
theorem dJ14_getChar_48 : decode cJ14_getChar 48 = .ok (.baload, 1) := dk_51 (dk_at dksJ14_getChar_2 0 rfl rfl)
theorem dJ14_getChar_49 : decode cJ14_getChar 49 = .ok (.sipush 255, 3) := dk_17 0 255 (dk_at dksJ14_getChar_2 1 rfl rfl)
theorem dJ14_getChar_52 : decode cJ14_getChar 52 = .ok (.iand, 1) := dk_126 (dk_at dksJ14_getChar_2 4 rfl rfl)
theorem dJ14_getChar_53 : decode cJ14_getChar 53 = .ok (.getstatic 63, 3) := dk_178 0 63 (dk_at dksJ14_getChar_2 5 rfl rfl)
theorem dJ14_getChar_56 : decode cJ14_getChar 56 = .ok (.ishl, 1) := dk_120 (dk_at dksJ14_getChar_2 8 rfl rfl)
theorem dJ14_getChar_57 : decode cJ14_getChar 57 = .ok (.ior, 1) := dk_128 (dk_at dksJ14_getChar_2 9 rfl rfl)
theorem dJ14_getChar_58 : decode cJ14_getChar 58 = .ok (.i2c, 1) := dk_146 (dk_at dksJ14_getChar_2 10 rfl rfl)
theorem dJ14_getChar_59 : decode cJ14_getChar 59 = .ok (.ireturn, 1) := dk_172 (dk_at dksJ14_getChar_2 11 rfl rfl)
abbrev cJ14_indexOfSupplementary : ByteArray := prog_36_method_49_code
def yJ14_indexOfSupplementary : MethodName := ⟨RJ14, "indexOfSupplementary", "([BIII)I"⟩
def dkwJ14_indexOfSupplementary_3 : List UInt8 := [167, 255, 218, 2, 172]
abbrev dktJ14_indexOfSupplementary_3 : List UInt8 := dkwJ14_indexOfSupplementary_3 ++ []
def dkwJ14_indexOfSupplementary_2 : List UInt8 := [160, 0, 19, 42, 21, 6, 4, 96, 184, 0, 71, 21, 5, 160, 0, 6, 21, 6, 172, 132, 6, 1]
abbrev dktJ14_indexOfSupplementary_2 : List UInt8 := dkwJ14_indexOfSupplementary_2 ++ dktJ14_indexOfSupplementary_3
def dkwJ14_indexOfSupplementary_1 : List UInt8 := [184, 0, 96, 28, 54, 6, 21, 6, 29, 4, 100, 162, 0, 36, 42, 21, 6, 184, 0, 71, 21, 4]
abbrev dktJ14_indexOfSupplementary_1 : List UInt8 := dkwJ14_indexOfSupplementary_1 ++ dktJ14_indexOfSupplementary_2
def dkwJ14_indexOfSupplementary_0 : List UInt8 := [27, 184, 0, 164, 153, 0, 65, 27, 184, 0, 157, 54, 4, 27, 184, 0, 161, 54, 5, 28, 29, 42]
abbrev dktJ14_indexOfSupplementary_0 : List UInt8 := dkwJ14_indexOfSupplementary_0 ++ dktJ14_indexOfSupplementary_1
theorem dksJ14_indexOfSupplementary_0 : cJ14_indexOfSupplementary.data.toList.drop 0 = dktJ14_indexOfSupplementary_0 := by decide +kernel
theorem dksJ14_indexOfSupplementary_1 : cJ14_indexOfSupplementary.data.toList.drop 22 = dktJ14_indexOfSupplementary_1 := dk_seg dksJ14_indexOfSupplementary_0 22 rfl rfl
theorem dksJ14_indexOfSupplementary_2 : cJ14_indexOfSupplementary.data.toList.drop 44 = dktJ14_indexOfSupplementary_2 := dk_seg dksJ14_indexOfSupplementary_1 22 rfl rfl
theorem dksJ14_indexOfSupplementary_3 : cJ14_indexOfSupplementary.data.toList.drop 66 = dktJ14_indexOfSupplementary_3 := dk_seg dksJ14_indexOfSupplementary_2 22 rfl rfl
theorem dJ14_indexOfSupplementary_0 : decode cJ14_indexOfSupplementary 0 = .ok (.iload_n 1, 1) := dk_27 (dk_at dksJ14_indexOfSupplementary_0 0 rfl rfl)
theorem dJ14_indexOfSupplementary_1 : decode cJ14_indexOfSupplementary 1 = .ok (.invokestatic 164, 3) := dk_184 0 164 (dk_at dksJ14_indexOfSupplementary_0 1 rfl rfl)
theorem dJ14_indexOfSupplementary_4 : decode cJ14_indexOfSupplementary 4 = .ok (.ifCond .eq 65, 3) := dk_153 0 65 (dk_at dksJ14_indexOfSupplementary_0 4 rfl rfl)
theorem dJ14_indexOfSupplementary_7 : decode cJ14_indexOfSupplementary 7 = .ok (.iload_n 1, 1) := dk_27 (dk_at dksJ14_indexOfSupplementary_0 7 rfl rfl)
theorem dJ14_indexOfSupplementary_8 : decode cJ14_indexOfSupplementary 8 = .ok (.invokestatic 157, 3) := dk_184 0 157 (dk_at dksJ14_indexOfSupplementary_0 8 rfl rfl)
theorem dJ14_indexOfSupplementary_11 : decode cJ14_indexOfSupplementary 11 = .ok (.istore 4, 2) := dk_54 4 (dk_at dksJ14_indexOfSupplementary_0 11 rfl rfl)
theorem dJ14_indexOfSupplementary_13 : decode cJ14_indexOfSupplementary 13 = .ok (.iload_n 1, 1) := dk_27 (dk_at dksJ14_indexOfSupplementary_0 13 rfl rfl)
theorem dJ14_indexOfSupplementary_14 : decode cJ14_indexOfSupplementary 14 = .ok (.invokestatic 161, 3) := dk_184 0 161 (dk_at dksJ14_indexOfSupplementary_0 14 rfl rfl)
theorem dJ14_indexOfSupplementary_17 : decode cJ14_indexOfSupplementary 17 = .ok (.istore 5, 2) := dk_54 5 (dk_at dksJ14_indexOfSupplementary_0 17 rfl rfl)
theorem dJ14_indexOfSupplementary_19 : decode cJ14_indexOfSupplementary 19 = .ok (.iload_n 2, 1) := dk_28 (dk_at dksJ14_indexOfSupplementary_0 19 rfl rfl)
theorem dJ14_indexOfSupplementary_20 : decode cJ14_indexOfSupplementary 20 = .ok (.iload_n 3, 1) := dk_29 (dk_at dksJ14_indexOfSupplementary_0 20 rfl rfl)
theorem dJ14_indexOfSupplementary_21 : decode cJ14_indexOfSupplementary 21 = .ok (.aload_n 0, 1) := dk_42 (dk_at dksJ14_indexOfSupplementary_0 21 rfl rfl)
theorem dJ14_indexOfSupplementary_22 : decode cJ14_indexOfSupplementary 22 = .ok (.invokestatic 96, 3) := dk_184 0 96 (dk_at dksJ14_indexOfSupplementary_1 0 rfl rfl)
theorem dJ14_indexOfSupplementary_25 : decode cJ14_indexOfSupplementary 25 = .ok (.iload_n 2, 1) := dk_28 (dk_at dksJ14_indexOfSupplementary_1 3 rfl rfl)
theorem dJ14_indexOfSupplementary_26 : decode cJ14_indexOfSupplementary 26 = .ok (.istore 6, 2) := dk_54 6 (dk_at dksJ14_indexOfSupplementary_1 4 rfl rfl)
theorem dJ14_indexOfSupplementary_28 : decode cJ14_indexOfSupplementary 28 = .ok (.iload 6, 2) := dk_21 6 (dk_at dksJ14_indexOfSupplementary_1 6 rfl rfl)
theorem dJ14_indexOfSupplementary_30 : decode cJ14_indexOfSupplementary 30 = .ok (.iload_n 3, 1) := dk_29 (dk_at dksJ14_indexOfSupplementary_1 8 rfl rfl)
theorem dJ14_indexOfSupplementary_31 : decode cJ14_indexOfSupplementary 31 = .ok (.iconst 1, 1) := dk_4 (dk_at dksJ14_indexOfSupplementary_1 9 rfl rfl)
theorem dJ14_indexOfSupplementary_32 : decode cJ14_indexOfSupplementary 32 = .ok (.isub, 1) := dk_100 (dk_at dksJ14_indexOfSupplementary_1 10 rfl rfl)
theorem dJ14_indexOfSupplementary_33 : decode cJ14_indexOfSupplementary 33 = .ok (.if_icmp .ge 36, 3) := dk_162 0 36 (dk_at dksJ14_indexOfSupplementary_1 11 rfl rfl)
theorem dJ14_indexOfSupplementary_36 : decode cJ14_indexOfSupplementary 36 = .ok (.aload_n 0, 1) := dk_42 (dk_at dksJ14_indexOfSupplementary_1 14 rfl rfl)
theorem dJ14_indexOfSupplementary_37 : decode cJ14_indexOfSupplementary 37 = .ok (.iload 6, 2) := dk_21 6 (dk_at dksJ14_indexOfSupplementary_1 15 rfl rfl)
theorem dJ14_indexOfSupplementary_39 : decode cJ14_indexOfSupplementary 39 = .ok (.invokestatic 71, 3) := dk_184 0 71 (dk_at dksJ14_indexOfSupplementary_1 17 rfl rfl)
theorem dJ14_indexOfSupplementary_42 : decode cJ14_indexOfSupplementary 42 = .ok (.iload 4, 2) := dk_21 4 (dk_at dksJ14_indexOfSupplementary_1 20 rfl rfl)
theorem dJ14_indexOfSupplementary_44 : decode cJ14_indexOfSupplementary 44 = .ok (.if_icmp .ne 19, 3) := dk_160 0 19 (dk_at dksJ14_indexOfSupplementary_2 0 rfl rfl)
theorem dJ14_indexOfSupplementary_47 : decode cJ14_indexOfSupplementary 47 = .ok (.aload_n 0, 1) := dk_42 (dk_at dksJ14_indexOfSupplementary_2 3 rfl rfl)
theorem dJ14_indexOfSupplementary_48 : decode cJ14_indexOfSupplementary 48 = .ok (.iload 6, 2) := dk_21 6 (dk_at dksJ14_indexOfSupplementary_2 4 rfl rfl)
theorem dJ14_indexOfSupplementary_50 : decode cJ14_indexOfSupplementary 50 = .ok (.iconst 1, 1) := dk_4 (dk_at dksJ14_indexOfSupplementary_2 6 rfl rfl)
theorem dJ14_indexOfSupplementary_51 : decode cJ14_indexOfSupplementary 51 = .ok (.iadd, 1) := dk_96 (dk_at dksJ14_indexOfSupplementary_2 7 rfl rfl)
theorem dJ14_indexOfSupplementary_52 : decode cJ14_indexOfSupplementary 52 = .ok (.invokestatic 71, 3) := dk_184 0 71 (dk_at dksJ14_indexOfSupplementary_2 8 rfl rfl)
theorem dJ14_indexOfSupplementary_55 : decode cJ14_indexOfSupplementary 55 = .ok (.iload 5, 2) := dk_21 5 (dk_at dksJ14_indexOfSupplementary_2 11 rfl rfl)
theorem dJ14_indexOfSupplementary_57 : decode cJ14_indexOfSupplementary 57 = .ok (.if_icmp .ne 6, 3) := dk_160 0 6 (dk_at dksJ14_indexOfSupplementary_2 13 rfl rfl)
theorem dJ14_indexOfSupplementary_60 : decode cJ14_indexOfSupplementary 60 = .ok (.iload 6, 2) := dk_21 6 (dk_at dksJ14_indexOfSupplementary_2 16 rfl rfl)
theorem dJ14_indexOfSupplementary_62 : decode cJ14_indexOfSupplementary 62 = .ok (.ireturn, 1) := dk_172 (dk_at dksJ14_indexOfSupplementary_2 18 rfl rfl)
theorem dJ14_indexOfSupplementary_63 : decode cJ14_indexOfSupplementary 63 = .ok (.iinc 6 1, 3) := dk_132 6 1 (dk_at dksJ14_indexOfSupplementary_2 19 rfl rfl)
theorem dJ14_indexOfSupplementary_66 : decode cJ14_indexOfSupplementary 66 = .ok (.goto (-38), 3) := dk_167 255 218 (dk_at dksJ14_indexOfSupplementary_3 0 rfl rfl)
theorem dJ14_indexOfSupplementary_69 : decode cJ14_indexOfSupplementary 69 = .ok (.iconst (-1), 1) := dk_2 (dk_at dksJ14_indexOfSupplementary_3 3 rfl rfl)
theorem dJ14_indexOfSupplementary_70 : decode cJ14_indexOfSupplementary 70 = .ok (.ireturn, 1) := dk_172 (dk_at dksJ14_indexOfSupplementary_3 4 rfl rfl)
theorem q90 : (Jvm.Cond.initialized "java/lang/StringUTF16") ∈ lw_all := lw_g (lw_at lw_m1 23 rfl) rfl
theorem q594 : (Jvm.Cond.static ({ cls := "java/lang/StringUTF16", name := "indexOf", desc := "([BIII)I" } : Jvm.MethodName)) ∈ lw_all := lw_g (lw_at lw_m3 47 rfl) rfl
theorem q595 : (Jvm.Cond.code ({ cls := "java/lang/StringUTF16", name := "indexOf", desc := "([BIII)I" } : Jvm.MethodName) prog_36_method_40_code (4 : Nat) (Option.some Jvm.ClassFile.FieldType.int)) ∈ lw_all := lw_g (lw_at lw_m3 48 rfl) rfl
theorem q596 : (Jvm.Cond.methodLink "java/lang/StringUTF16" (224 : Nat) ({ cls := "java/lang/Math", name := "max", desc := "(II)I" } : Jvm.MethodName)) ∈ lw_all := lw_g (lw_at lw_m3 49 rfl) rfl
theorem q597 : (Jvm.Cond.methodLink "java/lang/StringUTF16" (183 : Nat) ({ cls := "java/lang/Math", name := "min", desc := "(II)I" } : Jvm.MethodName)) ∈ lw_all := lw_g (lw_at lw_m3 50 rfl) rfl
theorem q598 : (Jvm.Cond.constant "java/lang/StringUTF16" (227 : Nat) (65536 : Int32)) ∈ lw_all := lw_g (lw_at lw_m3 51 rfl) rfl
theorem q599 : (Jvm.Cond.methodLink "java/lang/StringUTF16" (228 : Nat) ({ cls := "java/lang/StringUTF16", name := "indexOfChar", desc := "([BIII)I" } : Jvm.MethodName)) ∈ lw_all := lw_g (lw_at lw_m3 52 rfl) rfl
theorem q600 : (Jvm.Cond.static ({ cls := "java/lang/StringUTF16", name := "indexOfChar", desc := "([BIII)I" } : Jvm.MethodName)) ∈ lw_all := lw_g (lw_at lw_m3 53 rfl) rfl
theorem q601 : (Jvm.Cond.code ({ cls := "java/lang/StringUTF16", name := "indexOfChar", desc := "([BIII)I" } : Jvm.MethodName) prog_36_method_47_code (4 : Nat) (Option.some Jvm.ClassFile.FieldType.int)) ∈ lw_all := lw_g (lw_at lw_m3 54 rfl) rfl
theorem q602 : (Jvm.Cond.methodLink "java/lang/StringUTF16" (96 : Nat) ({ cls := "java/lang/StringUTF16", name := "checkBoundsBeginEnd", desc := "(II[B)V" } : Jvm.MethodName)) ∈ lw_all := lw_g (lw_at lw_m3 55 rfl) rfl
theorem q603 : (Jvm.Cond.static ({ cls := "java/lang/StringUTF16", name := "checkBoundsBeginEnd", desc := "(II[B)V" } : Jvm.MethodName)) ∈ lw_all := lw_g (lw_at lw_m3 56 rfl) rfl
theorem q604 : (Jvm.Cond.code ({ cls := "java/lang/StringUTF16", name := "checkBoundsBeginEnd", desc := "(II[B)V" } : Jvm.MethodName) prog_36_method_93_code (3 : Nat) (Option.none : Option Jvm.ClassFile.FieldType)) ∈ lw_all := lw_g (lw_at lw_m3 57 rfl) rfl
theorem q605 : (Jvm.Cond.methodLink "java/lang/StringUTF16" (48 : Nat) ({ cls := "java/lang/StringUTF16", name := "length", desc := "([B)I" } : Jvm.MethodName)) ∈ lw_all := lw_g (lw_at lw_m3 58 rfl) rfl
theorem q606 : (Jvm.Cond.static ({ cls := "java/lang/StringUTF16", name := "length", desc := "([B)I" } : Jvm.MethodName)) ∈ lw_all := lw_g (lw_at lw_m3 59 rfl) rfl
theorem q607 : (Jvm.Cond.code ({ cls := "java/lang/StringUTF16", name := "length", desc := "([B)I" } : Jvm.MethodName) prog_36_method_6_code (1 : Nat) (Option.some Jvm.ClassFile.FieldType.int)) ∈ lw_all := lw_g (lw_at lw_m3 60 rfl) rfl
theorem q608 : (Jvm.Cond.methodLink "java/lang/StringUTF16" (241 : Nat) ({ cls := "java/lang/String", name := "checkBoundsBeginEnd", desc := "(III)V" } : Jvm.MethodName)) ∈ lw_all := lw_g (lw_at lw_m3 61 rfl) rfl
theorem q616 : (Jvm.Cond.methodLink "java/lang/StringUTF16" (244 : Nat) ({ cls := "java/lang/StringUTF16", name := "indexOfCharUnsafe", desc := "([BIII)I" } : Jvm.MethodName)) ∈ lw_all := lw_g (lw_at lw_m3 69 rfl) rfl
theorem q617 : (Jvm.Cond.static ({ cls := "java/lang/StringUTF16", name := "indexOfCharUnsafe", desc := "([BIII)I" } : Jvm.MethodName)) ∈ lw_all := lw_g (lw_at lw_m3 70 rfl) rfl
theorem q618 : (Jvm.Cond.code ({ cls := "java/lang/StringUTF16", name := "indexOfCharUnsafe", desc := "([BIII)I" } : Jvm.MethodName) prog_36_method_48_code (5 : Nat) (Option.some Jvm.ClassFile.FieldType.int)) ∈ lw_all := lw_g (lw_at lw_m3 71 rfl) rfl
theorem q619 : (Jvm.Cond.methodLink "java/lang/StringUTF16" (71 : Nat) ({ cls := "java/lang/StringUTF16", name := "getChar", desc := "([BI)C" } : Jvm.MethodName)) ∈ lw_all := lw_g (lw_at lw_m3 72 rfl) rfl
theorem q620 : (Jvm.Cond.static ({ cls := "java/lang/StringUTF16", name := "getChar", desc := "([BI)C" } : Jvm.MethodName)) ∈ lw_all := lw_g (lw_at lw_m3 73 rfl) rfl
theorem q621 : (Jvm.Cond.code ({ cls := "java/lang/StringUTF16", name := "getChar", desc := "([BI)C" } : Jvm.MethodName) prog_36_method_5_code (2 : Nat) (Option.some Jvm.ClassFile.FieldType.char)) ∈ lw_all := lw_g (lw_at lw_m3 74 rfl) rfl
theorem q622 : (Jvm.Cond.fieldLink "java/lang/StringUTF16" (44 : Nat) "java/lang/StringUTF16" "$assertionsDisabled" "Z") ∈ lw_all := lw_g (lw_at lw_m3 75 rfl) rfl
theorem q623 : (Jvm.Cond.laysStatic "java/lang/StringUTF16" "$assertionsDisabled" "Z") ∈ lw_tbl := lw_at lw_m3 76 rfl
theorem q624 : (Jvm.Cond.fieldLink "java/lang/StringUTF16" (59 : Nat) "java/lang/StringUTF16" "HI_BYTE_SHIFT" "I") ∈ lw_all := lw_g (lw_at lw_m3 77 rfl) rfl
theorem q625 : (Jvm.Cond.laysStatic "java/lang/StringUTF16" "HI_BYTE_SHIFT" "I") ∈ lw_tbl := lw_at lw_m3 78 rfl
theorem q626 : (Jvm.Cond.fieldLink "java/lang/StringUTF16" (63 : Nat) "java/lang/StringUTF16" "LO_BYTE_SHIFT" "I") ∈ lw_all := lw_g (lw_at lw_m3 79 rfl) rfl
theorem q627 : (Jvm.Cond.laysStatic "java/lang/StringUTF16" "LO_BYTE_SHIFT" "I") ∈ lw_tbl := lw_at lw_m3 80 rfl
theorem q628 : (Jvm.Cond.methodLink "java/lang/StringUTF16" (232 : Nat) ({ cls := "java/lang/StringUTF16", name := "indexOfSupplementary", desc := "([BIII)I" } : Jvm.MethodName)) ∈ lw_all := lw_g (lw_at lw_m3 81 rfl) rfl
theorem q629 : (Jvm.Cond.static ({ cls := "java/lang/StringUTF16", name := "indexOfSupplementary", desc := "([BIII)I" } : Jvm.MethodName)) ∈ lw_all := lw_g (lw_at lw_m3 82 rfl) rfl
theorem q630 : (Jvm.Cond.code ({ cls := "java/lang/StringUTF16", name := "indexOfSupplementary", desc := "([BIII)I" } : Jvm.MethodName) prog_36_method_49_code (7 : Nat) (Option.some Jvm.ClassFile.FieldType.int)) ∈ lw_all := lw_g (lw_at lw_m3 83 rfl) rfl
theorem q631 : (Jvm.Cond.methodLink "java/lang/StringUTF16" (164 : Nat) ({ cls := "java/lang/Character", name := "isValidCodePoint", desc := "(I)Z" } : Jvm.MethodName)) ∈ lw_all := lw_g (lw_at lw_m3 84 rfl) rfl
theorem q634 : (Jvm.Cond.methodLink "java/lang/StringUTF16" (157 : Nat) ({ cls := "java/lang/Character", name := "highSurrogate", desc := "(I)C" } : Jvm.MethodName)) ∈ lw_all := lw_g (lw_at lw_m3 87 rfl) rfl
theorem q638 : (Jvm.Cond.methodLink "java/lang/StringUTF16" (161 : Nat) ({ cls := "java/lang/Character", name := "lowSurrogate", desc := "(I)C" } : Jvm.MethodName)) ∈ lw_all := lw_g (lw_at lw_m3 91 rfl) rfl
/-! jdk/internal/util/Preconditions -/
set_option maxRecDepth 100000
def RJ15 : String := "jdk/internal/util/Preconditions"
abbrev cJ15_checkFromToIndex : ByteArray := prog_51_method_12_code
def yJ15_checkFromToIndex : MethodName := ⟨RJ15, "checkFromToIndex", "(IIILjava/util/function/BiFunction;)I"⟩
def dkwJ15_checkFromToIndex_0 : List UInt8 := [26, 155, 0, 13, 26, 27, 163, 0, 8, 27, 28, 164, 0, 11, 45, 26, 27, 28, 184, 0, 99, 191, 26, 172]
abbrev dktJ15_checkFromToIndex_0 : List UInt8 := dkwJ15_checkFromToIndex_0 ++ []
theorem dksJ15_checkFromToIndex_0 : cJ15_checkFromToIndex.data.toList.drop 0 = dktJ15_checkFromToIndex_0 := by decide +kernel
theorem dJ15_checkFromToIndex_0 : decode cJ15_checkFromToIndex 0 = .ok (.iload_n 0, 1) := dk_26 (dk_at dksJ15_checkFromToIndex_0 0 rfl rfl)
theorem dJ15_checkFromToIndex_1 : decode cJ15_checkFromToIndex 1 = .ok (.ifCond .lt 13, 3) := dk_155 0 13 (dk_at dksJ15_checkFromToIndex_0 1 rfl rfl)
theorem dJ15_checkFromToIndex_4 : decode cJ15_checkFromToIndex 4 = .ok (.iload_n 0, 1) := dk_26 (dk_at dksJ15_checkFromToIndex_0 4 rfl rfl)
theorem dJ15_checkFromToIndex_5 : decode cJ15_checkFromToIndex 5 = .ok (.iload_n 1, 1) := dk_27 (dk_at dksJ15_checkFromToIndex_0 5 rfl rfl)
theorem dJ15_checkFromToIndex_6 : decode cJ15_checkFromToIndex 6 = .ok (.if_icmp .gt 8, 3) := dk_163 0 8 (dk_at dksJ15_checkFromToIndex_0 6 rfl rfl)
theorem dJ15_checkFromToIndex_9 : decode cJ15_checkFromToIndex 9 = .ok (.iload_n 1, 1) := dk_27 (dk_at dksJ15_checkFromToIndex_0 9 rfl rfl)
theorem dJ15_checkFromToIndex_10 : decode cJ15_checkFromToIndex 10 = .ok (.iload_n 2, 1) := dk_28 (dk_at dksJ15_checkFromToIndex_0 10 rfl rfl)
theorem dJ15_checkFromToIndex_11 : decode cJ15_checkFromToIndex 11 = .ok (.if_icmp .le 11, 3) := dk_164 0 11 (dk_at dksJ15_checkFromToIndex_0 11 rfl rfl)
theorem dJ15_checkFromToIndex_14 : decode cJ15_checkFromToIndex 14 = .ok (.aload_n 3, 1) := dk_45 (dk_at dksJ15_checkFromToIndex_0 14 rfl rfl)
theorem dJ15_checkFromToIndex_15 : decode cJ15_checkFromToIndex 15 = .ok (.iload_n 0, 1) := dk_26 (dk_at dksJ15_checkFromToIndex_0 15 rfl rfl)
theorem dJ15_checkFromToIndex_16 : decode cJ15_checkFromToIndex 16 = .ok (.iload_n 1, 1) := dk_27 (dk_at dksJ15_checkFromToIndex_0 16 rfl rfl)
theorem dJ15_checkFromToIndex_17 : decode cJ15_checkFromToIndex 17 = .ok (.iload_n 2, 1) := dk_28 (dk_at dksJ15_checkFromToIndex_0 17 rfl rfl)
theorem dJ15_checkFromToIndex_18 : decode cJ15_checkFromToIndex 18 = .ok (.invokestatic 99, 3) := dk_184 0 99 (dk_at dksJ15_checkFromToIndex_0 18 rfl rfl)
theorem dJ15_checkFromToIndex_21 : decode cJ15_checkFromToIndex 21 = .ok (.athrow, 1) := dk_191 (dk_at dksJ15_checkFromToIndex_0 21 rfl rfl)
theorem dJ15_checkFromToIndex_22 : decode cJ15_checkFromToIndex 22 = .ok (.iload_n 0, 1) := dk_26 (dk_at dksJ15_checkFromToIndex_0 22 rfl rfl)
theorem dJ15_checkFromToIndex_23 : decode cJ15_checkFromToIndex 23 = .ok (.ireturn, 1) := dk_172 (dk_at dksJ15_checkFromToIndex_0 23 rfl rfl)
abbrev cJ15_checkIndex : ByteArray := prog_51_method_11_code
def yJ15_checkIndex : MethodName := ⟨RJ15, "checkIndex", "(IILjava/util/function/BiFunction;)I"⟩
def dkwJ15_checkIndex_0 : List UInt8 := [26, 155, 0, 8, 26, 27, 161, 0, 10, 44, 26, 27, 184, 0, 95, 191, 26, 172]
abbrev dktJ15_checkIndex_0 : List UInt8 := dkwJ15_checkIndex_0 ++ []
theorem dksJ15_checkIndex_0 : cJ15_checkIndex.data.toList.drop 0 = dktJ15_checkIndex_0 := by decide +kernel
theorem dJ15_checkIndex_0 : decode cJ15_checkIndex 0 = .ok (.iload_n 0, 1) := dk_26 (dk_at dksJ15_checkIndex_0 0 rfl rfl)
theorem dJ15_checkIndex_1 : decode cJ15_checkIndex 1 = .ok (.ifCond .lt 8, 3) := dk_155 0 8 (dk_at dksJ15_checkIndex_0 1 rfl rfl)
theorem dJ15_checkIndex_4 : decode cJ15_checkIndex 4 = .ok (.iload_n 0, 1) := dk_26 (dk_at dksJ15_checkIndex_0 4 rfl rfl)
theorem dJ15_checkIndex_5 : decode cJ15_checkIndex 5 = .ok (.iload_n 1, 1) := dk_27 (dk_at dksJ15_checkIndex_0 5 rfl rfl)
theorem dJ15_checkIndex_6 : decode cJ15_checkIndex 6 = .ok (.if_icmp .lt 10, 3) := dk_161 0 10 (dk_at dksJ15_checkIndex_0 6 rfl rfl)
theorem dJ15_checkIndex_9 : decode cJ15_checkIndex 9 = .ok (.aload_n 2, 1) := dk_44 (dk_at dksJ15_checkIndex_0 9 rfl rfl)
theorem dJ15_checkIndex_10 : decode cJ15_checkIndex 10 = .ok (.iload_n 0, 1) := dk_26 (dk_at dksJ15_checkIndex_0 10 rfl rfl)
theorem dJ15_checkIndex_11 : decode cJ15_checkIndex 11 = .ok (.iload_n 1, 1) := dk_27 (dk_at dksJ15_checkIndex_0 11 rfl rfl)
theorem dJ15_checkIndex_12 : decode cJ15_checkIndex 12 = .ok (.invokestatic 95, 3) := dk_184 0 95 (dk_at dksJ15_checkIndex_0 12 rfl rfl)
theorem dJ15_checkIndex_15 : decode cJ15_checkIndex 15 = .ok (.athrow, 1) := dk_191 (dk_at dksJ15_checkIndex_0 15 rfl rfl)
theorem dJ15_checkIndex_16 : decode cJ15_checkIndex 16 = .ok (.iload_n 0, 1) := dk_26 (dk_at dksJ15_checkIndex_0 16 rfl rfl)
theorem dJ15_checkIndex_17 : decode cJ15_checkIndex 17 = .ok (.ireturn, 1) := dk_172 (dk_at dksJ15_checkIndex_0 17 rfl rfl)
theorem q91 : (Jvm.Cond.initialized "jdk/internal/util/Preconditions") ∈ lw_all := lw_g (lw_at lw_m1 24 rfl) rfl
theorem q612 : (Jvm.Cond.laysStatic "jdk/internal/util/Preconditions" "SIOOBE_FORMATTER" "Ljava/util/function/BiFunction;") ∈ lw_tbl := lw_at lw_m3 65 rfl
theorem q614 : (Jvm.Cond.static ({ cls := "jdk/internal/util/Preconditions", name := "checkFromToIndex", desc := "(IIILjava/util/function/BiFunction;)I" } : Jvm.MethodName)) ∈ lw_all := lw_g (lw_at lw_m3 67 rfl) rfl
theorem q615 : (Jvm.Cond.code ({ cls := "jdk/internal/util/Preconditions", name := "checkFromToIndex", desc := "(IIILjava/util/function/BiFunction;)I" } : Jvm.MethodName) prog_51_method_12_code (4 : Nat) (Option.some Jvm.ClassFile.FieldType.int)) ∈ lw_all := lw_g (lw_at lw_m3 68 rfl) rfl
theorem q835 : (Jvm.Cond.static ({ cls := "jdk/internal/util/Preconditions", name := "checkIndex", desc := "(IILjava/util/function/BiFunction;)I" } : Jvm.MethodName)) ∈ lw_all := lw_g (lw_at lw_m4 48 rfl) rfl
theorem q836 : (Jvm.Cond.code ({ cls := "jdk/internal/util/Preconditions", name := "checkIndex", desc := "(IILjava/util/function/BiFunction;)I" } : Jvm.MethodName) prog_51_method_11_code (3 : Nat) (Option.some Jvm.ClassFile.FieldType.int)) ∈ lw_all := lw_g (lw_at lw_m4 49 rfl) rfl
/-! java/lang/Character -/
set_option maxRecDepth 100000
def RJ16 : String := "java/lang/Character"
abbrev cJ16_isValidCodePoint : ByteArray := prog_22_method_11_code
def yJ16_isValidCodePoint : MethodName := ⟨RJ16, "isValidCodePoint", "(I)Z"⟩
def dkwJ16_isValidCodePoint_0 : List UInt8 := [26, 16, 16, 124, 60, 27, 16, 17, 162, 0, 7, 4, 167, 0, 4, 3, 172]
abbrev dktJ16_isValidCodePoint_0 : List UInt8 := dkwJ16_isValidCodePoint_0 ++ []
theorem dksJ16_isValidCodePoint_0 : cJ16_isValidCodePoint.data.toList.drop 0 = dktJ16_isValidCodePoint_0 := by decide +kernel
theorem dJ16_isValidCodePoint_0 : decode cJ16_isValidCodePoint 0 = .ok (.iload_n 0, 1) := dk_26 (dk_at dksJ16_isValidCodePoint_0 0 rfl rfl)
theorem dJ16_isValidCodePoint_1 : decode cJ16_isValidCodePoint 1 = .ok (.bipush 16, 2) := dk_16 16 (dk_at dksJ16_isValidCodePoint_0 1 rfl rfl)
theorem dJ16_isValidCodePoint_3 : decode cJ16_isValidCodePoint 3 = .ok (.iushr, 1) := dk_124 (dk_at dksJ16_isValidCodePoint_0 3 rfl rfl)
theorem dJ16_isValidCodePoint_4 : decode cJ16_isValidCodePoint 4 = .ok (.istore_n 1, 1) := dk_60 (dk_at dksJ16_isValidCodePoint_0 4 rfl rfl)
theorem dJ16_isValidCodePoint_5 : decode cJ16_isValidCodePoint 5 = .ok (.iload_n 1, 1) := dk_27 (dk_at dksJ16_isValidCodePoint_0 5 rfl rfl)
theorem dJ16_isValidCodePoint_6 : decode cJ16_isValidCodePoint 6 = .ok (.bipush 17, 2) := dk_16 17 (dk_at dksJ16_isValidCodePoint_0 6 rfl rfl)
theorem dJ16_isValidCodePoint_8 : decode cJ16_isValidCodePoint 8 = .ok (.if_icmp .ge 7, 3) := dk_162 0 7 (dk_at dksJ16_isValidCodePoint_0 8 rfl rfl)
theorem dJ16_isValidCodePoint_11 : decode cJ16_isValidCodePoint 11 = .ok (.iconst 1, 1) := dk_4 (dk_at dksJ16_isValidCodePoint_0 11 rfl rfl)
theorem dJ16_isValidCodePoint_12 : decode cJ16_isValidCodePoint 12 = .ok (.goto 4, 3) := dk_167 0 4 (dk_at dksJ16_isValidCodePoint_0 12 rfl rfl)
theorem dJ16_isValidCodePoint_15 : decode cJ16_isValidCodePoint 15 = .ok (.iconst 0, 1) := dk_3 (dk_at dksJ16_isValidCodePoint_0 15 rfl rfl)
theorem dJ16_isValidCodePoint_16 : decode cJ16_isValidCodePoint 16 = .ok (.ireturn, 1) := dk_172 (dk_at dksJ16_isValidCodePoint_0 16 rfl rfl)
abbrev cJ16_highSurrogate : ByteArray := prog_22_method_28_code
def yJ16_highSurrogate : MethodName := ⟨RJ16, "highSurrogate", "(I)C"⟩
def dkwJ16_highSurrogate_0 : List UInt8 := [26, 16, 10, 124, 18, 110, 96, 146, 172]
abbrev dktJ16_highSurrogate_0 : List UInt8 := dkwJ16_highSurrogate_0 ++ []
theorem dksJ16_highSurrogate_0 : cJ16_highSurrogate.data.toList.drop 0 = dktJ16_highSurrogate_0 := by decide +kernel
theorem dJ16_highSurrogate_0 : decode cJ16_highSurrogate 0 = .ok (.iload_n 0, 1) := dk_26 (dk_at dksJ16_highSurrogate_0 0 rfl rfl)
theorem dJ16_highSurrogate_1 : decode cJ16_highSurrogate 1 = .ok (.bipush 10, 2) := dk_16 10 (dk_at dksJ16_highSurrogate_0 1 rfl rfl)
theorem dJ16_highSurrogate_3 : decode cJ16_highSurrogate 3 = .ok (.iushr, 1) := dk_124 (dk_at dksJ16_highSurrogate_0 3 rfl rfl)
theorem dJ16_highSurrogate_4 : decode cJ16_highSurrogate 4 = .ok (.ldc 110, 2) := dk_18 110 (dk_at dksJ16_highSurrogate_0 4 rfl rfl)
theorem dJ16_highSurrogate_6 : decode cJ16_highSurrogate 6 = .ok (.iadd, 1) := dk_96 (dk_at dksJ16_highSurrogate_0 6 rfl rfl)
theorem dJ16_highSurrogate_7 : decode cJ16_highSurrogate 7 = .ok (.i2c, 1) := dk_146 (dk_at dksJ16_highSurrogate_0 7 rfl rfl)
theorem dJ16_highSurrogate_8 : decode cJ16_highSurrogate 8 = .ok (.ireturn, 1) := dk_172 (dk_at dksJ16_highSurrogate_0 8 rfl rfl)
abbrev cJ16_lowSurrogate : ByteArray := prog_22_method_29_code
def yJ16_lowSurrogate : MethodName := ⟨RJ16, "lowSurrogate", "(I)C"⟩
def dkwJ16_lowSurrogate_0 : List UInt8 := [26, 17, 3, 255, 126, 18, 76, 96, 146, 172]
abbrev dktJ16_lowSurrogate_0 : List UInt8 := dkwJ16_lowSurrogate_0 ++ []
theorem dksJ16_lowSurrogate_0 : cJ16_lowSurrogate.data.toList.drop 0 = dktJ16_lowSurrogate_0 := by decide +kernel
theorem dJ16_lowSurrogate_0 : decode cJ16_lowSurrogate 0 = .ok (.iload_n 0, 1) := dk_26 (dk_at dksJ16_lowSurrogate_0 0 rfl rfl)
theorem dJ16_lowSurrogate_1 : decode cJ16_lowSurrogate 1 = .ok (.sipush 1023, 3) := dk_17 3 255 (dk_at dksJ16_lowSurrogate_0 1 rfl rfl)
theorem dJ16_lowSurrogate_4 : decode cJ16_lowSurrogate 4 = .ok (.iand, 1) := dk_126 (dk_at dksJ16_lowSurrogate_0 4 rfl rfl)
theorem dJ16_lowSurrogate_5 : decode cJ16_lowSurrogate 5 = .ok (.ldc 76, 2) := dk_18 76 (dk_at dksJ16_lowSurrogate_0 5 rfl rfl)
theorem dJ16_lowSurrogate_7 : decode cJ16_lowSurrogate 7 = .ok (.iadd, 1) := dk_96 (dk_at dksJ16_lowSurrogate_0 7 rfl rfl)
theorem dJ16_lowSurrogate_8 : decode cJ16_lowSurrogate 8 = .ok (.i2c, 1) := dk_146 (dk_at dksJ16_lowSurrogate_0 8 rfl rfl)
theorem dJ16_lowSurrogate_9 : decode cJ16_lowSurrogate 9 = .ok (.ireturn, 1) := dk_172 (dk_at dksJ16_lowSurrogate_0 9 rfl rfl)
theorem q92 : (Jvm.Cond.initialized "java/lang/Character") ∈ lw_all := lw_g (lw_at lw_m1 25 rfl) rfl
theorem q632 : (Jvm.Cond.static ({ cls := "java/lang/Character", name := "isValidCodePoint", desc := "(I)Z" } : Jvm.MethodName)) ∈ lw_all := lw_g (lw_at lw_m3 85 rfl) rfl
theorem q633 : (Jvm.Cond.code ({ cls := "java/lang/Character", name := "isValidCodePoint", desc := "(I)Z" } : Jvm.MethodName) prog_22_method_11_code (2 : Nat) (Option.some Jvm.ClassFile.FieldType.boolean)) ∈ lw_all := lw_g (lw_at lw_m3 86 rfl) rfl
theorem q635 : (Jvm.Cond.static ({ cls := "java/lang/Character", name := "highSurrogate", desc := "(I)C" } : Jvm.MethodName)) ∈ lw_all := lw_g (lw_at lw_m3 88 rfl) rfl
theorem q636 : (Jvm.Cond.code ({ cls := "java/lang/Character", name := "highSurrogate", desc := "(I)C" } : Jvm.MethodName) prog_22_method_28_code (1 : Nat) (Option.some Jvm.ClassFile.FieldType.char)) ∈ lw_all := lw_g (lw_at lw_m3 89 rfl) rfl
theorem q637 : (Jvm.Cond.constant "java/lang/Character" (110 : Nat) (55232 : Int32)) ∈ lw_all := lw_g (lw_at lw_m3 90 rfl) rfl
theorem q639 : (Jvm.Cond.static ({ cls := "java/lang/Character", name := "lowSurrogate", desc := "(I)C" } : Jvm.MethodName)) ∈ lw_all := lw_g (lw_at lw_m3 92 rfl) rfl
theorem q640 : (Jvm.Cond.code ({ cls := "java/lang/Character", name := "lowSurrogate", desc := "(I)C" } : Jvm.MethodName) prog_22_method_29_code (1 : Nat) (Option.some Jvm.ClassFile.FieldType.char)) ∈ lw_all := lw_g (lw_at lw_m3 93 rfl) rfl
theorem q641 : (Jvm.Cond.constant "java/lang/Character" (76 : Nat) (56320 : Int32)) ∈ lw_all := lw_g (lw_at lw_m3 94 rfl) rfl
/-! jdk/internal/util/ArraysSupport -/
set_option maxRecDepth 100000
def RJ17 : String := "jdk/internal/util/ArraysSupport"
abbrev cJ17_newLength : ByteArray := prog_50_method_27_code
def yJ17_newLength : MethodName := ⟨RJ17, "newLength", "(III)I"⟩
def dkwJ17_newLength_1 : List UInt8 := [184, 0, 201, 172]
abbrev dktJ17_newLength_1 : List UInt8 := dkwJ17_newLength_1 ++ []
def dkwJ17_newLength_0 : List UInt8 := [26, 27, 28, 184, 0, 194, 96, 62, 3, 29, 162, 0, 11, 29, 18, 200, 163, 0, 5, 29, 172, 26, 27]
abbrev dktJ17_newLength_0 : List UInt8 := dkwJ17_newLength_0 ++ dktJ17_newLength_1
theorem dksJ17_newLength_0 : cJ17_newLength.data.toList.drop 0 = dktJ17_newLength_0 := by decide +kernel
theorem dksJ17_newLength_1 : cJ17_newLength.data.toList.drop 23 = dktJ17_newLength_1 := dk_seg dksJ17_newLength_0 23 rfl rfl
theorem dJ17_newLength_0 : decode cJ17_newLength 0 = .ok (.iload_n 0, 1) := dk_26 (dk_at dksJ17_newLength_0 0 rfl rfl)
theorem dJ17_newLength_1 : decode cJ17_newLength 1 = .ok (.iload_n 1, 1) := dk_27 (dk_at dksJ17_newLength_0 1 rfl rfl)
theorem dJ17_newLength_2 : decode cJ17_newLength 2 = .ok (.iload_n 2, 1) := dk_28 (dk_at dksJ17_newLength_0 2 rfl rfl)
theorem dJ17_newLength_3 : decode cJ17_newLength 3 = .ok (.invokestatic 194, 3) := dk_184 0 194 (dk_at dksJ17_newLength_0 3 rfl rfl)
theorem dJ17_newLength_6 : decode cJ17_newLength 6 = .ok (.iadd, 1) := dk_96 (dk_at dksJ17_newLength_0 6 rfl rfl)
theorem dJ17_newLength_7 : decode cJ17_newLength 7 = .ok (.istore_n 3, 1) := dk_62 (dk_at dksJ17_newLength_0 7 rfl rfl)
theorem dJ17_newLength_8 : decode cJ17_newLength 8 = .ok (.iconst 0, 1) := dk_3 (dk_at dksJ17_newLength_0 8 rfl rfl)
theorem dJ17_newLength_9 : decode cJ17_newLength 9 = .ok (.iload_n 3, 1) := dk_29 (dk_at dksJ17_newLength_0 9 rfl rfl)
theorem dJ17_newLength_10 : decode cJ17_newLength 10 = .ok (.if_icmp .ge 11, 3) := dk_162 0 11 (dk_at dksJ17_newLength_0 10 rfl rfl)
theorem dJ17_newLength_13 : decode cJ17_newLength 13 = .ok (.iload_n 3, 1) := dk_29 (dk_at dksJ17_newLength_0 13 rfl rfl)
theorem dJ17_newLength_14 : decode cJ17_newLength 14 = .ok (.ldc 200, 2) := dk_18 200 (dk_at dksJ17_newLength_0 14 rfl rfl)
theorem dJ17_newLength_16 : decode cJ17_newLength 16 = .ok (.if_icmp .gt 5, 3) := dk_163 0 5 (dk_at dksJ17_newLength_0 16 rfl rfl)
theorem dJ17_newLength_19 : decode cJ17_newLength 19 = .ok (.iload_n 3, 1) := dk_29 (dk_at dksJ17_newLength_0 19 rfl rfl)
theorem dJ17_newLength_20 : decode cJ17_newLength 20 = .ok (.ireturn, 1) := dk_172 (dk_at dksJ17_newLength_0 20 rfl rfl)
theorem dJ17_newLength_21 : decode cJ17_newLength 21 = .ok (.iload_n 0, 1) := dk_26 (dk_at dksJ17_newLength_0 21 rfl rfl)
theorem dJ17_newLength_22 : decode cJ17_newLength 22 = .ok (.iload_n 1, 1) := dk_27 (dk_at dksJ17_newLength_0 22 rfl rfl)
theorem dJ17_newLength_23 : decode cJ17_newLength 23 = .ok (.invokestatic 201, 3) := dk_184 0 201 (dk_at dksJ17_newLength_1 0 rfl rfl)
theorem dJ17_newLength_26 : decode cJ17_newLength 26 = .ok (.ireturn, 1) := dk_172 (dk_at dksJ17_newLength_1 3 rfl rfl)
abbrev cJ17_hugeLength : ByteArray := prog_50_method_28_code
def yJ17_hugeLength : MethodName := ⟨RJ17, "hugeLength", "(II)I"⟩
def dkwJ17_hugeLength_2 : List UInt8 := [191, 28, 18, 200, 163, 0, 6, 18, 200, 172, 28, 172]
abbrev dktJ17_hugeLength_2 : List UInt8 := dkwJ17_hugeLength_2 ++ []
def dkwJ17_hugeLength_1 : List UInt8 := [26, 182, 0, 98, 18, 208, 182, 0, 94, 27, 182, 0, 98, 18, 210, 182, 0, 94, 182, 0, 101, 183, 0, 212]
abbrev dktJ17_hugeLength_1 : List UInt8 := dkwJ17_hugeLength_1 ++ dktJ17_hugeLength_2
def dkwJ17_hugeLength_0 : List UInt8 := [26, 27, 96, 61, 28, 156, 0, 44, 187, 0, 204, 89, 187, 0, 89, 89, 183, 0, 91, 18, 206, 182, 0, 94]
abbrev dktJ17_hugeLength_0 : List UInt8 := dkwJ17_hugeLength_0 ++ dktJ17_hugeLength_1
theorem dksJ17_hugeLength_0 : cJ17_hugeLength.data.toList.drop 0 = dktJ17_hugeLength_0 := by decide +kernel
theorem dksJ17_hugeLength_1 : cJ17_hugeLength.data.toList.drop 24 = dktJ17_hugeLength_1 := dk_seg dksJ17_hugeLength_0 24 rfl rfl
theorem dksJ17_hugeLength_2 : cJ17_hugeLength.data.toList.drop 48 = dktJ17_hugeLength_2 := dk_seg dksJ17_hugeLength_1 24 rfl rfl
theorem dJ17_hugeLength_0 : decode cJ17_hugeLength 0 = .ok (.iload_n 0, 1) := dk_26 (dk_at dksJ17_hugeLength_0 0 rfl rfl)
theorem dJ17_hugeLength_1 : decode cJ17_hugeLength 1 = .ok (.iload_n 1, 1) := dk_27 (dk_at dksJ17_hugeLength_0 1 rfl rfl)
theorem dJ17_hugeLength_2 : decode cJ17_hugeLength 2 = .ok (.iadd, 1) := dk_96 (dk_at dksJ17_hugeLength_0 2 rfl rfl)
theorem dJ17_hugeLength_3 : decode cJ17_hugeLength 3 = .ok (.istore_n 2, 1) := dk_61 (dk_at dksJ17_hugeLength_0 3 rfl rfl)
theorem dJ17_hugeLength_4 : decode cJ17_hugeLength 4 = .ok (.iload_n 2, 1) := dk_28 (dk_at dksJ17_hugeLength_0 4 rfl rfl)
theorem dJ17_hugeLength_5 : decode cJ17_hugeLength 5 = .ok (.ifCond .ge 44, 3) := dk_156 0 44 (dk_at dksJ17_hugeLength_0 5 rfl rfl)
theorem dJ17_hugeLength_8 : decode cJ17_hugeLength 8 = .ok (.new 204, 3) := dk_187 0 204 (dk_at dksJ17_hugeLength_0 8 rfl rfl)
theorem dJ17_hugeLength_11 : decode cJ17_hugeLength 11 = .ok (.dup, 1) := dk_89 (dk_at dksJ17_hugeLength_0 11 rfl rfl)
theorem dJ17_hugeLength_12 : decode cJ17_hugeLength 12 = .ok (.new 89, 3) := dk_187 0 89 (dk_at dksJ17_hugeLength_0 12 rfl rfl)
theorem dJ17_hugeLength_15 : decode cJ17_hugeLength 15 = .ok (.dup, 1) := dk_89 (dk_at dksJ17_hugeLength_0 15 rfl rfl)
theorem dJ17_hugeLength_16 : decode cJ17_hugeLength 16 = .ok (.invokespecial 91, 3) := dk_183 0 91 (dk_at dksJ17_hugeLength_0 16 rfl rfl)
theorem dJ17_hugeLength_19 : decode cJ17_hugeLength 19 = .ok (.ldc 206, 2) := dk_18 206 (dk_at dksJ17_hugeLength_0 19 rfl rfl)
theorem dJ17_hugeLength_21 : decode cJ17_hugeLength 21 = .ok (.invokevirtual 94, 3) := dk_182 0 94 (dk_at dksJ17_hugeLength_0 21 rfl rfl)
theorem dJ17_hugeLength_24 : decode cJ17_hugeLength 24 = .ok (.iload_n 0, 1) := dk_26 (dk_at dksJ17_hugeLength_1 0 rfl rfl)
theorem dJ17_hugeLength_25 : decode cJ17_hugeLength 25 = .ok (.invokevirtual 98, 3) := dk_182 0 98 (dk_at dksJ17_hugeLength_1 1 rfl rfl)
theorem dJ17_hugeLength_28 : decode cJ17_hugeLength 28 = .ok (.ldc 208, 2) := dk_18 208 (dk_at dksJ17_hugeLength_1 4 rfl rfl)
theorem dJ17_hugeLength_30 : decode cJ17_hugeLength 30 = .ok (.invokevirtual 94, 3) := dk_182 0 94 (dk_at dksJ17_hugeLength_1 6 rfl rfl)
theorem dJ17_hugeLength_33 : decode cJ17_hugeLength 33 = .ok (.iload_n 1, 1) := dk_27 (dk_at dksJ17_hugeLength_1 9 rfl rfl)
theorem dJ17_hugeLength_34 : decode cJ17_hugeLength 34 = .ok (.invokevirtual 98, 3) := dk_182 0 98 (dk_at dksJ17_hugeLength_1 10 rfl rfl)
theorem dJ17_hugeLength_37 : decode cJ17_hugeLength 37 = .ok (.ldc 210, 2) := dk_18 210 (dk_at dksJ17_hugeLength_1 13 rfl rfl)
theorem dJ17_hugeLength_39 : decode cJ17_hugeLength 39 = .ok (.invokevirtual 94, 3) := dk_182 0 94 (dk_at dksJ17_hugeLength_1 15 rfl rfl)
theorem dJ17_hugeLength_42 : decode cJ17_hugeLength 42 = .ok (.invokevirtual 101, 3) := dk_182 0 101 (dk_at dksJ17_hugeLength_1 18 rfl rfl)
theorem dJ17_hugeLength_45 : decode cJ17_hugeLength 45 = .ok (.invokespecial 212, 3) := dk_183 0 212 (dk_at dksJ17_hugeLength_1 21 rfl rfl)
theorem dJ17_hugeLength_48 : decode cJ17_hugeLength 48 = .ok (.athrow, 1) := dk_191 (dk_at dksJ17_hugeLength_2 0 rfl rfl)
theorem dJ17_hugeLength_49 : decode cJ17_hugeLength 49 = .ok (.iload_n 2, 1) := dk_28 (dk_at dksJ17_hugeLength_2 1 rfl rfl)
theorem dJ17_hugeLength_50 : decode cJ17_hugeLength 50 = .ok (.ldc 200, 2) := dk_18 200 (dk_at dksJ17_hugeLength_2 2 rfl rfl)
theorem dJ17_hugeLength_52 : decode cJ17_hugeLength 52 = .ok (.if_icmp .gt 6, 3) := dk_163 0 6 (dk_at dksJ17_hugeLength_2 4 rfl rfl)
theorem dJ17_hugeLength_55 : decode cJ17_hugeLength 55 = .ok (.ldc 200, 2) := dk_18 200 (dk_at dksJ17_hugeLength_2 7 rfl rfl)
theorem dJ17_hugeLength_57 : decode cJ17_hugeLength 57 = .ok (.ireturn, 1) := dk_172 (dk_at dksJ17_hugeLength_2 9 rfl rfl)
theorem dJ17_hugeLength_58 : decode cJ17_hugeLength 58 = .ok (.iload_n 2, 1) := dk_28 (dk_at dksJ17_hugeLength_2 10 rfl rfl)
theorem dJ17_hugeLength_59 : decode cJ17_hugeLength 59 = .ok (.ireturn, 1) := dk_172 (dk_at dksJ17_hugeLength_2 11 rfl rfl)
theorem q99 : (Jvm.Cond.initialized "jdk/internal/util/ArraysSupport") ∈ lw_all := lw_g (lw_at lw_m1 32 rfl) rfl
theorem q764 : (Jvm.Cond.static ({ cls := "jdk/internal/util/ArraysSupport", name := "newLength", desc := "(III)I" } : Jvm.MethodName)) ∈ lw_all := lw_g (lw_at lw_m3 217 rfl) rfl
theorem q765 : (Jvm.Cond.code ({ cls := "jdk/internal/util/ArraysSupport", name := "newLength", desc := "(III)I" } : Jvm.MethodName) prog_50_method_27_code (4 : Nat) (Option.some Jvm.ClassFile.FieldType.int)) ∈ lw_all := lw_g (lw_at lw_m3 218 rfl) rfl
theorem q766 : (Jvm.Cond.methodLink "jdk/internal/util/ArraysSupport" (194 : Nat) ({ cls := "java/lang/Math", name := "max", desc := "(II)I" } : Jvm.MethodName)) ∈ lw_all := lw_g (lw_at lw_m3 219 rfl) rfl
theorem q767 : (Jvm.Cond.constant "jdk/internal/util/ArraysSupport" (200 : Nat) (2147483639 : Int32)) ∈ lw_all := lw_g (lw_at lw_m3 220 rfl) rfl
theorem q768 : (Jvm.Cond.methodLink "jdk/internal/util/ArraysSupport" (201 : Nat) ({ cls := "jdk/internal/util/ArraysSupport", name := "hugeLength", desc := "(II)I" } : Jvm.MethodName)) ∈ lw_all := lw_g (lw_at lw_m3 221 rfl) rfl
theorem q769 : (Jvm.Cond.static ({ cls := "jdk/internal/util/ArraysSupport", name := "hugeLength", desc := "(II)I" } : Jvm.MethodName)) ∈ lw_all := lw_g (lw_at lw_m3 222 rfl) rfl
theorem q770 : (Jvm.Cond.code ({ cls := "jdk/internal/util/ArraysSupport", name := "hugeLength", desc := "(II)I" } : Jvm.MethodName) prog_50_method_28_code (3 : Nat) (Option.some Jvm.ClassFile.FieldType.int)) ∈ lw_all := lw_g (lw_at lw_m3 223 rfl) rfl
/-! java/util/Arrays -/
set_option maxRecDepth 100000
def RJ18 : String := "java/util/Arrays"
abbrev cJ18_copyOf : ByteArray := prog_44_method_119_code
def yJ18_copyOf : MethodName := ⟨RJ18, "copyOf", "([Ljava/lang/Object;I)[Ljava/lang/Object;"⟩
def dkwJ18_copyOf_0 : List UInt8 := [42, 27, 42, 182, 0, 86, 184, 1, 44, 176]
abbrev dktJ18_copyOf_0 : List UInt8 := dkwJ18_copyOf_0 ++ []
theorem dksJ18_copyOf_0 : cJ18_copyOf.data.toList.drop 0 = dktJ18_copyOf_0 := by decide +kernel
theorem dJ18_copyOf_0 : decode cJ18_copyOf 0 = .ok (.aload_n 0, 1) := dk_42 (dk_at dksJ18_copyOf_0 0 rfl rfl)
theorem dJ18_copyOf_1 : decode cJ18_copyOf 1 = .ok (.iload_n 1, 1) := dk_27 (dk_at dksJ18_copyOf_0 1 rfl rfl)
theorem dJ18_copyOf_2 : decode cJ18_copyOf 2 = .ok (.aload_n 0, 1) := dk_42 (dk_at dksJ18_copyOf_0 2 rfl rfl)
theorem dJ18_copyOf_3 : decode cJ18_copyOf 3 = .ok (.invokevirtual 86, 3) := dk_182 0 86 (dk_at dksJ18_copyOf_0 3 rfl rfl)
theorem dJ18_copyOf_6 : decode cJ18_copyOf 6 = .ok (.invokestatic 300, 3) := dk_184 1 44 (dk_at dksJ18_copyOf_0 6 rfl rfl)
theorem dJ18_copyOf_9 : decode cJ18_copyOf 9 = .ok (.areturn, 1) := dk_176 (dk_at dksJ18_copyOf_0 9 rfl rfl)
abbrev cJ18_copyOf_2 : ByteArray := prog_44_method_120_code
def yJ18_copyOf_2 : MethodName := ⟨RJ18, "copyOf", "([Ljava/lang/Object;ILjava/lang/Class;)[Ljava/lang/Object;"⟩
def dkwJ18_copyOf_2_1 : List UInt8 := [78, 42, 3, 45, 3, 42, 190, 27, 184, 1, 48, 184, 0, 150, 45, 176]
abbrev dktJ18_copyOf_2_1 : List UInt8 := dkwJ18_copyOf_2_1 ++ []
def dkwJ18_copyOf_2_0 : List UInt8 := [44, 18, 110, 166, 0, 10, 27, 189, 0, 2, 167, 0, 14, 44, 182, 0, 90, 27, 184, 0, 95, 192, 0, 110]
abbrev dktJ18_copyOf_2_0 : List UInt8 := dkwJ18_copyOf_2_0 ++ dktJ18_copyOf_2_1
theorem dksJ18_copyOf_2_0 : cJ18_copyOf_2.data.toList.drop 0 = dktJ18_copyOf_2_0 := by decide +kernel
theorem dksJ18_copyOf_2_1 : cJ18_copyOf_2.data.toList.drop 24 = dktJ18_copyOf_2_1 := dk_seg dksJ18_copyOf_2_0 24 rfl rfl
theorem dJ18_copyOf_2_0 : decode cJ18_copyOf_2 0 = .ok (.aload_n 2, 1) := dk_44 (dk_at dksJ18_copyOf_2_0 0 rfl rfl)
theorem dJ18_copyOf_2_1 : decode cJ18_copyOf_2 1 = .ok (.ldc 110, 2) := dk_18 110 (dk_at dksJ18_copyOf_2_0 1 rfl rfl)
theorem dJ18_copyOf_2_3 : decode cJ18_copyOf_2 3 = .ok (.if_acmp .ne 10, 3) := dk_166 0 10 (dk_at dksJ18_copyOf_2_0 3 rfl rfl)
theorem dJ18_copyOf_2_6 : decode cJ18_copyOf_2 6 = .ok (.iload_n 1, 1) := dk_27 (dk_at dksJ18_copyOf_2_0 6 rfl rfl)
theorem dJ18_copyOf_2_7 : decode cJ18_copyOf_2 7 = .ok (.anewarray 2, 3) := dk_189 0 2 (dk_at dksJ18_copyOf_2_0 7 rfl rfl)
theorem dJ18_copyOf_2_10 : decode cJ18_copyOf_2 10 = .ok (.goto 14, 3) := dk_167 0 14 (dk_at dksJ18_copyOf_2_0 10 rfl rfl)
theorem dJ18_copyOf_2_13 : decode cJ18_copyOf_2 13 = .ok (.aload_n 2, 1) := dk_44 (dk_at dksJ18_copyOf_2_0 13 rfl rfl)
theorem dJ18_copyOf_2_14 : decode cJ18_copyOf_2 14 = .ok (.invokevirtual 90, 3) := dk_182 0 90 (dk_at dksJ18_copyOf_2_0 14 rfl rfl)
theorem dJ18_copyOf_2_17 : decode cJ18_copyOf_2 17 = .ok (.iload_n 1, 1) := dk_27 (dk_at dksJ18_copyOf_2_0 17 rfl rfl)
theorem dJ18_copyOf_2_18 : decode cJ18_copyOf_2 18 = .ok (.invokestatic 95, 3) := dk_184 0 95 (dk_at dksJ18_copyOf_2_0 18 rfl rfl)
theorem dJ18_copyOf_2_21 : decode cJ18_copyOf_2 21 = .ok (.checkcast 110, 3) := dk_192 0 110 (dk_at dksJ18_copyOf_2_0 21 rfl rfl)
theorem dJ18_copyOf_2_24 : decode cJ18_copyOf_2 24 = .ok (.astore_n 3, 1) := dk_78 (dk_at dksJ18_copyOf_2_1 0 rfl rfl)
theorem dJ18_copyOf_2_25 : decode cJ18_copyOf_2 25 = .ok (.aload_n 0, 1) := dk_42 (dk_at dksJ18_copyOf_2_1 1 rfl rfl)
theorem dJ18_copyOf_2_26 : decode cJ18_copyOf_2 26 = .ok (.iconst 0, 1) := dk_3 (dk_at dksJ18_copyOf_2_1 2 rfl rfl)
theorem dJ18_copyOf_2_27 : decode cJ18_copyOf_2 27 = .ok (.aload_n 3, 1) := dk_45 (dk_at dksJ18_copyOf_2_1 3 rfl rfl)
theorem dJ18_copyOf_2_28 : decode cJ18_copyOf_2 28 = .ok (.iconst 0, 1) := dk_3 (dk_at dksJ18_copyOf_2_1 4 rfl rfl)
theorem dJ18_copyOf_2_29 : decode cJ18_copyOf_2 29 = .ok (.aload_n 0, 1) := dk_42 (dk_at dksJ18_copyOf_2_1 5 rfl rfl)
theorem dJ18_copyOf_2_30 : decode cJ18_copyOf_2 30 = .ok (.arraylength, 1) := dk_190 (dk_at dksJ18_copyOf_2_1 6 rfl rfl)
theorem dJ18_copyOf_2_31 : decode cJ18_copyOf_2 31 = .ok (.iload_n 1, 1) := dk_27 (dk_at dksJ18_copyOf_2_1 7 rfl rfl)
theorem dJ18_copyOf_2_32 : decode cJ18_copyOf_2 32 = .ok (.invokestatic 304, 3) := dk_184 1 48 (dk_at dksJ18_copyOf_2_1 8 rfl rfl)
theorem dJ18_copyOf_2_35 : decode cJ18_copyOf_2 35 = .ok (.invokestatic 150, 3) := dk_184 0 150 (dk_at dksJ18_copyOf_2_1 11 rfl rfl)
theorem dJ18_copyOf_2_38 : decode cJ18_copyOf_2 38 = .ok (.aload_n 3, 1) := dk_45 (dk_at dksJ18_copyOf_2_1 14 rfl rfl)
theorem dJ18_copyOf_2_39 : decode cJ18_copyOf_2 39 = .ok (.areturn, 1) := dk_176 (dk_at dksJ18_copyOf_2_1 15 rfl rfl)
theorem q100 : (Jvm.Cond.initialized "java/util/Arrays") ∈ lw_all := lw_g (lw_at lw_m1 33 rfl) rfl
theorem q772 : (Jvm.Cond.static ({ cls := "java/util/Arrays", name := "copyOf", desc := "([Ljava/lang/Object;I)[Ljava/lang/Object;" } : Jvm.MethodName)) ∈ lw_all := lw_g (lw_at lw_m3 225 rfl) rfl
theorem q773 : (Jvm.Cond.code ({ cls := "java/util/Arrays", name := "copyOf", desc := "([Ljava/lang/Object;I)[Ljava/lang/Object;" } : Jvm.MethodName) prog_44_method_119_code (2 : Nat) (Option.some (Jvm.ClassFile.FieldType.array (Jvm.ClassFile.FieldType.object "java/lang/Object")))) ∈ lw_all := lw_g (lw_at lw_m3 226 rfl) rfl
theorem q774 : (Jvm.Cond.methodLink "java/util/Arrays" (86 : Nat) ({ cls := "java/lang/Object", name := "getClass", desc := "()Ljava/lang/Class;" } : Jvm.MethodName)) ∈ lw_all := lw_g (lw_at lw_m3 227 rfl) rfl
theorem q797 : (Jvm.Cond.methodLink "java/util/Arrays" (300 : Nat) ({ cls := "java/util/Arrays", name := "copyOf", desc := "([Ljava/lang/Object;ILjava/lang/Class;)[Ljava/lang/Object;" } : Jvm.MethodName)) ∈ lw_all := lw_g (lw_at lw_m4 10 rfl) rfl
theorem q798 : (Jvm.Cond.static ({ cls := "java/util/Arrays", name := "copyOf", desc := "([Ljava/lang/Object;ILjava/lang/Class;)[Ljava/lang/Object;" } : Jvm.MethodName)) ∈ lw_all := lw_g (lw_at lw_m4 11 rfl) rfl
theorem q799 : (Jvm.Cond.code ({ cls := "java/util/Arrays", name := "copyOf", desc := "([Ljava/lang/Object;ILjava/lang/Class;)[Ljava/lang/Object;" } : Jvm.MethodName) prog_44_method_120_code (4 : Nat) (Option.some (Jvm.ClassFile.FieldType.array (Jvm.ClassFile.FieldType.object "java/lang/Object")))) ∈ lw_all := lw_g (lw_at lw_m4 12 rfl) rfl
theorem q800 : (Jvm.Cond.classLink "java/util/Arrays" (110 : Nat) "[Ljava/lang/Object;") ∈ lw_all := lw_g (lw_at lw_m4 13 rfl) rfl
theorem q802 : (Jvm.Cond.classLink "java/util/Arrays" (2 : Nat) "java/lang/Object") ∈ lw_all := lw_g (lw_at lw_m4 15 rfl) rfl
theorem q803 : (Jvm.Cond.methodLink "java/util/Arrays" (304 : Nat) ({ cls := "java/lang/Math", name := "min", desc := "(II)I" } : Jvm.MethodName)) ∈ lw_all := lw_g (lw_at lw_m4 16 rfl) rfl
theorem q804 : (Jvm.Cond.methodLink "java/util/Arrays" (150 : Nat) ({ cls := "java/lang/System", name := "arraycopy", desc := "(Ljava/lang/Object;ILjava/lang/Object;II)V" } : Jvm.MethodName)) ∈ lw_all := lw_g (lw_at lw_m4 17 rfl) rfl
/-! java/util/Objects -/
set_option maxRecDepth 100000
def RJ19 : String := "java/util/Objects"
abbrev cJ19_checkIndex : ByteArray := prog_47_method_17_code
def yJ19_checkIndex : MethodName := ⟨RJ19, "checkIndex", "(II)I"⟩
def dkwJ19_checkIndex_0 : List UInt8 := [26, 27, 1, 184, 0, 105, 172]
abbrev dktJ19_checkIndex_0 : List UInt8 := dkwJ19_checkIndex_0 ++ []
theorem dksJ19_checkIndex_0 : cJ19_checkIndex.data.toList.drop 0 = dktJ19_checkIndex_0 := by decide +kernel
theorem dJ19_checkIndex_0 : decode cJ19_checkIndex 0 = .ok (.iload_n 0, 1) := dk_26 (dk_at dksJ19_checkIndex_0 0 rfl rfl)
theorem dJ19_checkIndex_1 : decode cJ19_checkIndex 1 = .ok (.iload_n 1, 1) := dk_27 (dk_at dksJ19_checkIndex_0 1 rfl rfl)
theorem dJ19_checkIndex_2 : decode cJ19_checkIndex 2 = .ok (.aconst_null, 1) := dk_1 (dk_at dksJ19_checkIndex_0 2 rfl rfl)
theorem dJ19_checkIndex_3 : decode cJ19_checkIndex 3 = .ok (.invokestatic 105, 3) := dk_184 0 105 (dk_at dksJ19_checkIndex_0 3 rfl rfl)
theorem dJ19_checkIndex_6 : decode cJ19_checkIndex 6 = .ok (.ireturn, 1) := dk_172 (dk_at dksJ19_checkIndex_0 6 rfl rfl)
theorem q101 : (Jvm.Cond.initialized "java/util/Objects") ∈ lw_all := lw_g (lw_at lw_m1 34 rfl) rfl
theorem q832 : (Jvm.Cond.static ({ cls := "java/util/Objects", name := "checkIndex", desc := "(II)I" } : Jvm.MethodName)) ∈ lw_all := lw_g (lw_at lw_m4 45 rfl) rfl
theorem q833 : (Jvm.Cond.code ({ cls := "java/util/Objects", name := "checkIndex", desc := "(II)I" } : Jvm.MethodName) prog_47_method_17_code (2 : Nat) (Option.some Jvm.ClassFile.FieldType.int)) ∈ lw_all := lw_g (lw_at lw_m4 46 rfl) rfl
theorem q834 : (Jvm.Cond.methodLink "java/util/Objects" (105 : Nat) ({ cls := "jdk/internal/util/Preconditions", name := "checkIndex", desc := "(IILjava/util/function/BiFunction;)I" } : Jvm.MethodName)) ∈ lw_all := lw_g (lw_at lw_m4 47 rfl) rfl
/-! java/util/ArrayList -/
set_option maxRecDepth 100000
def RJ2 : String := "java/util/ArrayList"
def TJ2 : u_T := fun k => match k with
  | 0 => ("java/util/AbstractList", "modCount", "I", false)
  | 1 => ("java/util/ArrayList", "elementData", "[Ljava/lang/Object;", false)
  | _ => ("java/util/ArrayList", "size", "I", false)
def tyJ2 : Nat → FieldType := fun k => match k with
  | 0 => .int
  | 1 => .array (.object "java/lang/Object")
  | _ => .int
abbrev wsJ20 : List Cond := u_ws RJ2 TJ2 3
theorem nmJ2 : ∀ a, a < 3 → ∀ b, b < 3 → a ≠ b → (TJ2 a).2.1 ≠ (TJ2 b).2.1 := by decide +kernel
theorem tyJ2_ok : ∀ k, k < 3 → parseFieldDescriptor (TJ2 k).2.2.1 = some (tyJ2 k) := by decide +kernel
abbrev cJ2_init : ByteArray := prog_43_method_2_code
def yJ2_init : MethodName := ⟨RJ2, "<init>", "()V"⟩
def dkwJ2_init_0 : List UInt8 := [42, 183, 0, 1, 42, 178, 0, 39, 181, 0, 9, 177]
abbrev dktJ2_init_0 : List UInt8 := dkwJ2_init_0 ++ []
theorem dksJ2_init_0 : cJ2_init.data.toList.drop 0 = dktJ2_init_0 := by decide +kernel
theorem dJ2_init_0 : decode cJ2_init 0 = .ok (.aload_n 0, 1) := dk_42 (dk_at dksJ2_init_0 0 rfl rfl)
theorem dJ2_init_1 : decode cJ2_init 1 = .ok (.invokespecial 1, 3) := dk_183 0 1 (dk_at dksJ2_init_0 1 rfl rfl)
theorem dJ2_init_4 : decode cJ2_init 4 = .ok (.aload_n 0, 1) := dk_42 (dk_at dksJ2_init_0 4 rfl rfl)
theorem dJ2_init_5 : decode cJ2_init 5 = .ok (.getstatic 39, 3) := dk_178 0 39 (dk_at dksJ2_init_0 5 rfl rfl)
theorem dJ2_init_8 : decode cJ2_init 8 = .ok (.putfield 9, 3) := dk_181 0 9 (dk_at dksJ2_init_0 8 rfl rfl)
theorem dJ2_init_11 : decode cJ2_init 11 = .ok (.return_, 1) := dk_177 (dk_at dksJ2_init_0 11 rfl rfl)
abbrev cJ2_size : ByteArray := prog_43_method_8_code
def yJ2_size : MethodName := ⟨RJ2, "size", "()I"⟩
theorem dJ2_size_0 : decode cJ2_size 0 = .ok (.aload_n 0, 1) := by decide +kernel
theorem dJ2_size_1 : decode cJ2_size 1 = .ok (.getfield 48, 3) := by decide +kernel
theorem dJ2_size_4 : decode cJ2_size 4 = .ok (.ireturn, 1) := by decide +kernel
abbrev cJ2_add : ByteArray := prog_43_method_25_code
def yJ2_add : MethodName := ⟨RJ2, "add", "(Ljava/lang/Object;)Z"⟩
def dkwJ2_add_1 : List UInt8 := [172]
abbrev dktJ2_add_1 : List UInt8 := dkwJ2_add_1 ++ []
def dkwJ2_add_0 : List UInt8 := [42, 89, 180, 0, 63, 4, 96, 181, 0, 63, 42, 43, 42, 180, 0, 9, 42, 180, 0, 48, 182, 0, 131, 4]
abbrev dktJ2_add_0 : List UInt8 := dkwJ2_add_0 ++ dktJ2_add_1
theorem dksJ2_add_0 : cJ2_add.data.toList.drop 0 = dktJ2_add_0 := by decide +kernel
theorem dksJ2_add_1 : cJ2_add.data.toList.drop 24 = dktJ2_add_1 := dk_seg dksJ2_add_0 24 rfl rfl
theorem dJ2_add_0 : decode cJ2_add 0 = .ok (.aload_n 0, 1) := dk_42 (dk_at dksJ2_add_0 0 rfl rfl)
theorem dJ2_add_1 : decode cJ2_add 1 = .ok (.dup, 1) := dk_89 (dk_at dksJ2_add_0 1 rfl rfl)
theorem dJ2_add_2 : decode cJ2_add 2 = .ok (.getfield 63, 3) := dk_180 0 63 (dk_at dksJ2_add_0 2 rfl rfl)
theorem dJ2_add_5 : decode cJ2_add 5 = .ok (.iconst 1, 1) := dk_4 (dk_at dksJ2_add_0 5 rfl rfl)
theorem dJ2_add_6 : decode cJ2_add 6 = .ok (.iadd, 1) := dk_96 (dk_at dksJ2_add_0 6 rfl rfl)
theorem dJ2_add_7 : decode cJ2_add 7 = .ok (.putfield 63, 3) := dk_181 0 63 (dk_at dksJ2_add_0 7 rfl rfl)
theorem dJ2_add_10 : decode cJ2_add 10 = .ok (.aload_n 0, 1) := dk_42 (dk_at dksJ2_add_0 10 rfl rfl)
theorem dJ2_add_11 : decode cJ2_add 11 = .ok (.aload_n 1, 1) := dk_43 (dk_at dksJ2_add_0 11 rfl rfl)
theorem dJ2_add_12 : decode cJ2_add 12 = .ok (.aload_n 0, 1) := dk_42 (dk_at dksJ2_add_0 12 rfl rfl)
theorem dJ2_add_13 : decode cJ2_add 13 = .ok (.getfield 9, 3) := dk_180 0 9 (dk_at dksJ2_add_0 13 rfl rfl)
theorem dJ2_add_16 : decode cJ2_add 16 = .ok (.aload_n 0, 1) := dk_42 (dk_at dksJ2_add_0 16 rfl rfl)
theorem dJ2_add_17 : decode cJ2_add 17 = .ok (.getfield 48, 3) := dk_180 0 48 (dk_at dksJ2_add_0 17 rfl rfl)
theorem dJ2_add_20 : decode cJ2_add 20 = .ok (.invokevirtual 131, 3) := dk_182 0 131 (dk_at dksJ2_add_0 20 rfl rfl)
theorem dJ2_add_23 : decode cJ2_add 23 = .ok (.iconst 1, 1) := dk_4 (dk_at dksJ2_add_0 23 rfl rfl)
theorem dJ2_add_24 : decode cJ2_add 24 = .ok (.ireturn, 1) := dk_172 (dk_at dksJ2_add_1 0 rfl rfl)
abbrev cJ2_add_2 : ByteArray := prog_43_method_24_code
def yJ2_add_2 : MethodName := ⟨RJ2, "add", "(Ljava/lang/Object;[Ljava/lang/Object;I)V"⟩
def dkwJ2_add_2_0 : List UInt8 := [29, 44, 190, 160, 0, 8, 42, 182, 0, 129, 77, 44, 29, 43, 83, 42, 29, 4, 96, 181, 0, 48, 177]
abbrev dktJ2_add_2_0 : List UInt8 := dkwJ2_add_2_0 ++ []
theorem dksJ2_add_2_0 : cJ2_add_2.data.toList.drop 0 = dktJ2_add_2_0 := by decide +kernel
theorem dJ2_add_2_0 : decode cJ2_add_2 0 = .ok (.iload_n 3, 1) := dk_29 (dk_at dksJ2_add_2_0 0 rfl rfl)
theorem dJ2_add_2_1 : decode cJ2_add_2 1 = .ok (.aload_n 2, 1) := dk_44 (dk_at dksJ2_add_2_0 1 rfl rfl)
theorem dJ2_add_2_2 : decode cJ2_add_2 2 = .ok (.arraylength, 1) := dk_190 (dk_at dksJ2_add_2_0 2 rfl rfl)
theorem dJ2_add_2_3 : decode cJ2_add_2 3 = .ok (.if_icmp .ne 8, 3) := dk_160 0 8 (dk_at dksJ2_add_2_0 3 rfl rfl)
theorem dJ2_add_2_6 : decode cJ2_add_2 6 = .ok (.aload_n 0, 1) := dk_42 (dk_at dksJ2_add_2_0 6 rfl rfl)
theorem dJ2_add_2_7 : decode cJ2_add_2 7 = .ok (.invokevirtual 129, 3) := dk_182 0 129 (dk_at dksJ2_add_2_0 7 rfl rfl)
theorem dJ2_add_2_10 : decode cJ2_add_2 10 = .ok (.astore_n 2, 1) := dk_77 (dk_at dksJ2_add_2_0 10 rfl rfl)
theorem dJ2_add_2_11 : decode cJ2_add_2 11 = .ok (.aload_n 2, 1) := dk_44 (dk_at dksJ2_add_2_0 11 rfl rfl)
theorem dJ2_add_2_12 : decode cJ2_add_2 12 = .ok (.iload_n 3, 1) := dk_29 (dk_at dksJ2_add_2_0 12 rfl rfl)
theorem dJ2_add_2_13 : decode cJ2_add_2 13 = .ok (.aload_n 1, 1) := dk_43 (dk_at dksJ2_add_2_0 13 rfl rfl)
theorem dJ2_add_2_14 : decode cJ2_add_2 14 = .ok (.aastore, 1) := dk_83 (dk_at dksJ2_add_2_0 14 rfl rfl)
theorem dJ2_add_2_15 : decode cJ2_add_2 15 = .ok (.aload_n 0, 1) := dk_42 (dk_at dksJ2_add_2_0 15 rfl rfl)
theorem dJ2_add_2_16 : decode cJ2_add_2 16 = .ok (.iload_n 3, 1) := dk_29 (dk_at dksJ2_add_2_0 16 rfl rfl)
theorem dJ2_add_2_17 : decode cJ2_add_2 17 = .ok (.iconst 1, 1) := dk_4 (dk_at dksJ2_add_2_0 17 rfl rfl)
theorem dJ2_add_2_18 : decode cJ2_add_2 18 = .ok (.iadd, 1) := dk_96 (dk_at dksJ2_add_2_0 18 rfl rfl)
theorem dJ2_add_2_19 : decode cJ2_add_2 19 = .ok (.putfield 48, 3) := dk_181 0 48 (dk_at dksJ2_add_2_0 19 rfl rfl)
theorem dJ2_add_2_22 : decode cJ2_add_2 22 = .ok (.return_, 1) := dk_177 (dk_at dksJ2_add_2_0 22 rfl rfl)
abbrev cJ2_grow : ByteArray := prog_43_method_7_code
def yJ2_grow : MethodName := ⟨RJ2, "grow", "()[Ljava/lang/Object;"⟩
def dkwJ2_grow_0 : List UInt8 := [42, 42, 180, 0, 48, 4, 96, 182, 0, 69, 176]
abbrev dktJ2_grow_0 : List UInt8 := dkwJ2_grow_0 ++ []
theorem dksJ2_grow_0 : cJ2_grow.data.toList.drop 0 = dktJ2_grow_0 := by decide +kernel
theorem dJ2_grow_0 : decode cJ2_grow 0 = .ok (.aload_n 0, 1) := dk_42 (dk_at dksJ2_grow_0 0 rfl rfl)
theorem dJ2_grow_1 : decode cJ2_grow 1 = .ok (.aload_n 0, 1) := dk_42 (dk_at dksJ2_grow_0 1 rfl rfl)
theorem dJ2_grow_2 : decode cJ2_grow 2 = .ok (.getfield 48, 3) := dk_180 0 48 (dk_at dksJ2_grow_0 2 rfl rfl)
theorem dJ2_grow_5 : decode cJ2_grow 5 = .ok (.iconst 1, 1) := dk_4 (dk_at dksJ2_grow_0 5 rfl rfl)
theorem dJ2_grow_6 : decode cJ2_grow 6 = .ok (.iadd, 1) := dk_96 (dk_at dksJ2_grow_0 6 rfl rfl)
theorem dJ2_grow_7 : decode cJ2_grow 7 = .ok (.invokevirtual 69, 3) := dk_182 0 69 (dk_at dksJ2_grow_0 7 rfl rfl)
theorem dJ2_grow_10 : decode cJ2_grow 10 = .ok (.areturn, 1) := dk_176 (dk_at dksJ2_grow_0 10 rfl rfl)
abbrev cJ2_grow_2 : ByteArray := prog_43_method_6_code
def yJ2_grow_2 : MethodName := ⟨RJ2, "grow", "(I)[Ljava/lang/Object;"⟩
def dkwJ2_grow_2_2 : List UInt8 := [27, 184, 0, 79, 189, 0, 7, 90, 181, 0, 9, 176]
abbrev dktJ2_grow_2_2 : List UInt8 := dkwJ2_grow_2_2 ++ []
def dkwJ2_grow_2_1 : List UInt8 := [28, 4, 122, 184, 0, 73, 62, 42, 42, 180, 0, 9, 29, 184, 0, 66, 90, 181, 0, 9, 176, 42, 16, 10]
abbrev dktJ2_grow_2_1 : List UInt8 := dkwJ2_grow_2_1 ++ dktJ2_grow_2_2
def dkwJ2_grow_2_0 : List UInt8 := [42, 180, 0, 9, 190, 61, 28, 157, 0, 13, 42, 180, 0, 9, 178, 0, 39, 165, 0, 28, 28, 27, 28, 100]
abbrev dktJ2_grow_2_0 : List UInt8 := dkwJ2_grow_2_0 ++ dktJ2_grow_2_1
theorem dksJ2_grow_2_0 : cJ2_grow_2.data.toList.drop 0 = dktJ2_grow_2_0 := by decide +kernel
theorem dksJ2_grow_2_1 : cJ2_grow_2.data.toList.drop 24 = dktJ2_grow_2_1 := dk_seg dksJ2_grow_2_0 24 rfl rfl
theorem dksJ2_grow_2_2 : cJ2_grow_2.data.toList.drop 48 = dktJ2_grow_2_2 := dk_seg dksJ2_grow_2_1 24 rfl rfl
theorem dJ2_grow_2_0 : decode cJ2_grow_2 0 = .ok (.aload_n 0, 1) := dk_42 (dk_at dksJ2_grow_2_0 0 rfl rfl)
theorem dJ2_grow_2_1 : decode cJ2_grow_2 1 = .ok (.getfield 9, 3) := dk_180 0 9 (dk_at dksJ2_grow_2_0 1 rfl rfl)
theorem dJ2_grow_2_4 : decode cJ2_grow_2 4 = .ok (.arraylength, 1) := dk_190 (dk_at dksJ2_grow_2_0 4 rfl rfl)
theorem dJ2_grow_2_5 : decode cJ2_grow_2 5 = .ok (.istore_n 2, 1) := dk_61 (dk_at dksJ2_grow_2_0 5 rfl rfl)
theorem dJ2_grow_2_6 : decode cJ2_grow_2 6 = .ok (.iload_n 2, 1) := dk_28 (dk_at dksJ2_grow_2_0 6 rfl rfl)
theorem dJ2_grow_2_7 : decode cJ2_grow_2 7 = .ok (.ifCond .gt 13, 3) := dk_157 0 13 (dk_at dksJ2_grow_2_0 7 rfl rfl)
theorem dJ2_grow_2_10 : decode cJ2_grow_2 10 = .ok (.aload_n 0, 1) := dk_42 (dk_at dksJ2_grow_2_0 10 rfl rfl)
theorem dJ2_grow_2_11 : decode cJ2_grow_2 11 = .ok (.getfield 9, 3) := dk_180 0 9 (dk_at dksJ2_grow_2_0 11 rfl rfl)
theorem dJ2_grow_2_14 : decode cJ2_grow_2 14 = .ok (.getstatic 39, 3) := dk_178 0 39 (dk_at dksJ2_grow_2_0 14 rfl rfl)
theorem dJ2_grow_2_17 : decode cJ2_grow_2 17 = .ok (.if_acmp .eq 28, 3) := dk_165 0 28 (dk_at dksJ2_grow_2_0 17 rfl rfl)
theorem dJ2_grow_2_20 : decode cJ2_grow_2 20 = .ok (.iload_n 2, 1) := dk_28 (dk_at dksJ2_grow_2_0 20 rfl rfl)
theorem dJ2_grow_2_21 : decode cJ2_grow_2 21 = .ok (.iload_n 1, 1) := dk_27 (dk_at dksJ2_grow_2_0 21 rfl rfl)
theorem dJ2_grow_2_22 : decode cJ2_grow_2 22 = .ok (.iload_n 2, 1) := dk_28 (dk_at dksJ2_grow_2_0 22 rfl rfl)
theorem dJ2_grow_2_23 : decode cJ2_grow_2 23 = .ok (.isub, 1) := dk_100 (dk_at dksJ2_grow_2_0 23 rfl rfl)
theorem dJ2_grow_2_24 : decode cJ2_grow_2 24 = .ok (.iload_n 2, 1) := dk_28 (dk_at dksJ2_grow_2_1 0 rfl rfl)
theorem dJ2_grow_2_25 : decode cJ2_grow_2 25 = .ok (.iconst 1, 1) := dk_4 (dk_at dksJ2_grow_2_1 1 rfl rfl)
theorem dJ2_grow_2_26 : decode cJ2_grow_2 26 = .ok (.ishr, 1) := dk_122 (dk_at dksJ2_grow_2_1 2 rfl rfl)
theorem dJ2_grow_2_27 : decode cJ2_grow_2 27 = .ok (.invokestatic 73, 3) := dk_184 0 73 (dk_at dksJ2_grow_2_1 3 rfl rfl)
theorem dJ2_grow_2_30 : decode cJ2_grow_2 30 = .ok (.istore_n 3, 1) := dk_62 (dk_at dksJ2_grow_2_1 6 rfl rfl)
theorem dJ2_grow_2_31 : decode cJ2_grow_2 31 = .ok (.aload_n 0, 1) := dk_42 (dk_at dksJ2_grow_2_1 7 rfl rfl)
theorem dJ2_grow_2_32 : decode cJ2_grow_2 32 = .ok (.aload_n 0, 1) := dk_42 (dk_at dksJ2_grow_2_1 8 rfl rfl)
theorem dJ2_grow_2_33 : decode cJ2_grow_2 33 = .ok (.getfield 9, 3) := dk_180 0 9 (dk_at dksJ2_grow_2_1 9 rfl rfl)
theorem dJ2_grow_2_36 : decode cJ2_grow_2 36 = .ok (.iload_n 3, 1) := dk_29 (dk_at dksJ2_grow_2_1 12 rfl rfl)
theorem dJ2_grow_2_37 : decode cJ2_grow_2 37 = .ok (.invokestatic 66, 3) := dk_184 0 66 (dk_at dksJ2_grow_2_1 13 rfl rfl)
theorem dJ2_grow_2_40 : decode cJ2_grow_2 40 = .ok (.dup_x1, 1) := dk_90 (dk_at dksJ2_grow_2_1 16 rfl rfl)
theorem dJ2_grow_2_41 : decode cJ2_grow_2 41 = .ok (.putfield 9, 3) := dk_181 0 9 (dk_at dksJ2_grow_2_1 17 rfl rfl)
theorem dJ2_grow_2_44 : decode cJ2_grow_2 44 = .ok (.areturn, 1) := dk_176 (dk_at dksJ2_grow_2_1 20 rfl rfl)
theorem dJ2_grow_2_45 : decode cJ2_grow_2 45 = .ok (.aload_n 0, 1) := dk_42 (dk_at dksJ2_grow_2_1 21 rfl rfl)
theorem dJ2_grow_2_46 : decode cJ2_grow_2 46 = .ok (.bipush 10, 2) := dk_16 10 (dk_at dksJ2_grow_2_1 22 rfl rfl)
theorem dJ2_grow_2_48 : decode cJ2_grow_2 48 = .ok (.iload_n 1, 1) := dk_27 (dk_at dksJ2_grow_2_2 0 rfl rfl)
theorem dJ2_grow_2_49 : decode cJ2_grow_2 49 = .ok (.invokestatic 79, 3) := dk_184 0 79 (dk_at dksJ2_grow_2_2 1 rfl rfl)
theorem dJ2_grow_2_52 : decode cJ2_grow_2 52 = .ok (.anewarray 7, 3) := dk_189 0 7 (dk_at dksJ2_grow_2_2 4 rfl rfl)
theorem dJ2_grow_2_55 : decode cJ2_grow_2 55 = .ok (.dup_x1, 1) := dk_90 (dk_at dksJ2_grow_2_2 7 rfl rfl)
theorem dJ2_grow_2_56 : decode cJ2_grow_2 56 = .ok (.putfield 9, 3) := dk_181 0 9 (dk_at dksJ2_grow_2_2 8 rfl rfl)
theorem dJ2_grow_2_59 : decode cJ2_grow_2 59 = .ok (.areturn, 1) := dk_176 (dk_at dksJ2_grow_2_2 11 rfl rfl)
abbrev cJ2_clear : ByteArray := prog_43_method_40_code
def yJ2_clear : MethodName := ⟨RJ2, "clear", "()V"⟩
def dkwJ2_clear_1 : List UInt8 := [181, 0, 48, 62, 29, 28, 162, 0, 13, 43, 29, 1, 83, 132, 3, 1, 167, 255, 244, 177]
abbrev dktJ2_clear_1 : List UInt8 := dkwJ2_clear_1 ++ []
def dkwJ2_clear_0 : List UInt8 := [42, 89, 180, 0, 63, 4, 96, 181, 0, 63, 42, 180, 0, 9, 76, 42, 180, 0, 48, 61, 42, 3, 90]
abbrev dktJ2_clear_0 : List UInt8 := dkwJ2_clear_0 ++ dktJ2_clear_1
theorem dksJ2_clear_0 : cJ2_clear.data.toList.drop 0 = dktJ2_clear_0 := by decide +kernel
theorem dksJ2_clear_1 : cJ2_clear.data.toList.drop 23 = dktJ2_clear_1 := dk_seg dksJ2_clear_0 23 rfl rfl
theorem dJ2_clear_0 : decode cJ2_clear 0 = .ok (.aload_n 0, 1) := dk_42 (dk_at dksJ2_clear_0 0 rfl rfl)
theorem dJ2_clear_1 : decode cJ2_clear 1 = .ok (.dup, 1) := dk_89 (dk_at dksJ2_clear_0 1 rfl rfl)
theorem dJ2_clear_2 : decode cJ2_clear 2 = .ok (.getfield 63, 3) := dk_180 0 63 (dk_at dksJ2_clear_0 2 rfl rfl)
theorem dJ2_clear_5 : decode cJ2_clear 5 = .ok (.iconst 1, 1) := dk_4 (dk_at dksJ2_clear_0 5 rfl rfl)
theorem dJ2_clear_6 : decode cJ2_clear 6 = .ok (.iadd, 1) := dk_96 (dk_at dksJ2_clear_0 6 rfl rfl)
theorem dJ2_clear_7 : decode cJ2_clear 7 = .ok (.putfield 63, 3) := dk_181 0 63 (dk_at dksJ2_clear_0 7 rfl rfl)
theorem dJ2_clear_10 : decode cJ2_clear 10 = .ok (.aload_n 0, 1) := dk_42 (dk_at dksJ2_clear_0 10 rfl rfl)
theorem dJ2_clear_11 : decode cJ2_clear 11 = .ok (.getfield 9, 3) := dk_180 0 9 (dk_at dksJ2_clear_0 11 rfl rfl)
theorem dJ2_clear_14 : decode cJ2_clear 14 = .ok (.astore_n 1, 1) := dk_76 (dk_at dksJ2_clear_0 14 rfl rfl)
theorem dJ2_clear_15 : decode cJ2_clear 15 = .ok (.aload_n 0, 1) := dk_42 (dk_at dksJ2_clear_0 15 rfl rfl)
theorem dJ2_clear_16 : decode cJ2_clear 16 = .ok (.getfield 48, 3) := dk_180 0 48 (dk_at dksJ2_clear_0 16 rfl rfl)
theorem dJ2_clear_19 : decode cJ2_clear 19 = .ok (.istore_n 2, 1) := dk_61 (dk_at dksJ2_clear_0 19 rfl rfl)
theorem dJ2_clear_20 : decode cJ2_clear 20 = .ok (.aload_n 0, 1) := dk_42 (dk_at dksJ2_clear_0 20 rfl rfl)
theorem dJ2_clear_21 : decode cJ2_clear 21 = .ok (.iconst 0, 1) := dk_3 (dk_at dksJ2_clear_0 21 rfl rfl)
theorem dJ2_clear_22 : decode cJ2_clear 22 = .ok (.dup_x1, 1) := dk_90 (dk_at dksJ2_clear_0 22 rfl rfl)
theorem dJ2_clear_23 : decode cJ2_clear 23 = .ok (.putfield 48, 3) := dk_181 0 48 (dk_at dksJ2_clear_1 0 rfl rfl)
theorem dJ2_clear_26 : decode cJ2_clear 26 = .ok (.istore_n 3, 1) := dk_62 (dk_at dksJ2_clear_1 3 rfl rfl)
theorem dJ2_clear_27 : decode cJ2_clear 27 = .ok (.iload_n 3, 1) := dk_29 (dk_at dksJ2_clear_1 4 rfl rfl)
theorem dJ2_clear_28 : decode cJ2_clear 28 = .ok (.iload_n 2, 1) := dk_28 (dk_at dksJ2_clear_1 5 rfl rfl)
theorem dJ2_clear_29 : decode cJ2_clear 29 = .ok (.if_icmp .ge 13, 3) := dk_162 0 13 (dk_at dksJ2_clear_1 6 rfl rfl)
theorem dJ2_clear_32 : decode cJ2_clear 32 = .ok (.aload_n 1, 1) := dk_43 (dk_at dksJ2_clear_1 9 rfl rfl)
theorem dJ2_clear_33 : decode cJ2_clear 33 = .ok (.iload_n 3, 1) := dk_29 (dk_at dksJ2_clear_1 10 rfl rfl)
theorem dJ2_clear_34 : decode cJ2_clear 34 = .ok (.aconst_null, 1) := dk_1 (dk_at dksJ2_clear_1 11 rfl rfl)
theorem dJ2_clear_35 : decode cJ2_clear 35 = .ok (.aastore, 1) := dk_83 (dk_at dksJ2_clear_1 12 rfl rfl)
theorem dJ2_clear_36 : decode cJ2_clear 36 = .ok (.iinc 3 1, 3) := dk_132 3 1 (dk_at dksJ2_clear_1 13 rfl rfl)
theorem dJ2_clear_39 : decode cJ2_clear 39 = .ok (.goto (-12), 3) := dk_167 255 244 (dk_at dksJ2_clear_1 16 rfl rfl)
theorem dJ2_clear_42 : decode cJ2_clear 42 = .ok (.return_, 1) := dk_177 (dk_at dksJ2_clear_1 19 rfl rfl)
abbrev cJ2_get : ByteArray := prog_43_method_20_code
def yJ2_get : MethodName := ⟨RJ2, "get", "(I)Ljava/lang/Object;"⟩
def dkwJ2_get_0 : List UInt8 := [27, 42, 180, 0, 48, 184, 0, 118, 87, 42, 27, 182, 0, 123, 176]
abbrev dktJ2_get_0 : List UInt8 := dkwJ2_get_0 ++ []
theorem dksJ2_get_0 : cJ2_get.data.toList.drop 0 = dktJ2_get_0 := by decide +kernel
theorem dJ2_get_0 : decode cJ2_get 0 = .ok (.iload_n 1, 1) := dk_27 (dk_at dksJ2_get_0 0 rfl rfl)
theorem dJ2_get_1 : decode cJ2_get 1 = .ok (.aload_n 0, 1) := dk_42 (dk_at dksJ2_get_0 1 rfl rfl)
theorem dJ2_get_2 : decode cJ2_get 2 = .ok (.getfield 48, 3) := dk_180 0 48 (dk_at dksJ2_get_0 2 rfl rfl)
theorem dJ2_get_5 : decode cJ2_get 5 = .ok (.invokestatic 118, 3) := dk_184 0 118 (dk_at dksJ2_get_0 5 rfl rfl)
theorem dJ2_get_8 : decode cJ2_get 8 = .ok (.pop, 1) := dk_87 (dk_at dksJ2_get_0 8 rfl rfl)
theorem dJ2_get_9 : decode cJ2_get 9 = .ok (.aload_n 0, 1) := dk_42 (dk_at dksJ2_get_0 9 rfl rfl)
theorem dJ2_get_10 : decode cJ2_get 10 = .ok (.iload_n 1, 1) := dk_27 (dk_at dksJ2_get_0 10 rfl rfl)
theorem dJ2_get_11 : decode cJ2_get 11 = .ok (.invokevirtual 123, 3) := dk_182 0 123 (dk_at dksJ2_get_0 11 rfl rfl)
theorem dJ2_get_14 : decode cJ2_get 14 = .ok (.areturn, 1) := dk_176 (dk_at dksJ2_get_0 14 rfl rfl)
abbrev cJ2_elementData : ByteArray := prog_43_method_18_code
def yJ2_elementData : MethodName := ⟨RJ2, "elementData", "(I)Ljava/lang/Object;"⟩
def dkwJ2_elementData_0 : List UInt8 := [42, 180, 0, 9, 27, 50, 176]
abbrev dktJ2_elementData_0 : List UInt8 := dkwJ2_elementData_0 ++ []
theorem dksJ2_elementData_0 : cJ2_elementData.data.toList.drop 0 = dktJ2_elementData_0 := by decide +kernel
theorem dJ2_elementData_0 : decode cJ2_elementData 0 = .ok (.aload_n 0, 1) := dk_42 (dk_at dksJ2_elementData_0 0 rfl rfl)
theorem dJ2_elementData_1 : decode cJ2_elementData 1 = .ok (.getfield 9, 3) := dk_180 0 9 (dk_at dksJ2_elementData_0 1 rfl rfl)
theorem dJ2_elementData_4 : decode cJ2_elementData 4 = .ok (.iload_n 1, 1) := dk_27 (dk_at dksJ2_elementData_0 4 rfl rfl)
theorem dJ2_elementData_5 : decode cJ2_elementData 5 = .ok (.aaload, 1) := dk_50 (dk_at dksJ2_elementData_0 5 rfl rfl)
theorem dJ2_elementData_6 : decode cJ2_elementData 6 = .ok (.areturn, 1) := dk_176 (dk_at dksJ2_elementData_0 6 rfl rfl)
theorem q73 : (Jvm.Cond.initialized "java/util/ArrayList") ∈ lw_all := lw_g (lw_at lw_m1 6 rfl) rfl
theorem q135 : (Jvm.Cond.instantiable "java/util/ArrayList" (3 : Nat)) ∈ lw_all := lw_g (lw_at lw_m1 68 rfl) rfl
theorem q137 : (Jvm.Cond.instanceMethod ({ cls := "java/util/ArrayList", name := "<init>", desc := "()V" } : Jvm.MethodName)) ∈ lw_all := lw_g (lw_at lw_m1 70 rfl) rfl
theorem q138 : (Jvm.Cond.code ({ cls := "java/util/ArrayList", name := "<init>", desc := "()V" } : Jvm.MethodName) prog_43_method_2_code (1 : Nat) (Option.none : Option Jvm.ClassFile.FieldType)) ∈ lw_all := lw_g (lw_at lw_m1 71 rfl) rfl
theorem q139 : (Jvm.Cond.methodLink "java/util/ArrayList" (1 : Nat) ({ cls := "java/util/AbstractList", name := "<init>", desc := "()V" } : Jvm.MethodName)) ∈ lw_all := lw_g (lw_at lw_m1 72 rfl) rfl
theorem q146 : (Jvm.Cond.fieldLink "java/util/ArrayList" (39 : Nat) "java/util/ArrayList" "DEFAULTCAPACITY_EMPTY_ELEMENTDATA" "[Ljava/lang/Object;") ∈ lw_all := lw_g (lw_at lw_m1 79 rfl) rfl
theorem q147 : (Jvm.Cond.laysStatic "java/util/ArrayList" "DEFAULTCAPACITY_EMPTY_ELEMENTDATA" "[Ljava/lang/Object;") ∈ lw_tbl := lw_at lw_m1 80 rfl
theorem q148 : (Jvm.Cond.fieldLink "java/util/ArrayList" (9 : Nat) "java/util/ArrayList" "elementData" "[Ljava/lang/Object;") ∈ lw_all := lw_g (lw_at lw_m1 81 rfl) rfl
theorem q149 : (Jvm.Cond.fieldLink "java/util/ArrayList" (48 : Nat) "java/util/ArrayList" "size" "I") ∈ lw_all := lw_g (lw_at lw_m1 82 rfl) rfl
theorem q151 : (Jvm.Cond.fieldLink "java/util/ArrayList" (63 : Nat) "java/util/ArrayList" "modCount" "I") ∈ lw_all := lw_g (lw_at lw_m1 84 rfl) rfl
theorem q152 : (Jvm.Cond.sameField "java/util/ArrayList" "java/util/AbstractList" "modCount" "I") ∈ lw_all := lw_g (lw_at lw_m1 85 rfl) rfl
theorem q153 : (Jvm.Cond.lays "java/util/ArrayList" "java/util/ArrayList" "elementData" "[Ljava/lang/Object;") ∈ lw_all := lw_g (lw_at lw_m1 86 rfl) rfl
theorem q154 : (Jvm.Cond.soleField "java/util/ArrayList" "elementData") ∈ lw_all := lw_g (lw_at lw_m1 87 rfl) rfl
theorem q155 : (Jvm.Cond.lays "java/util/ArrayList" "java/util/ArrayList" "size" "I") ∈ lw_all := lw_g (lw_at lw_m1 88 rfl) rfl
theorem q156 : (Jvm.Cond.soleField "java/util/ArrayList" "size") ∈ lw_all := lw_g (lw_at lw_m1 89 rfl) rfl
theorem q157 : (Jvm.Cond.lays "java/util/ArrayList" "java/util/AbstractList" "modCount" "I") ∈ lw_all := lw_g (lw_at lw_m1 90 rfl) rfl
theorem q159 : (Jvm.Cond.superclass "java/util/ArrayList" "java/util/AbstractList") ∈ lw_all := lw_g (lw_at lw_m1 92 rfl) rfl
theorem q654 : (Jvm.Cond.castable "java/util/ArrayList" "java/util/List") ∈ lw_tbl := lw_at lw_m3 107 rfl
theorem q655 : (Jvm.Cond.selects "java/util/ArrayList" ({ cls := "java/util/List", name := "size", desc := "()I" } : Jvm.MethodName) ({ cls := "java/util/ArrayList", name := "size", desc := "()I" } : Jvm.MethodName)) ∈ lw_all := lw_g (lw_at lw_m3 108 rfl) rfl
theorem q656 : (Jvm.Cond.unhidden "java/util/ArrayList" "size" "()I") ∈ lw_tbl := lw_at lw_m3 109 rfl
theorem q657 : (Jvm.Cond.instanceMethod ({ cls := "java/util/ArrayList", name := "size", desc := "()I" } : Jvm.MethodName)) ∈ lw_all := lw_g (lw_at lw_m3 110 rfl) rfl
theorem q658 : (Jvm.Cond.publicMethod ({ cls := "java/util/ArrayList", name := "size", desc := "()I" } : Jvm.MethodName)) ∈ lw_tbl := lw_at lw_m3 111 rfl
theorem q659 : (Jvm.Cond.code ({ cls := "java/util/ArrayList", name := "size", desc := "()I" } : Jvm.MethodName) prog_43_method_8_code (1 : Nat) (Option.some Jvm.ClassFile.FieldType.int)) ∈ lw_all := lw_g (lw_at lw_m3 112 rfl) rfl
theorem q746 : (Jvm.Cond.selects "java/util/ArrayList" ({ cls := "java/util/List", name := "add", desc := "(Ljava/lang/Object;)Z" } : Jvm.MethodName) ({ cls := "java/util/ArrayList", name := "add", desc := "(Ljava/lang/Object;)Z" } : Jvm.MethodName)) ∈ lw_all := lw_g (lw_at lw_m3 199 rfl) rfl
theorem q747 : (Jvm.Cond.unhidden "java/util/ArrayList" "add" "(Ljava/lang/Object;)Z") ∈ lw_tbl := lw_at lw_m3 200 rfl
theorem q748 : (Jvm.Cond.instanceMethod ({ cls := "java/util/ArrayList", name := "add", desc := "(Ljava/lang/Object;)Z" } : Jvm.MethodName)) ∈ lw_all := lw_g (lw_at lw_m3 201 rfl) rfl
theorem q749 : (Jvm.Cond.publicMethod ({ cls := "java/util/ArrayList", name := "add", desc := "(Ljava/lang/Object;)Z" } : Jvm.MethodName)) ∈ lw_tbl := lw_at lw_m3 202 rfl
theorem q750 : (Jvm.Cond.code ({ cls := "java/util/ArrayList", name := "add", desc := "(Ljava/lang/Object;)Z" } : Jvm.MethodName) prog_43_method_25_code (2 : Nat) (Option.some Jvm.ClassFile.FieldType.boolean)) ∈ lw_all := lw_g (lw_at lw_m3 203 rfl) rfl
theorem q751 : (Jvm.Cond.methodLink "java/util/ArrayList" (131 : Nat) ({ cls := "java/util/ArrayList", name := "add", desc := "(Ljava/lang/Object;[Ljava/lang/Object;I)V" } : Jvm.MethodName)) ∈ lw_all := lw_g (lw_at lw_m3 204 rfl) rfl
theorem q752 : (Jvm.Cond.privateMethod ({ cls := "java/util/ArrayList", name := "add", desc := "(Ljava/lang/Object;[Ljava/lang/Object;I)V" } : Jvm.MethodName)) ∈ lw_tbl := lw_at lw_m3 205 rfl
theorem q753 : (Jvm.Cond.instanceMethod ({ cls := "java/util/ArrayList", name := "add", desc := "(Ljava/lang/Object;[Ljava/lang/Object;I)V" } : Jvm.MethodName)) ∈ lw_all := lw_g (lw_at lw_m3 206 rfl) rfl
theorem q754 : (Jvm.Cond.code ({ cls := "java/util/ArrayList", name := "add", desc := "(Ljava/lang/Object;[Ljava/lang/Object;I)V" } : Jvm.MethodName) prog_43_method_24_code (4 : Nat) (Option.none : Option Jvm.ClassFile.FieldType)) ∈ lw_all := lw_g (lw_at lw_m3 207 rfl) rfl
theorem q755 : (Jvm.Cond.methodLink "java/util/ArrayList" (129 : Nat) ({ cls := "java/util/ArrayList", name := "grow", desc := "()[Ljava/lang/Object;" } : Jvm.MethodName)) ∈ lw_all := lw_g (lw_at lw_m3 208 rfl) rfl
theorem q756 : (Jvm.Cond.privateMethod ({ cls := "java/util/ArrayList", name := "grow", desc := "()[Ljava/lang/Object;" } : Jvm.MethodName)) ∈ lw_tbl := lw_at lw_m3 209 rfl
theorem q757 : (Jvm.Cond.instanceMethod ({ cls := "java/util/ArrayList", name := "grow", desc := "()[Ljava/lang/Object;" } : Jvm.MethodName)) ∈ lw_all := lw_g (lw_at lw_m3 210 rfl) rfl
theorem q758 : (Jvm.Cond.code ({ cls := "java/util/ArrayList", name := "grow", desc := "()[Ljava/lang/Object;" } : Jvm.MethodName) prog_43_method_7_code (1 : Nat) (Option.some (Jvm.ClassFile.FieldType.array (Jvm.ClassFile.FieldType.object "java/lang/Object")))) ∈ lw_all := lw_g (lw_at lw_m3 211 rfl) rfl
theorem q759 : (Jvm.Cond.methodLink "java/util/ArrayList" (69 : Nat) ({ cls := "java/util/ArrayList", name := "grow", desc := "(I)[Ljava/lang/Object;" } : Jvm.MethodName)) ∈ lw_all := lw_g (lw_at lw_m3 212 rfl) rfl
theorem q760 : (Jvm.Cond.privateMethod ({ cls := "java/util/ArrayList", name := "grow", desc := "(I)[Ljava/lang/Object;" } : Jvm.MethodName)) ∈ lw_tbl := lw_at lw_m3 213 rfl
theorem q761 : (Jvm.Cond.instanceMethod ({ cls := "java/util/ArrayList", name := "grow", desc := "(I)[Ljava/lang/Object;" } : Jvm.MethodName)) ∈ lw_all := lw_g (lw_at lw_m3 214 rfl) rfl
theorem q762 : (Jvm.Cond.code ({ cls := "java/util/ArrayList", name := "grow", desc := "(I)[Ljava/lang/Object;" } : Jvm.MethodName) prog_43_method_6_code (4 : Nat) (Option.some (Jvm.ClassFile.FieldType.array (Jvm.ClassFile.FieldType.object "java/lang/Object")))) ∈ lw_all := lw_g (lw_at lw_m3 215 rfl) rfl
theorem q763 : (Jvm.Cond.methodLink "java/util/ArrayList" (73 : Nat) ({ cls := "jdk/internal/util/ArraysSupport", name := "newLength", desc := "(III)I" } : Jvm.MethodName)) ∈ lw_all := lw_g (lw_at lw_m3 216 rfl) rfl
theorem q771 : (Jvm.Cond.methodLink "java/util/ArrayList" (66 : Nat) ({ cls := "java/util/Arrays", name := "copyOf", desc := "([Ljava/lang/Object;I)[Ljava/lang/Object;" } : Jvm.MethodName)) ∈ lw_all := lw_g (lw_at lw_m3 224 rfl) rfl
theorem q795 : (Jvm.Cond.selects "java/util/ArrayList" ({ cls := "java/lang/Object", name := "getClass", desc := "()Ljava/lang/Class;" } : Jvm.MethodName) ({ cls := "java/lang/Object", name := "getClass", desc := "()Ljava/lang/Class;" } : Jvm.MethodName)) ∈ lw_all := lw_g (lw_at lw_m4 8 rfl) rfl
theorem q805 : (Jvm.Cond.methodLink "java/util/ArrayList" (79 : Nat) ({ cls := "java/lang/Math", name := "max", desc := "(II)I" } : Jvm.MethodName)) ∈ lw_all := lw_g (lw_at lw_m4 18 rfl) rfl
theorem q806 : (Jvm.Cond.classLink "java/util/ArrayList" (7 : Nat) "java/lang/Object") ∈ lw_all := lw_g (lw_at lw_m4 19 rfl) rfl
theorem q817 : (Jvm.Cond.selects "java/util/ArrayList" ({ cls := "java/util/List", name := "clear", desc := "()V" } : Jvm.MethodName) ({ cls := "java/util/ArrayList", name := "clear", desc := "()V" } : Jvm.MethodName)) ∈ lw_all := lw_g (lw_at lw_m4 30 rfl) rfl
theorem q818 : (Jvm.Cond.unhidden "java/util/ArrayList" "clear" "()V") ∈ lw_tbl := lw_at lw_m4 31 rfl
theorem q819 : (Jvm.Cond.instanceMethod ({ cls := "java/util/ArrayList", name := "clear", desc := "()V" } : Jvm.MethodName)) ∈ lw_all := lw_g (lw_at lw_m4 32 rfl) rfl
theorem q820 : (Jvm.Cond.publicMethod ({ cls := "java/util/ArrayList", name := "clear", desc := "()V" } : Jvm.MethodName)) ∈ lw_tbl := lw_at lw_m4 33 rfl
theorem q821 : (Jvm.Cond.code ({ cls := "java/util/ArrayList", name := "clear", desc := "()V" } : Jvm.MethodName) prog_43_method_40_code (4 : Nat) (Option.none : Option Jvm.ClassFile.FieldType)) ∈ lw_all := lw_g (lw_at lw_m4 34 rfl) rfl
theorem q826 : (Jvm.Cond.selects "java/util/ArrayList" ({ cls := "java/util/List", name := "get", desc := "(I)Ljava/lang/Object;" } : Jvm.MethodName) ({ cls := "java/util/ArrayList", name := "get", desc := "(I)Ljava/lang/Object;" } : Jvm.MethodName)) ∈ lw_all := lw_g (lw_at lw_m4 39 rfl) rfl
theorem q827 : (Jvm.Cond.unhidden "java/util/ArrayList" "get" "(I)Ljava/lang/Object;") ∈ lw_tbl := lw_at lw_m4 40 rfl
theorem q828 : (Jvm.Cond.instanceMethod ({ cls := "java/util/ArrayList", name := "get", desc := "(I)Ljava/lang/Object;" } : Jvm.MethodName)) ∈ lw_all := lw_g (lw_at lw_m4 41 rfl) rfl
theorem q829 : (Jvm.Cond.publicMethod ({ cls := "java/util/ArrayList", name := "get", desc := "(I)Ljava/lang/Object;" } : Jvm.MethodName)) ∈ lw_tbl := lw_at lw_m4 42 rfl
theorem q830 : (Jvm.Cond.code ({ cls := "java/util/ArrayList", name := "get", desc := "(I)Ljava/lang/Object;" } : Jvm.MethodName) prog_43_method_20_code (2 : Nat) (Option.some (Jvm.ClassFile.FieldType.object "java/lang/Object"))) ∈ lw_all := lw_g (lw_at lw_m4 43 rfl) rfl
theorem q831 : (Jvm.Cond.methodLink "java/util/ArrayList" (118 : Nat) ({ cls := "java/util/Objects", name := "checkIndex", desc := "(II)I" } : Jvm.MethodName)) ∈ lw_all := lw_g (lw_at lw_m4 44 rfl) rfl
theorem q837 : (Jvm.Cond.methodLink "java/util/ArrayList" (123 : Nat) ({ cls := "java/util/ArrayList", name := "elementData", desc := "(I)Ljava/lang/Object;" } : Jvm.MethodName)) ∈ lw_all := lw_g (lw_at lw_m4 50 rfl) rfl
theorem q838 : (Jvm.Cond.instanceMethod ({ cls := "java/util/ArrayList", name := "elementData", desc := "(I)Ljava/lang/Object;" } : Jvm.MethodName)) ∈ lw_all := lw_g (lw_at lw_m4 51 rfl) rfl
theorem q839 : (Jvm.Cond.selects "java/util/ArrayList" ({ cls := "java/util/ArrayList", name := "elementData", desc := "(I)Ljava/lang/Object;" } : Jvm.MethodName) ({ cls := "java/util/ArrayList", name := "elementData", desc := "(I)Ljava/lang/Object;" } : Jvm.MethodName)) ∈ lw_all := lw_g (lw_at lw_m4 52 rfl) rfl
theorem q840 : (Jvm.Cond.code ({ cls := "java/util/ArrayList", name := "elementData", desc := "(I)Ljava/lang/Object;" } : Jvm.MethodName) prog_43_method_18_code (2 : Nat) (Option.some (Jvm.ClassFile.FieldType.object "java/lang/Object"))) ∈ lw_all := lw_g (lw_at lw_m4 53 rfl) rfl
theorem q1695 : (Jvm.Cond.castable "java/util/ArrayList" "java/lang/Object") ∈ lw_tbl := lw_at lw_m7 188 rfl
theorem in_J2 : ∀ w ∈ wsJ20, w ∈ lw_all := lw_in wsJ20 [157, 153, 155] (by decide +kernel) (by decide +kernel)
/-! java/lang/Integer -/
set_option maxRecDepth 100000
def RJ20 : String := "java/lang/Integer"
abbrev cJ20_bitCount : ByteArray := prog_28_method_49_code
def yJ20_bitCount : MethodName := ⟨RJ20, "bitCount", "(I)I"⟩
def dkwJ20_bitCount_2 : List UInt8 := [26, 16, 63, 126, 172]
abbrev dktJ20_bitCount_2 : List UInt8 := dkwJ20_bitCount_2 ++ []
def dkwJ20_bitCount_1 : List UInt8 := [26, 26, 7, 124, 96, 19, 1, 11, 126, 59, 26, 26, 16, 8, 124, 96, 59, 26, 26, 16, 16, 124, 96, 59]
abbrev dktJ20_bitCount_1 : List UInt8 := dkwJ20_bitCount_1 ++ dktJ20_bitCount_2
def dkwJ20_bitCount_0 : List UInt8 := [26, 26, 4, 124, 19, 1, 9, 126, 100, 59, 26, 19, 1, 10, 126, 26, 5, 124, 19, 1, 10, 126, 96, 59]
abbrev dktJ20_bitCount_0 : List UInt8 := dkwJ20_bitCount_0 ++ dktJ20_bitCount_1
theorem dksJ20_bitCount_0 : cJ20_bitCount.data.toList.drop 0 = dktJ20_bitCount_0 := by decide +kernel
theorem dksJ20_bitCount_1 : cJ20_bitCount.data.toList.drop 24 = dktJ20_bitCount_1 := dk_seg dksJ20_bitCount_0 24 rfl rfl
theorem dksJ20_bitCount_2 : cJ20_bitCount.data.toList.drop 48 = dktJ20_bitCount_2 := dk_seg dksJ20_bitCount_1 24 rfl rfl
theorem dJ20_bitCount_0 : decode cJ20_bitCount 0 = .ok (.iload_n 0, 1) := dk_26 (dk_at dksJ20_bitCount_0 0 rfl rfl)
theorem dJ20_bitCount_1 : decode cJ20_bitCount 1 = .ok (.iload_n 0, 1) := dk_26 (dk_at dksJ20_bitCount_0 1 rfl rfl)
theorem dJ20_bitCount_2 : decode cJ20_bitCount 2 = .ok (.iconst 1, 1) := dk_4 (dk_at dksJ20_bitCount_0 2 rfl rfl)
theorem dJ20_bitCount_3 : decode cJ20_bitCount 3 = .ok (.iushr, 1) := dk_124 (dk_at dksJ20_bitCount_0 3 rfl rfl)
theorem dJ20_bitCount_4 : decode cJ20_bitCount 4 = .ok (.ldc_w 265, 3) := dk_19 1 9 (dk_at dksJ20_bitCount_0 4 rfl rfl)
theorem dJ20_bitCount_7 : decode cJ20_bitCount 7 = .ok (.iand, 1) := dk_126 (dk_at dksJ20_bitCount_0 7 rfl rfl)
theorem dJ20_bitCount_8 : decode cJ20_bitCount 8 = .ok (.isub, 1) := dk_100 (dk_at dksJ20_bitCount_0 8 rfl rfl)
theorem dJ20_bitCount_9 : decode cJ20_bitCount 9 = .ok (.istore_n 0, 1) := dk_59 (dk_at dksJ20_bitCount_0 9 rfl rfl)
theorem dJ20_bitCount_10 : decode cJ20_bitCount 10 = .ok (.iload_n 0, 1) := dk_26 (dk_at dksJ20_bitCount_0 10 rfl rfl)
theorem dJ20_bitCount_11 : decode cJ20_bitCount 11 = .ok (.ldc_w 266, 3) := dk_19 1 10 (dk_at dksJ20_bitCount_0 11 rfl rfl)
theorem dJ20_bitCount_14 : decode cJ20_bitCount 14 = .ok (.iand, 1) := dk_126 (dk_at dksJ20_bitCount_0 14 rfl rfl)
theorem dJ20_bitCount_15 : decode cJ20_bitCount 15 = .ok (.iload_n 0, 1) := dk_26 (dk_at dksJ20_bitCount_0 15 rfl rfl)
theorem dJ20_bitCount_16 : decode cJ20_bitCount 16 = .ok (.iconst 2, 1) := dk_5 (dk_at dksJ20_bitCount_0 16 rfl rfl)
theorem dJ20_bitCount_17 : decode cJ20_bitCount 17 = .ok (.iushr, 1) := dk_124 (dk_at dksJ20_bitCount_0 17 rfl rfl)
theorem dJ20_bitCount_18 : decode cJ20_bitCount 18 = .ok (.ldc_w 266, 3) := dk_19 1 10 (dk_at dksJ20_bitCount_0 18 rfl rfl)
theorem dJ20_bitCount_21 : decode cJ20_bitCount 21 = .ok (.iand, 1) := dk_126 (dk_at dksJ20_bitCount_0 21 rfl rfl)
theorem dJ20_bitCount_22 : decode cJ20_bitCount 22 = .ok (.iadd, 1) := dk_96 (dk_at dksJ20_bitCount_0 22 rfl rfl)
theorem dJ20_bitCount_23 : decode cJ20_bitCount 23 = .ok (.istore_n 0, 1) := dk_59 (dk_at dksJ20_bitCount_0 23 rfl rfl)
theorem dJ20_bitCount_24 : decode cJ20_bitCount 24 = .ok (.iload_n 0, 1) := dk_26 (dk_at dksJ20_bitCount_1 0 rfl rfl)
theorem dJ20_bitCount_25 : decode cJ20_bitCount 25 = .ok (.iload_n 0, 1) := dk_26 (dk_at dksJ20_bitCount_1 1 rfl rfl)
theorem dJ20_bitCount_26 : decode cJ20_bitCount 26 = .ok (.iconst 4, 1) := dk_7 (dk_at dksJ20_bitCount_1 2 rfl rfl)
theorem dJ20_bitCount_27 : decode cJ20_bitCount 27 = .ok (.iushr, 1) := dk_124 (dk_at dksJ20_bitCount_1 3 rfl rfl)
theorem dJ20_bitCount_28 : decode cJ20_bitCount 28 = .ok (.iadd, 1) := dk_96 (dk_at dksJ20_bitCount_1 4 rfl rfl)
theorem dJ20_bitCount_29 : decode cJ20_bitCount 29 = .ok (.ldc_w 267, 3) := dk_19 1 11 (dk_at dksJ20_bitCount_1 5 rfl rfl)
theorem dJ20_bitCount_32 : decode cJ20_bitCount 32 = .ok (.iand, 1) := dk_126 (dk_at dksJ20_bitCount_1 8 rfl rfl)
theorem dJ20_bitCount_33 : decode cJ20_bitCount 33 = .ok (.istore_n 0, 1) := dk_59 (dk_at dksJ20_bitCount_1 9 rfl rfl)
theorem dJ20_bitCount_34 : decode cJ20_bitCount 34 = .ok (.iload_n 0, 1) := dk_26 (dk_at dksJ20_bitCount_1 10 rfl rfl)
theorem dJ20_bitCount_35 : decode cJ20_bitCount 35 = .ok (.iload_n 0, 1) := dk_26 (dk_at dksJ20_bitCount_1 11 rfl rfl)
theorem dJ20_bitCount_36 : decode cJ20_bitCount 36 = .ok (.bipush 8, 2) := dk_16 8 (dk_at dksJ20_bitCount_1 12 rfl rfl)
theorem dJ20_bitCount_38 : decode cJ20_bitCount 38 = .ok (.iushr, 1) := dk_124 (dk_at dksJ20_bitCount_1 14 rfl rfl)
theorem dJ20_bitCount_39 : decode cJ20_bitCount 39 = .ok (.iadd, 1) := dk_96 (dk_at dksJ20_bitCount_1 15 rfl rfl)
theorem dJ20_bitCount_40 : decode cJ20_bitCount 40 = .ok (.istore_n 0, 1) := dk_59 (dk_at dksJ20_bitCount_1 16 rfl rfl)
theorem dJ20_bitCount_41 : decode cJ20_bitCount 41 = .ok (.iload_n 0, 1) := dk_26 (dk_at dksJ20_bitCount_1 17 rfl rfl)
theorem dJ20_bitCount_42 : decode cJ20_bitCount 42 = .ok (.iload_n 0, 1) := dk_26 (dk_at dksJ20_bitCount_1 18 rfl rfl)
theorem dJ20_bitCount_43 : decode cJ20_bitCount 43 = .ok (.bipush 16, 2) := dk_16 16 (dk_at dksJ20_bitCount_1 19 rfl rfl)
theorem dJ20_bitCount_45 : decode cJ20_bitCount 45 = .ok (.iushr, 1) := dk_124 (dk_at dksJ20_bitCount_1 21 rfl rfl)
theorem dJ20_bitCount_46 : decode cJ20_bitCount 46 = .ok (.iadd, 1) := dk_96 (dk_at dksJ20_bitCount_1 22 rfl rfl)
theorem dJ20_bitCount_47 : decode cJ20_bitCount 47 = .ok (.istore_n 0, 1) := dk_59 (dk_at dksJ20_bitCount_1 23 rfl rfl)
theorem dJ20_bitCount_48 : decode cJ20_bitCount 48 = .ok (.iload_n 0, 1) := dk_26 (dk_at dksJ20_bitCount_2 0 rfl rfl)
theorem dJ20_bitCount_49 : decode cJ20_bitCount 49 = .ok (.bipush 63, 2) := dk_16 63 (dk_at dksJ20_bitCount_2 1 rfl rfl)
theorem dJ20_bitCount_51 : decode cJ20_bitCount 51 = .ok (.iand, 1) := dk_126 (dk_at dksJ20_bitCount_2 3 rfl rfl)
theorem dJ20_bitCount_52 : decode cJ20_bitCount 52 = .ok (.ireturn, 1) := dk_172 (dk_at dksJ20_bitCount_2 4 rfl rfl)
theorem q102 : (Jvm.Cond.initialized "java/lang/Integer") ∈ lw_all := lw_g (lw_at lw_m1 35 rfl) rfl
theorem q1001 : (Jvm.Cond.static ({ cls := "java/lang/Integer", name := "bitCount", desc := "(I)I" } : Jvm.MethodName)) ∈ lw_all := lw_g (lw_at lw_m4 214 rfl) rfl
theorem q1002 : (Jvm.Cond.code ({ cls := "java/lang/Integer", name := "bitCount", desc := "(I)I" } : Jvm.MethodName) prog_28_method_49_code (1 : Nat) (Option.some Jvm.ClassFile.FieldType.int)) ∈ lw_all := lw_g (lw_at lw_m4 215 rfl) rfl
theorem q1003 : (Jvm.Cond.constant "java/lang/Integer" (265 : Nat) (1431655765 : Int32)) ∈ lw_all := lw_g (lw_at lw_m4 216 rfl) rfl
theorem q1004 : (Jvm.Cond.constant "java/lang/Integer" (266 : Nat) (858993459 : Int32)) ∈ lw_all := lw_g (lw_at lw_m4 217 rfl) rfl
theorem q1005 : (Jvm.Cond.constant "java/lang/Integer" (267 : Nat) (252645135 : Int32)) ∈ lw_all := lw_g (lw_at lw_m4 218 rfl) rfl
/-! java/lang/ClassCastException -/
set_option maxRecDepth 100000
def RJ21 : String := "java/lang/ClassCastException"
def TJ21 : u_T := fun k => match k with
  | 0 => ("java/lang/Throwable", "backtrace", "Ljava/lang/Object;", false)
  | 1 => ("java/lang/Throwable", "detailMessage", "Ljava/lang/String;", false)
  | 2 => ("java/lang/Throwable", "cause", "Ljava/lang/Throwable;", false)
  | 3 => ("java/lang/Throwable", "stackTrace", "[Ljava/lang/StackTraceElement;", false)
  | 4 => ("java/lang/Throwable", "depth", "I", false)
  | _ => ("java/lang/Throwable", "suppressedExceptions", "Ljava/util/List;", false)
def tyJ21 : Nat → FieldType := fun k => match k with
  | 0 => .object "java/lang/Object"
  | 1 => .object "java/lang/String"
  | 2 => .object "java/lang/Throwable"
  | 3 => .array (.object "java/lang/StackTraceElement")
  | 4 => .int
  | _ => .object "java/util/List"
abbrev wsJ210 : List Cond := u_ws RJ21 TJ21 6
theorem nmJ21 : ∀ a, a < 6 → ∀ b, b < 6 → a ≠ b → (TJ21 a).2.1 ≠ (TJ21 b).2.1 := by decide +kernel
theorem tyJ21_ok : ∀ k, k < 6 → parseFieldDescriptor (TJ21 k).2.2.1 = some (tyJ21 k) := by decide +kernel
abbrev cJ21_init : ByteArray := prog_23_method_2_code
def yJ21_init : MethodName := ⟨RJ21, "<init>", "(Ljava/lang/String;)V"⟩
def dkwJ21_init_0 : List UInt8 := [42, 43, 183, 0, 7, 177]
abbrev dktJ21_init_0 : List UInt8 := dkwJ21_init_0 ++ []
theorem dksJ21_init_0 : cJ21_init.data.toList.drop 0 = dktJ21_init_0 := by decide +kernel
theorem dJ21_init_0 : decode cJ21_init 0 = .ok (.aload_n 0, 1) := dk_42 (dk_at dksJ21_init_0 0 rfl rfl)
theorem dJ21_init_1 : decode cJ21_init 1 = .ok (.aload_n 1, 1) := dk_43 (dk_at dksJ21_init_0 1 rfl rfl)
theorem dJ21_init_2 : decode cJ21_init 2 = .ok (.invokespecial 7, 3) := dk_183 0 7 (dk_at dksJ21_init_0 2 rfl rfl)
theorem dJ21_init_5 : decode cJ21_init 5 = .ok (.return_, 1) := dk_177 (dk_at dksJ21_init_0 5 rfl rfl)
theorem q103 : (Jvm.Cond.initialized "java/lang/ClassCastException") ∈ lw_all := lw_g (lw_at lw_m1 36 rfl) rfl
theorem q274 : (Jvm.Cond.selects "java/lang/ClassCastException" ({ cls := "java/lang/Throwable", name := "fillInStackTrace", desc := "()Ljava/lang/Throwable;" } : Jvm.MethodName) ({ cls := "java/lang/Throwable", name := "fillInStackTrace", desc := "()Ljava/lang/Throwable;" } : Jvm.MethodName)) ∈ lw_all := lw_g (lw_at lw_m1 207 rfl) rfl
theorem q792 : (Jvm.Cond.selects "java/lang/ClassCastException" ({ cls := "java/lang/Object", name := "getClass", desc := "()Ljava/lang/Class;" } : Jvm.MethodName) ({ cls := "java/lang/Object", name := "getClass", desc := "()Ljava/lang/Class;" } : Jvm.MethodName)) ∈ lw_all := lw_g (lw_at lw_m4 5 rfl) rfl
theorem q1130 : (Jvm.Cond.instantiable "java/lang/ClassCastException" (6 : Nat)) ∈ lw_all := lw_g (lw_at lw_m5 103 rfl) rfl
theorem q1131 : (Jvm.Cond.instanceMethod ({ cls := "java/lang/ClassCastException", name := "<init>", desc := "(Ljava/lang/String;)V" } : Jvm.MethodName)) ∈ lw_all := lw_g (lw_at lw_m5 104 rfl) rfl
theorem q1132 : (Jvm.Cond.code ({ cls := "java/lang/ClassCastException", name := "<init>", desc := "(Ljava/lang/String;)V" } : Jvm.MethodName) prog_23_method_2_code (2 : Nat) (Option.none : Option Jvm.ClassFile.FieldType)) ∈ lw_all := lw_g (lw_at lw_m5 105 rfl) rfl
theorem q1133 : (Jvm.Cond.methodLink "java/lang/ClassCastException" (7 : Nat) ({ cls := "java/lang/RuntimeException", name := "<init>", desc := "(Ljava/lang/String;)V" } : Jvm.MethodName)) ∈ lw_all := lw_g (lw_at lw_m5 106 rfl) rfl
theorem q1134 : (Jvm.Cond.lays "java/lang/ClassCastException" "java/lang/Throwable" "backtrace" "Ljava/lang/Object;") ∈ lw_all := lw_g (lw_at lw_m5 107 rfl) rfl
theorem q1135 : (Jvm.Cond.lays "java/lang/ClassCastException" "java/lang/Throwable" "detailMessage" "Ljava/lang/String;") ∈ lw_all := lw_g (lw_at lw_m5 108 rfl) rfl
theorem q1136 : (Jvm.Cond.lays "java/lang/ClassCastException" "java/lang/Throwable" "cause" "Ljava/lang/Throwable;") ∈ lw_all := lw_g (lw_at lw_m5 109 rfl) rfl
theorem q1137 : (Jvm.Cond.lays "java/lang/ClassCastException" "java/lang/Throwable" "stackTrace" "[Ljava/lang/StackTraceElement;") ∈ lw_all := lw_g (lw_at lw_m5 110 rfl) rfl
theorem q1138 : (Jvm.Cond.lays "java/lang/ClassCastException" "java/lang/Throwable" "depth" "I") ∈ lw_all := lw_g (lw_at lw_m5 111 rfl) rfl
theorem q1139 : (Jvm.Cond.lays "java/lang/ClassCastException" "java/lang/Throwable" "suppressedExceptions" "Ljava/util/List;") ∈ lw_all := lw_g (lw_at lw_m5 112 rfl) rfl
theorem q1140 : (Jvm.Cond.superclass "java/lang/ClassCastException" "java/lang/RuntimeException") ∈ lw_all := lw_g (lw_at lw_m5 113 rfl) rfl
theorem q1141 : (Jvm.Cond.castable "java/lang/ClassCastException" "java/lang/ClassCastException") ∈ lw_tbl := lw_at lw_m5 114 rfl
theorem q1142 : (Jvm.Cond.selects "java/lang/ClassCastException" ({ cls := "java/lang/Throwable", name := "fillInStackTrace", desc := "(I)Ljava/lang/Throwable;" } : Jvm.MethodName) ({ cls := "java/lang/Throwable", name := "fillInStackTrace", desc := "(I)Ljava/lang/Throwable;" } : Jvm.MethodName)) ∈ lw_all := lw_g (lw_at lw_m5 115 rfl) rfl
theorem q1709 : (Jvm.Cond.castable "java/lang/ClassCastException" "java/lang/Object") ∈ lw_tbl := lw_at lw_m7 202 rfl
theorem in_J21 : ∀ w ∈ wsJ210, w ∈ lw_all := lw_in wsJ210 [1134, 1135, 1136, 1137, 1138, 1139] (by decide +kernel) (by decide +kernel)
/-! java/lang/Object -/
set_option maxRecDepth 100000
def RJ22 : String := "java/lang/Object"
abbrev cJ22_init : ByteArray := object_method_1_code
def yJ22_init : MethodName := ⟨RJ22, "<init>", "()V"⟩
theorem dJ22_init_0 : decode cJ22_init 0 = .ok (.return_, 1) := by decide +kernel
theorem q111 : (Jvm.Cond.instanceMethod ({ cls := "java/lang/Object", name := "<init>", desc := "()V" } : Jvm.MethodName)) ∈ lw_all := lw_g (lw_at lw_m1 44 rfl) rfl
theorem q112 : (Jvm.Cond.code ({ cls := "java/lang/Object", name := "<init>", desc := "()V" } : Jvm.MethodName) object_method_1_code (1 : Nat) (Option.none : Option Jvm.ClassFile.FieldType)) ∈ lw_all := lw_g (lw_at lw_m1 45 rfl) rfl
theorem q775 : (Jvm.Cond.instanceMethod ({ cls := "java/lang/Object", name := "getClass", desc := "()Ljava/lang/Class;" } : Jvm.MethodName)) ∈ lw_all := lw_g (lw_at lw_m3 228 rfl) rfl
theorem q776 : (Jvm.Cond.sameMethod "java/lang/Object" "java/lang/Object" "getClass" "()Ljava/lang/Class;") ∈ lw_all := lw_g (lw_at lw_m3 229 rfl) rfl
theorem q796 : (Jvm.Cond.native ({ cls := "java/lang/Object", name := "getClass", desc := "()Ljava/lang/Class;" } : Jvm.MethodName)) ∈ lw_all := lw_g (lw_at lw_m4 9 rfl) rfl
theorem q1681 : (Jvm.Cond.initialized "java/lang/Object") ∈ lw_all := lw_g (lw_at lw_m7 174 rfl) rfl
theorem q1715 : (Jvm.Cond.declares ({ cls := "java/lang/Object", name := "getClass", desc := "()Ljava/lang/Class;" } : Jvm.MethodName)) ∈ lw_tbl := lw_at lw_m7 208 rfl
/-! java/lang/Throwable -/
set_option maxRecDepth 100000
def RJ3 : String := "java/lang/Throwable"
def TJ3 : u_T := fun k => match k with
  | 0 => ("java/lang/Throwable", "cause", "Ljava/lang/Throwable;", false)
  | 1 => ("java/lang/Throwable", "stackTrace", "[Ljava/lang/StackTraceElement;", false)
  | 2 => ("java/lang/Throwable", "suppressedExceptions", "Ljava/util/List;", false)
  | 3 => ("java/lang/Throwable", "detailMessage", "Ljava/lang/String;", false)
  | _ => ("java/lang/Throwable", "backtrace", "Ljava/lang/Object;", false)
def tyJ3 : Nat → FieldType := fun k => match k with
  | 0 => .object "java/lang/Throwable"
  | 1 => .array (.object "java/lang/StackTraceElement")
  | 2 => .object "java/util/List"
  | 3 => .object "java/lang/String"
  | _ => .object "java/lang/Object"
abbrev wsJ30 : List Cond := u_ws RJ3 TJ3 5
theorem nmJ3 : ∀ a, a < 5 → ∀ b, b < 5 → a ≠ b → (TJ3 a).2.1 ≠ (TJ3 b).2.1 := by decide +kernel
theorem tyJ3_ok : ∀ k, k < 5 → parseFieldDescriptor (TJ3 k).2.2.1 = some (tyJ3 k) := by decide +kernel
abbrev cJ3_init : ByteArray := prog_38_method_2_code
def yJ3_init : MethodName := ⟨RJ3, "<init>", "(Ljava/lang/String;)V"⟩
def dkwJ3_init_1 : List UInt8 := [182, 0, 27, 87, 42, 43, 181, 0, 31, 177]
abbrev dktJ3_init_1 : List UInt8 := dkwJ3_init_1 ++ []
def dkwJ3_init_0 : List UInt8 := [42, 183, 0, 1, 42, 42, 181, 0, 7, 42, 178, 0, 13, 181, 0, 17, 42, 178, 0, 20, 181, 0, 24, 42]
abbrev dktJ3_init_0 : List UInt8 := dkwJ3_init_0 ++ dktJ3_init_1
theorem dksJ3_init_0 : cJ3_init.data.toList.drop 0 = dktJ3_init_0 := by decide +kernel
theorem dksJ3_init_1 : cJ3_init.data.toList.drop 24 = dktJ3_init_1 := dk_seg dksJ3_init_0 24 rfl rfl
theorem dJ3_init_0 : decode cJ3_init 0 = .ok (.aload_n 0, 1) := dk_42 (dk_at dksJ3_init_0 0 rfl rfl)
theorem dJ3_init_1 : decode cJ3_init 1 = .ok (.invokespecial 1, 3) := dk_183 0 1 (dk_at dksJ3_init_0 1 rfl rfl)
theorem dJ3_init_4 : decode cJ3_init 4 = .ok (.aload_n 0, 1) := dk_42 (dk_at dksJ3_init_0 4 rfl rfl)
theorem dJ3_init_5 : decode cJ3_init 5 = .ok (.aload_n 0, 1) := dk_42 (dk_at dksJ3_init_0 5 rfl rfl)
theorem dJ3_init_6 : decode cJ3_init 6 = .ok (.putfield 7, 3) := dk_181 0 7 (dk_at dksJ3_init_0 6 rfl rfl)
theorem dJ3_init_9 : decode cJ3_init 9 = .ok (.aload_n 0, 1) := dk_42 (dk_at dksJ3_init_0 9 rfl rfl)
theorem dJ3_init_10 : decode cJ3_init 10 = .ok (.getstatic 13, 3) := dk_178 0 13 (dk_at dksJ3_init_0 10 rfl rfl)
theorem dJ3_init_13 : decode cJ3_init 13 = .ok (.putfield 17, 3) := dk_181 0 17 (dk_at dksJ3_init_0 13 rfl rfl)
theorem dJ3_init_16 : decode cJ3_init 16 = .ok (.aload_n 0, 1) := dk_42 (dk_at dksJ3_init_0 16 rfl rfl)
theorem dJ3_init_17 : decode cJ3_init 17 = .ok (.getstatic 20, 3) := dk_178 0 20 (dk_at dksJ3_init_0 17 rfl rfl)
theorem dJ3_init_20 : decode cJ3_init 20 = .ok (.putfield 24, 3) := dk_181 0 24 (dk_at dksJ3_init_0 20 rfl rfl)
theorem dJ3_init_23 : decode cJ3_init 23 = .ok (.aload_n 0, 1) := dk_42 (dk_at dksJ3_init_0 23 rfl rfl)
theorem dJ3_init_24 : decode cJ3_init 24 = .ok (.invokevirtual 27, 3) := dk_182 0 27 (dk_at dksJ3_init_1 0 rfl rfl)
theorem dJ3_init_27 : decode cJ3_init 27 = .ok (.pop, 1) := dk_87 (dk_at dksJ3_init_1 3 rfl rfl)
theorem dJ3_init_28 : decode cJ3_init 28 = .ok (.aload_n 0, 1) := dk_42 (dk_at dksJ3_init_1 4 rfl rfl)
theorem dJ3_init_29 : decode cJ3_init 29 = .ok (.aload_n 1, 1) := dk_43 (dk_at dksJ3_init_1 5 rfl rfl)
theorem dJ3_init_30 : decode cJ3_init 30 = .ok (.putfield 31, 3) := dk_181 0 31 (dk_at dksJ3_init_1 6 rfl rfl)
theorem dJ3_init_33 : decode cJ3_init 33 = .ok (.return_, 1) := dk_177 (dk_at dksJ3_init_1 9 rfl rfl)
abbrev cJ3_init_2 : ByteArray := prog_38_method_1_code
def yJ3_init_2 : MethodName := ⟨RJ3, "<init>", "()V"⟩
def dkwJ3_init_2_1 : List UInt8 := [182, 0, 27, 87, 177]
abbrev dktJ3_init_2_1 : List UInt8 := dkwJ3_init_2_1 ++ []
def dkwJ3_init_2_0 : List UInt8 := [42, 183, 0, 1, 42, 42, 181, 0, 7, 42, 178, 0, 13, 181, 0, 17, 42, 178, 0, 20, 181, 0, 24, 42]
abbrev dktJ3_init_2_0 : List UInt8 := dkwJ3_init_2_0 ++ dktJ3_init_2_1
theorem dksJ3_init_2_0 : cJ3_init_2.data.toList.drop 0 = dktJ3_init_2_0 := by decide +kernel
theorem dksJ3_init_2_1 : cJ3_init_2.data.toList.drop 24 = dktJ3_init_2_1 := dk_seg dksJ3_init_2_0 24 rfl rfl
theorem dJ3_init_2_0 : decode cJ3_init_2 0 = .ok (.aload_n 0, 1) := dk_42 (dk_at dksJ3_init_2_0 0 rfl rfl)
theorem dJ3_init_2_1 : decode cJ3_init_2 1 = .ok (.invokespecial 1, 3) := dk_183 0 1 (dk_at dksJ3_init_2_0 1 rfl rfl)
theorem dJ3_init_2_4 : decode cJ3_init_2 4 = .ok (.aload_n 0, 1) := dk_42 (dk_at dksJ3_init_2_0 4 rfl rfl)
theorem dJ3_init_2_5 : decode cJ3_init_2 5 = .ok (.aload_n 0, 1) := dk_42 (dk_at dksJ3_init_2_0 5 rfl rfl)
theorem dJ3_init_2_6 : decode cJ3_init_2 6 = .ok (.putfield 7, 3) := dk_181 0 7 (dk_at dksJ3_init_2_0 6 rfl rfl)
theorem dJ3_init_2_9 : decode cJ3_init_2 9 = .ok (.aload_n 0, 1) := dk_42 (dk_at dksJ3_init_2_0 9 rfl rfl)
theorem dJ3_init_2_10 : decode cJ3_init_2 10 = .ok (.getstatic 13, 3) := dk_178 0 13 (dk_at dksJ3_init_2_0 10 rfl rfl)
theorem dJ3_init_2_13 : decode cJ3_init_2 13 = .ok (.putfield 17, 3) := dk_181 0 17 (dk_at dksJ3_init_2_0 13 rfl rfl)
theorem dJ3_init_2_16 : decode cJ3_init_2 16 = .ok (.aload_n 0, 1) := dk_42 (dk_at dksJ3_init_2_0 16 rfl rfl)
theorem dJ3_init_2_17 : decode cJ3_init_2 17 = .ok (.getstatic 20, 3) := dk_178 0 20 (dk_at dksJ3_init_2_0 17 rfl rfl)
theorem dJ3_init_2_20 : decode cJ3_init_2 20 = .ok (.putfield 24, 3) := dk_181 0 24 (dk_at dksJ3_init_2_0 20 rfl rfl)
theorem dJ3_init_2_23 : decode cJ3_init_2 23 = .ok (.aload_n 0, 1) := dk_42 (dk_at dksJ3_init_2_0 23 rfl rfl)
theorem dJ3_init_2_24 : decode cJ3_init_2 24 = .ok (.invokevirtual 27, 3) := dk_182 0 27 (dk_at dksJ3_init_2_1 0 rfl rfl)
theorem dJ3_init_2_27 : decode cJ3_init_2 27 = .ok (.pop, 1) := dk_87 (dk_at dksJ3_init_2_1 3 rfl rfl)
theorem dJ3_init_2_28 : decode cJ3_init_2 28 = .ok (.return_, 1) := dk_177 (dk_at dksJ3_init_2_1 4 rfl rfl)
abbrev cJ3_init_3 : ByteArray := prog_38_method_5_code
def yJ3_init_3 : MethodName := ⟨RJ3, "<init>", "(Ljava/lang/String;Ljava/lang/Throwable;ZZ)V"⟩
def dkwJ3_init_3_2 : List UInt8 := [44, 181, 0, 7, 29, 154, 0, 8, 42, 1, 181, 0, 24, 177]
abbrev dktJ3_init_3_2 : List UInt8 := dkwJ3_init_3_2 ++ []
def dkwJ3_init_3_1 : List UInt8 := [21, 4, 153, 0, 11, 42, 182, 0, 27, 87, 167, 0, 8, 42, 1, 181, 0, 17, 42, 43, 181, 0, 31, 42]
abbrev dktJ3_init_3_1 : List UInt8 := dkwJ3_init_3_1 ++ dktJ3_init_3_2
def dkwJ3_init_3_0 : List UInt8 := [42, 183, 0, 1, 42, 42, 181, 0, 7, 42, 178, 0, 13, 181, 0, 17, 42, 178, 0, 20, 181, 0, 24]
abbrev dktJ3_init_3_0 : List UInt8 := dkwJ3_init_3_0 ++ dktJ3_init_3_1
theorem dksJ3_init_3_0 : cJ3_init_3.data.toList.drop 0 = dktJ3_init_3_0 := by decide +kernel
theorem dksJ3_init_3_1 : cJ3_init_3.data.toList.drop 23 = dktJ3_init_3_1 := dk_seg dksJ3_init_3_0 23 rfl rfl
theorem dksJ3_init_3_2 : cJ3_init_3.data.toList.drop 47 = dktJ3_init_3_2 := dk_seg dksJ3_init_3_1 24 rfl rfl
theorem dJ3_init_3_0 : decode cJ3_init_3 0 = .ok (.aload_n 0, 1) := dk_42 (dk_at dksJ3_init_3_0 0 rfl rfl)
theorem dJ3_init_3_1 : decode cJ3_init_3 1 = .ok (.invokespecial 1, 3) := dk_183 0 1 (dk_at dksJ3_init_3_0 1 rfl rfl)
theorem dJ3_init_3_4 : decode cJ3_init_3 4 = .ok (.aload_n 0, 1) := dk_42 (dk_at dksJ3_init_3_0 4 rfl rfl)
theorem dJ3_init_3_5 : decode cJ3_init_3 5 = .ok (.aload_n 0, 1) := dk_42 (dk_at dksJ3_init_3_0 5 rfl rfl)
theorem dJ3_init_3_6 : decode cJ3_init_3 6 = .ok (.putfield 7, 3) := dk_181 0 7 (dk_at dksJ3_init_3_0 6 rfl rfl)
theorem dJ3_init_3_9 : decode cJ3_init_3 9 = .ok (.aload_n 0, 1) := dk_42 (dk_at dksJ3_init_3_0 9 rfl rfl)
theorem dJ3_init_3_10 : decode cJ3_init_3 10 = .ok (.getstatic 13, 3) := dk_178 0 13 (dk_at dksJ3_init_3_0 10 rfl rfl)
theorem dJ3_init_3_13 : decode cJ3_init_3 13 = .ok (.putfield 17, 3) := dk_181 0 17 (dk_at dksJ3_init_3_0 13 rfl rfl)
theorem dJ3_init_3_16 : decode cJ3_init_3 16 = .ok (.aload_n 0, 1) := dk_42 (dk_at dksJ3_init_3_0 16 rfl rfl)
theorem dJ3_init_3_17 : decode cJ3_init_3 17 = .ok (.getstatic 20, 3) := dk_178 0 20 (dk_at dksJ3_init_3_0 17 rfl rfl)
theorem dJ3_init_3_20 : decode cJ3_init_3 20 = .ok (.putfield 24, 3) := dk_181 0 24 (dk_at dksJ3_init_3_0 20 rfl rfl)
theorem dJ3_init_3_23 : decode cJ3_init_3 23 = .ok (.iload 4, 2) := dk_21 4 (dk_at dksJ3_init_3_1 0 rfl rfl)
theorem dJ3_init_3_25 : decode cJ3_init_3 25 = .ok (.ifCond .eq 11, 3) := dk_153 0 11 (dk_at dksJ3_init_3_1 2 rfl rfl)
theorem dJ3_init_3_28 : decode cJ3_init_3 28 = .ok (.aload_n 0, 1) := dk_42 (dk_at dksJ3_init_3_1 5 rfl rfl)
theorem dJ3_init_3_29 : decode cJ3_init_3 29 = .ok (.invokevirtual 27, 3) := dk_182 0 27 (dk_at dksJ3_init_3_1 6 rfl rfl)
theorem dJ3_init_3_32 : decode cJ3_init_3 32 = .ok (.pop, 1) := dk_87 (dk_at dksJ3_init_3_1 9 rfl rfl)
theorem dJ3_init_3_33 : decode cJ3_init_3 33 = .ok (.goto 8, 3) := dk_167 0 8 (dk_at dksJ3_init_3_1 10 rfl rfl)
theorem dJ3_init_3_36 : decode cJ3_init_3 36 = .ok (.aload_n 0, 1) := dk_42 (dk_at dksJ3_init_3_1 13 rfl rfl)
theorem dJ3_init_3_37 : decode cJ3_init_3 37 = .ok (.aconst_null, 1) := dk_1 (dk_at dksJ3_init_3_1 14 rfl rfl)
theorem dJ3_init_3_38 : decode cJ3_init_3 38 = .ok (.putfield 17, 3) := dk_181 0 17 (dk_at dksJ3_init_3_1 15 rfl rfl)
theorem dJ3_init_3_41 : decode cJ3_init_3 41 = .ok (.aload_n 0, 1) := dk_42 (dk_at dksJ3_init_3_1 18 rfl rfl)
theorem dJ3_init_3_42 : decode cJ3_init_3 42 = .ok (.aload_n 1, 1) := dk_43 (dk_at dksJ3_init_3_1 19 rfl rfl)
theorem dJ3_init_3_43 : decode cJ3_init_3 43 = .ok (.putfield 31, 3) := dk_181 0 31 (dk_at dksJ3_init_3_1 20 rfl rfl)
theorem dJ3_init_3_46 : decode cJ3_init_3 46 = .ok (.aload_n 0, 1) := dk_42 (dk_at dksJ3_init_3_1 23 rfl rfl)
theorem dJ3_init_3_47 : decode cJ3_init_3 47 = .ok (.aload_n 2, 1) := dk_44 (dk_at dksJ3_init_3_2 0 rfl rfl)
theorem dJ3_init_3_48 : decode cJ3_init_3 48 = .ok (.putfield 7, 3) := dk_181 0 7 (dk_at dksJ3_init_3_2 1 rfl rfl)
theorem dJ3_init_3_51 : decode cJ3_init_3 51 = .ok (.iload_n 3, 1) := dk_29 (dk_at dksJ3_init_3_2 4 rfl rfl)
theorem dJ3_init_3_52 : decode cJ3_init_3 52 = .ok (.ifCond .ne 8, 3) := dk_154 0 8 (dk_at dksJ3_init_3_2 5 rfl rfl)
theorem dJ3_init_3_55 : decode cJ3_init_3 55 = .ok (.aload_n 0, 1) := dk_42 (dk_at dksJ3_init_3_2 8 rfl rfl)
theorem dJ3_init_3_56 : decode cJ3_init_3 56 = .ok (.aconst_null, 1) := dk_1 (dk_at dksJ3_init_3_2 9 rfl rfl)
theorem dJ3_init_3_57 : decode cJ3_init_3 57 = .ok (.putfield 24, 3) := dk_181 0 24 (dk_at dksJ3_init_3_2 10 rfl rfl)
theorem dJ3_init_3_60 : decode cJ3_init_3 60 = .ok (.return_, 1) := dk_177 (dk_at dksJ3_init_3_2 13 rfl rfl)
theorem q76 : (Jvm.Cond.initialized "java/lang/Throwable") ∈ lw_all := lw_g (lw_at lw_m1 9 rfl) rfl
theorem q261 : (Jvm.Cond.instanceMethod ({ cls := "java/lang/Throwable", name := "<init>", desc := "(Ljava/lang/String;)V" } : Jvm.MethodName)) ∈ lw_all := lw_g (lw_at lw_m1 194 rfl) rfl
theorem q262 : (Jvm.Cond.code ({ cls := "java/lang/Throwable", name := "<init>", desc := "(Ljava/lang/String;)V" } : Jvm.MethodName) prog_38_method_2_code (2 : Nat) (Option.none : Option Jvm.ClassFile.FieldType)) ∈ lw_all := lw_g (lw_at lw_m1 195 rfl) rfl
theorem q263 : (Jvm.Cond.methodLink "java/lang/Throwable" (1 : Nat) ({ cls := "java/lang/Object", name := "<init>", desc := "()V" } : Jvm.MethodName)) ∈ lw_all := lw_g (lw_at lw_m1 196 rfl) rfl
theorem q264 : (Jvm.Cond.fieldLink "java/lang/Throwable" (13 : Nat) "java/lang/Throwable" "UNASSIGNED_STACK" "[Ljava/lang/StackTraceElement;") ∈ lw_all := lw_g (lw_at lw_m1 197 rfl) rfl
theorem q265 : (Jvm.Cond.laysStatic "java/lang/Throwable" "UNASSIGNED_STACK" "[Ljava/lang/StackTraceElement;") ∈ lw_tbl := lw_at lw_m1 198 rfl
theorem q266 : (Jvm.Cond.fieldLink "java/lang/Throwable" (20 : Nat) "java/lang/Throwable" "SUPPRESSED_SENTINEL" "Ljava/util/List;") ∈ lw_all := lw_g (lw_at lw_m1 199 rfl) rfl
theorem q267 : (Jvm.Cond.laysStatic "java/lang/Throwable" "SUPPRESSED_SENTINEL" "Ljava/util/List;") ∈ lw_tbl := lw_at lw_m1 200 rfl
theorem q268 : (Jvm.Cond.methodLink "java/lang/Throwable" (27 : Nat) ({ cls := "java/lang/Throwable", name := "fillInStackTrace", desc := "()Ljava/lang/Throwable;" } : Jvm.MethodName)) ∈ lw_all := lw_g (lw_at lw_m1 201 rfl) rfl
theorem q269 : (Jvm.Cond.instanceMethod ({ cls := "java/lang/Throwable", name := "fillInStackTrace", desc := "()Ljava/lang/Throwable;" } : Jvm.MethodName)) ∈ lw_all := lw_g (lw_at lw_m1 202 rfl) rfl
theorem q270 : (Jvm.Cond.sameMethod "java/lang/Throwable" "java/lang/Throwable" "fillInStackTrace" "()Ljava/lang/Throwable;") ∈ lw_all := lw_g (lw_at lw_m1 203 rfl) rfl
theorem q286 : (Jvm.Cond.declares ({ cls := "java/lang/Throwable", name := "fillInStackTrace", desc := "()Ljava/lang/Throwable;" } : Jvm.MethodName)) ∈ lw_tbl := lw_at lw_m1 219 rfl
theorem q290 : (Jvm.Cond.codeSync ({ cls := "java/lang/Throwable", name := "fillInStackTrace", desc := "()Ljava/lang/Throwable;" } : Jvm.MethodName) prog_38_method_18_code (1 : Nat) (Option.some (Jvm.ClassFile.FieldType.object "java/lang/Throwable"))) ∈ lw_all := lw_g (lw_at lw_m1 223 rfl) rfl
theorem q291 : (Jvm.Cond.methodLink "java/lang/Throwable" (202 : Nat) ({ cls := "java/lang/Throwable", name := "fillInStackTrace", desc := "(I)Ljava/lang/Throwable;" } : Jvm.MethodName)) ∈ lw_all := lw_g (lw_at lw_m1 224 rfl) rfl
theorem q292 : (Jvm.Cond.privateMethod ({ cls := "java/lang/Throwable", name := "fillInStackTrace", desc := "(I)Ljava/lang/Throwable;" } : Jvm.MethodName)) ∈ lw_tbl := lw_at lw_m1 225 rfl
theorem q293 : (Jvm.Cond.instanceMethod ({ cls := "java/lang/Throwable", name := "fillInStackTrace", desc := "(I)Ljava/lang/Throwable;" } : Jvm.MethodName)) ∈ lw_all := lw_g (lw_at lw_m1 226 rfl) rfl
theorem q294 : (Jvm.Cond.instantiable "java/lang/Throwable" (6 : Nat)) ∈ lw_all := lw_g (lw_at lw_m1 227 rfl) rfl
theorem q295 : (Jvm.Cond.native ({ cls := "java/lang/Throwable", name := "fillInStackTrace", desc := "(I)Ljava/lang/Throwable;" } : Jvm.MethodName)) ∈ lw_all := lw_g (lw_at lw_m1 228 rfl) rfl
theorem q296 : (Jvm.Cond.fieldLink "java/lang/Throwable" (198 : Nat) "java/lang/Throwable" "backtrace" "Ljava/lang/Object;") ∈ lw_all := lw_g (lw_at lw_m1 229 rfl) rfl
theorem q297 : (Jvm.Cond.fieldLink "java/lang/Throwable" (31 : Nat) "java/lang/Throwable" "detailMessage" "Ljava/lang/String;") ∈ lw_all := lw_g (lw_at lw_m1 230 rfl) rfl
theorem q298 : (Jvm.Cond.fieldLink "java/lang/Throwable" (7 : Nat) "java/lang/Throwable" "cause" "Ljava/lang/Throwable;") ∈ lw_all := lw_g (lw_at lw_m1 231 rfl) rfl
theorem q299 : (Jvm.Cond.fieldLink "java/lang/Throwable" (17 : Nat) "java/lang/Throwable" "stackTrace" "[Ljava/lang/StackTraceElement;") ∈ lw_all := lw_g (lw_at lw_m1 232 rfl) rfl
theorem q300 : (Jvm.Cond.fieldLink "java/lang/Throwable" (24 : Nat) "java/lang/Throwable" "suppressedExceptions" "Ljava/util/List;") ∈ lw_all := lw_g (lw_at lw_m1 233 rfl) rfl
theorem q302 : (Jvm.Cond.soleField "java/lang/Throwable" "backtrace") ∈ lw_all := lw_g (lw_at lw_m1 235 rfl) rfl
theorem q304 : (Jvm.Cond.soleField "java/lang/Throwable" "detailMessage") ∈ lw_all := lw_g (lw_at lw_m1 237 rfl) rfl
theorem q306 : (Jvm.Cond.soleField "java/lang/Throwable" "cause") ∈ lw_all := lw_g (lw_at lw_m1 239 rfl) rfl
theorem q308 : (Jvm.Cond.soleField "java/lang/Throwable" "stackTrace") ∈ lw_all := lw_g (lw_at lw_m2 1 rfl) rfl
theorem q310 : (Jvm.Cond.soleField "java/lang/Throwable" "depth") ∈ lw_all := lw_g (lw_at lw_m2 3 rfl) rfl
theorem q312 : (Jvm.Cond.soleField "java/lang/Throwable" "suppressedExceptions") ∈ lw_all := lw_g (lw_at lw_m2 5 rfl) rfl
theorem q319 : (Jvm.Cond.declares ({ cls := "java/lang/Throwable", name := "<init>", desc := "()V" } : Jvm.MethodName)) ∈ lw_tbl := lw_at lw_m2 12 rfl
theorem q320 : (Jvm.Cond.declares ({ cls := "java/lang/Throwable", name := "<init>", desc := "(Ljava/lang/String;)V" } : Jvm.MethodName)) ∈ lw_tbl := lw_at lw_m2 13 rfl
theorem q322 : (Jvm.Cond.lays "java/lang/Throwable" "java/lang/Throwable" "cause" "Ljava/lang/Throwable;") ∈ lw_all := lw_g (lw_at lw_m2 15 rfl) rfl
theorem q323 : (Jvm.Cond.lays "java/lang/Throwable" "java/lang/Throwable" "stackTrace" "[Ljava/lang/StackTraceElement;") ∈ lw_all := lw_g (lw_at lw_m2 16 rfl) rfl
theorem q324 : (Jvm.Cond.lays "java/lang/Throwable" "java/lang/Throwable" "suppressedExceptions" "Ljava/util/List;") ∈ lw_all := lw_g (lw_at lw_m2 17 rfl) rfl
theorem q325 : (Jvm.Cond.lays "java/lang/Throwable" "java/lang/Throwable" "detailMessage" "Ljava/lang/String;") ∈ lw_all := lw_g (lw_at lw_m2 18 rfl) rfl
theorem q326 : (Jvm.Cond.lays "java/lang/Throwable" "java/lang/Throwable" "backtrace" "Ljava/lang/Object;") ∈ lw_all := lw_g (lw_at lw_m2 19 rfl) rfl
theorem q327 : (Jvm.Cond.fieldLink "java/lang/Throwable" (198 : Nat) "java/lang/Throwable" "backtrace" "Ljava/lang/Object;") ∈ lw_all := lw_g (lw_at lw_m2 20 rfl) rfl
theorem q328 : (Jvm.Cond.superclass "java/lang/Throwable" "java/lang/Object") ∈ lw_all := lw_g (lw_at lw_m2 21 rfl) rfl
theorem q329 : (Jvm.Cond.instanceMethod ({ cls := "java/lang/Throwable", name := "<init>", desc := "()V" } : Jvm.MethodName)) ∈ lw_all := lw_g (lw_at lw_m2 22 rfl) rfl
theorem q330 : (Jvm.Cond.code ({ cls := "java/lang/Throwable", name := "<init>", desc := "()V" } : Jvm.MethodName) prog_38_method_1_code (1 : Nat) (Option.none : Option Jvm.ClassFile.FieldType)) ∈ lw_all := lw_g (lw_at lw_m2 23 rfl) rfl
theorem q531 : (Jvm.Cond.instanceMethod ({ cls := "java/lang/Throwable", name := "<init>", desc := "(Ljava/lang/String;Ljava/lang/Throwable;ZZ)V" } : Jvm.MethodName)) ∈ lw_all := lw_g (lw_at lw_m2 224 rfl) rfl
theorem q532 : (Jvm.Cond.code ({ cls := "java/lang/Throwable", name := "<init>", desc := "(Ljava/lang/String;Ljava/lang/Throwable;ZZ)V" } : Jvm.MethodName) prog_38_method_5_code (5 : Nat) (Option.none : Option Jvm.ClassFile.FieldType)) ∈ lw_all := lw_g (lw_at lw_m2 225 rfl) rfl
theorem q1676 : (Jvm.Cond.sameMethod "java/lang/Throwable" "java/lang/Throwable" "fillInStackTrace" "(I)Ljava/lang/Throwable;") ∈ lw_all := lw_g (lw_at lw_m7 169 rfl) rfl
theorem q1711 : (Jvm.Cond.castable "java/lang/Throwable" "java/lang/Object") ∈ lw_tbl := lw_at lw_m7 204 rfl
theorem in_J3 : ∀ w ∈ wsJ30, w ∈ lw_all := lw_in wsJ30 [322, 323, 324, 325, 326] (by decide +kernel) (by decide +kernel)
/-! java/lang/Exception -/
set_option maxRecDepth 100000
def RJ4 : String := "java/lang/Exception"
abbrev cJ4_init : ByteArray := prog_26_method_2_code
def yJ4_init : MethodName := ⟨RJ4, "<init>", "(Ljava/lang/String;)V"⟩
def dkwJ4_init_0 : List UInt8 := [42, 43, 183, 0, 7, 177]
abbrev dktJ4_init_0 : List UInt8 := dkwJ4_init_0 ++ []
theorem dksJ4_init_0 : cJ4_init.data.toList.drop 0 = dktJ4_init_0 := by decide +kernel
theorem dJ4_init_0 : decode cJ4_init 0 = .ok (.aload_n 0, 1) := dk_42 (dk_at dksJ4_init_0 0 rfl rfl)
theorem dJ4_init_1 : decode cJ4_init 1 = .ok (.aload_n 1, 1) := dk_43 (dk_at dksJ4_init_0 1 rfl rfl)
theorem dJ4_init_2 : decode cJ4_init 2 = .ok (.invokespecial 7, 3) := dk_183 0 7 (dk_at dksJ4_init_0 2 rfl rfl)
theorem dJ4_init_5 : decode cJ4_init 5 = .ok (.return_, 1) := dk_177 (dk_at dksJ4_init_0 5 rfl rfl)
abbrev cJ4_init_2 : ByteArray := prog_26_method_1_code
def yJ4_init_2 : MethodName := ⟨RJ4, "<init>", "()V"⟩
theorem dJ4_init_2_0 : decode cJ4_init_2 0 = .ok (.aload_n 0, 1) := by decide +kernel
theorem dJ4_init_2_1 : decode cJ4_init_2 1 = .ok (.invokespecial 1, 3) := by decide +kernel
theorem dJ4_init_2_4 : decode cJ4_init_2 4 = .ok (.return_, 1) := by decide +kernel
abbrev cJ4_init_3 : ByteArray := prog_26_method_5_code
def yJ4_init_3 : MethodName := ⟨RJ4, "<init>", "(Ljava/lang/String;Ljava/lang/Throwable;ZZ)V"⟩
def dkwJ4_init_3_0 : List UInt8 := [42, 43, 44, 29, 21, 4, 183, 0, 16, 177]
abbrev dktJ4_init_3_0 : List UInt8 := dkwJ4_init_3_0 ++ []
theorem dksJ4_init_3_0 : cJ4_init_3.data.toList.drop 0 = dktJ4_init_3_0 := by decide +kernel
theorem dJ4_init_3_0 : decode cJ4_init_3 0 = .ok (.aload_n 0, 1) := dk_42 (dk_at dksJ4_init_3_0 0 rfl rfl)
theorem dJ4_init_3_1 : decode cJ4_init_3 1 = .ok (.aload_n 1, 1) := dk_43 (dk_at dksJ4_init_3_0 1 rfl rfl)
theorem dJ4_init_3_2 : decode cJ4_init_3 2 = .ok (.aload_n 2, 1) := dk_44 (dk_at dksJ4_init_3_0 2 rfl rfl)
theorem dJ4_init_3_3 : decode cJ4_init_3 3 = .ok (.iload_n 3, 1) := dk_29 (dk_at dksJ4_init_3_0 3 rfl rfl)
theorem dJ4_init_3_4 : decode cJ4_init_3 4 = .ok (.iload 4, 2) := dk_21 4 (dk_at dksJ4_init_3_0 4 rfl rfl)
theorem dJ4_init_3_6 : decode cJ4_init_3 6 = .ok (.invokespecial 16, 3) := dk_183 0 16 (dk_at dksJ4_init_3_0 6 rfl rfl)
theorem dJ4_init_3_9 : decode cJ4_init_3 9 = .ok (.return_, 1) := dk_177 (dk_at dksJ4_init_3_0 9 rfl rfl)
theorem q77 : (Jvm.Cond.initialized "java/lang/Exception") ∈ lw_all := lw_g (lw_at lw_m1 10 rfl) rfl
theorem q258 : (Jvm.Cond.instanceMethod ({ cls := "java/lang/Exception", name := "<init>", desc := "(Ljava/lang/String;)V" } : Jvm.MethodName)) ∈ lw_all := lw_g (lw_at lw_m1 191 rfl) rfl
theorem q259 : (Jvm.Cond.code ({ cls := "java/lang/Exception", name := "<init>", desc := "(Ljava/lang/String;)V" } : Jvm.MethodName) prog_26_method_2_code (2 : Nat) (Option.none : Option Jvm.ClassFile.FieldType)) ∈ lw_all := lw_g (lw_at lw_m1 192 rfl) rfl
theorem q260 : (Jvm.Cond.methodLink "java/lang/Exception" (7 : Nat) ({ cls := "java/lang/Throwable", name := "<init>", desc := "(Ljava/lang/String;)V" } : Jvm.MethodName)) ∈ lw_all := lw_g (lw_at lw_m1 193 rfl) rfl
theorem q289 : (Jvm.Cond.superclass "java/lang/Exception" "java/lang/Throwable") ∈ lw_all := lw_g (lw_at lw_m1 222 rfl) rfl
theorem q317 : (Jvm.Cond.declares ({ cls := "java/lang/Exception", name := "<init>", desc := "()V" } : Jvm.MethodName)) ∈ lw_tbl := lw_at lw_m2 10 rfl
theorem q318 : (Jvm.Cond.declares ({ cls := "java/lang/Exception", name := "<init>", desc := "(Ljava/lang/String;)V" } : Jvm.MethodName)) ∈ lw_tbl := lw_at lw_m2 11 rfl
theorem q369 : (Jvm.Cond.instanceMethod ({ cls := "java/lang/Exception", name := "<init>", desc := "()V" } : Jvm.MethodName)) ∈ lw_all := lw_g (lw_at lw_m2 62 rfl) rfl
theorem q370 : (Jvm.Cond.code ({ cls := "java/lang/Exception", name := "<init>", desc := "()V" } : Jvm.MethodName) prog_26_method_1_code (1 : Nat) (Option.none : Option Jvm.ClassFile.FieldType)) ∈ lw_all := lw_g (lw_at lw_m2 63 rfl) rfl
theorem q371 : (Jvm.Cond.methodLink "java/lang/Exception" (1 : Nat) ({ cls := "java/lang/Throwable", name := "<init>", desc := "()V" } : Jvm.MethodName)) ∈ lw_all := lw_g (lw_at lw_m2 64 rfl) rfl
theorem q528 : (Jvm.Cond.instanceMethod ({ cls := "java/lang/Exception", name := "<init>", desc := "(Ljava/lang/String;Ljava/lang/Throwable;ZZ)V" } : Jvm.MethodName)) ∈ lw_all := lw_g (lw_at lw_m2 221 rfl) rfl
theorem q529 : (Jvm.Cond.code ({ cls := "java/lang/Exception", name := "<init>", desc := "(Ljava/lang/String;Ljava/lang/Throwable;ZZ)V" } : Jvm.MethodName) prog_26_method_5_code (5 : Nat) (Option.none : Option Jvm.ClassFile.FieldType)) ∈ lw_all := lw_g (lw_at lw_m2 222 rfl) rfl
theorem q530 : (Jvm.Cond.methodLink "java/lang/Exception" (16 : Nat) ({ cls := "java/lang/Throwable", name := "<init>", desc := "(Ljava/lang/String;Ljava/lang/Throwable;ZZ)V" } : Jvm.MethodName)) ∈ lw_all := lw_g (lw_at lw_m2 223 rfl) rfl
/-! java/lang/RuntimeException -/
set_option maxRecDepth 100000
def RJ5 : String := "java/lang/RuntimeException"
abbrev cJ5_init : ByteArray := prog_33_method_2_code
def yJ5_init : MethodName := ⟨RJ5, "<init>", "(Ljava/lang/String;)V"⟩
def dkwJ5_init_0 : List UInt8 := [42, 43, 183, 0, 7, 177]
abbrev dktJ5_init_0 : List UInt8 := dkwJ5_init_0 ++ []
theorem dksJ5_init_0 : cJ5_init.data.toList.drop 0 = dktJ5_init_0 := by decide +kernel
theorem dJ5_init_0 : decode cJ5_init 0 = .ok (.aload_n 0, 1) := dk_42 (dk_at dksJ5_init_0 0 rfl rfl)
theorem dJ5_init_1 : decode cJ5_init 1 = .ok (.aload_n 1, 1) := dk_43 (dk_at dksJ5_init_0 1 rfl rfl)
theorem dJ5_init_2 : decode cJ5_init 2 = .ok (.invokespecial 7, 3) := dk_183 0 7 (dk_at dksJ5_init_0 2 rfl rfl)
theorem dJ5_init_5 : decode cJ5_init 5 = .ok (.return_, 1) := dk_177 (dk_at dksJ5_init_0 5 rfl rfl)
abbrev cJ5_init_2 : ByteArray := prog_33_method_1_code
def yJ5_init_2 : MethodName := ⟨RJ5, "<init>", "()V"⟩
theorem dJ5_init_2_0 : decode cJ5_init_2 0 = .ok (.aload_n 0, 1) := by decide +kernel
theorem dJ5_init_2_1 : decode cJ5_init_2 1 = .ok (.invokespecial 1, 3) := by decide +kernel
theorem dJ5_init_2_4 : decode cJ5_init_2 4 = .ok (.return_, 1) := by decide +kernel
theorem q78 : (Jvm.Cond.initialized "java/lang/RuntimeException") ∈ lw_all := lw_g (lw_at lw_m1 11 rfl) rfl
theorem q255 : (Jvm.Cond.instanceMethod ({ cls := "java/lang/RuntimeException", name := "<init>", desc := "(Ljava/lang/String;)V" } : Jvm.MethodName)) ∈ lw_all := lw_g (lw_at lw_m1 188 rfl) rfl
theorem q256 : (Jvm.Cond.code ({ cls := "java/lang/RuntimeException", name := "<init>", desc := "(Ljava/lang/String;)V" } : Jvm.MethodName) prog_33_method_2_code (2 : Nat) (Option.none : Option Jvm.ClassFile.FieldType)) ∈ lw_all := lw_g (lw_at lw_m1 189 rfl) rfl
theorem q257 : (Jvm.Cond.methodLink "java/lang/RuntimeException" (7 : Nat) ({ cls := "java/lang/Exception", name := "<init>", desc := "(Ljava/lang/String;)V" } : Jvm.MethodName)) ∈ lw_all := lw_g (lw_at lw_m1 190 rfl) rfl
theorem q285 : (Jvm.Cond.sameMethod "java/lang/RuntimeException" "java/lang/Throwable" "fillInStackTrace" "()Ljava/lang/Throwable;") ∈ lw_all := lw_g (lw_at lw_m1 218 rfl) rfl
theorem q288 : (Jvm.Cond.superclass "java/lang/RuntimeException" "java/lang/Exception") ∈ lw_all := lw_g (lw_at lw_m1 221 rfl) rfl
theorem q315 : (Jvm.Cond.declares ({ cls := "java/lang/RuntimeException", name := "<init>", desc := "()V" } : Jvm.MethodName)) ∈ lw_tbl := lw_at lw_m2 8 rfl
theorem q316 : (Jvm.Cond.declares ({ cls := "java/lang/RuntimeException", name := "<init>", desc := "(Ljava/lang/String;)V" } : Jvm.MethodName)) ∈ lw_tbl := lw_at lw_m2 9 rfl
theorem q366 : (Jvm.Cond.instanceMethod ({ cls := "java/lang/RuntimeException", name := "<init>", desc := "()V" } : Jvm.MethodName)) ∈ lw_all := lw_g (lw_at lw_m2 59 rfl) rfl
theorem q367 : (Jvm.Cond.code ({ cls := "java/lang/RuntimeException", name := "<init>", desc := "()V" } : Jvm.MethodName) prog_33_method_1_code (1 : Nat) (Option.none : Option Jvm.ClassFile.FieldType)) ∈ lw_all := lw_g (lw_at lw_m2 60 rfl) rfl
theorem q368 : (Jvm.Cond.methodLink "java/lang/RuntimeException" (1 : Nat) ({ cls := "java/lang/Exception", name := "<init>", desc := "()V" } : Jvm.MethodName)) ∈ lw_all := lw_g (lw_at lw_m2 61 rfl) rfl
theorem q386 : (Jvm.Cond.castable "java/lang/RuntimeException" "java/lang/Throwable") ∈ lw_tbl := lw_at lw_m2 79 rfl
/-! java/lang/NegativeArraySizeException -/
set_option maxRecDepth 100000
def RJ6 : String := "java/lang/NegativeArraySizeException"
def TJ6 : u_T := fun k => match k with
  | 0 => ("java/lang/Throwable", "backtrace", "Ljava/lang/Object;", false)
  | 1 => ("java/lang/Throwable", "detailMessage", "Ljava/lang/String;", false)
  | 2 => ("java/lang/Throwable", "cause", "Ljava/lang/Throwable;", false)
  | 3 => ("java/lang/Throwable", "stackTrace", "[Ljava/lang/StackTraceElement;", false)
  | 4 => ("java/lang/Throwable", "depth", "I", false)
  | _ => ("java/lang/Throwable", "suppressedExceptions", "Ljava/util/List;", false)
def tyJ6 : Nat → FieldType := fun k => match k with
  | 0 => .object "java/lang/Object"
  | 1 => .object "java/lang/String"
  | 2 => .object "java/lang/Throwable"
  | 3 => .array (.object "java/lang/StackTraceElement")
  | 4 => .int
  | _ => .object "java/util/List"
abbrev wsJ60 : List Cond := u_ws RJ6 TJ6 6
theorem nmJ6 : ∀ a, a < 6 → ∀ b, b < 6 → a ≠ b → (TJ6 a).2.1 ≠ (TJ6 b).2.1 := by decide +kernel
theorem tyJ6_ok : ∀ k, k < 6 → parseFieldDescriptor (TJ6 k).2.2.1 = some (tyJ6 k) := by decide +kernel
abbrev cJ6_init : ByteArray := prog_31_method_2_code
def yJ6_init : MethodName := ⟨RJ6, "<init>", "(Ljava/lang/String;)V"⟩
def dkwJ6_init_0 : List UInt8 := [42, 43, 183, 0, 7, 177]
abbrev dktJ6_init_0 : List UInt8 := dkwJ6_init_0 ++ []
theorem dksJ6_init_0 : cJ6_init.data.toList.drop 0 = dktJ6_init_0 := by decide +kernel
theorem dJ6_init_0 : decode cJ6_init 0 = .ok (.aload_n 0, 1) := dk_42 (dk_at dksJ6_init_0 0 rfl rfl)
theorem dJ6_init_1 : decode cJ6_init 1 = .ok (.aload_n 1, 1) := dk_43 (dk_at dksJ6_init_0 1 rfl rfl)
theorem dJ6_init_2 : decode cJ6_init 2 = .ok (.invokespecial 7, 3) := dk_183 0 7 (dk_at dksJ6_init_0 2 rfl rfl)
theorem dJ6_init_5 : decode cJ6_init 5 = .ok (.return_, 1) := dk_177 (dk_at dksJ6_init_0 5 rfl rfl)
theorem q79 : (Jvm.Cond.initialized "java/lang/NegativeArraySizeException") ∈ lw_all := lw_g (lw_at lw_m1 12 rfl) rfl
theorem q251 : (Jvm.Cond.instantiable "java/lang/NegativeArraySizeException" (6 : Nat)) ∈ lw_all := lw_g (lw_at lw_m1 184 rfl) rfl
theorem q252 : (Jvm.Cond.instanceMethod ({ cls := "java/lang/NegativeArraySizeException", name := "<init>", desc := "(Ljava/lang/String;)V" } : Jvm.MethodName)) ∈ lw_all := lw_g (lw_at lw_m1 185 rfl) rfl
theorem q253 : (Jvm.Cond.code ({ cls := "java/lang/NegativeArraySizeException", name := "<init>", desc := "(Ljava/lang/String;)V" } : Jvm.MethodName) prog_31_method_2_code (2 : Nat) (Option.none : Option Jvm.ClassFile.FieldType)) ∈ lw_all := lw_g (lw_at lw_m1 186 rfl) rfl
theorem q254 : (Jvm.Cond.methodLink "java/lang/NegativeArraySizeException" (7 : Nat) ({ cls := "java/lang/RuntimeException", name := "<init>", desc := "(Ljava/lang/String;)V" } : Jvm.MethodName)) ∈ lw_all := lw_g (lw_at lw_m1 187 rfl) rfl
theorem q275 : (Jvm.Cond.selects "java/lang/NegativeArraySizeException" ({ cls := "java/lang/Throwable", name := "fillInStackTrace", desc := "()Ljava/lang/Throwable;" } : Jvm.MethodName) ({ cls := "java/lang/Throwable", name := "fillInStackTrace", desc := "()Ljava/lang/Throwable;" } : Jvm.MethodName)) ∈ lw_all := lw_g (lw_at lw_m1 208 rfl) rfl
theorem q301 : (Jvm.Cond.lays "java/lang/NegativeArraySizeException" "java/lang/Throwable" "backtrace" "Ljava/lang/Object;") ∈ lw_all := lw_g (lw_at lw_m1 234 rfl) rfl
theorem q303 : (Jvm.Cond.lays "java/lang/NegativeArraySizeException" "java/lang/Throwable" "detailMessage" "Ljava/lang/String;") ∈ lw_all := lw_g (lw_at lw_m1 236 rfl) rfl
theorem q305 : (Jvm.Cond.lays "java/lang/NegativeArraySizeException" "java/lang/Throwable" "cause" "Ljava/lang/Throwable;") ∈ lw_all := lw_g (lw_at lw_m1 238 rfl) rfl
theorem q307 : (Jvm.Cond.lays "java/lang/NegativeArraySizeException" "java/lang/Throwable" "stackTrace" "[Ljava/lang/StackTraceElement;") ∈ lw_all := lw_g (lw_at lw_m2 0 rfl) rfl
theorem q309 : (Jvm.Cond.lays "java/lang/NegativeArraySizeException" "java/lang/Throwable" "depth" "I") ∈ lw_all := lw_g (lw_at lw_m2 2 rfl) rfl
theorem q311 : (Jvm.Cond.lays "java/lang/NegativeArraySizeException" "java/lang/Throwable" "suppressedExceptions" "Ljava/util/List;") ∈ lw_all := lw_g (lw_at lw_m2 4 rfl) rfl
theorem q313 : (Jvm.Cond.superclass "java/lang/NegativeArraySizeException" "java/lang/RuntimeException") ∈ lw_all := lw_g (lw_at lw_m2 6 rfl) rfl
theorem q314 : (Jvm.Cond.castable "java/lang/NegativeArraySizeException" "java/lang/NegativeArraySizeException") ∈ lw_tbl := lw_at lw_m2 7 rfl
theorem q321 : (Jvm.Cond.selects "java/lang/NegativeArraySizeException" ({ cls := "java/lang/Throwable", name := "fillInStackTrace", desc := "(I)Ljava/lang/Throwable;" } : Jvm.MethodName) ({ cls := "java/lang/Throwable", name := "fillInStackTrace", desc := "(I)Ljava/lang/Throwable;" } : Jvm.MethodName)) ∈ lw_all := lw_g (lw_at lw_m2 14 rfl) rfl
theorem q793 : (Jvm.Cond.selects "java/lang/NegativeArraySizeException" ({ cls := "java/lang/Object", name := "getClass", desc := "()Ljava/lang/Class;" } : Jvm.MethodName) ({ cls := "java/lang/Object", name := "getClass", desc := "()Ljava/lang/Class;" } : Jvm.MethodName)) ∈ lw_all := lw_g (lw_at lw_m4 6 rfl) rfl
theorem q1698 : (Jvm.Cond.castable "java/lang/NegativeArraySizeException" "java/lang/Object") ∈ lw_tbl := lw_at lw_m7 191 rfl
theorem in_J6 : ∀ w ∈ wsJ60, w ∈ lw_all := lw_in wsJ60 [301, 303, 305, 307, 309, 311] (by decide +kernel) (by decide +kernel)
/-! java/lang/String -/
set_option maxRecDepth 100000
def RJ7 : String := "java/lang/String"
def TJ7 : u_T := fun k => match k with
  | 0 => ("java/lang/String", "value", "[B", true)
  | _ => ("java/lang/String", "coder", "B", true)
def tyJ7 : Nat → FieldType := fun k => match k with
  | 0 => .array .byte
  | _ => .byte
abbrev wsJ70 : List Cond := u_ws RJ7 TJ7 2
theorem nmJ7 : ∀ a, a < 2 → ∀ b, b < 2 → a ≠ b → (TJ7 a).2.1 ≠ (TJ7 b).2.1 := by decide +kernel
theorem tyJ7_ok : ∀ k, k < 2 → parseFieldDescriptor (TJ7 k).2.2.1 = some (tyJ7 k) := by decide +kernel
abbrev cJ7_indexOf : ByteArray := prog_34_method_79_code
def yJ7_indexOf : MethodName := ⟨RJ7, "indexOf", "(I)I"⟩
def dkwJ7_indexOf_0 : List UInt8 := [42, 27, 3, 182, 2, 121, 172]
abbrev dktJ7_indexOf_0 : List UInt8 := dkwJ7_indexOf_0 ++ []
theorem dksJ7_indexOf_0 : cJ7_indexOf.data.toList.drop 0 = dktJ7_indexOf_0 := by decide +kernel
theorem dJ7_indexOf_0 : decode cJ7_indexOf 0 = .ok (.aload_n 0, 1) := dk_42 (dk_at dksJ7_indexOf_0 0 rfl rfl)
theorem dJ7_indexOf_1 : decode cJ7_indexOf 1 = .ok (.iload_n 1, 1) := dk_27 (dk_at dksJ7_indexOf_0 1 rfl rfl)
theorem dJ7_indexOf_2 : decode cJ7_indexOf 2 = .ok (.iconst 0, 1) := dk_3 (dk_at dksJ7_indexOf_0 2 rfl rfl)
theorem dJ7_indexOf_3 : decode cJ7_indexOf 3 = .ok (.invokevirtual 633, 3) := dk_182 2 121 (dk_at dksJ7_indexOf_0 3 rfl rfl)
theorem dJ7_indexOf_6 : decode cJ7_indexOf 6 = .ok (.ireturn, 1) := dk_172 (dk_at dksJ7_indexOf_0 6 rfl rfl)
abbrev cJ7_indexOf_2 : ByteArray := prog_34_method_80_code
def yJ7_indexOf_2 : MethodName := ⟨RJ7, "indexOf", "(II)I"⟩
def dkwJ7_indexOf_2_1 : List UInt8 := [180, 0, 9, 27, 28, 42, 182, 1, 249, 184, 2, 128, 172]
abbrev dktJ7_indexOf_2_1 : List UInt8 := dkwJ7_indexOf_2_1 ++ []
def dkwJ7_indexOf_2_0 : List UInt8 := [42, 182, 1, 236, 153, 0, 19, 42, 180, 0, 9, 27, 28, 42, 182, 1, 249, 184, 2, 125, 167, 0, 16, 42]
abbrev dktJ7_indexOf_2_0 : List UInt8 := dkwJ7_indexOf_2_0 ++ dktJ7_indexOf_2_1
theorem dksJ7_indexOf_2_0 : cJ7_indexOf_2.data.toList.drop 0 = dktJ7_indexOf_2_0 := by decide +kernel
theorem dksJ7_indexOf_2_1 : cJ7_indexOf_2.data.toList.drop 24 = dktJ7_indexOf_2_1 := dk_seg dksJ7_indexOf_2_0 24 rfl rfl
theorem dJ7_indexOf_2_0 : decode cJ7_indexOf_2 0 = .ok (.aload_n 0, 1) := dk_42 (dk_at dksJ7_indexOf_2_0 0 rfl rfl)
theorem dJ7_indexOf_2_1 : decode cJ7_indexOf_2 1 = .ok (.invokevirtual 492, 3) := dk_182 1 236 (dk_at dksJ7_indexOf_2_0 1 rfl rfl)
theorem dJ7_indexOf_2_4 : decode cJ7_indexOf_2 4 = .ok (.ifCond .eq 19, 3) := dk_153 0 19 (dk_at dksJ7_indexOf_2_0 4 rfl rfl)
theorem dJ7_indexOf_2_7 : decode cJ7_indexOf_2 7 = .ok (.aload_n 0, 1) := dk_42 (dk_at dksJ7_indexOf_2_0 7 rfl rfl)
theorem dJ7_indexOf_2_8 : decode cJ7_indexOf_2 8 = .ok (.getfield 9, 3) := dk_180 0 9 (dk_at dksJ7_indexOf_2_0 8 rfl rfl)
theorem dJ7_indexOf_2_11 : decode cJ7_indexOf_2 11 = .ok (.iload_n 1, 1) := dk_27 (dk_at dksJ7_indexOf_2_0 11 rfl rfl)
theorem dJ7_indexOf_2_12 : decode cJ7_indexOf_2 12 = .ok (.iload_n 2, 1) := dk_28 (dk_at dksJ7_indexOf_2_0 12 rfl rfl)
theorem dJ7_indexOf_2_13 : decode cJ7_indexOf_2 13 = .ok (.aload_n 0, 1) := dk_42 (dk_at dksJ7_indexOf_2_0 13 rfl rfl)
theorem dJ7_indexOf_2_14 : decode cJ7_indexOf_2 14 = .ok (.invokevirtual 505, 3) := dk_182 1 249 (dk_at dksJ7_indexOf_2_0 14 rfl rfl)
theorem dJ7_indexOf_2_17 : decode cJ7_indexOf_2 17 = .ok (.invokestatic 637, 3) := dk_184 2 125 (dk_at dksJ7_indexOf_2_0 17 rfl rfl)
theorem dJ7_indexOf_2_20 : decode cJ7_indexOf_2 20 = .ok (.goto 16, 3) := dk_167 0 16 (dk_at dksJ7_indexOf_2_0 20 rfl rfl)
theorem dJ7_indexOf_2_23 : decode cJ7_indexOf_2 23 = .ok (.aload_n 0, 1) := dk_42 (dk_at dksJ7_indexOf_2_0 23 rfl rfl)
theorem dJ7_indexOf_2_24 : decode cJ7_indexOf_2 24 = .ok (.getfield 9, 3) := dk_180 0 9 (dk_at dksJ7_indexOf_2_1 0 rfl rfl)
theorem dJ7_indexOf_2_27 : decode cJ7_indexOf_2 27 = .ok (.iload_n 1, 1) := dk_27 (dk_at dksJ7_indexOf_2_1 3 rfl rfl)
theorem dJ7_indexOf_2_28 : decode cJ7_indexOf_2 28 = .ok (.iload_n 2, 1) := dk_28 (dk_at dksJ7_indexOf_2_1 4 rfl rfl)
theorem dJ7_indexOf_2_29 : decode cJ7_indexOf_2 29 = .ok (.aload_n 0, 1) := dk_42 (dk_at dksJ7_indexOf_2_1 5 rfl rfl)
theorem dJ7_indexOf_2_30 : decode cJ7_indexOf_2 30 = .ok (.invokevirtual 505, 3) := dk_182 1 249 (dk_at dksJ7_indexOf_2_1 6 rfl rfl)
theorem dJ7_indexOf_2_33 : decode cJ7_indexOf_2 33 = .ok (.invokestatic 640, 3) := dk_184 2 128 (dk_at dksJ7_indexOf_2_1 9 rfl rfl)
theorem dJ7_indexOf_2_36 : decode cJ7_indexOf_2 36 = .ok (.ireturn, 1) := dk_172 (dk_at dksJ7_indexOf_2_1 12 rfl rfl)
abbrev cJ7_isLatin1 : ByteArray := prog_34_method_154_code
def yJ7_isLatin1 : MethodName := ⟨RJ7, "isLatin1", "()Z"⟩
def dkwJ7_isLatin1_0 : List UInt8 := [178, 0, 38, 153, 0, 14, 42, 180, 0, 15, 154, 0, 7, 4, 167, 0, 4, 3, 172]
abbrev dktJ7_isLatin1_0 : List UInt8 := dkwJ7_isLatin1_0 ++ []
theorem dksJ7_isLatin1_0 : cJ7_isLatin1.data.toList.drop 0 = dktJ7_isLatin1_0 := by decide +kernel
theorem dJ7_isLatin1_0 : decode cJ7_isLatin1 0 = .ok (.getstatic 38, 3) := dk_178 0 38 (dk_at dksJ7_isLatin1_0 0 rfl rfl)
theorem dJ7_isLatin1_3 : decode cJ7_isLatin1 3 = .ok (.ifCond .eq 14, 3) := dk_153 0 14 (dk_at dksJ7_isLatin1_0 3 rfl rfl)
theorem dJ7_isLatin1_6 : decode cJ7_isLatin1 6 = .ok (.aload_n 0, 1) := dk_42 (dk_at dksJ7_isLatin1_0 6 rfl rfl)
theorem dJ7_isLatin1_7 : decode cJ7_isLatin1 7 = .ok (.getfield 15, 3) := dk_180 0 15 (dk_at dksJ7_isLatin1_0 7 rfl rfl)
theorem dJ7_isLatin1_10 : decode cJ7_isLatin1 10 = .ok (.ifCond .ne 7, 3) := dk_154 0 7 (dk_at dksJ7_isLatin1_0 10 rfl rfl)
theorem dJ7_isLatin1_13 : decode cJ7_isLatin1 13 = .ok (.iconst 1, 1) := dk_4 (dk_at dksJ7_isLatin1_0 13 rfl rfl)
theorem dJ7_isLatin1_14 : decode cJ7_isLatin1 14 = .ok (.goto 4, 3) := dk_167 0 4 (dk_at dksJ7_isLatin1_0 14 rfl rfl)
theorem dJ7_isLatin1_17 : decode cJ7_isLatin1 17 = .ok (.iconst 0, 1) := dk_3 (dk_at dksJ7_isLatin1_0 17 rfl rfl)
theorem dJ7_isLatin1_18 : decode cJ7_isLatin1 18 = .ok (.ireturn, 1) := dk_172 (dk_at dksJ7_isLatin1_0 18 rfl rfl)
abbrev cJ7_length : ByteArray := prog_34_method_54_code
def yJ7_length : MethodName := ⟨RJ7, "length", "()I"⟩
def dkwJ7_length_0 : List UInt8 := [42, 180, 0, 9, 190, 42, 182, 1, 79, 122, 172]
abbrev dktJ7_length_0 : List UInt8 := dkwJ7_length_0 ++ []
theorem dksJ7_length_0 : cJ7_length.data.toList.drop 0 = dktJ7_length_0 := by decide +kernel
theorem dJ7_length_0 : decode cJ7_length 0 = .ok (.aload_n 0, 1) := dk_42 (dk_at dksJ7_length_0 0 rfl rfl)
theorem dJ7_length_1 : decode cJ7_length 1 = .ok (.getfield 9, 3) := dk_180 0 9 (dk_at dksJ7_length_0 1 rfl rfl)
theorem dJ7_length_4 : decode cJ7_length 4 = .ok (.arraylength, 1) := dk_190 (dk_at dksJ7_length_0 4 rfl rfl)
theorem dJ7_length_5 : decode cJ7_length 5 = .ok (.aload_n 0, 1) := dk_42 (dk_at dksJ7_length_0 5 rfl rfl)
theorem dJ7_length_6 : decode cJ7_length 6 = .ok (.invokevirtual 335, 3) := dk_182 1 79 (dk_at dksJ7_length_0 6 rfl rfl)
theorem dJ7_length_9 : decode cJ7_length 9 = .ok (.ishr, 1) := dk_122 (dk_at dksJ7_length_0 9 rfl rfl)
theorem dJ7_length_10 : decode cJ7_length 10 = .ok (.ireturn, 1) := dk_172 (dk_at dksJ7_length_0 10 rfl rfl)
abbrev cJ7_coder : ByteArray := prog_34_method_152_code
def yJ7_coder : MethodName := ⟨RJ7, "coder", "()B"⟩
def dkwJ7_coder_0 : List UInt8 := [178, 0, 38, 153, 0, 10, 42, 180, 0, 15, 167, 0, 4, 4, 172]
abbrev dktJ7_coder_0 : List UInt8 := dkwJ7_coder_0 ++ []
theorem dksJ7_coder_0 : cJ7_coder.data.toList.drop 0 = dktJ7_coder_0 := by decide +kernel
theorem dJ7_coder_0 : decode cJ7_coder 0 = .ok (.getstatic 38, 3) := dk_178 0 38 (dk_at dksJ7_coder_0 0 rfl rfl)
theorem dJ7_coder_3 : decode cJ7_coder 3 = .ok (.ifCond .eq 10, 3) := dk_153 0 10 (dk_at dksJ7_coder_0 3 rfl rfl)
theorem dJ7_coder_6 : decode cJ7_coder 6 = .ok (.aload_n 0, 1) := dk_42 (dk_at dksJ7_coder_0 6 rfl rfl)
theorem dJ7_coder_7 : decode cJ7_coder 7 = .ok (.getfield 15, 3) := dk_180 0 15 (dk_at dksJ7_coder_0 7 rfl rfl)
theorem dJ7_coder_10 : decode cJ7_coder 10 = .ok (.goto 4, 3) := dk_167 0 4 (dk_at dksJ7_coder_0 10 rfl rfl)
theorem dJ7_coder_13 : decode cJ7_coder 13 = .ok (.iconst 1, 1) := dk_4 (dk_at dksJ7_coder_0 13 rfl rfl)
theorem dJ7_coder_14 : decode cJ7_coder 14 = .ok (.ireturn, 1) := dk_172 (dk_at dksJ7_coder_0 14 rfl rfl)
abbrev cJ7_checkBoundsBeginEnd : ByteArray := prog_34_method_158_code
def yJ7_checkBoundsBeginEnd : MethodName := ⟨RJ7, "checkBoundsBeginEnd", "(III)V"⟩
def dkwJ7_checkBoundsBeginEnd_0 : List UInt8 := [26, 27, 28, 178, 4, 29, 184, 4, 38, 87, 177]
abbrev dktJ7_checkBoundsBeginEnd_0 : List UInt8 := dkwJ7_checkBoundsBeginEnd_0 ++ []
theorem dksJ7_checkBoundsBeginEnd_0 : cJ7_checkBoundsBeginEnd.data.toList.drop 0 = dktJ7_checkBoundsBeginEnd_0 := by decide +kernel
theorem dJ7_checkBoundsBeginEnd_0 : decode cJ7_checkBoundsBeginEnd 0 = .ok (.iload_n 0, 1) := dk_26 (dk_at dksJ7_checkBoundsBeginEnd_0 0 rfl rfl)
theorem dJ7_checkBoundsBeginEnd_1 : decode cJ7_checkBoundsBeginEnd 1 = .ok (.iload_n 1, 1) := dk_27 (dk_at dksJ7_checkBoundsBeginEnd_0 1 rfl rfl)
theorem dJ7_checkBoundsBeginEnd_2 : decode cJ7_checkBoundsBeginEnd 2 = .ok (.iload_n 2, 1) := dk_28 (dk_at dksJ7_checkBoundsBeginEnd_0 2 rfl rfl)
theorem dJ7_checkBoundsBeginEnd_3 : decode cJ7_checkBoundsBeginEnd 3 = .ok (.getstatic 1053, 3) := dk_178 4 29 (dk_at dksJ7_checkBoundsBeginEnd_0 3 rfl rfl)
theorem dJ7_checkBoundsBeginEnd_6 : decode cJ7_checkBoundsBeginEnd 6 = .ok (.invokestatic 1062, 3) := dk_184 4 38 (dk_at dksJ7_checkBoundsBeginEnd_0 6 rfl rfl)
theorem dJ7_checkBoundsBeginEnd_9 : decode cJ7_checkBoundsBeginEnd 9 = .ok (.pop, 1) := dk_87 (dk_at dksJ7_checkBoundsBeginEnd_0 9 rfl rfl)
theorem dJ7_checkBoundsBeginEnd_10 : decode cJ7_checkBoundsBeginEnd 10 = .ok (.return_, 1) := dk_177 (dk_at dksJ7_checkBoundsBeginEnd_0 10 rfl rfl)
theorem q80 : (Jvm.Cond.initialized "java/lang/String") ∈ lw_all := lw_g (lw_at lw_m1 13 rfl) rfl
theorem q331 : (Jvm.Cond.instantiable "java/lang/String" (4 : Nat)) ∈ lw_all := lw_g (lw_at lw_m2 24 rfl) rfl
theorem q332 : (Jvm.Cond.laysFinal "java/lang/String" "java/lang/String" "value" "[B") ∈ lw_all := lw_g (lw_at lw_m2 25 rfl) rfl
theorem q333 : (Jvm.Cond.soleField "java/lang/String" "value") ∈ lw_all := lw_g (lw_at lw_m2 26 rfl) rfl
theorem q334 : (Jvm.Cond.laysFinal "java/lang/String" "java/lang/String" "coder" "B") ∈ lw_all := lw_g (lw_at lw_m2 27 rfl) rfl
theorem q335 : (Jvm.Cond.soleField "java/lang/String" "coder") ∈ lw_all := lw_g (lw_at lw_m2 28 rfl) rfl
theorem q557 : (Jvm.Cond.instanceMethod ({ cls := "java/lang/String", name := "indexOf", desc := "(I)I" } : Jvm.MethodName)) ∈ lw_all := lw_g (lw_at lw_m3 10 rfl) rfl
theorem q558 : (Jvm.Cond.selects "java/lang/String" ({ cls := "java/lang/String", name := "indexOf", desc := "(I)I" } : Jvm.MethodName) ({ cls := "java/lang/String", name := "indexOf", desc := "(I)I" } : Jvm.MethodName)) ∈ lw_all := lw_g (lw_at lw_m3 11 rfl) rfl
theorem q559 : (Jvm.Cond.code ({ cls := "java/lang/String", name := "indexOf", desc := "(I)I" } : Jvm.MethodName) prog_34_method_79_code (2 : Nat) (Option.some Jvm.ClassFile.FieldType.int)) ∈ lw_all := lw_g (lw_at lw_m3 12 rfl) rfl
theorem q560 : (Jvm.Cond.methodLink "java/lang/String" (633 : Nat) ({ cls := "java/lang/String", name := "indexOf", desc := "(II)I" } : Jvm.MethodName)) ∈ lw_all := lw_g (lw_at lw_m3 13 rfl) rfl
theorem q561 : (Jvm.Cond.instanceMethod ({ cls := "java/lang/String", name := "indexOf", desc := "(II)I" } : Jvm.MethodName)) ∈ lw_all := lw_g (lw_at lw_m3 14 rfl) rfl
theorem q562 : (Jvm.Cond.selects "java/lang/String" ({ cls := "java/lang/String", name := "indexOf", desc := "(II)I" } : Jvm.MethodName) ({ cls := "java/lang/String", name := "indexOf", desc := "(II)I" } : Jvm.MethodName)) ∈ lw_all := lw_g (lw_at lw_m3 15 rfl) rfl
theorem q563 : (Jvm.Cond.code ({ cls := "java/lang/String", name := "indexOf", desc := "(II)I" } : Jvm.MethodName) prog_34_method_80_code (3 : Nat) (Option.some Jvm.ClassFile.FieldType.int)) ∈ lw_all := lw_g (lw_at lw_m3 16 rfl) rfl
theorem q564 : (Jvm.Cond.methodLink "java/lang/String" (492 : Nat) ({ cls := "java/lang/String", name := "isLatin1", desc := "()Z" } : Jvm.MethodName)) ∈ lw_all := lw_g (lw_at lw_m3 17 rfl) rfl
theorem q565 : (Jvm.Cond.instanceMethod ({ cls := "java/lang/String", name := "isLatin1", desc := "()Z" } : Jvm.MethodName)) ∈ lw_all := lw_g (lw_at lw_m3 18 rfl) rfl
theorem q566 : (Jvm.Cond.selects "java/lang/String" ({ cls := "java/lang/String", name := "isLatin1", desc := "()Z" } : Jvm.MethodName) ({ cls := "java/lang/String", name := "isLatin1", desc := "()Z" } : Jvm.MethodName)) ∈ lw_all := lw_g (lw_at lw_m3 19 rfl) rfl
theorem q567 : (Jvm.Cond.code ({ cls := "java/lang/String", name := "isLatin1", desc := "()Z" } : Jvm.MethodName) prog_34_method_154_code (1 : Nat) (Option.some Jvm.ClassFile.FieldType.boolean)) ∈ lw_all := lw_g (lw_at lw_m3 20 rfl) rfl
theorem q568 : (Jvm.Cond.fieldLink "java/lang/String" (38 : Nat) "java/lang/String" "COMPACT_STRINGS" "Z") ∈ lw_all := lw_g (lw_at lw_m3 21 rfl) rfl
theorem q569 : (Jvm.Cond.laysStatic "java/lang/String" "COMPACT_STRINGS" "Z") ∈ lw_tbl := lw_at lw_m3 22 rfl
theorem q570 : (Jvm.Cond.methodLink "java/lang/String" (505 : Nat) ({ cls := "java/lang/String", name := "length", desc := "()I" } : Jvm.MethodName)) ∈ lw_all := lw_g (lw_at lw_m3 23 rfl) rfl
theorem q571 : (Jvm.Cond.instanceMethod ({ cls := "java/lang/String", name := "length", desc := "()I" } : Jvm.MethodName)) ∈ lw_all := lw_g (lw_at lw_m3 24 rfl) rfl
theorem q572 : (Jvm.Cond.selects "java/lang/String" ({ cls := "java/lang/String", name := "length", desc := "()I" } : Jvm.MethodName) ({ cls := "java/lang/String", name := "length", desc := "()I" } : Jvm.MethodName)) ∈ lw_all := lw_g (lw_at lw_m3 25 rfl) rfl
theorem q573 : (Jvm.Cond.code ({ cls := "java/lang/String", name := "length", desc := "()I" } : Jvm.MethodName) prog_34_method_54_code (1 : Nat) (Option.some Jvm.ClassFile.FieldType.int)) ∈ lw_all := lw_g (lw_at lw_m3 26 rfl) rfl
theorem q574 : (Jvm.Cond.methodLink "java/lang/String" (335 : Nat) ({ cls := "java/lang/String", name := "coder", desc := "()B" } : Jvm.MethodName)) ∈ lw_all := lw_g (lw_at lw_m3 27 rfl) rfl
theorem q575 : (Jvm.Cond.instanceMethod ({ cls := "java/lang/String", name := "coder", desc := "()B" } : Jvm.MethodName)) ∈ lw_all := lw_g (lw_at lw_m3 28 rfl) rfl
theorem q576 : (Jvm.Cond.selects "java/lang/String" ({ cls := "java/lang/String", name := "coder", desc := "()B" } : Jvm.MethodName) ({ cls := "java/lang/String", name := "coder", desc := "()B" } : Jvm.MethodName)) ∈ lw_all := lw_g (lw_at lw_m3 29 rfl) rfl
theorem q577 : (Jvm.Cond.code ({ cls := "java/lang/String", name := "coder", desc := "()B" } : Jvm.MethodName) prog_34_method_152_code (1 : Nat) (Option.some Jvm.ClassFile.FieldType.byte)) ∈ lw_all := lw_g (lw_at lw_m3 30 rfl) rfl
theorem q578 : (Jvm.Cond.methodLink "java/lang/String" (637 : Nat) ({ cls := "java/lang/StringLatin1", name := "indexOf", desc := "([BIII)I" } : Jvm.MethodName)) ∈ lw_all := lw_g (lw_at lw_m3 31 rfl) rfl
theorem q593 : (Jvm.Cond.methodLink "java/lang/String" (640 : Nat) ({ cls := "java/lang/StringUTF16", name := "indexOf", desc := "([BIII)I" } : Jvm.MethodName)) ∈ lw_all := lw_g (lw_at lw_m3 46 rfl) rfl
theorem q609 : (Jvm.Cond.static ({ cls := "java/lang/String", name := "checkBoundsBeginEnd", desc := "(III)V" } : Jvm.MethodName)) ∈ lw_all := lw_g (lw_at lw_m3 62 rfl) rfl
theorem q610 : (Jvm.Cond.code ({ cls := "java/lang/String", name := "checkBoundsBeginEnd", desc := "(III)V" } : Jvm.MethodName) prog_34_method_158_code (3 : Nat) (Option.none : Option Jvm.ClassFile.FieldType)) ∈ lw_all := lw_g (lw_at lw_m3 63 rfl) rfl
theorem q611 : (Jvm.Cond.fieldLink "java/lang/String" (1053 : Nat) "jdk/internal/util/Preconditions" "SIOOBE_FORMATTER" "Ljava/util/function/BiFunction;") ∈ lw_all := lw_g (lw_at lw_m3 64 rfl) rfl
theorem q613 : (Jvm.Cond.methodLink "java/lang/String" (1062 : Nat) ({ cls := "jdk/internal/util/Preconditions", name := "checkFromToIndex", desc := "(IIILjava/util/function/BiFunction;)I" } : Jvm.MethodName)) ∈ lw_all := lw_g (lw_at lw_m3 66 rfl) rfl
theorem q1712 : (Jvm.Cond.castable "java/lang/String" "java/lang/Object") ∈ lw_tbl := lw_at lw_m7 205 rfl
theorem q1723 : (Jvm.Cond.fieldLink "java/lang/String" (15 : Nat) "java/lang/String" "coder" "B") ∈ lw_all := lw_g (lw_at lw_m7 216 rfl) rfl
theorem q1724 : (Jvm.Cond.fieldLink "java/lang/String" (9 : Nat) "java/lang/String" "value" "[B") ∈ lw_all := lw_g (lw_at lw_m7 217 rfl) rfl
theorem in_J7 : ∀ w ∈ wsJ70, w ∈ lw_all := lw_in wsJ70 [332, 334] (by decide +kernel) (by decide +kernel)
/-! java/lang/NullPointerException -/
set_option maxRecDepth 100000
def RJ8 : String := "java/lang/NullPointerException"
def TJ8 : u_T := fun k => match k with
  | 0 => ("java/lang/Throwable", "backtrace", "Ljava/lang/Object;", false)
  | 1 => ("java/lang/Throwable", "detailMessage", "Ljava/lang/String;", false)
  | 2 => ("java/lang/Throwable", "cause", "Ljava/lang/Throwable;", false)
  | 3 => ("java/lang/Throwable", "stackTrace", "[Ljava/lang/StackTraceElement;", false)
  | 4 => ("java/lang/Throwable", "depth", "I", false)
  | 5 => ("java/lang/Throwable", "suppressedExceptions", "Ljava/util/List;", false)
  | 6 => ("java/lang/NullPointerException", "extendedMessageState", "I", false)
  | _ => ("java/lang/NullPointerException", "extendedMessage", "Ljava/lang/String;", false)
def tyJ8 : Nat → FieldType := fun k => match k with
  | 0 => .object "java/lang/Object"
  | 1 => .object "java/lang/String"
  | 2 => .object "java/lang/Throwable"
  | 3 => .array (.object "java/lang/StackTraceElement")
  | 4 => .int
  | 5 => .object "java/util/List"
  | 6 => .int
  | _ => .object "java/lang/String"
abbrev wsJ80 : List Cond := u_ws RJ8 TJ8 8
theorem nmJ8 : ∀ a, a < 8 → ∀ b, b < 8 → a ≠ b → (TJ8 a).2.1 ≠ (TJ8 b).2.1 := by decide +kernel
theorem tyJ8_ok : ∀ k, k < 8 → parseFieldDescriptor (TJ8 k).2.2.1 = some (tyJ8 k) := by decide +kernel
abbrev cJ8_init : ByteArray := prog_32_method_1_code
def yJ8_init : MethodName := ⟨RJ8, "<init>", "()V"⟩
theorem dJ8_init_0 : decode cJ8_init 0 = .ok (.aload_n 0, 1) := by decide +kernel
theorem dJ8_init_1 : decode cJ8_init 1 = .ok (.invokespecial 1, 3) := by decide +kernel
theorem dJ8_init_4 : decode cJ8_init 4 = .ok (.return_, 1) := by decide +kernel
theorem q81 : (Jvm.Cond.initialized "java/lang/NullPointerException") ∈ lw_all := lw_g (lw_at lw_m1 14 rfl) rfl
theorem q276 : (Jvm.Cond.selects "java/lang/NullPointerException" ({ cls := "java/lang/Throwable", name := "fillInStackTrace", desc := "()Ljava/lang/Throwable;" } : Jvm.MethodName) ({ cls := "java/lang/NullPointerException", name := "fillInStackTrace", desc := "()Ljava/lang/Throwable;" } : Jvm.MethodName)) ∈ lw_all := lw_g (lw_at lw_m1 209 rfl) rfl
theorem q277 : (Jvm.Cond.instanceMethod ({ cls := "java/lang/NullPointerException", name := "fillInStackTrace", desc := "()Ljava/lang/Throwable;" } : Jvm.MethodName)) ∈ lw_all := lw_g (lw_at lw_m1 210 rfl) rfl
theorem q278 : (Jvm.Cond.codeSync ({ cls := "java/lang/NullPointerException", name := "fillInStackTrace", desc := "()Ljava/lang/Throwable;" } : Jvm.MethodName) prog_32_method_3_code (1 : Nat) (Option.some (Jvm.ClassFile.FieldType.object "java/lang/Throwable"))) ∈ lw_all := lw_g (lw_at lw_m1 211 rfl) rfl
theorem q279 : (Jvm.Cond.methodLink "java/lang/NullPointerException" (16 : Nat) ({ cls := "java/lang/NullPointerException", name := "getExtendedNPEMessage", desc := "()Ljava/lang/String;" } : Jvm.MethodName)) ∈ lw_all := lw_g (lw_at lw_m1 212 rfl) rfl
theorem q280 : (Jvm.Cond.privateMethod ({ cls := "java/lang/NullPointerException", name := "getExtendedNPEMessage", desc := "()Ljava/lang/String;" } : Jvm.MethodName)) ∈ lw_tbl := lw_at lw_m1 213 rfl
theorem q281 : (Jvm.Cond.instanceMethod ({ cls := "java/lang/NullPointerException", name := "getExtendedNPEMessage", desc := "()Ljava/lang/String;" } : Jvm.MethodName)) ∈ lw_all := lw_g (lw_at lw_m1 214 rfl) rfl
theorem q282 : (Jvm.Cond.instantiable "java/lang/NullPointerException" (8 : Nat)) ∈ lw_all := lw_g (lw_at lw_m1 215 rfl) rfl
theorem q283 : (Jvm.Cond.native ({ cls := "java/lang/NullPointerException", name := "getExtendedNPEMessage", desc := "()Ljava/lang/String;" } : Jvm.MethodName)) ∈ lw_all := lw_g (lw_at lw_m1 216 rfl) rfl
theorem q284 : (Jvm.Cond.methodLink "java/lang/NullPointerException" (24 : Nat) ({ cls := "java/lang/RuntimeException", name := "fillInStackTrace", desc := "()Ljava/lang/Throwable;" } : Jvm.MethodName)) ∈ lw_all := lw_g (lw_at lw_m1 217 rfl) rfl
theorem q287 : (Jvm.Cond.superclass "java/lang/NullPointerException" "java/lang/RuntimeException") ∈ lw_all := lw_g (lw_at lw_m1 220 rfl) rfl
theorem q363 : (Jvm.Cond.instanceMethod ({ cls := "java/lang/NullPointerException", name := "<init>", desc := "()V" } : Jvm.MethodName)) ∈ lw_all := lw_g (lw_at lw_m2 56 rfl) rfl
theorem q364 : (Jvm.Cond.code ({ cls := "java/lang/NullPointerException", name := "<init>", desc := "()V" } : Jvm.MethodName) prog_32_method_1_code (1 : Nat) (Option.none : Option Jvm.ClassFile.FieldType)) ∈ lw_all := lw_g (lw_at lw_m2 57 rfl) rfl
theorem q365 : (Jvm.Cond.methodLink "java/lang/NullPointerException" (1 : Nat) ({ cls := "java/lang/RuntimeException", name := "<init>", desc := "()V" } : Jvm.MethodName)) ∈ lw_all := lw_g (lw_at lw_m2 58 rfl) rfl
theorem q372 : (Jvm.Cond.fieldLink "java/lang/NullPointerException" (10 : Nat) "java/lang/NullPointerException" "extendedMessageState" "I") ∈ lw_all := lw_g (lw_at lw_m2 65 rfl) rfl
theorem q373 : (Jvm.Cond.fieldLink "java/lang/NullPointerException" (20 : Nat) "java/lang/NullPointerException" "extendedMessage" "Ljava/lang/String;") ∈ lw_all := lw_g (lw_at lw_m2 66 rfl) rfl
theorem q374 : (Jvm.Cond.lays "java/lang/NullPointerException" "java/lang/NullPointerException" "extendedMessageState" "I") ∈ lw_all := lw_g (lw_at lw_m2 67 rfl) rfl
theorem q375 : (Jvm.Cond.soleField "java/lang/NullPointerException" "extendedMessageState") ∈ lw_all := lw_g (lw_at lw_m2 68 rfl) rfl
theorem q376 : (Jvm.Cond.lays "java/lang/NullPointerException" "java/lang/NullPointerException" "extendedMessage" "Ljava/lang/String;") ∈ lw_all := lw_g (lw_at lw_m2 69 rfl) rfl
theorem q377 : (Jvm.Cond.soleField "java/lang/NullPointerException" "extendedMessage") ∈ lw_all := lw_g (lw_at lw_m2 70 rfl) rfl
theorem q378 : (Jvm.Cond.lays "java/lang/NullPointerException" "java/lang/Throwable" "backtrace" "Ljava/lang/Object;") ∈ lw_all := lw_g (lw_at lw_m2 71 rfl) rfl
theorem q379 : (Jvm.Cond.lays "java/lang/NullPointerException" "java/lang/Throwable" "detailMessage" "Ljava/lang/String;") ∈ lw_all := lw_g (lw_at lw_m2 72 rfl) rfl
theorem q380 : (Jvm.Cond.lays "java/lang/NullPointerException" "java/lang/Throwable" "cause" "Ljava/lang/Throwable;") ∈ lw_all := lw_g (lw_at lw_m2 73 rfl) rfl
theorem q381 : (Jvm.Cond.lays "java/lang/NullPointerException" "java/lang/Throwable" "stackTrace" "[Ljava/lang/StackTraceElement;") ∈ lw_all := lw_g (lw_at lw_m2 74 rfl) rfl
theorem q382 : (Jvm.Cond.lays "java/lang/NullPointerException" "java/lang/Throwable" "depth" "I") ∈ lw_all := lw_g (lw_at lw_m2 75 rfl) rfl
theorem q383 : (Jvm.Cond.lays "java/lang/NullPointerException" "java/lang/Throwable" "suppressedExceptions" "Ljava/util/List;") ∈ lw_all := lw_g (lw_at lw_m2 76 rfl) rfl
theorem q384 : (Jvm.Cond.castable "java/lang/NullPointerException" "java/lang/NullPointerException") ∈ lw_tbl := lw_at lw_m2 77 rfl
theorem q385 : (Jvm.Cond.selects "java/lang/NullPointerException" ({ cls := "java/lang/Throwable", name := "fillInStackTrace", desc := "(I)Ljava/lang/Throwable;" } : Jvm.MethodName) ({ cls := "java/lang/Throwable", name := "fillInStackTrace", desc := "(I)Ljava/lang/Throwable;" } : Jvm.MethodName)) ∈ lw_all := lw_g (lw_at lw_m2 78 rfl) rfl
theorem q794 : (Jvm.Cond.selects "java/lang/NullPointerException" ({ cls := "java/lang/Object", name := "getClass", desc := "()Ljava/lang/Class;" } : Jvm.MethodName) ({ cls := "java/lang/Object", name := "getClass", desc := "()Ljava/lang/Class;" } : Jvm.MethodName)) ∈ lw_all := lw_g (lw_at lw_m4 7 rfl) rfl
theorem q1699 : (Jvm.Cond.castable "java/lang/NullPointerException" "java/lang/Object") ∈ lw_tbl := lw_at lw_m7 192 rfl
theorem in_J8 : ∀ w ∈ wsJ80, w ∈ lw_all := lw_in wsJ80 [378, 379, 380, 381, 382, 383, 374, 376] (by decide +kernel) (by decide +kernel)
/-! java/lang/IndexOutOfBoundsException -/
set_option maxRecDepth 100000
def RJ9 : String := "java/lang/IndexOutOfBoundsException"
abbrev cJ9_init : ByteArray := prog_27_method_2_code
def yJ9_init : MethodName := ⟨RJ9, "<init>", "(Ljava/lang/String;)V"⟩
def dkwJ9_init_0 : List UInt8 := [42, 43, 183, 0, 7, 177]
abbrev dktJ9_init_0 : List UInt8 := dkwJ9_init_0 ++ []
theorem dksJ9_init_0 : cJ9_init.data.toList.drop 0 = dktJ9_init_0 := by decide +kernel
theorem dJ9_init_0 : decode cJ9_init 0 = .ok (.aload_n 0, 1) := dk_42 (dk_at dksJ9_init_0 0 rfl rfl)
theorem dJ9_init_1 : decode cJ9_init 1 = .ok (.aload_n 1, 1) := dk_43 (dk_at dksJ9_init_0 1 rfl rfl)
theorem dJ9_init_2 : decode cJ9_init 2 = .ok (.invokespecial 7, 3) := dk_183 0 7 (dk_at dksJ9_init_0 2 rfl rfl)
theorem dJ9_init_5 : decode cJ9_init 5 = .ok (.return_, 1) := dk_177 (dk_at dksJ9_init_0 5 rfl rfl)
abbrev cJ9_init_2 : ByteArray := prog_27_method_1_code
def yJ9_init_2 : MethodName := ⟨RJ9, "<init>", "()V"⟩
theorem dJ9_init_2_0 : decode cJ9_init_2 0 = .ok (.aload_n 0, 1) := by decide +kernel
theorem dJ9_init_2_1 : decode cJ9_init_2 1 = .ok (.invokespecial 1, 3) := by decide +kernel
theorem dJ9_init_2_4 : decode cJ9_init_2 4 = .ok (.return_, 1) := by decide +kernel
theorem q82 : (Jvm.Cond.initialized "java/lang/IndexOutOfBoundsException") ∈ lw_all := lw_g (lw_at lw_m1 15 rfl) rfl
theorem q392 : (Jvm.Cond.instanceMethod ({ cls := "java/lang/IndexOutOfBoundsException", name := "<init>", desc := "(Ljava/lang/String;)V" } : Jvm.MethodName)) ∈ lw_all := lw_g (lw_at lw_m2 85 rfl) rfl
theorem q393 : (Jvm.Cond.code ({ cls := "java/lang/IndexOutOfBoundsException", name := "<init>", desc := "(Ljava/lang/String;)V" } : Jvm.MethodName) prog_27_method_2_code (2 : Nat) (Option.none : Option Jvm.ClassFile.FieldType)) ∈ lw_all := lw_g (lw_at lw_m2 86 rfl) rfl
theorem q394 : (Jvm.Cond.methodLink "java/lang/IndexOutOfBoundsException" (7 : Nat) ({ cls := "java/lang/RuntimeException", name := "<init>", desc := "(Ljava/lang/String;)V" } : Jvm.MethodName)) ∈ lw_all := lw_g (lw_at lw_m2 87 rfl) rfl
theorem q403 : (Jvm.Cond.declares ({ cls := "java/lang/IndexOutOfBoundsException", name := "<init>", desc := "()V" } : Jvm.MethodName)) ∈ lw_tbl := lw_at lw_m2 96 rfl
theorem q404 : (Jvm.Cond.declares ({ cls := "java/lang/IndexOutOfBoundsException", name := "<init>", desc := "(Ljava/lang/String;)V" } : Jvm.MethodName)) ∈ lw_tbl := lw_at lw_m2 97 rfl
theorem q1061 : (Jvm.Cond.instanceMethod ({ cls := "java/lang/IndexOutOfBoundsException", name := "<init>", desc := "()V" } : Jvm.MethodName)) ∈ lw_all := lw_g (lw_at lw_m5 34 rfl) rfl
theorem q1062 : (Jvm.Cond.code ({ cls := "java/lang/IndexOutOfBoundsException", name := "<init>", desc := "()V" } : Jvm.MethodName) prog_27_method_1_code (1 : Nat) (Option.none : Option Jvm.ClassFile.FieldType)) ∈ lw_all := lw_g (lw_at lw_m5 35 rfl) rfl
theorem q1063 : (Jvm.Cond.methodLink "java/lang/IndexOutOfBoundsException" (1 : Nat) ({ cls := "java/lang/RuntimeException", name := "<init>", desc := "()V" } : Jvm.MethodName)) ∈ lw_all := lw_g (lw_at lw_m5 36 rfl) rfl
theorem q67 : (Jvm.Cond.initialized "PromiseScalesLaw") ∈ lw_all := lw_g (lw_at lw_m1 0 rfl) rfl
set_option maxRecDepth 100000
theorem q105 : (Jvm.Cond.classLink "PromiseScalesLaw" (7 : Nat) "PromiseScales") ∈ lw_all := lw_g (lw_at lw_m1 38 rfl) rfl
theorem q107 : (Jvm.Cond.methodLink "PromiseScalesLaw" (9 : Nat) ({ cls := "PromiseScales", name := "<init>", desc := "()V" } : Jvm.MethodName)) ∈ lw_all := lw_g (lw_at lw_m1 40 rfl) rfl
theorem q246 : (Jvm.Cond.methodLink "PromiseScalesLaw" (13 : Nat) ({ cls := "PromiseScales", name := "row", desc := "(III)I" } : Jvm.MethodName)) ∈ lw_all := lw_g (lw_at lw_m1 179 rfl) rfl
theorem q358 : (Jvm.Cond.methodLink "PromiseScalesLaw" (18 : Nat) ({ cls := "PromiseScales", name := "set", desc := "(III)I" } : Jvm.MethodName)) ∈ lw_all := lw_g (lw_at lw_m2 51 rfl) rfl
theorem q417 : (Jvm.Cond.methodLink "PromiseScalesLaw" (22 : Nat) ({ cls := "PromiseScales", name := "copy", desc := "(IIIII)I" } : Jvm.MethodName)) ∈ lw_all := lw_g (lw_at lw_m2 110 rfl) rfl
theorem q439 : (Jvm.Cond.methodLink "PromiseScalesLaw" (27 : Nat) ({ cls := "PromiseScales", name := "drop", desc := "(I)I" } : Jvm.MethodName)) ∈ lw_all := lw_g (lw_at lw_m2 132 rfl) rfl
theorem q447 : (Jvm.Cond.methodLink "PromiseScalesLaw" (32 : Nat) ({ cls := "PromiseScales", name := "feed", desc := "(I)I" } : Jvm.MethodName)) ∈ lw_all := lw_g (lw_at lw_m2 140 rfl) rfl
theorem q453 : (Jvm.Cond.methodLink "PromiseScalesLaw" (36 : Nat) ({ cls := "PromiseScales", name := "scales", desc := "()I" } : Jvm.MethodName)) ∈ lw_all := lw_g (lw_at lw_m2 146 rfl) rfl
theorem q845 : (Jvm.Cond.methodLink "PromiseScalesLaw" (41 : Nat) ({ cls := "PromiseScales", name := "fault", desc := "()I" } : Jvm.MethodName)) ∈ lw_all := lw_g (lw_at lw_m4 58 rfl) rfl
theorem q849 : (Jvm.Cond.methodLink "PromiseScalesLaw" (45 : Nat) ({ cls := "PromiseScales", name := "lay", desc := "(II)I" } : Jvm.MethodName)) ∈ lw_all := lw_g (lw_at lw_m4 62 rfl) rfl
theorem q920 : (Jvm.Cond.methodLink "PromiseScalesLaw" (50 : Nat) ({ cls := "PromiseScales", name := "settle", desc := "(II)I" } : Jvm.MethodName)) ∈ lw_all := lw_g (lw_at lw_m4 133 rfl) rfl
theorem q931 : (Jvm.Cond.methodLink "PromiseScalesLaw" (54 : Nat) ({ cls := "PromiseScales", name := "wax", desc := "(I)I" } : Jvm.MethodName)) ∈ lw_all := lw_g (lw_at lw_m4 144 rfl) rfl
theorem q940 : (Jvm.Cond.methodLink "PromiseScalesLaw" (58 : Nat) ({ cls := "PromiseScales", name := "undo", desc := "()I" } : Jvm.MethodName)) ∈ lw_all := lw_g (lw_at lw_m4 153 rfl) rfl
theorem q944 : (Jvm.Cond.methodLink "PromiseScalesLaw" (62 : Nat) ({ cls := "PromiseScales", name := "promise", desc := "(II)I" } : Jvm.MethodName)) ∈ lw_all := lw_g (lw_at lw_m4 157 rfl) rfl
theorem q958 : (Jvm.Cond.methodLink "PromiseScalesLaw" (66 : Nat) ({ cls := "PromiseScales", name := "keeps", desc := "(I)I" } : Jvm.MethodName)) ∈ lw_all := lw_g (lw_at lw_m4 171 rfl) rfl
theorem q966 : (Jvm.Cond.methodLink "PromiseScalesLaw" (70 : Nat) ({ cls := "PromiseScales", name := "reads", desc := "(I)I" } : Jvm.MethodName)) ∈ lw_all := lw_g (lw_at lw_m4 179 rfl) rfl
theorem q978 : (Jvm.Cond.methodLink "PromiseScalesLaw" (74 : Nat) ({ cls := "PromiseScales", name := "clash", desc := "(I)I" } : Jvm.MethodName)) ∈ lw_all := lw_g (lw_at lw_m4 191 rfl) rfl
theorem q987 : (Jvm.Cond.methodLink "PromiseScalesLaw" (78 : Nat) ({ cls := "PromiseScales", name := "bags", desc := "(II)I" } : Jvm.MethodName)) ∈ lw_all := lw_g (lw_at lw_m4 200 rfl) rfl
theorem q1006 : (Jvm.Cond.methodLink "PromiseScalesLaw" (82 : Nat) ({ cls := "PromiseScales", name := "heaviest", desc := "(II)I" } : Jvm.MethodName)) ∈ lw_all := lw_g (lw_at lw_m4 219 rfl) rfl
theorem q1011 : (Jvm.Cond.methodLink "PromiseScalesLaw" (86 : Nat) ({ cls := "PromiseScales", name := "worded", desc := "(II)I" } : Jvm.MethodName)) ∈ lw_all := lw_g (lw_at lw_m4 224 rfl) rfl
theorem q1023 : (Jvm.Cond.methodLink "PromiseScalesLaw" (90 : Nat) ({ cls := "PromiseScales", name := "price", desc := "(II)I" } : Jvm.MethodName)) ∈ lw_all := lw_g (lw_at lw_m4 236 rfl) rfl
theorem q1032 : (Jvm.Cond.methodLink "PromiseScalesLaw" (94 : Nat) ({ cls := "PromiseScales", name := "prices", desc := "(II)I" } : Jvm.MethodName)) ∈ lw_all := lw_g (lw_at lw_m5 5 rfl) rfl
theorem q1036 : (Jvm.Cond.methodLink "PromiseScalesLaw" (98 : Nat) ({ cls := "PromiseScales", name := "settles", desc := "(III)I" } : Jvm.MethodName)) ∈ lw_all := lw_g (lw_at lw_m5 9 rfl) rfl
theorem q1045 : (Jvm.Cond.methodLink "PromiseScalesLaw" (102 : Nat) ({ cls := "PromiseScales", name := "bestHeavy", desc := "(I)I" } : Jvm.MethodName)) ∈ lw_all := lw_g (lw_at lw_m5 18 rfl) rfl
theorem q1049 : (Jvm.Cond.methodLink "PromiseScalesLaw" (106 : Nat) ({ cls := "PromiseScales", name := "found", desc := "(IIII)I" } : Jvm.MethodName)) ∈ lw_all := lw_g (lw_at lw_m5 22 rfl) rfl
theorem q1075 : (Jvm.Cond.methodLink "PromiseScalesLaw" (111 : Nat) ({ cls := "PromiseScales", name := "keepsFound", desc := "(III)I" } : Jvm.MethodName)) ∈ lw_all := lw_g (lw_at lw_m5 48 rfl) rfl
theorem q1105 : (Jvm.Cond.methodLink "PromiseScalesLaw" (115 : Nat) ({ cls := "PromiseScales", name := "free", desc := "(III)I" } : Jvm.MethodName)) ∈ lw_all := lw_g (lw_at lw_m5 78 rfl) rfl
theorem q1113 : (Jvm.Cond.methodLink "PromiseScalesLaw" (119 : Nat) ({ cls := "PromiseScales", name := "image", desc := "(I)I" } : Jvm.MethodName)) ∈ lw_all := lw_g (lw_at lw_m5 86 rfl) rfl
theorem q1117 : (Jvm.Cond.methodLink "PromiseScalesLaw" (123 : Nat) ({ cls := "PromiseScales", name := "restore", desc := "(I)I" } : Jvm.MethodName)) ∈ lw_all := lw_g (lw_at lw_m5 90 rfl) rfl
theorem q1121 : (Jvm.Cond.methodLink "PromiseScalesLaw" (127 : Nat) ({ cls := "PromiseScales", name := "kind", desc := "(I)I" } : Jvm.MethodName)) ∈ lw_all := lw_g (lw_at lw_m5 94 rfl) rfl
theorem q1125 : (Jvm.Cond.methodLink "PromiseScalesLaw" (131 : Nat) ({ cls := "PromiseScales", name := "as", desc := "(II)I" } : Jvm.MethodName)) ∈ lw_all := lw_g (lw_at lw_m5 98 rfl) rfl
theorem q1156 : (Jvm.Cond.methodLink "PromiseScalesLaw" (135 : Nat) ({ cls := "PromiseScales", name := "ask", desc := "(II)I" } : Jvm.MethodName)) ∈ lw_all := lw_g (lw_at lw_m5 129 rfl) rfl
theorem q1271 : (Jvm.Cond.methodLink "PromiseScalesLaw" (139 : Nat) ({ cls := "PromiseScales", name := "trace", desc := "(I)I" } : Jvm.MethodName)) ∈ lw_all := lw_g (lw_at lw_m6 4 rfl) rfl
theorem q1275 : (Jvm.Cond.methodLink "PromiseScalesLaw" (143 : Nat) ({ cls := "PromiseScales", name := "count", desc := "(I)I" } : Jvm.MethodName)) ∈ lw_all := lw_g (lw_at lw_m6 8 rfl) rfl
theorem q1279 : (Jvm.Cond.methodLink "PromiseScalesLaw" (147 : Nat) ({ cls := "PromiseScales", name := "status", desc := "()I" } : Jvm.MethodName)) ∈ lw_all := lw_g (lw_at lw_m6 12 rfl) rfl
theorem q1283 : (Jvm.Cond.classLink "PromiseScalesLaw" (10 : Nat) "PromiseScalesModel") ∈ lw_all := lw_g (lw_at lw_m6 16 rfl) rfl
theorem q1285 : (Jvm.Cond.methodLink "PromiseScalesLaw" (12 : Nat) ({ cls := "PromiseScalesModel", name := "<init>", desc := "()V" } : Jvm.MethodName)) ∈ lw_all := lw_g (lw_at lw_m6 18 rfl) rfl
theorem q1363 : (Jvm.Cond.methodLink "PromiseScalesLaw" (17 : Nat) ({ cls := "PromiseScalesModel", name := "row", desc := "(III)I" } : Jvm.MethodName)) ∈ lw_all := lw_g (lw_at lw_m6 96 rfl) rfl
theorem q1385 : (Jvm.Cond.methodLink "PromiseScalesLaw" (21 : Nat) ({ cls := "PromiseScalesModel", name := "set", desc := "(III)I" } : Jvm.MethodName)) ∈ lw_all := lw_g (lw_at lw_m6 118 rfl) rfl
theorem q1392 : (Jvm.Cond.methodLink "PromiseScalesLaw" (26 : Nat) ({ cls := "PromiseScalesModel", name := "copy", desc := "(IIIII)I" } : Jvm.MethodName)) ∈ lw_all := lw_g (lw_at lw_m6 125 rfl) rfl
theorem q1396 : (Jvm.Cond.methodLink "PromiseScalesLaw" (31 : Nat) ({ cls := "PromiseScalesModel", name := "drop", desc := "(I)I" } : Jvm.MethodName)) ∈ lw_all := lw_g (lw_at lw_m6 129 rfl) rfl
theorem q1400 : (Jvm.Cond.methodLink "PromiseScalesLaw" (35 : Nat) ({ cls := "PromiseScalesModel", name := "feed", desc := "(I)I" } : Jvm.MethodName)) ∈ lw_all := lw_g (lw_at lw_m6 133 rfl) rfl
theorem q1406 : (Jvm.Cond.methodLink "PromiseScalesLaw" (40 : Nat) ({ cls := "PromiseScalesModel", name := "scales", desc := "()I" } : Jvm.MethodName)) ∈ lw_all := lw_g (lw_at lw_m6 139 rfl) rfl
theorem q1447 : (Jvm.Cond.methodLink "PromiseScalesLaw" (44 : Nat) ({ cls := "PromiseScalesModel", name := "fault", desc := "()I" } : Jvm.MethodName)) ∈ lw_all := lw_g (lw_at lw_m6 180 rfl) rfl
theorem q1451 : (Jvm.Cond.methodLink "PromiseScalesLaw" (49 : Nat) ({ cls := "PromiseScalesModel", name := "lay", desc := "(II)I" } : Jvm.MethodName)) ∈ lw_all := lw_g (lw_at lw_m6 184 rfl) rfl
theorem q1494 : (Jvm.Cond.methodLink "PromiseScalesLaw" (53 : Nat) ({ cls := "PromiseScalesModel", name := "settle", desc := "(II)I" } : Jvm.MethodName)) ∈ lw_all := lw_g (lw_at lw_m6 227 rfl) rfl
theorem q1502 : (Jvm.Cond.methodLink "PromiseScalesLaw" (57 : Nat) ({ cls := "PromiseScalesModel", name := "wax", desc := "(I)I" } : Jvm.MethodName)) ∈ lw_all := lw_g (lw_at lw_m6 235 rfl) rfl
theorem q1507 : (Jvm.Cond.methodLink "PromiseScalesLaw" (61 : Nat) ({ cls := "PromiseScalesModel", name := "undo", desc := "()I" } : Jvm.MethodName)) ∈ lw_all := lw_g (lw_at lw_m7 0 rfl) rfl
theorem q1511 : (Jvm.Cond.methodLink "PromiseScalesLaw" (65 : Nat) ({ cls := "PromiseScalesModel", name := "promise", desc := "(II)I" } : Jvm.MethodName)) ∈ lw_all := lw_g (lw_at lw_m7 4 rfl) rfl
theorem q1515 : (Jvm.Cond.methodLink "PromiseScalesLaw" (69 : Nat) ({ cls := "PromiseScalesModel", name := "keeps", desc := "(I)I" } : Jvm.MethodName)) ∈ lw_all := lw_g (lw_at lw_m7 8 rfl) rfl
theorem q1523 : (Jvm.Cond.methodLink "PromiseScalesLaw" (73 : Nat) ({ cls := "PromiseScalesModel", name := "reads", desc := "(I)I" } : Jvm.MethodName)) ∈ lw_all := lw_g (lw_at lw_m7 16 rfl) rfl
theorem q1531 : (Jvm.Cond.methodLink "PromiseScalesLaw" (77 : Nat) ({ cls := "PromiseScalesModel", name := "clash", desc := "(I)I" } : Jvm.MethodName)) ∈ lw_all := lw_g (lw_at lw_m7 24 rfl) rfl
theorem q1540 : (Jvm.Cond.methodLink "PromiseScalesLaw" (81 : Nat) ({ cls := "PromiseScalesModel", name := "bags", desc := "(II)I" } : Jvm.MethodName)) ∈ lw_all := lw_g (lw_at lw_m7 33 rfl) rfl
theorem q1552 : (Jvm.Cond.methodLink "PromiseScalesLaw" (85 : Nat) ({ cls := "PromiseScalesModel", name := "heaviest", desc := "(II)I" } : Jvm.MethodName)) ∈ lw_all := lw_g (lw_at lw_m7 45 rfl) rfl
theorem q1557 : (Jvm.Cond.methodLink "PromiseScalesLaw" (89 : Nat) ({ cls := "PromiseScalesModel", name := "worded", desc := "(II)I" } : Jvm.MethodName)) ∈ lw_all := lw_g (lw_at lw_m7 50 rfl) rfl
theorem q1562 : (Jvm.Cond.methodLink "PromiseScalesLaw" (93 : Nat) ({ cls := "PromiseScalesModel", name := "price", desc := "(II)I" } : Jvm.MethodName)) ∈ lw_all := lw_g (lw_at lw_m7 55 rfl) rfl
theorem q1567 : (Jvm.Cond.methodLink "PromiseScalesLaw" (97 : Nat) ({ cls := "PromiseScalesModel", name := "prices", desc := "(II)I" } : Jvm.MethodName)) ∈ lw_all := lw_g (lw_at lw_m7 60 rfl) rfl
theorem q1571 : (Jvm.Cond.methodLink "PromiseScalesLaw" (101 : Nat) ({ cls := "PromiseScalesModel", name := "settles", desc := "(III)I" } : Jvm.MethodName)) ∈ lw_all := lw_g (lw_at lw_m7 64 rfl) rfl
theorem q1580 : (Jvm.Cond.methodLink "PromiseScalesLaw" (105 : Nat) ({ cls := "PromiseScalesModel", name := "bestHeavy", desc := "(I)I" } : Jvm.MethodName)) ∈ lw_all := lw_g (lw_at lw_m7 73 rfl) rfl
theorem q1584 : (Jvm.Cond.methodLink "PromiseScalesLaw" (110 : Nat) ({ cls := "PromiseScalesModel", name := "found", desc := "(IIII)I" } : Jvm.MethodName)) ∈ lw_all := lw_g (lw_at lw_m7 77 rfl) rfl
theorem q1596 : (Jvm.Cond.methodLink "PromiseScalesLaw" (114 : Nat) ({ cls := "PromiseScalesModel", name := "keepsFound", desc := "(III)I" } : Jvm.MethodName)) ∈ lw_all := lw_g (lw_at lw_m7 89 rfl) rfl
theorem q1604 : (Jvm.Cond.methodLink "PromiseScalesLaw" (118 : Nat) ({ cls := "PromiseScalesModel", name := "free", desc := "(III)I" } : Jvm.MethodName)) ∈ lw_all := lw_g (lw_at lw_m7 97 rfl) rfl
theorem q1609 : (Jvm.Cond.methodLink "PromiseScalesLaw" (122 : Nat) ({ cls := "PromiseScalesModel", name := "image", desc := "(I)I" } : Jvm.MethodName)) ∈ lw_all := lw_g (lw_at lw_m7 102 rfl) rfl
theorem q1613 : (Jvm.Cond.methodLink "PromiseScalesLaw" (126 : Nat) ({ cls := "PromiseScalesModel", name := "restore", desc := "(I)I" } : Jvm.MethodName)) ∈ lw_all := lw_g (lw_at lw_m7 106 rfl) rfl
theorem q1617 : (Jvm.Cond.methodLink "PromiseScalesLaw" (130 : Nat) ({ cls := "PromiseScalesModel", name := "kind", desc := "(I)I" } : Jvm.MethodName)) ∈ lw_all := lw_g (lw_at lw_m7 110 rfl) rfl
theorem q1621 : (Jvm.Cond.methodLink "PromiseScalesLaw" (134 : Nat) ({ cls := "PromiseScalesModel", name := "as", desc := "(II)I" } : Jvm.MethodName)) ∈ lw_all := lw_g (lw_at lw_m7 114 rfl) rfl
theorem q1628 : (Jvm.Cond.methodLink "PromiseScalesLaw" (138 : Nat) ({ cls := "PromiseScalesModel", name := "ask", desc := "(II)I" } : Jvm.MethodName)) ∈ lw_all := lw_g (lw_at lw_m7 121 rfl) rfl
theorem q1664 : (Jvm.Cond.methodLink "PromiseScalesLaw" (142 : Nat) ({ cls := "PromiseScalesModel", name := "trace", desc := "(I)I" } : Jvm.MethodName)) ∈ lw_all := lw_g (lw_at lw_m7 157 rfl) rfl
theorem q1668 : (Jvm.Cond.methodLink "PromiseScalesLaw" (146 : Nat) ({ cls := "PromiseScalesModel", name := "count", desc := "(I)I" } : Jvm.MethodName)) ∈ lw_all := lw_g (lw_at lw_m7 161 rfl) rfl
theorem q1672 : (Jvm.Cond.methodLink "PromiseScalesLaw" (150 : Nat) ({ cls := "PromiseScalesModel", name := "status", desc := "()I" } : Jvm.MethodName)) ∈ lw_all := lw_g (lw_at lw_m7 165 rfl) rfl
theorem q1246 : (Jvm.Cond.interfaceMethod "PromiseScales$Held" "PromiseScales$Held" "weight" "()I") ∈ lw_tbl := lw_at lw_m5 219 rfl
set_option maxRecDepth 100000
theorem q1247 : (Jvm.Cond.declares ({ cls := "PromiseScales$Held", name := "weight", desc := "()I" } : Jvm.MethodName)) ∈ lw_tbl := lw_at lw_m5 220 rfl
theorem q1717 : (Jvm.Cond.castable "[B" "java/lang/Object") ∈ lw_tbl := lw_at lw_m7 210 rfl
set_option maxRecDepth 100000
theorem q1718 : (Jvm.Cond.castable "[I" "java/lang/Object") ∈ lw_tbl := lw_at lw_m7 211 rfl
set_option maxRecDepth 100000
theorem q1719 : (Jvm.Cond.castable "[LPromiseScales$Scales;" "java/lang/Object") ∈ lw_tbl := lw_at lw_m7 212 rfl
set_option maxRecDepth 100000
theorem q1716 : (Jvm.Cond.castable "[LPromiseScales$Shelf;" "java/lang/Object") ∈ lw_tbl := lw_at lw_m7 209 rfl
set_option maxRecDepth 100000
theorem q1713 : (Jvm.Cond.sameMethod "[Ljava/lang/Object;" "java/lang/Object" "getClass" "()Ljava/lang/Class;") ∈ lw_all := lw_g (lw_at lw_m7 206 rfl) rfl
set_option maxRecDepth 100000
theorem q1714 : (Jvm.Cond.selects "[Ljava/lang/Object;" ({ cls := "java/lang/Object", name := "getClass", desc := "()Ljava/lang/Class;" } : Jvm.MethodName) ({ cls := "java/lang/Object", name := "getClass", desc := "()Ljava/lang/Class;" } : Jvm.MethodName)) ∈ lw_all := lw_g (lw_at lw_m7 207 rfl) rfl
theorem q1721 : (Jvm.Cond.castable "[Ljava/lang/Object;" "java/lang/Object") ∈ lw_tbl := lw_at lw_m7 214 rfl
theorem q1720 : (Jvm.Cond.castable "[S" "java/lang/Object") ∈ lw_tbl := lw_at lw_m7 213 rfl
set_option maxRecDepth 100000
theorem q1722 : (Jvm.Cond.castable "[Z" "java/lang/Object") ∈ lw_tbl := lw_at lw_m7 215 rfl
set_option maxRecDepth 100000
theorem q85 : (Jvm.Cond.initialized "java/lang/System") ∈ lw_all := lw_g (lw_at lw_m1 18 rfl) rfl
set_option maxRecDepth 100000
theorem q437 : (Jvm.Cond.static ({ cls := "java/lang/System", name := "arraycopy", desc := "(Ljava/lang/Object;ILjava/lang/Object;II)V" } : Jvm.MethodName)) ∈ lw_all := lw_g (lw_at lw_m2 130 rfl) rfl
theorem q438 : (Jvm.Cond.native ({ cls := "java/lang/System", name := "arraycopy", desc := "(Ljava/lang/Object;ILjava/lang/Object;II)V" } : Jvm.MethodName)) ∈ lw_all := lw_g (lw_at lw_m2 131 rfl) rfl
theorem q652 : (Jvm.Cond.interfaceMethod "java/util/List" "java/util/List" "size" "()I") ∈ lw_tbl := lw_at lw_m3 105 rfl
set_option maxRecDepth 100000
theorem q653 : (Jvm.Cond.declares ({ cls := "java/util/List", name := "size", desc := "()I" } : Jvm.MethodName)) ∈ lw_tbl := lw_at lw_m3 106 rfl
theorem q744 : (Jvm.Cond.interfaceMethod "java/util/List" "java/util/List" "add" "(Ljava/lang/Object;)Z") ∈ lw_tbl := lw_at lw_m3 197 rfl
theorem q745 : (Jvm.Cond.declares ({ cls := "java/util/List", name := "add", desc := "(Ljava/lang/Object;)Z" } : Jvm.MethodName)) ∈ lw_tbl := lw_at lw_m3 198 rfl
theorem q815 : (Jvm.Cond.interfaceMethod "java/util/List" "java/util/List" "clear" "()V") ∈ lw_tbl := lw_at lw_m4 28 rfl
theorem q816 : (Jvm.Cond.declares ({ cls := "java/util/List", name := "clear", desc := "()V" } : Jvm.MethodName)) ∈ lw_tbl := lw_at lw_m4 29 rfl
theorem q824 : (Jvm.Cond.interfaceMethod "java/util/List" "java/util/List" "get" "(I)Ljava/lang/Object;") ∈ lw_tbl := lw_at lw_m4 37 rfl
theorem q825 : (Jvm.Cond.declares ({ cls := "java/util/List", name := "get", desc := "(I)Ljava/lang/Object;" } : Jvm.MethodName)) ∈ lw_tbl := lw_at lw_m4 38 rfl
theorem q117 : (Jvm.Cond.arrayOver (Jvm.ClassFile.FieldType.object "PromiseScales$Shelf")) ∈ lw_tbl := lw_at lw_m1 50 rfl
set_option maxRecDepth 100000
theorem q160 : (Jvm.Cond.arrayClass Jvm.ClassFile.FieldType.byte) ∈ lw_all := lw_g (lw_at lw_m1 93 rfl) rfl
theorem q161 : (Jvm.Cond.arrayClass Jvm.ClassFile.FieldType.int) ∈ lw_all := lw_g (lw_at lw_m1 94 rfl) rfl
theorem q195 : (Jvm.Cond.arrayOver (Jvm.ClassFile.FieldType.object "PromiseScales$Scales")) ∈ lw_tbl := lw_at lw_m1 128 rfl
theorem q357 : (Jvm.Cond.arrayClass Jvm.ClassFile.FieldType.short) ∈ lw_all := lw_g (lw_at lw_m2 50 rfl) rfl
theorem q801 : (Jvm.Cond.arrayOver (Jvm.ClassFile.FieldType.object "java/lang/Object")) ∈ lw_tbl := lw_at lw_m4 14 rfl
theorem q1362 : (Jvm.Cond.arrayClass Jvm.ClassFile.FieldType.boolean) ∈ lw_all := lw_g (lw_at lw_m6 95 rfl) rfl
/-! the law's own entry -/
set_option maxRecDepth 100000
abbrev cL_law : ByteArray := code
def dkwL_law_44 : List UInt8 := [43, 182, 0, 147, 44, 182, 0, 150, 159, 0, 5, 3, 172, 132, 3, 6, 167, 251, 126, 4, 172]
abbrev dktL_law_44 : List UInt8 := dkwL_law_44 ++ []
def dkwL_law_43 : List UInt8 := [172, 43, 42, 29, 4, 96, 46, 182, 0, 143, 44, 42, 29, 4, 96, 46, 182, 0, 146, 159, 0, 18, 3, 172]
abbrev dktL_law_43 : List UInt8 := dkwL_law_43 ++ dktL_law_44
def dkwL_law_42 : List UInt8 := [3, 172, 43, 42, 29, 4, 96, 46, 182, 0, 139, 44, 42, 29, 4, 96, 46, 182, 0, 142, 159, 0, 41, 3]
abbrev dktL_law_42 : List UInt8 := dkwL_law_42 ++ dktL_law_43
def dkwL_law_41 : List UInt8 := [29, 5, 96, 46, 182, 0, 135, 44, 42, 29, 4, 96, 46, 42, 29, 5, 96, 46, 182, 0, 138, 159, 0, 64]
abbrev dktL_law_41 : List UInt8 := dkwL_law_41 ++ dktL_law_42
def dkwL_law_40 : List UInt8 := [29, 4, 96, 46, 42, 29, 5, 96, 46, 182, 0, 134, 159, 0, 97, 3, 172, 43, 42, 29, 4, 96, 46, 42]
abbrev dktL_law_40 : List UInt8 := dkwL_law_40 ++ dktL_law_41
def dkwL_law_39 : List UInt8 := [182, 0, 130, 159, 0, 130, 3, 172, 43, 42, 29, 4, 96, 46, 42, 29, 5, 96, 46, 182, 0, 131, 44, 42]
abbrev dktL_law_39 : List UInt8 := dkwL_law_39 ++ dktL_law_40
def dkwL_law_38 : List UInt8 := [182, 0, 126, 159, 0, 153, 3, 172, 43, 42, 29, 4, 96, 46, 182, 0, 127, 44, 42, 29, 4, 96, 46]
abbrev dktL_law_38 : List UInt8 := dkwL_law_38 ++ dktL_law_39
def dkwL_law_37 : List UInt8 := [182, 0, 122, 159, 0, 176, 3, 172, 43, 42, 29, 4, 96, 46, 182, 0, 123, 44, 42, 29, 4, 96, 46]
abbrev dktL_law_37 : List UInt8 := dkwL_law_37 ++ dktL_law_38
def dkwL_law_36 : List UInt8 := [182, 0, 118, 159, 0, 199, 3, 172, 43, 42, 29, 4, 96, 46, 182, 0, 119, 44, 42, 29, 4, 96, 46]
abbrev dktL_law_36 : List UInt8 := dkwL_law_36 ++ dktL_law_37
def dkwL_law_35 : List UInt8 := [6, 96, 46, 182, 0, 115, 44, 42, 29, 4, 96, 46, 42, 29, 5, 96, 46, 42, 29, 6, 96, 46]
abbrev dktL_law_35 : List UInt8 := dkwL_law_35 ++ dktL_law_36
def dkwL_law_34 : List UInt8 := [6, 96, 46, 182, 0, 114, 159, 0, 242, 3, 172, 43, 42, 29, 4, 96, 46, 42, 29, 5, 96, 46, 42, 29]
abbrev dktL_law_34 : List UInt8 := dkwL_law_34 ++ dktL_law_35
def dkwL_law_33 : List UInt8 := [5, 96, 46, 42, 29, 6, 96, 46, 182, 0, 111, 44, 42, 29, 4, 96, 46, 42, 29, 5, 96, 46, 42, 29]
abbrev dktL_law_33 : List UInt8 := dkwL_law_33 ++ dktL_law_34
def dkwL_law_32 : List UInt8 := [6, 96, 46, 42, 29, 7, 96, 46, 182, 0, 110, 159, 1, 29, 3, 172, 43, 42, 29, 4, 96, 46, 42, 29]
abbrev dktL_law_32 : List UInt8 := dkwL_law_32 ++ dktL_law_33
def dkwL_law_31 : List UInt8 := [6, 96, 46, 42, 29, 7, 96, 46, 182, 0, 106, 44, 42, 29, 4, 96, 46, 42, 29, 5, 96, 46, 42, 29]
abbrev dktL_law_31 : List UInt8 := dkwL_law_31 ++ dktL_law_32
def dkwL_law_30 : List UInt8 := [4, 96, 46, 182, 0, 105, 159, 1, 82, 3, 172, 43, 42, 29, 4, 96, 46, 42, 29, 5, 96, 46, 42, 29]
abbrev dktL_law_30 : List UInt8 := dkwL_law_30 ++ dktL_law_31
def dkwL_law_29 : List UInt8 := [29, 6, 96, 46, 182, 0, 101, 159, 1, 105, 3, 172, 43, 42, 29, 4, 96, 46, 182, 0, 102, 44, 42, 29]
abbrev dktL_law_29 : List UInt8 := dkwL_law_29 ++ dktL_law_30
def dkwL_law_28 : List UInt8 := [29, 5, 96, 46, 42, 29, 6, 96, 46, 182, 0, 98, 44, 42, 29, 4, 96, 46, 42, 29, 5, 96, 46, 42]
abbrev dktL_law_28 : List UInt8 := dkwL_law_28 ++ dktL_law_29
def dkwL_law_27 : List UInt8 := [29, 4, 96, 46, 42, 29, 5, 96, 46, 182, 0, 97, 159, 1, 148, 3, 172, 43, 42, 29, 4, 96, 46, 42]
abbrev dktL_law_27 : List UInt8 := dkwL_law_27 ++ dktL_law_28
def dkwL_law_26 : List UInt8 := [182, 0, 93, 159, 1, 181, 3, 172, 43, 42, 29, 4, 96, 46, 42, 29, 5, 96, 46, 182, 0, 94, 44, 42]
abbrev dktL_law_26 : List UInt8 := dkwL_law_26 ++ dktL_law_27
def dkwL_law_25 : List UInt8 := [42, 29, 4, 96, 46, 42, 29, 5, 96, 46, 182, 0, 90, 44, 42, 29, 4, 96, 46, 42, 29, 5, 96, 46]
abbrev dktL_law_25 : List UInt8 := dkwL_law_25 ++ dktL_law_26
def dkwL_law_24 : List UInt8 := [46, 182, 0, 86, 44, 42, 29, 4, 96, 46, 42, 29, 5, 96, 46, 182, 0, 89, 159, 1, 214, 3, 172, 43]
abbrev dktL_law_24 : List UInt8 := dkwL_law_24 ++ dktL_law_25
def dkwL_law_23 : List UInt8 := [46, 42, 29, 5, 96, 46, 182, 0, 85, 159, 1, 247, 3, 172, 43, 42, 29, 4, 96, 46, 42, 29, 5, 96]
abbrev dktL_law_23 : List UInt8 := dkwL_law_23 ++ dktL_law_24
def dkwL_law_22 : List UInt8 := [159, 2, 24, 3, 172, 43, 42, 29, 4, 96, 46, 42, 29, 5, 96, 46, 182, 0, 82, 44, 42, 29, 4, 96]
abbrev dktL_law_22 : List UInt8 := dkwL_law_22 ++ dktL_law_23
def dkwL_law_21 : List UInt8 := [96, 46, 42, 29, 5, 96, 46, 182, 0, 78, 44, 42, 29, 4, 96, 46, 42, 29, 5, 96, 46, 182, 0, 81]
abbrev dktL_law_21 : List UInt8 := dkwL_law_21 ++ dktL_law_22
def dkwL_law_20 : List UInt8 := [4, 96, 46, 182, 0, 74, 44, 42, 29, 4, 96, 46, 182, 0, 77, 159, 2, 57, 3, 172, 43, 42, 29, 4]
abbrev dktL_law_20 : List UInt8 := dkwL_law_20 ++ dktL_law_21
def dkwL_law_19 : List UInt8 := [29, 4, 96, 46, 182, 0, 70, 44, 42, 29, 4, 96, 46, 182, 0, 73, 159, 2, 80, 3, 172, 43, 42, 29]
abbrev dktL_law_19 : List UInt8 := dkwL_law_19 ++ dktL_law_20
def dkwL_law_18 : List UInt8 := [42, 29, 4, 96, 46, 182, 0, 66, 44, 42, 29, 4, 96, 46, 182, 0, 69, 159, 2, 103, 3, 172, 43, 42]
abbrev dktL_law_18 : List UInt8 := dkwL_law_18 ++ dktL_law_19
def dkwL_law_17 : List UInt8 := [46, 182, 0, 62, 44, 42, 29, 4, 96, 46, 42, 29, 5, 96, 46, 182, 0, 65, 159, 2, 126, 3, 172, 43]
abbrev dktL_law_17 : List UInt8 := dkwL_law_17 ++ dktL_law_18
def dkwL_law_16 : List UInt8 := [172, 43, 182, 0, 58, 44, 182, 0, 61, 159, 2, 159, 3, 172, 43, 42, 29, 4, 96, 46, 42, 29, 5, 96]
abbrev dktL_law_16 : List UInt8 := dkwL_law_16 ++ dktL_law_17
def dkwL_law_15 : List UInt8 := [3, 172, 43, 42, 29, 4, 96, 46, 182, 0, 54, 44, 42, 29, 4, 96, 46, 182, 0, 57, 159, 2, 172, 3]
abbrev dktL_law_15 : List UInt8 := dkwL_law_15 ++ dktL_law_16
def dkwL_law_14 : List UInt8 := [29, 5, 96, 46, 182, 0, 50, 44, 42, 29, 4, 96, 46, 42, 29, 5, 96, 46, 182, 0, 53, 159, 2, 195]
abbrev dktL_law_14 : List UInt8 := dkwL_law_14 ++ dktL_law_15
def dkwL_law_13 : List UInt8 := [29, 4, 96, 46, 42, 29, 5, 96, 46, 182, 0, 49, 159, 2, 228, 3, 172, 43, 42, 29, 4, 96, 46, 42]
abbrev dktL_law_13 : List UInt8 := dkwL_law_13 ++ dktL_law_14
def dkwL_law_12 : List UInt8 := [182, 0, 44, 159, 3, 5, 3, 172, 43, 42, 29, 4, 96, 46, 42, 29, 5, 96, 46, 182, 0, 45, 44, 42]
abbrev dktL_law_12 : List UInt8 := dkwL_law_12 ++ dktL_law_13
def dkwL_law_11 : List UInt8 := [159, 3, 31, 3, 172, 43, 182, 0, 36, 44, 182, 0, 40, 159, 3, 18, 3, 172, 43, 182, 0, 41, 44]
abbrev dktL_law_11 : List UInt8 := dkwL_law_11 ++ dktL_law_12
def dkwL_law_10 : List UInt8 := [159, 3, 54, 3, 172, 43, 42, 29, 4, 96, 46, 182, 0, 32, 44, 42, 29, 4, 96, 46, 182, 0, 35]
abbrev dktL_law_10 : List UInt8 := dkwL_law_10 ++ dktL_law_11
def dkwL_law_9 : List UInt8 := [159, 3, 77, 3, 172, 43, 42, 29, 4, 96, 46, 182, 0, 27, 44, 42, 29, 4, 96, 46, 182, 0, 31]
abbrev dktL_law_9 : List UInt8 := dkwL_law_9 ++ dktL_law_10
def dkwL_law_8 : List UInt8 := [46, 42, 29, 5, 96, 46, 42, 29, 6, 96, 46, 42, 29, 7, 96, 46, 42, 29, 8, 96, 46, 182, 0, 26]
abbrev dktL_law_8 : List UInt8 := dkwL_law_8 ++ dktL_law_9
def dkwL_law_7 : List UInt8 := [46, 42, 29, 6, 96, 46, 42, 29, 7, 96, 46, 42, 29, 8, 96, 46, 182, 0, 22, 44, 42, 29, 4, 96]
abbrev dktL_law_7 : List UInt8 := dkwL_law_7 ++ dktL_law_8
def dkwL_law_6 : List UInt8 := [46, 42, 29, 6, 96, 46, 182, 0, 21, 159, 3, 140, 3, 172, 43, 42, 29, 4, 96, 46, 42, 29, 5, 96]
abbrev dktL_law_6 : List UInt8 := dkwL_law_6 ++ dktL_law_7
def dkwL_law_5 : List UInt8 := [46, 42, 29, 5, 96, 46, 42, 29, 6, 96, 46, 182, 0, 18, 44, 42, 29, 4, 96, 46, 42, 29, 5, 96]
abbrev dktL_law_5 : List UInt8 := dkwL_law_5 ++ dktL_law_6
def dkwL_law_4 : List UInt8 := [46, 42, 29, 5, 96, 46, 42, 29, 6, 96, 46, 182, 0, 17, 159, 3, 183, 3, 172, 43, 42, 29, 4, 96]
abbrev dktL_law_4 : List UInt8 := dkwL_law_4 ++ dktL_law_5
def dkwL_law_3 : List UInt8 := [43, 42, 29, 4, 96, 46, 42, 29, 5, 96, 46, 42, 29, 6, 96, 46, 182, 0, 13, 44, 42, 29, 4, 96]
abbrev dktL_law_3 : List UInt8 := dkwL_law_3 ++ dktL_law_4
def dkwL_law_2 : List UInt8 := [170, 0, 0, 0, 0, 4, 112, 0, 0, 0, 0, 0, 0, 0, 32, 0, 0, 0, 147, 0, 0, 0, 190, 0, 0, 0, 233, 0, 0, 1, 40, 0, 0, 1, 63, 0, 0, 1, 86, 0, 0, 1, 99, 0, 0, 1, 112, 0, 0, 1, 145, 0, 0, 1, 178, 0, 0, 1, 201, 0, 0, 1, 214, 0, 0, 1, 247, 0, 0, 2, 14, 0, 0, 2, 37, 0, 0, 2, 60, 0, 0, 2, 93, 0, 0, 2, 126, 0, 0, 2, 159, 0, 0, 2, 192, 0, 0, 2, 225, 0, 0, 3, 12, 0, 0, 3, 35, 0, 0, 3, 88, 0, 0, 3, 131, 0, 0, 3, 174, 0, 0, 3, 197, 0, 0, 3, 220, 0, 0, 3, 243, 0, 0, 4, 20, 0, 0, 4, 53, 0, 0, 4, 76, 0, 0, 4, 99]
abbrev dktL_law_2 : List UInt8 := dkwL_law_2 ++ dktL_law_3
def dkwL_law_1 : List UInt8 := [163, 4, 127, 42, 29, 46, 16, 63, 126]
abbrev dktL_law_1 : List UInt8 := dkwL_law_1 ++ dktL_law_2
def dkwL_law_0 : List UInt8 := [187, 0, 7, 89, 183, 0, 9, 76, 187, 0, 10, 89, 183, 0, 12, 77, 3, 62, 29, 42, 190, 16, 6, 100]
abbrev dktL_law_0 : List UInt8 := dkwL_law_0 ++ dktL_law_1
theorem dksL_law_0 : cL_law.data.toList.drop 0 = dktL_law_0 := by decide +kernel
theorem dksL_law_1 : cL_law.data.toList.drop 24 = dktL_law_1 := dk_seg dksL_law_0 24 rfl rfl
theorem dksL_law_2 : cL_law.data.toList.drop 33 = dktL_law_2 := dk_seg dksL_law_1 9 rfl rfl
theorem dksL_law_3 : cL_law.data.toList.drop 180 = dktL_law_3 := dk_seg dksL_law_2 147 rfl rfl
theorem dksL_law_4 : cL_law.data.toList.drop 204 = dktL_law_4 := dk_seg dksL_law_3 24 rfl rfl
theorem dksL_law_5 : cL_law.data.toList.drop 228 = dktL_law_5 := dk_seg dksL_law_4 24 rfl rfl
theorem dksL_law_6 : cL_law.data.toList.drop 252 = dktL_law_6 := dk_seg dksL_law_5 24 rfl rfl
theorem dksL_law_7 : cL_law.data.toList.drop 276 = dktL_law_7 := dk_seg dksL_law_6 24 rfl rfl
theorem dksL_law_8 : cL_law.data.toList.drop 300 = dktL_law_8 := dk_seg dksL_law_7 24 rfl rfl
theorem dksL_law_9 : cL_law.data.toList.drop 324 = dktL_law_9 := dk_seg dksL_law_8 24 rfl rfl
theorem dksL_law_10 : cL_law.data.toList.drop 347 = dktL_law_10 := dk_seg dksL_law_9 23 rfl rfl
theorem dksL_law_11 : cL_law.data.toList.drop 370 = dktL_law_11 := dk_seg dksL_law_10 23 rfl rfl
theorem dksL_law_12 : cL_law.data.toList.drop 393 = dktL_law_12 := dk_seg dksL_law_11 23 rfl rfl
theorem dksL_law_13 : cL_law.data.toList.drop 417 = dktL_law_13 := dk_seg dksL_law_12 24 rfl rfl
theorem dksL_law_14 : cL_law.data.toList.drop 441 = dktL_law_14 := dk_seg dksL_law_13 24 rfl rfl
theorem dksL_law_15 : cL_law.data.toList.drop 465 = dktL_law_15 := dk_seg dksL_law_14 24 rfl rfl
theorem dksL_law_16 : cL_law.data.toList.drop 489 = dktL_law_16 := dk_seg dksL_law_15 24 rfl rfl
theorem dksL_law_17 : cL_law.data.toList.drop 513 = dktL_law_17 := dk_seg dksL_law_16 24 rfl rfl
theorem dksL_law_18 : cL_law.data.toList.drop 537 = dktL_law_18 := dk_seg dksL_law_17 24 rfl rfl
theorem dksL_law_19 : cL_law.data.toList.drop 561 = dktL_law_19 := dk_seg dksL_law_18 24 rfl rfl
theorem dksL_law_20 : cL_law.data.toList.drop 585 = dktL_law_20 := dk_seg dksL_law_19 24 rfl rfl
theorem dksL_law_21 : cL_law.data.toList.drop 609 = dktL_law_21 := dk_seg dksL_law_20 24 rfl rfl
theorem dksL_law_22 : cL_law.data.toList.drop 633 = dktL_law_22 := dk_seg dksL_law_21 24 rfl rfl
theorem dksL_law_23 : cL_law.data.toList.drop 657 = dktL_law_23 := dk_seg dksL_law_22 24 rfl rfl
theorem dksL_law_24 : cL_law.data.toList.drop 681 = dktL_law_24 := dk_seg dksL_law_23 24 rfl rfl
theorem dksL_law_25 : cL_law.data.toList.drop 705 = dktL_law_25 := dk_seg dksL_law_24 24 rfl rfl
theorem dksL_law_26 : cL_law.data.toList.drop 729 = dktL_law_26 := dk_seg dksL_law_25 24 rfl rfl
theorem dksL_law_27 : cL_law.data.toList.drop 753 = dktL_law_27 := dk_seg dksL_law_26 24 rfl rfl
theorem dksL_law_28 : cL_law.data.toList.drop 777 = dktL_law_28 := dk_seg dksL_law_27 24 rfl rfl
theorem dksL_law_29 : cL_law.data.toList.drop 801 = dktL_law_29 := dk_seg dksL_law_28 24 rfl rfl
theorem dksL_law_30 : cL_law.data.toList.drop 825 = dktL_law_30 := dk_seg dksL_law_29 24 rfl rfl
theorem dksL_law_31 : cL_law.data.toList.drop 849 = dktL_law_31 := dk_seg dksL_law_30 24 rfl rfl
theorem dksL_law_32 : cL_law.data.toList.drop 873 = dktL_law_32 := dk_seg dksL_law_31 24 rfl rfl
theorem dksL_law_33 : cL_law.data.toList.drop 897 = dktL_law_33 := dk_seg dksL_law_32 24 rfl rfl
theorem dksL_law_34 : cL_law.data.toList.drop 921 = dktL_law_34 := dk_seg dksL_law_33 24 rfl rfl
theorem dksL_law_35 : cL_law.data.toList.drop 945 = dktL_law_35 := dk_seg dksL_law_34 24 rfl rfl
theorem dksL_law_36 : cL_law.data.toList.drop 967 = dktL_law_36 := dk_seg dksL_law_35 22 rfl rfl
theorem dksL_law_37 : cL_law.data.toList.drop 990 = dktL_law_37 := dk_seg dksL_law_36 23 rfl rfl
theorem dksL_law_38 : cL_law.data.toList.drop 1013 = dktL_law_38 := dk_seg dksL_law_37 23 rfl rfl
theorem dksL_law_39 : cL_law.data.toList.drop 1036 = dktL_law_39 := dk_seg dksL_law_38 23 rfl rfl
theorem dksL_law_40 : cL_law.data.toList.drop 1060 = dktL_law_40 := dk_seg dksL_law_39 24 rfl rfl
theorem dksL_law_41 : cL_law.data.toList.drop 1084 = dktL_law_41 := dk_seg dksL_law_40 24 rfl rfl
theorem dksL_law_42 : cL_law.data.toList.drop 1108 = dktL_law_42 := dk_seg dksL_law_41 24 rfl rfl
theorem dksL_law_43 : cL_law.data.toList.drop 1132 = dktL_law_43 := dk_seg dksL_law_42 24 rfl rfl
theorem dksL_law_44 : cL_law.data.toList.drop 1156 = dktL_law_44 := dk_seg dksL_law_43 24 rfl rfl
theorem dL_law_0 : decode cL_law 0 = .ok (.new 7, 3) := dk_187 0 7 (dk_at dksL_law_0 0 rfl rfl)
theorem dL_law_3 : decode cL_law 3 = .ok (.dup, 1) := dk_89 (dk_at dksL_law_0 3 rfl rfl)
theorem dL_law_4 : decode cL_law 4 = .ok (.invokespecial 9, 3) := dk_183 0 9 (dk_at dksL_law_0 4 rfl rfl)
theorem dL_law_7 : decode cL_law 7 = .ok (.astore_n 1, 1) := dk_76 (dk_at dksL_law_0 7 rfl rfl)
theorem dL_law_8 : decode cL_law 8 = .ok (.new 10, 3) := dk_187 0 10 (dk_at dksL_law_0 8 rfl rfl)
theorem dL_law_11 : decode cL_law 11 = .ok (.dup, 1) := dk_89 (dk_at dksL_law_0 11 rfl rfl)
theorem dL_law_12 : decode cL_law 12 = .ok (.invokespecial 12, 3) := dk_183 0 12 (dk_at dksL_law_0 12 rfl rfl)
theorem dL_law_15 : decode cL_law 15 = .ok (.astore_n 2, 1) := dk_77 (dk_at dksL_law_0 15 rfl rfl)
theorem dL_law_16 : decode cL_law 16 = .ok (.iconst 0, 1) := dk_3 (dk_at dksL_law_0 16 rfl rfl)
theorem dL_law_17 : decode cL_law 17 = .ok (.istore_n 3, 1) := dk_62 (dk_at dksL_law_0 17 rfl rfl)
theorem dL_law_18 : decode cL_law 18 = .ok (.iload_n 3, 1) := dk_29 (dk_at dksL_law_0 18 rfl rfl)
theorem dL_law_19 : decode cL_law 19 = .ok (.aload_n 0, 1) := dk_42 (dk_at dksL_law_0 19 rfl rfl)
theorem dL_law_20 : decode cL_law 20 = .ok (.arraylength, 1) := dk_190 (dk_at dksL_law_0 20 rfl rfl)
theorem dL_law_21 : decode cL_law 21 = .ok (.bipush 6, 2) := dk_16 6 (dk_at dksL_law_0 21 rfl rfl)
theorem dL_law_23 : decode cL_law 23 = .ok (.isub, 1) := dk_100 (dk_at dksL_law_0 23 rfl rfl)
theorem dL_law_24 : decode cL_law 24 = .ok (.if_icmp .gt 1151, 3) := dk_163 4 127 (dk_at dksL_law_1 0 rfl rfl)
theorem dL_law_27 : decode cL_law 27 = .ok (.aload_n 0, 1) := dk_42 (dk_at dksL_law_1 3 rfl rfl)
theorem dL_law_28 : decode cL_law 28 = .ok (.iload_n 3, 1) := dk_29 (dk_at dksL_law_1 4 rfl rfl)
theorem dL_law_29 : decode cL_law 29 = .ok (.iaload, 1) := dk_46 (dk_at dksL_law_1 5 rfl rfl)
theorem dL_law_30 : decode cL_law 30 = .ok (.bipush 63, 2) := dk_16 63 (dk_at dksL_law_1 6 rfl rfl)
theorem dL_law_32 : decode cL_law 32 = .ok (.iand, 1) := dk_126 (dk_at dksL_law_1 8 rfl rfl)
theorem dL_law_33 : decode cL_law 33 = .ok (.tableswitch 1136 0 32 #[147, 190, 233, 296, 319, 342, 355, 368, 401, 434, 457, 470, 503, 526, 549, 572, 605, 638, 671, 704, 737, 780, 803, 856, 899, 942, 965, 988, 1011, 1044, 1077, 1100, 1123], 147) := by decide +kernel
theorem dL_law_180 : decode cL_law 180 = .ok (.aload_n 1, 1) := dk_43 (dk_at dksL_law_3 0 rfl rfl)
theorem dL_law_181 : decode cL_law 181 = .ok (.aload_n 0, 1) := dk_42 (dk_at dksL_law_3 1 rfl rfl)
theorem dL_law_182 : decode cL_law 182 = .ok (.iload_n 3, 1) := dk_29 (dk_at dksL_law_3 2 rfl rfl)
theorem dL_law_183 : decode cL_law 183 = .ok (.iconst 1, 1) := dk_4 (dk_at dksL_law_3 3 rfl rfl)
theorem dL_law_184 : decode cL_law 184 = .ok (.iadd, 1) := dk_96 (dk_at dksL_law_3 4 rfl rfl)
theorem dL_law_185 : decode cL_law 185 = .ok (.iaload, 1) := dk_46 (dk_at dksL_law_3 5 rfl rfl)
theorem dL_law_186 : decode cL_law 186 = .ok (.aload_n 0, 1) := dk_42 (dk_at dksL_law_3 6 rfl rfl)
theorem dL_law_187 : decode cL_law 187 = .ok (.iload_n 3, 1) := dk_29 (dk_at dksL_law_3 7 rfl rfl)
theorem dL_law_188 : decode cL_law 188 = .ok (.iconst 2, 1) := dk_5 (dk_at dksL_law_3 8 rfl rfl)
theorem dL_law_189 : decode cL_law 189 = .ok (.iadd, 1) := dk_96 (dk_at dksL_law_3 9 rfl rfl)
theorem dL_law_190 : decode cL_law 190 = .ok (.iaload, 1) := dk_46 (dk_at dksL_law_3 10 rfl rfl)
theorem dL_law_191 : decode cL_law 191 = .ok (.aload_n 0, 1) := dk_42 (dk_at dksL_law_3 11 rfl rfl)
theorem dL_law_192 : decode cL_law 192 = .ok (.iload_n 3, 1) := dk_29 (dk_at dksL_law_3 12 rfl rfl)
theorem dL_law_193 : decode cL_law 193 = .ok (.iconst 3, 1) := dk_6 (dk_at dksL_law_3 13 rfl rfl)
theorem dL_law_194 : decode cL_law 194 = .ok (.iadd, 1) := dk_96 (dk_at dksL_law_3 14 rfl rfl)
theorem dL_law_195 : decode cL_law 195 = .ok (.iaload, 1) := dk_46 (dk_at dksL_law_3 15 rfl rfl)
theorem dL_law_196 : decode cL_law 196 = .ok (.invokevirtual 13, 3) := dk_182 0 13 (dk_at dksL_law_3 16 rfl rfl)
theorem dL_law_199 : decode cL_law 199 = .ok (.aload_n 2, 1) := dk_44 (dk_at dksL_law_3 19 rfl rfl)
theorem dL_law_200 : decode cL_law 200 = .ok (.aload_n 0, 1) := dk_42 (dk_at dksL_law_3 20 rfl rfl)
theorem dL_law_201 : decode cL_law 201 = .ok (.iload_n 3, 1) := dk_29 (dk_at dksL_law_3 21 rfl rfl)
theorem dL_law_202 : decode cL_law 202 = .ok (.iconst 1, 1) := dk_4 (dk_at dksL_law_3 22 rfl rfl)
theorem dL_law_203 : decode cL_law 203 = .ok (.iadd, 1) := dk_96 (dk_at dksL_law_3 23 rfl rfl)
theorem dL_law_204 : decode cL_law 204 = .ok (.iaload, 1) := dk_46 (dk_at dksL_law_4 0 rfl rfl)
theorem dL_law_205 : decode cL_law 205 = .ok (.aload_n 0, 1) := dk_42 (dk_at dksL_law_4 1 rfl rfl)
theorem dL_law_206 : decode cL_law 206 = .ok (.iload_n 3, 1) := dk_29 (dk_at dksL_law_4 2 rfl rfl)
theorem dL_law_207 : decode cL_law 207 = .ok (.iconst 2, 1) := dk_5 (dk_at dksL_law_4 3 rfl rfl)
theorem dL_law_208 : decode cL_law 208 = .ok (.iadd, 1) := dk_96 (dk_at dksL_law_4 4 rfl rfl)
theorem dL_law_209 : decode cL_law 209 = .ok (.iaload, 1) := dk_46 (dk_at dksL_law_4 5 rfl rfl)
theorem dL_law_210 : decode cL_law 210 = .ok (.aload_n 0, 1) := dk_42 (dk_at dksL_law_4 6 rfl rfl)
theorem dL_law_211 : decode cL_law 211 = .ok (.iload_n 3, 1) := dk_29 (dk_at dksL_law_4 7 rfl rfl)
theorem dL_law_212 : decode cL_law 212 = .ok (.iconst 3, 1) := dk_6 (dk_at dksL_law_4 8 rfl rfl)
theorem dL_law_213 : decode cL_law 213 = .ok (.iadd, 1) := dk_96 (dk_at dksL_law_4 9 rfl rfl)
theorem dL_law_214 : decode cL_law 214 = .ok (.iaload, 1) := dk_46 (dk_at dksL_law_4 10 rfl rfl)
theorem dL_law_215 : decode cL_law 215 = .ok (.invokevirtual 17, 3) := dk_182 0 17 (dk_at dksL_law_4 11 rfl rfl)
theorem dL_law_218 : decode cL_law 218 = .ok (.if_icmp .eq 951, 3) := dk_159 3 183 (dk_at dksL_law_4 14 rfl rfl)
theorem dL_law_221 : decode cL_law 221 = .ok (.iconst 0, 1) := dk_3 (dk_at dksL_law_4 17 rfl rfl)
theorem dL_law_222 : decode cL_law 222 = .ok (.ireturn, 1) := dk_172 (dk_at dksL_law_4 18 rfl rfl)
theorem dL_law_223 : decode cL_law 223 = .ok (.aload_n 1, 1) := dk_43 (dk_at dksL_law_4 19 rfl rfl)
theorem dL_law_224 : decode cL_law 224 = .ok (.aload_n 0, 1) := dk_42 (dk_at dksL_law_4 20 rfl rfl)
theorem dL_law_225 : decode cL_law 225 = .ok (.iload_n 3, 1) := dk_29 (dk_at dksL_law_4 21 rfl rfl)
theorem dL_law_226 : decode cL_law 226 = .ok (.iconst 1, 1) := dk_4 (dk_at dksL_law_4 22 rfl rfl)
theorem dL_law_227 : decode cL_law 227 = .ok (.iadd, 1) := dk_96 (dk_at dksL_law_4 23 rfl rfl)
theorem dL_law_228 : decode cL_law 228 = .ok (.iaload, 1) := dk_46 (dk_at dksL_law_5 0 rfl rfl)
theorem dL_law_229 : decode cL_law 229 = .ok (.aload_n 0, 1) := dk_42 (dk_at dksL_law_5 1 rfl rfl)
theorem dL_law_230 : decode cL_law 230 = .ok (.iload_n 3, 1) := dk_29 (dk_at dksL_law_5 2 rfl rfl)
theorem dL_law_231 : decode cL_law 231 = .ok (.iconst 2, 1) := dk_5 (dk_at dksL_law_5 3 rfl rfl)
theorem dL_law_232 : decode cL_law 232 = .ok (.iadd, 1) := dk_96 (dk_at dksL_law_5 4 rfl rfl)
theorem dL_law_233 : decode cL_law 233 = .ok (.iaload, 1) := dk_46 (dk_at dksL_law_5 5 rfl rfl)
theorem dL_law_234 : decode cL_law 234 = .ok (.aload_n 0, 1) := dk_42 (dk_at dksL_law_5 6 rfl rfl)
theorem dL_law_235 : decode cL_law 235 = .ok (.iload_n 3, 1) := dk_29 (dk_at dksL_law_5 7 rfl rfl)
theorem dL_law_236 : decode cL_law 236 = .ok (.iconst 3, 1) := dk_6 (dk_at dksL_law_5 8 rfl rfl)
theorem dL_law_237 : decode cL_law 237 = .ok (.iadd, 1) := dk_96 (dk_at dksL_law_5 9 rfl rfl)
theorem dL_law_238 : decode cL_law 238 = .ok (.iaload, 1) := dk_46 (dk_at dksL_law_5 10 rfl rfl)
theorem dL_law_239 : decode cL_law 239 = .ok (.invokevirtual 18, 3) := dk_182 0 18 (dk_at dksL_law_5 11 rfl rfl)
theorem dL_law_242 : decode cL_law 242 = .ok (.aload_n 2, 1) := dk_44 (dk_at dksL_law_5 14 rfl rfl)
theorem dL_law_243 : decode cL_law 243 = .ok (.aload_n 0, 1) := dk_42 (dk_at dksL_law_5 15 rfl rfl)
theorem dL_law_244 : decode cL_law 244 = .ok (.iload_n 3, 1) := dk_29 (dk_at dksL_law_5 16 rfl rfl)
theorem dL_law_245 : decode cL_law 245 = .ok (.iconst 1, 1) := dk_4 (dk_at dksL_law_5 17 rfl rfl)
theorem dL_law_246 : decode cL_law 246 = .ok (.iadd, 1) := dk_96 (dk_at dksL_law_5 18 rfl rfl)
theorem dL_law_247 : decode cL_law 247 = .ok (.iaload, 1) := dk_46 (dk_at dksL_law_5 19 rfl rfl)
theorem dL_law_248 : decode cL_law 248 = .ok (.aload_n 0, 1) := dk_42 (dk_at dksL_law_5 20 rfl rfl)
theorem dL_law_249 : decode cL_law 249 = .ok (.iload_n 3, 1) := dk_29 (dk_at dksL_law_5 21 rfl rfl)
theorem dL_law_250 : decode cL_law 250 = .ok (.iconst 2, 1) := dk_5 (dk_at dksL_law_5 22 rfl rfl)
theorem dL_law_251 : decode cL_law 251 = .ok (.iadd, 1) := dk_96 (dk_at dksL_law_5 23 rfl rfl)
theorem dL_law_252 : decode cL_law 252 = .ok (.iaload, 1) := dk_46 (dk_at dksL_law_6 0 rfl rfl)
theorem dL_law_253 : decode cL_law 253 = .ok (.aload_n 0, 1) := dk_42 (dk_at dksL_law_6 1 rfl rfl)
theorem dL_law_254 : decode cL_law 254 = .ok (.iload_n 3, 1) := dk_29 (dk_at dksL_law_6 2 rfl rfl)
theorem dL_law_255 : decode cL_law 255 = .ok (.iconst 3, 1) := dk_6 (dk_at dksL_law_6 3 rfl rfl)
theorem dL_law_256 : decode cL_law 256 = .ok (.iadd, 1) := dk_96 (dk_at dksL_law_6 4 rfl rfl)
theorem dL_law_257 : decode cL_law 257 = .ok (.iaload, 1) := dk_46 (dk_at dksL_law_6 5 rfl rfl)
theorem dL_law_258 : decode cL_law 258 = .ok (.invokevirtual 21, 3) := dk_182 0 21 (dk_at dksL_law_6 6 rfl rfl)
theorem dL_law_261 : decode cL_law 261 = .ok (.if_icmp .eq 908, 3) := dk_159 3 140 (dk_at dksL_law_6 9 rfl rfl)
theorem dL_law_264 : decode cL_law 264 = .ok (.iconst 0, 1) := dk_3 (dk_at dksL_law_6 12 rfl rfl)
theorem dL_law_265 : decode cL_law 265 = .ok (.ireturn, 1) := dk_172 (dk_at dksL_law_6 13 rfl rfl)
theorem dL_law_266 : decode cL_law 266 = .ok (.aload_n 1, 1) := dk_43 (dk_at dksL_law_6 14 rfl rfl)
theorem dL_law_267 : decode cL_law 267 = .ok (.aload_n 0, 1) := dk_42 (dk_at dksL_law_6 15 rfl rfl)
theorem dL_law_268 : decode cL_law 268 = .ok (.iload_n 3, 1) := dk_29 (dk_at dksL_law_6 16 rfl rfl)
theorem dL_law_269 : decode cL_law 269 = .ok (.iconst 1, 1) := dk_4 (dk_at dksL_law_6 17 rfl rfl)
theorem dL_law_270 : decode cL_law 270 = .ok (.iadd, 1) := dk_96 (dk_at dksL_law_6 18 rfl rfl)
theorem dL_law_271 : decode cL_law 271 = .ok (.iaload, 1) := dk_46 (dk_at dksL_law_6 19 rfl rfl)
theorem dL_law_272 : decode cL_law 272 = .ok (.aload_n 0, 1) := dk_42 (dk_at dksL_law_6 20 rfl rfl)
theorem dL_law_273 : decode cL_law 273 = .ok (.iload_n 3, 1) := dk_29 (dk_at dksL_law_6 21 rfl rfl)
theorem dL_law_274 : decode cL_law 274 = .ok (.iconst 2, 1) := dk_5 (dk_at dksL_law_6 22 rfl rfl)
theorem dL_law_275 : decode cL_law 275 = .ok (.iadd, 1) := dk_96 (dk_at dksL_law_6 23 rfl rfl)
theorem dL_law_276 : decode cL_law 276 = .ok (.iaload, 1) := dk_46 (dk_at dksL_law_7 0 rfl rfl)
theorem dL_law_277 : decode cL_law 277 = .ok (.aload_n 0, 1) := dk_42 (dk_at dksL_law_7 1 rfl rfl)
theorem dL_law_278 : decode cL_law 278 = .ok (.iload_n 3, 1) := dk_29 (dk_at dksL_law_7 2 rfl rfl)
theorem dL_law_279 : decode cL_law 279 = .ok (.iconst 3, 1) := dk_6 (dk_at dksL_law_7 3 rfl rfl)
theorem dL_law_280 : decode cL_law 280 = .ok (.iadd, 1) := dk_96 (dk_at dksL_law_7 4 rfl rfl)
theorem dL_law_281 : decode cL_law 281 = .ok (.iaload, 1) := dk_46 (dk_at dksL_law_7 5 rfl rfl)
theorem dL_law_282 : decode cL_law 282 = .ok (.aload_n 0, 1) := dk_42 (dk_at dksL_law_7 6 rfl rfl)
theorem dL_law_283 : decode cL_law 283 = .ok (.iload_n 3, 1) := dk_29 (dk_at dksL_law_7 7 rfl rfl)
theorem dL_law_284 : decode cL_law 284 = .ok (.iconst 4, 1) := dk_7 (dk_at dksL_law_7 8 rfl rfl)
theorem dL_law_285 : decode cL_law 285 = .ok (.iadd, 1) := dk_96 (dk_at dksL_law_7 9 rfl rfl)
theorem dL_law_286 : decode cL_law 286 = .ok (.iaload, 1) := dk_46 (dk_at dksL_law_7 10 rfl rfl)
theorem dL_law_287 : decode cL_law 287 = .ok (.aload_n 0, 1) := dk_42 (dk_at dksL_law_7 11 rfl rfl)
theorem dL_law_288 : decode cL_law 288 = .ok (.iload_n 3, 1) := dk_29 (dk_at dksL_law_7 12 rfl rfl)
theorem dL_law_289 : decode cL_law 289 = .ok (.iconst 5, 1) := dk_8 (dk_at dksL_law_7 13 rfl rfl)
theorem dL_law_290 : decode cL_law 290 = .ok (.iadd, 1) := dk_96 (dk_at dksL_law_7 14 rfl rfl)
theorem dL_law_291 : decode cL_law 291 = .ok (.iaload, 1) := dk_46 (dk_at dksL_law_7 15 rfl rfl)
theorem dL_law_292 : decode cL_law 292 = .ok (.invokevirtual 22, 3) := dk_182 0 22 (dk_at dksL_law_7 16 rfl rfl)
theorem dL_law_295 : decode cL_law 295 = .ok (.aload_n 2, 1) := dk_44 (dk_at dksL_law_7 19 rfl rfl)
theorem dL_law_296 : decode cL_law 296 = .ok (.aload_n 0, 1) := dk_42 (dk_at dksL_law_7 20 rfl rfl)
theorem dL_law_297 : decode cL_law 297 = .ok (.iload_n 3, 1) := dk_29 (dk_at dksL_law_7 21 rfl rfl)
theorem dL_law_298 : decode cL_law 298 = .ok (.iconst 1, 1) := dk_4 (dk_at dksL_law_7 22 rfl rfl)
theorem dL_law_299 : decode cL_law 299 = .ok (.iadd, 1) := dk_96 (dk_at dksL_law_7 23 rfl rfl)
theorem dL_law_300 : decode cL_law 300 = .ok (.iaload, 1) := dk_46 (dk_at dksL_law_8 0 rfl rfl)
theorem dL_law_301 : decode cL_law 301 = .ok (.aload_n 0, 1) := dk_42 (dk_at dksL_law_8 1 rfl rfl)
theorem dL_law_302 : decode cL_law 302 = .ok (.iload_n 3, 1) := dk_29 (dk_at dksL_law_8 2 rfl rfl)
theorem dL_law_303 : decode cL_law 303 = .ok (.iconst 2, 1) := dk_5 (dk_at dksL_law_8 3 rfl rfl)
theorem dL_law_304 : decode cL_law 304 = .ok (.iadd, 1) := dk_96 (dk_at dksL_law_8 4 rfl rfl)
theorem dL_law_305 : decode cL_law 305 = .ok (.iaload, 1) := dk_46 (dk_at dksL_law_8 5 rfl rfl)
theorem dL_law_306 : decode cL_law 306 = .ok (.aload_n 0, 1) := dk_42 (dk_at dksL_law_8 6 rfl rfl)
theorem dL_law_307 : decode cL_law 307 = .ok (.iload_n 3, 1) := dk_29 (dk_at dksL_law_8 7 rfl rfl)
theorem dL_law_308 : decode cL_law 308 = .ok (.iconst 3, 1) := dk_6 (dk_at dksL_law_8 8 rfl rfl)
theorem dL_law_309 : decode cL_law 309 = .ok (.iadd, 1) := dk_96 (dk_at dksL_law_8 9 rfl rfl)
theorem dL_law_310 : decode cL_law 310 = .ok (.iaload, 1) := dk_46 (dk_at dksL_law_8 10 rfl rfl)
theorem dL_law_311 : decode cL_law 311 = .ok (.aload_n 0, 1) := dk_42 (dk_at dksL_law_8 11 rfl rfl)
theorem dL_law_312 : decode cL_law 312 = .ok (.iload_n 3, 1) := dk_29 (dk_at dksL_law_8 12 rfl rfl)
theorem dL_law_313 : decode cL_law 313 = .ok (.iconst 4, 1) := dk_7 (dk_at dksL_law_8 13 rfl rfl)
theorem dL_law_314 : decode cL_law 314 = .ok (.iadd, 1) := dk_96 (dk_at dksL_law_8 14 rfl rfl)
theorem dL_law_315 : decode cL_law 315 = .ok (.iaload, 1) := dk_46 (dk_at dksL_law_8 15 rfl rfl)
theorem dL_law_316 : decode cL_law 316 = .ok (.aload_n 0, 1) := dk_42 (dk_at dksL_law_8 16 rfl rfl)
theorem dL_law_317 : decode cL_law 317 = .ok (.iload_n 3, 1) := dk_29 (dk_at dksL_law_8 17 rfl rfl)
theorem dL_law_318 : decode cL_law 318 = .ok (.iconst 5, 1) := dk_8 (dk_at dksL_law_8 18 rfl rfl)
theorem dL_law_319 : decode cL_law 319 = .ok (.iadd, 1) := dk_96 (dk_at dksL_law_8 19 rfl rfl)
theorem dL_law_320 : decode cL_law 320 = .ok (.iaload, 1) := dk_46 (dk_at dksL_law_8 20 rfl rfl)
theorem dL_law_321 : decode cL_law 321 = .ok (.invokevirtual 26, 3) := dk_182 0 26 (dk_at dksL_law_8 21 rfl rfl)
theorem dL_law_324 : decode cL_law 324 = .ok (.if_icmp .eq 845, 3) := dk_159 3 77 (dk_at dksL_law_9 0 rfl rfl)
theorem dL_law_327 : decode cL_law 327 = .ok (.iconst 0, 1) := dk_3 (dk_at dksL_law_9 3 rfl rfl)
theorem dL_law_328 : decode cL_law 328 = .ok (.ireturn, 1) := dk_172 (dk_at dksL_law_9 4 rfl rfl)
theorem dL_law_329 : decode cL_law 329 = .ok (.aload_n 1, 1) := dk_43 (dk_at dksL_law_9 5 rfl rfl)
theorem dL_law_330 : decode cL_law 330 = .ok (.aload_n 0, 1) := dk_42 (dk_at dksL_law_9 6 rfl rfl)
theorem dL_law_331 : decode cL_law 331 = .ok (.iload_n 3, 1) := dk_29 (dk_at dksL_law_9 7 rfl rfl)
theorem dL_law_332 : decode cL_law 332 = .ok (.iconst 1, 1) := dk_4 (dk_at dksL_law_9 8 rfl rfl)
theorem dL_law_333 : decode cL_law 333 = .ok (.iadd, 1) := dk_96 (dk_at dksL_law_9 9 rfl rfl)
theorem dL_law_334 : decode cL_law 334 = .ok (.iaload, 1) := dk_46 (dk_at dksL_law_9 10 rfl rfl)
theorem dL_law_335 : decode cL_law 335 = .ok (.invokevirtual 27, 3) := dk_182 0 27 (dk_at dksL_law_9 11 rfl rfl)
theorem dL_law_338 : decode cL_law 338 = .ok (.aload_n 2, 1) := dk_44 (dk_at dksL_law_9 14 rfl rfl)
theorem dL_law_339 : decode cL_law 339 = .ok (.aload_n 0, 1) := dk_42 (dk_at dksL_law_9 15 rfl rfl)
theorem dL_law_340 : decode cL_law 340 = .ok (.iload_n 3, 1) := dk_29 (dk_at dksL_law_9 16 rfl rfl)
theorem dL_law_341 : decode cL_law 341 = .ok (.iconst 1, 1) := dk_4 (dk_at dksL_law_9 17 rfl rfl)
theorem dL_law_342 : decode cL_law 342 = .ok (.iadd, 1) := dk_96 (dk_at dksL_law_9 18 rfl rfl)
theorem dL_law_343 : decode cL_law 343 = .ok (.iaload, 1) := dk_46 (dk_at dksL_law_9 19 rfl rfl)
theorem dL_law_344 : decode cL_law 344 = .ok (.invokevirtual 31, 3) := dk_182 0 31 (dk_at dksL_law_9 20 rfl rfl)
theorem dL_law_347 : decode cL_law 347 = .ok (.if_icmp .eq 822, 3) := dk_159 3 54 (dk_at dksL_law_10 0 rfl rfl)
theorem dL_law_350 : decode cL_law 350 = .ok (.iconst 0, 1) := dk_3 (dk_at dksL_law_10 3 rfl rfl)
theorem dL_law_351 : decode cL_law 351 = .ok (.ireturn, 1) := dk_172 (dk_at dksL_law_10 4 rfl rfl)
theorem dL_law_352 : decode cL_law 352 = .ok (.aload_n 1, 1) := dk_43 (dk_at dksL_law_10 5 rfl rfl)
theorem dL_law_353 : decode cL_law 353 = .ok (.aload_n 0, 1) := dk_42 (dk_at dksL_law_10 6 rfl rfl)
theorem dL_law_354 : decode cL_law 354 = .ok (.iload_n 3, 1) := dk_29 (dk_at dksL_law_10 7 rfl rfl)
theorem dL_law_355 : decode cL_law 355 = .ok (.iconst 1, 1) := dk_4 (dk_at dksL_law_10 8 rfl rfl)
theorem dL_law_356 : decode cL_law 356 = .ok (.iadd, 1) := dk_96 (dk_at dksL_law_10 9 rfl rfl)
theorem dL_law_357 : decode cL_law 357 = .ok (.iaload, 1) := dk_46 (dk_at dksL_law_10 10 rfl rfl)
theorem dL_law_358 : decode cL_law 358 = .ok (.invokevirtual 32, 3) := dk_182 0 32 (dk_at dksL_law_10 11 rfl rfl)
theorem dL_law_361 : decode cL_law 361 = .ok (.aload_n 2, 1) := dk_44 (dk_at dksL_law_10 14 rfl rfl)
theorem dL_law_362 : decode cL_law 362 = .ok (.aload_n 0, 1) := dk_42 (dk_at dksL_law_10 15 rfl rfl)
theorem dL_law_363 : decode cL_law 363 = .ok (.iload_n 3, 1) := dk_29 (dk_at dksL_law_10 16 rfl rfl)
theorem dL_law_364 : decode cL_law 364 = .ok (.iconst 1, 1) := dk_4 (dk_at dksL_law_10 17 rfl rfl)
theorem dL_law_365 : decode cL_law 365 = .ok (.iadd, 1) := dk_96 (dk_at dksL_law_10 18 rfl rfl)
theorem dL_law_366 : decode cL_law 366 = .ok (.iaload, 1) := dk_46 (dk_at dksL_law_10 19 rfl rfl)
theorem dL_law_367 : decode cL_law 367 = .ok (.invokevirtual 35, 3) := dk_182 0 35 (dk_at dksL_law_10 20 rfl rfl)
theorem dL_law_370 : decode cL_law 370 = .ok (.if_icmp .eq 799, 3) := dk_159 3 31 (dk_at dksL_law_11 0 rfl rfl)
theorem dL_law_373 : decode cL_law 373 = .ok (.iconst 0, 1) := dk_3 (dk_at dksL_law_11 3 rfl rfl)
theorem dL_law_374 : decode cL_law 374 = .ok (.ireturn, 1) := dk_172 (dk_at dksL_law_11 4 rfl rfl)
theorem dL_law_375 : decode cL_law 375 = .ok (.aload_n 1, 1) := dk_43 (dk_at dksL_law_11 5 rfl rfl)
theorem dL_law_376 : decode cL_law 376 = .ok (.invokevirtual 36, 3) := dk_182 0 36 (dk_at dksL_law_11 6 rfl rfl)
theorem dL_law_379 : decode cL_law 379 = .ok (.aload_n 2, 1) := dk_44 (dk_at dksL_law_11 9 rfl rfl)
theorem dL_law_380 : decode cL_law 380 = .ok (.invokevirtual 40, 3) := dk_182 0 40 (dk_at dksL_law_11 10 rfl rfl)
theorem dL_law_383 : decode cL_law 383 = .ok (.if_icmp .eq 786, 3) := dk_159 3 18 (dk_at dksL_law_11 13 rfl rfl)
theorem dL_law_386 : decode cL_law 386 = .ok (.iconst 0, 1) := dk_3 (dk_at dksL_law_11 16 rfl rfl)
theorem dL_law_387 : decode cL_law 387 = .ok (.ireturn, 1) := dk_172 (dk_at dksL_law_11 17 rfl rfl)
theorem dL_law_388 : decode cL_law 388 = .ok (.aload_n 1, 1) := dk_43 (dk_at dksL_law_11 18 rfl rfl)
theorem dL_law_389 : decode cL_law 389 = .ok (.invokevirtual 41, 3) := dk_182 0 41 (dk_at dksL_law_11 19 rfl rfl)
theorem dL_law_392 : decode cL_law 392 = .ok (.aload_n 2, 1) := dk_44 (dk_at dksL_law_11 22 rfl rfl)
theorem dL_law_393 : decode cL_law 393 = .ok (.invokevirtual 44, 3) := dk_182 0 44 (dk_at dksL_law_12 0 rfl rfl)
theorem dL_law_396 : decode cL_law 396 = .ok (.if_icmp .eq 773, 3) := dk_159 3 5 (dk_at dksL_law_12 3 rfl rfl)
theorem dL_law_399 : decode cL_law 399 = .ok (.iconst 0, 1) := dk_3 (dk_at dksL_law_12 6 rfl rfl)
theorem dL_law_400 : decode cL_law 400 = .ok (.ireturn, 1) := dk_172 (dk_at dksL_law_12 7 rfl rfl)
theorem dL_law_401 : decode cL_law 401 = .ok (.aload_n 1, 1) := dk_43 (dk_at dksL_law_12 8 rfl rfl)
theorem dL_law_402 : decode cL_law 402 = .ok (.aload_n 0, 1) := dk_42 (dk_at dksL_law_12 9 rfl rfl)
theorem dL_law_403 : decode cL_law 403 = .ok (.iload_n 3, 1) := dk_29 (dk_at dksL_law_12 10 rfl rfl)
theorem dL_law_404 : decode cL_law 404 = .ok (.iconst 1, 1) := dk_4 (dk_at dksL_law_12 11 rfl rfl)
theorem dL_law_405 : decode cL_law 405 = .ok (.iadd, 1) := dk_96 (dk_at dksL_law_12 12 rfl rfl)
theorem dL_law_406 : decode cL_law 406 = .ok (.iaload, 1) := dk_46 (dk_at dksL_law_12 13 rfl rfl)
theorem dL_law_407 : decode cL_law 407 = .ok (.aload_n 0, 1) := dk_42 (dk_at dksL_law_12 14 rfl rfl)
theorem dL_law_408 : decode cL_law 408 = .ok (.iload_n 3, 1) := dk_29 (dk_at dksL_law_12 15 rfl rfl)
theorem dL_law_409 : decode cL_law 409 = .ok (.iconst 2, 1) := dk_5 (dk_at dksL_law_12 16 rfl rfl)
theorem dL_law_410 : decode cL_law 410 = .ok (.iadd, 1) := dk_96 (dk_at dksL_law_12 17 rfl rfl)
theorem dL_law_411 : decode cL_law 411 = .ok (.iaload, 1) := dk_46 (dk_at dksL_law_12 18 rfl rfl)
theorem dL_law_412 : decode cL_law 412 = .ok (.invokevirtual 45, 3) := dk_182 0 45 (dk_at dksL_law_12 19 rfl rfl)
theorem dL_law_415 : decode cL_law 415 = .ok (.aload_n 2, 1) := dk_44 (dk_at dksL_law_12 22 rfl rfl)
theorem dL_law_416 : decode cL_law 416 = .ok (.aload_n 0, 1) := dk_42 (dk_at dksL_law_12 23 rfl rfl)
theorem dL_law_417 : decode cL_law 417 = .ok (.iload_n 3, 1) := dk_29 (dk_at dksL_law_13 0 rfl rfl)
theorem dL_law_418 : decode cL_law 418 = .ok (.iconst 1, 1) := dk_4 (dk_at dksL_law_13 1 rfl rfl)
theorem dL_law_419 : decode cL_law 419 = .ok (.iadd, 1) := dk_96 (dk_at dksL_law_13 2 rfl rfl)
theorem dL_law_420 : decode cL_law 420 = .ok (.iaload, 1) := dk_46 (dk_at dksL_law_13 3 rfl rfl)
theorem dL_law_421 : decode cL_law 421 = .ok (.aload_n 0, 1) := dk_42 (dk_at dksL_law_13 4 rfl rfl)
theorem dL_law_422 : decode cL_law 422 = .ok (.iload_n 3, 1) := dk_29 (dk_at dksL_law_13 5 rfl rfl)
theorem dL_law_423 : decode cL_law 423 = .ok (.iconst 2, 1) := dk_5 (dk_at dksL_law_13 6 rfl rfl)
theorem dL_law_424 : decode cL_law 424 = .ok (.iadd, 1) := dk_96 (dk_at dksL_law_13 7 rfl rfl)
theorem dL_law_425 : decode cL_law 425 = .ok (.iaload, 1) := dk_46 (dk_at dksL_law_13 8 rfl rfl)
theorem dL_law_426 : decode cL_law 426 = .ok (.invokevirtual 49, 3) := dk_182 0 49 (dk_at dksL_law_13 9 rfl rfl)
theorem dL_law_429 : decode cL_law 429 = .ok (.if_icmp .eq 740, 3) := dk_159 2 228 (dk_at dksL_law_13 12 rfl rfl)
theorem dL_law_432 : decode cL_law 432 = .ok (.iconst 0, 1) := dk_3 (dk_at dksL_law_13 15 rfl rfl)
theorem dL_law_433 : decode cL_law 433 = .ok (.ireturn, 1) := dk_172 (dk_at dksL_law_13 16 rfl rfl)
theorem dL_law_434 : decode cL_law 434 = .ok (.aload_n 1, 1) := dk_43 (dk_at dksL_law_13 17 rfl rfl)
theorem dL_law_435 : decode cL_law 435 = .ok (.aload_n 0, 1) := dk_42 (dk_at dksL_law_13 18 rfl rfl)
theorem dL_law_436 : decode cL_law 436 = .ok (.iload_n 3, 1) := dk_29 (dk_at dksL_law_13 19 rfl rfl)
theorem dL_law_437 : decode cL_law 437 = .ok (.iconst 1, 1) := dk_4 (dk_at dksL_law_13 20 rfl rfl)
theorem dL_law_438 : decode cL_law 438 = .ok (.iadd, 1) := dk_96 (dk_at dksL_law_13 21 rfl rfl)
theorem dL_law_439 : decode cL_law 439 = .ok (.iaload, 1) := dk_46 (dk_at dksL_law_13 22 rfl rfl)
theorem dL_law_440 : decode cL_law 440 = .ok (.aload_n 0, 1) := dk_42 (dk_at dksL_law_13 23 rfl rfl)
theorem dL_law_441 : decode cL_law 441 = .ok (.iload_n 3, 1) := dk_29 (dk_at dksL_law_14 0 rfl rfl)
theorem dL_law_442 : decode cL_law 442 = .ok (.iconst 2, 1) := dk_5 (dk_at dksL_law_14 1 rfl rfl)
theorem dL_law_443 : decode cL_law 443 = .ok (.iadd, 1) := dk_96 (dk_at dksL_law_14 2 rfl rfl)
theorem dL_law_444 : decode cL_law 444 = .ok (.iaload, 1) := dk_46 (dk_at dksL_law_14 3 rfl rfl)
theorem dL_law_445 : decode cL_law 445 = .ok (.invokevirtual 50, 3) := dk_182 0 50 (dk_at dksL_law_14 4 rfl rfl)
theorem dL_law_448 : decode cL_law 448 = .ok (.aload_n 2, 1) := dk_44 (dk_at dksL_law_14 7 rfl rfl)
theorem dL_law_449 : decode cL_law 449 = .ok (.aload_n 0, 1) := dk_42 (dk_at dksL_law_14 8 rfl rfl)
theorem dL_law_450 : decode cL_law 450 = .ok (.iload_n 3, 1) := dk_29 (dk_at dksL_law_14 9 rfl rfl)
theorem dL_law_451 : decode cL_law 451 = .ok (.iconst 1, 1) := dk_4 (dk_at dksL_law_14 10 rfl rfl)
theorem dL_law_452 : decode cL_law 452 = .ok (.iadd, 1) := dk_96 (dk_at dksL_law_14 11 rfl rfl)
theorem dL_law_453 : decode cL_law 453 = .ok (.iaload, 1) := dk_46 (dk_at dksL_law_14 12 rfl rfl)
theorem dL_law_454 : decode cL_law 454 = .ok (.aload_n 0, 1) := dk_42 (dk_at dksL_law_14 13 rfl rfl)
theorem dL_law_455 : decode cL_law 455 = .ok (.iload_n 3, 1) := dk_29 (dk_at dksL_law_14 14 rfl rfl)
theorem dL_law_456 : decode cL_law 456 = .ok (.iconst 2, 1) := dk_5 (dk_at dksL_law_14 15 rfl rfl)
theorem dL_law_457 : decode cL_law 457 = .ok (.iadd, 1) := dk_96 (dk_at dksL_law_14 16 rfl rfl)
theorem dL_law_458 : decode cL_law 458 = .ok (.iaload, 1) := dk_46 (dk_at dksL_law_14 17 rfl rfl)
theorem dL_law_459 : decode cL_law 459 = .ok (.invokevirtual 53, 3) := dk_182 0 53 (dk_at dksL_law_14 18 rfl rfl)
theorem dL_law_462 : decode cL_law 462 = .ok (.if_icmp .eq 707, 3) := dk_159 2 195 (dk_at dksL_law_14 21 rfl rfl)
theorem dL_law_465 : decode cL_law 465 = .ok (.iconst 0, 1) := dk_3 (dk_at dksL_law_15 0 rfl rfl)
theorem dL_law_466 : decode cL_law 466 = .ok (.ireturn, 1) := dk_172 (dk_at dksL_law_15 1 rfl rfl)
theorem dL_law_467 : decode cL_law 467 = .ok (.aload_n 1, 1) := dk_43 (dk_at dksL_law_15 2 rfl rfl)
theorem dL_law_468 : decode cL_law 468 = .ok (.aload_n 0, 1) := dk_42 (dk_at dksL_law_15 3 rfl rfl)
theorem dL_law_469 : decode cL_law 469 = .ok (.iload_n 3, 1) := dk_29 (dk_at dksL_law_15 4 rfl rfl)
theorem dL_law_470 : decode cL_law 470 = .ok (.iconst 1, 1) := dk_4 (dk_at dksL_law_15 5 rfl rfl)
theorem dL_law_471 : decode cL_law 471 = .ok (.iadd, 1) := dk_96 (dk_at dksL_law_15 6 rfl rfl)
theorem dL_law_472 : decode cL_law 472 = .ok (.iaload, 1) := dk_46 (dk_at dksL_law_15 7 rfl rfl)
theorem dL_law_473 : decode cL_law 473 = .ok (.invokevirtual 54, 3) := dk_182 0 54 (dk_at dksL_law_15 8 rfl rfl)
theorem dL_law_476 : decode cL_law 476 = .ok (.aload_n 2, 1) := dk_44 (dk_at dksL_law_15 11 rfl rfl)
theorem dL_law_477 : decode cL_law 477 = .ok (.aload_n 0, 1) := dk_42 (dk_at dksL_law_15 12 rfl rfl)
theorem dL_law_478 : decode cL_law 478 = .ok (.iload_n 3, 1) := dk_29 (dk_at dksL_law_15 13 rfl rfl)
theorem dL_law_479 : decode cL_law 479 = .ok (.iconst 1, 1) := dk_4 (dk_at dksL_law_15 14 rfl rfl)
theorem dL_law_480 : decode cL_law 480 = .ok (.iadd, 1) := dk_96 (dk_at dksL_law_15 15 rfl rfl)
theorem dL_law_481 : decode cL_law 481 = .ok (.iaload, 1) := dk_46 (dk_at dksL_law_15 16 rfl rfl)
theorem dL_law_482 : decode cL_law 482 = .ok (.invokevirtual 57, 3) := dk_182 0 57 (dk_at dksL_law_15 17 rfl rfl)
theorem dL_law_485 : decode cL_law 485 = .ok (.if_icmp .eq 684, 3) := dk_159 2 172 (dk_at dksL_law_15 20 rfl rfl)
theorem dL_law_488 : decode cL_law 488 = .ok (.iconst 0, 1) := dk_3 (dk_at dksL_law_15 23 rfl rfl)
theorem dL_law_489 : decode cL_law 489 = .ok (.ireturn, 1) := dk_172 (dk_at dksL_law_16 0 rfl rfl)
theorem dL_law_490 : decode cL_law 490 = .ok (.aload_n 1, 1) := dk_43 (dk_at dksL_law_16 1 rfl rfl)
theorem dL_law_491 : decode cL_law 491 = .ok (.invokevirtual 58, 3) := dk_182 0 58 (dk_at dksL_law_16 2 rfl rfl)
theorem dL_law_494 : decode cL_law 494 = .ok (.aload_n 2, 1) := dk_44 (dk_at dksL_law_16 5 rfl rfl)
theorem dL_law_495 : decode cL_law 495 = .ok (.invokevirtual 61, 3) := dk_182 0 61 (dk_at dksL_law_16 6 rfl rfl)
theorem dL_law_498 : decode cL_law 498 = .ok (.if_icmp .eq 671, 3) := dk_159 2 159 (dk_at dksL_law_16 9 rfl rfl)
theorem dL_law_501 : decode cL_law 501 = .ok (.iconst 0, 1) := dk_3 (dk_at dksL_law_16 12 rfl rfl)
theorem dL_law_502 : decode cL_law 502 = .ok (.ireturn, 1) := dk_172 (dk_at dksL_law_16 13 rfl rfl)
theorem dL_law_503 : decode cL_law 503 = .ok (.aload_n 1, 1) := dk_43 (dk_at dksL_law_16 14 rfl rfl)
theorem dL_law_504 : decode cL_law 504 = .ok (.aload_n 0, 1) := dk_42 (dk_at dksL_law_16 15 rfl rfl)
theorem dL_law_505 : decode cL_law 505 = .ok (.iload_n 3, 1) := dk_29 (dk_at dksL_law_16 16 rfl rfl)
theorem dL_law_506 : decode cL_law 506 = .ok (.iconst 1, 1) := dk_4 (dk_at dksL_law_16 17 rfl rfl)
theorem dL_law_507 : decode cL_law 507 = .ok (.iadd, 1) := dk_96 (dk_at dksL_law_16 18 rfl rfl)
theorem dL_law_508 : decode cL_law 508 = .ok (.iaload, 1) := dk_46 (dk_at dksL_law_16 19 rfl rfl)
theorem dL_law_509 : decode cL_law 509 = .ok (.aload_n 0, 1) := dk_42 (dk_at dksL_law_16 20 rfl rfl)
theorem dL_law_510 : decode cL_law 510 = .ok (.iload_n 3, 1) := dk_29 (dk_at dksL_law_16 21 rfl rfl)
theorem dL_law_511 : decode cL_law 511 = .ok (.iconst 2, 1) := dk_5 (dk_at dksL_law_16 22 rfl rfl)
theorem dL_law_512 : decode cL_law 512 = .ok (.iadd, 1) := dk_96 (dk_at dksL_law_16 23 rfl rfl)
theorem dL_law_513 : decode cL_law 513 = .ok (.iaload, 1) := dk_46 (dk_at dksL_law_17 0 rfl rfl)
theorem dL_law_514 : decode cL_law 514 = .ok (.invokevirtual 62, 3) := dk_182 0 62 (dk_at dksL_law_17 1 rfl rfl)
theorem dL_law_517 : decode cL_law 517 = .ok (.aload_n 2, 1) := dk_44 (dk_at dksL_law_17 4 rfl rfl)
theorem dL_law_518 : decode cL_law 518 = .ok (.aload_n 0, 1) := dk_42 (dk_at dksL_law_17 5 rfl rfl)
theorem dL_law_519 : decode cL_law 519 = .ok (.iload_n 3, 1) := dk_29 (dk_at dksL_law_17 6 rfl rfl)
theorem dL_law_520 : decode cL_law 520 = .ok (.iconst 1, 1) := dk_4 (dk_at dksL_law_17 7 rfl rfl)
theorem dL_law_521 : decode cL_law 521 = .ok (.iadd, 1) := dk_96 (dk_at dksL_law_17 8 rfl rfl)
theorem dL_law_522 : decode cL_law 522 = .ok (.iaload, 1) := dk_46 (dk_at dksL_law_17 9 rfl rfl)
theorem dL_law_523 : decode cL_law 523 = .ok (.aload_n 0, 1) := dk_42 (dk_at dksL_law_17 10 rfl rfl)
theorem dL_law_524 : decode cL_law 524 = .ok (.iload_n 3, 1) := dk_29 (dk_at dksL_law_17 11 rfl rfl)
theorem dL_law_525 : decode cL_law 525 = .ok (.iconst 2, 1) := dk_5 (dk_at dksL_law_17 12 rfl rfl)
theorem dL_law_526 : decode cL_law 526 = .ok (.iadd, 1) := dk_96 (dk_at dksL_law_17 13 rfl rfl)
theorem dL_law_527 : decode cL_law 527 = .ok (.iaload, 1) := dk_46 (dk_at dksL_law_17 14 rfl rfl)
theorem dL_law_528 : decode cL_law 528 = .ok (.invokevirtual 65, 3) := dk_182 0 65 (dk_at dksL_law_17 15 rfl rfl)
theorem dL_law_531 : decode cL_law 531 = .ok (.if_icmp .eq 638, 3) := dk_159 2 126 (dk_at dksL_law_17 18 rfl rfl)
theorem dL_law_534 : decode cL_law 534 = .ok (.iconst 0, 1) := dk_3 (dk_at dksL_law_17 21 rfl rfl)
theorem dL_law_535 : decode cL_law 535 = .ok (.ireturn, 1) := dk_172 (dk_at dksL_law_17 22 rfl rfl)
theorem dL_law_536 : decode cL_law 536 = .ok (.aload_n 1, 1) := dk_43 (dk_at dksL_law_17 23 rfl rfl)
theorem dL_law_537 : decode cL_law 537 = .ok (.aload_n 0, 1) := dk_42 (dk_at dksL_law_18 0 rfl rfl)
theorem dL_law_538 : decode cL_law 538 = .ok (.iload_n 3, 1) := dk_29 (dk_at dksL_law_18 1 rfl rfl)
theorem dL_law_539 : decode cL_law 539 = .ok (.iconst 1, 1) := dk_4 (dk_at dksL_law_18 2 rfl rfl)
theorem dL_law_540 : decode cL_law 540 = .ok (.iadd, 1) := dk_96 (dk_at dksL_law_18 3 rfl rfl)
theorem dL_law_541 : decode cL_law 541 = .ok (.iaload, 1) := dk_46 (dk_at dksL_law_18 4 rfl rfl)
theorem dL_law_542 : decode cL_law 542 = .ok (.invokevirtual 66, 3) := dk_182 0 66 (dk_at dksL_law_18 5 rfl rfl)
theorem dL_law_545 : decode cL_law 545 = .ok (.aload_n 2, 1) := dk_44 (dk_at dksL_law_18 8 rfl rfl)
theorem dL_law_546 : decode cL_law 546 = .ok (.aload_n 0, 1) := dk_42 (dk_at dksL_law_18 9 rfl rfl)
theorem dL_law_547 : decode cL_law 547 = .ok (.iload_n 3, 1) := dk_29 (dk_at dksL_law_18 10 rfl rfl)
theorem dL_law_548 : decode cL_law 548 = .ok (.iconst 1, 1) := dk_4 (dk_at dksL_law_18 11 rfl rfl)
theorem dL_law_549 : decode cL_law 549 = .ok (.iadd, 1) := dk_96 (dk_at dksL_law_18 12 rfl rfl)
theorem dL_law_550 : decode cL_law 550 = .ok (.iaload, 1) := dk_46 (dk_at dksL_law_18 13 rfl rfl)
theorem dL_law_551 : decode cL_law 551 = .ok (.invokevirtual 69, 3) := dk_182 0 69 (dk_at dksL_law_18 14 rfl rfl)
theorem dL_law_554 : decode cL_law 554 = .ok (.if_icmp .eq 615, 3) := dk_159 2 103 (dk_at dksL_law_18 17 rfl rfl)
theorem dL_law_557 : decode cL_law 557 = .ok (.iconst 0, 1) := dk_3 (dk_at dksL_law_18 20 rfl rfl)
theorem dL_law_558 : decode cL_law 558 = .ok (.ireturn, 1) := dk_172 (dk_at dksL_law_18 21 rfl rfl)
theorem dL_law_559 : decode cL_law 559 = .ok (.aload_n 1, 1) := dk_43 (dk_at dksL_law_18 22 rfl rfl)
theorem dL_law_560 : decode cL_law 560 = .ok (.aload_n 0, 1) := dk_42 (dk_at dksL_law_18 23 rfl rfl)
theorem dL_law_561 : decode cL_law 561 = .ok (.iload_n 3, 1) := dk_29 (dk_at dksL_law_19 0 rfl rfl)
theorem dL_law_562 : decode cL_law 562 = .ok (.iconst 1, 1) := dk_4 (dk_at dksL_law_19 1 rfl rfl)
theorem dL_law_563 : decode cL_law 563 = .ok (.iadd, 1) := dk_96 (dk_at dksL_law_19 2 rfl rfl)
theorem dL_law_564 : decode cL_law 564 = .ok (.iaload, 1) := dk_46 (dk_at dksL_law_19 3 rfl rfl)
theorem dL_law_565 : decode cL_law 565 = .ok (.invokevirtual 70, 3) := dk_182 0 70 (dk_at dksL_law_19 4 rfl rfl)
theorem dL_law_568 : decode cL_law 568 = .ok (.aload_n 2, 1) := dk_44 (dk_at dksL_law_19 7 rfl rfl)
theorem dL_law_569 : decode cL_law 569 = .ok (.aload_n 0, 1) := dk_42 (dk_at dksL_law_19 8 rfl rfl)
theorem dL_law_570 : decode cL_law 570 = .ok (.iload_n 3, 1) := dk_29 (dk_at dksL_law_19 9 rfl rfl)
theorem dL_law_571 : decode cL_law 571 = .ok (.iconst 1, 1) := dk_4 (dk_at dksL_law_19 10 rfl rfl)
theorem dL_law_572 : decode cL_law 572 = .ok (.iadd, 1) := dk_96 (dk_at dksL_law_19 11 rfl rfl)
theorem dL_law_573 : decode cL_law 573 = .ok (.iaload, 1) := dk_46 (dk_at dksL_law_19 12 rfl rfl)
theorem dL_law_574 : decode cL_law 574 = .ok (.invokevirtual 73, 3) := dk_182 0 73 (dk_at dksL_law_19 13 rfl rfl)
theorem dL_law_577 : decode cL_law 577 = .ok (.if_icmp .eq 592, 3) := dk_159 2 80 (dk_at dksL_law_19 16 rfl rfl)
theorem dL_law_580 : decode cL_law 580 = .ok (.iconst 0, 1) := dk_3 (dk_at dksL_law_19 19 rfl rfl)
theorem dL_law_581 : decode cL_law 581 = .ok (.ireturn, 1) := dk_172 (dk_at dksL_law_19 20 rfl rfl)
theorem dL_law_582 : decode cL_law 582 = .ok (.aload_n 1, 1) := dk_43 (dk_at dksL_law_19 21 rfl rfl)
theorem dL_law_583 : decode cL_law 583 = .ok (.aload_n 0, 1) := dk_42 (dk_at dksL_law_19 22 rfl rfl)
theorem dL_law_584 : decode cL_law 584 = .ok (.iload_n 3, 1) := dk_29 (dk_at dksL_law_19 23 rfl rfl)
theorem dL_law_585 : decode cL_law 585 = .ok (.iconst 1, 1) := dk_4 (dk_at dksL_law_20 0 rfl rfl)
theorem dL_law_586 : decode cL_law 586 = .ok (.iadd, 1) := dk_96 (dk_at dksL_law_20 1 rfl rfl)
theorem dL_law_587 : decode cL_law 587 = .ok (.iaload, 1) := dk_46 (dk_at dksL_law_20 2 rfl rfl)
theorem dL_law_588 : decode cL_law 588 = .ok (.invokevirtual 74, 3) := dk_182 0 74 (dk_at dksL_law_20 3 rfl rfl)
theorem dL_law_591 : decode cL_law 591 = .ok (.aload_n 2, 1) := dk_44 (dk_at dksL_law_20 6 rfl rfl)
theorem dL_law_592 : decode cL_law 592 = .ok (.aload_n 0, 1) := dk_42 (dk_at dksL_law_20 7 rfl rfl)
theorem dL_law_593 : decode cL_law 593 = .ok (.iload_n 3, 1) := dk_29 (dk_at dksL_law_20 8 rfl rfl)
theorem dL_law_594 : decode cL_law 594 = .ok (.iconst 1, 1) := dk_4 (dk_at dksL_law_20 9 rfl rfl)
theorem dL_law_595 : decode cL_law 595 = .ok (.iadd, 1) := dk_96 (dk_at dksL_law_20 10 rfl rfl)
theorem dL_law_596 : decode cL_law 596 = .ok (.iaload, 1) := dk_46 (dk_at dksL_law_20 11 rfl rfl)
theorem dL_law_597 : decode cL_law 597 = .ok (.invokevirtual 77, 3) := dk_182 0 77 (dk_at dksL_law_20 12 rfl rfl)
theorem dL_law_600 : decode cL_law 600 = .ok (.if_icmp .eq 569, 3) := dk_159 2 57 (dk_at dksL_law_20 15 rfl rfl)
theorem dL_law_603 : decode cL_law 603 = .ok (.iconst 0, 1) := dk_3 (dk_at dksL_law_20 18 rfl rfl)
theorem dL_law_604 : decode cL_law 604 = .ok (.ireturn, 1) := dk_172 (dk_at dksL_law_20 19 rfl rfl)
theorem dL_law_605 : decode cL_law 605 = .ok (.aload_n 1, 1) := dk_43 (dk_at dksL_law_20 20 rfl rfl)
theorem dL_law_606 : decode cL_law 606 = .ok (.aload_n 0, 1) := dk_42 (dk_at dksL_law_20 21 rfl rfl)
theorem dL_law_607 : decode cL_law 607 = .ok (.iload_n 3, 1) := dk_29 (dk_at dksL_law_20 22 rfl rfl)
theorem dL_law_608 : decode cL_law 608 = .ok (.iconst 1, 1) := dk_4 (dk_at dksL_law_20 23 rfl rfl)
theorem dL_law_609 : decode cL_law 609 = .ok (.iadd, 1) := dk_96 (dk_at dksL_law_21 0 rfl rfl)
theorem dL_law_610 : decode cL_law 610 = .ok (.iaload, 1) := dk_46 (dk_at dksL_law_21 1 rfl rfl)
theorem dL_law_611 : decode cL_law 611 = .ok (.aload_n 0, 1) := dk_42 (dk_at dksL_law_21 2 rfl rfl)
theorem dL_law_612 : decode cL_law 612 = .ok (.iload_n 3, 1) := dk_29 (dk_at dksL_law_21 3 rfl rfl)
theorem dL_law_613 : decode cL_law 613 = .ok (.iconst 2, 1) := dk_5 (dk_at dksL_law_21 4 rfl rfl)
theorem dL_law_614 : decode cL_law 614 = .ok (.iadd, 1) := dk_96 (dk_at dksL_law_21 5 rfl rfl)
theorem dL_law_615 : decode cL_law 615 = .ok (.iaload, 1) := dk_46 (dk_at dksL_law_21 6 rfl rfl)
theorem dL_law_616 : decode cL_law 616 = .ok (.invokevirtual 78, 3) := dk_182 0 78 (dk_at dksL_law_21 7 rfl rfl)
theorem dL_law_619 : decode cL_law 619 = .ok (.aload_n 2, 1) := dk_44 (dk_at dksL_law_21 10 rfl rfl)
theorem dL_law_620 : decode cL_law 620 = .ok (.aload_n 0, 1) := dk_42 (dk_at dksL_law_21 11 rfl rfl)
theorem dL_law_621 : decode cL_law 621 = .ok (.iload_n 3, 1) := dk_29 (dk_at dksL_law_21 12 rfl rfl)
theorem dL_law_622 : decode cL_law 622 = .ok (.iconst 1, 1) := dk_4 (dk_at dksL_law_21 13 rfl rfl)
theorem dL_law_623 : decode cL_law 623 = .ok (.iadd, 1) := dk_96 (dk_at dksL_law_21 14 rfl rfl)
theorem dL_law_624 : decode cL_law 624 = .ok (.iaload, 1) := dk_46 (dk_at dksL_law_21 15 rfl rfl)
theorem dL_law_625 : decode cL_law 625 = .ok (.aload_n 0, 1) := dk_42 (dk_at dksL_law_21 16 rfl rfl)
theorem dL_law_626 : decode cL_law 626 = .ok (.iload_n 3, 1) := dk_29 (dk_at dksL_law_21 17 rfl rfl)
theorem dL_law_627 : decode cL_law 627 = .ok (.iconst 2, 1) := dk_5 (dk_at dksL_law_21 18 rfl rfl)
theorem dL_law_628 : decode cL_law 628 = .ok (.iadd, 1) := dk_96 (dk_at dksL_law_21 19 rfl rfl)
theorem dL_law_629 : decode cL_law 629 = .ok (.iaload, 1) := dk_46 (dk_at dksL_law_21 20 rfl rfl)
theorem dL_law_630 : decode cL_law 630 = .ok (.invokevirtual 81, 3) := dk_182 0 81 (dk_at dksL_law_21 21 rfl rfl)
theorem dL_law_633 : decode cL_law 633 = .ok (.if_icmp .eq 536, 3) := dk_159 2 24 (dk_at dksL_law_22 0 rfl rfl)
theorem dL_law_636 : decode cL_law 636 = .ok (.iconst 0, 1) := dk_3 (dk_at dksL_law_22 3 rfl rfl)
theorem dL_law_637 : decode cL_law 637 = .ok (.ireturn, 1) := dk_172 (dk_at dksL_law_22 4 rfl rfl)
theorem dL_law_638 : decode cL_law 638 = .ok (.aload_n 1, 1) := dk_43 (dk_at dksL_law_22 5 rfl rfl)
theorem dL_law_639 : decode cL_law 639 = .ok (.aload_n 0, 1) := dk_42 (dk_at dksL_law_22 6 rfl rfl)
theorem dL_law_640 : decode cL_law 640 = .ok (.iload_n 3, 1) := dk_29 (dk_at dksL_law_22 7 rfl rfl)
theorem dL_law_641 : decode cL_law 641 = .ok (.iconst 1, 1) := dk_4 (dk_at dksL_law_22 8 rfl rfl)
theorem dL_law_642 : decode cL_law 642 = .ok (.iadd, 1) := dk_96 (dk_at dksL_law_22 9 rfl rfl)
theorem dL_law_643 : decode cL_law 643 = .ok (.iaload, 1) := dk_46 (dk_at dksL_law_22 10 rfl rfl)
theorem dL_law_644 : decode cL_law 644 = .ok (.aload_n 0, 1) := dk_42 (dk_at dksL_law_22 11 rfl rfl)
theorem dL_law_645 : decode cL_law 645 = .ok (.iload_n 3, 1) := dk_29 (dk_at dksL_law_22 12 rfl rfl)
theorem dL_law_646 : decode cL_law 646 = .ok (.iconst 2, 1) := dk_5 (dk_at dksL_law_22 13 rfl rfl)
theorem dL_law_647 : decode cL_law 647 = .ok (.iadd, 1) := dk_96 (dk_at dksL_law_22 14 rfl rfl)
theorem dL_law_648 : decode cL_law 648 = .ok (.iaload, 1) := dk_46 (dk_at dksL_law_22 15 rfl rfl)
theorem dL_law_649 : decode cL_law 649 = .ok (.invokevirtual 82, 3) := dk_182 0 82 (dk_at dksL_law_22 16 rfl rfl)
theorem dL_law_652 : decode cL_law 652 = .ok (.aload_n 2, 1) := dk_44 (dk_at dksL_law_22 19 rfl rfl)
theorem dL_law_653 : decode cL_law 653 = .ok (.aload_n 0, 1) := dk_42 (dk_at dksL_law_22 20 rfl rfl)
theorem dL_law_654 : decode cL_law 654 = .ok (.iload_n 3, 1) := dk_29 (dk_at dksL_law_22 21 rfl rfl)
theorem dL_law_655 : decode cL_law 655 = .ok (.iconst 1, 1) := dk_4 (dk_at dksL_law_22 22 rfl rfl)
theorem dL_law_656 : decode cL_law 656 = .ok (.iadd, 1) := dk_96 (dk_at dksL_law_22 23 rfl rfl)
theorem dL_law_657 : decode cL_law 657 = .ok (.iaload, 1) := dk_46 (dk_at dksL_law_23 0 rfl rfl)
theorem dL_law_658 : decode cL_law 658 = .ok (.aload_n 0, 1) := dk_42 (dk_at dksL_law_23 1 rfl rfl)
theorem dL_law_659 : decode cL_law 659 = .ok (.iload_n 3, 1) := dk_29 (dk_at dksL_law_23 2 rfl rfl)
theorem dL_law_660 : decode cL_law 660 = .ok (.iconst 2, 1) := dk_5 (dk_at dksL_law_23 3 rfl rfl)
theorem dL_law_661 : decode cL_law 661 = .ok (.iadd, 1) := dk_96 (dk_at dksL_law_23 4 rfl rfl)
theorem dL_law_662 : decode cL_law 662 = .ok (.iaload, 1) := dk_46 (dk_at dksL_law_23 5 rfl rfl)
theorem dL_law_663 : decode cL_law 663 = .ok (.invokevirtual 85, 3) := dk_182 0 85 (dk_at dksL_law_23 6 rfl rfl)
theorem dL_law_666 : decode cL_law 666 = .ok (.if_icmp .eq 503, 3) := dk_159 1 247 (dk_at dksL_law_23 9 rfl rfl)
theorem dL_law_669 : decode cL_law 669 = .ok (.iconst 0, 1) := dk_3 (dk_at dksL_law_23 12 rfl rfl)
theorem dL_law_670 : decode cL_law 670 = .ok (.ireturn, 1) := dk_172 (dk_at dksL_law_23 13 rfl rfl)
theorem dL_law_671 : decode cL_law 671 = .ok (.aload_n 1, 1) := dk_43 (dk_at dksL_law_23 14 rfl rfl)
theorem dL_law_672 : decode cL_law 672 = .ok (.aload_n 0, 1) := dk_42 (dk_at dksL_law_23 15 rfl rfl)
theorem dL_law_673 : decode cL_law 673 = .ok (.iload_n 3, 1) := dk_29 (dk_at dksL_law_23 16 rfl rfl)
theorem dL_law_674 : decode cL_law 674 = .ok (.iconst 1, 1) := dk_4 (dk_at dksL_law_23 17 rfl rfl)
theorem dL_law_675 : decode cL_law 675 = .ok (.iadd, 1) := dk_96 (dk_at dksL_law_23 18 rfl rfl)
theorem dL_law_676 : decode cL_law 676 = .ok (.iaload, 1) := dk_46 (dk_at dksL_law_23 19 rfl rfl)
theorem dL_law_677 : decode cL_law 677 = .ok (.aload_n 0, 1) := dk_42 (dk_at dksL_law_23 20 rfl rfl)
theorem dL_law_678 : decode cL_law 678 = .ok (.iload_n 3, 1) := dk_29 (dk_at dksL_law_23 21 rfl rfl)
theorem dL_law_679 : decode cL_law 679 = .ok (.iconst 2, 1) := dk_5 (dk_at dksL_law_23 22 rfl rfl)
theorem dL_law_680 : decode cL_law 680 = .ok (.iadd, 1) := dk_96 (dk_at dksL_law_23 23 rfl rfl)
theorem dL_law_681 : decode cL_law 681 = .ok (.iaload, 1) := dk_46 (dk_at dksL_law_24 0 rfl rfl)
theorem dL_law_682 : decode cL_law 682 = .ok (.invokevirtual 86, 3) := dk_182 0 86 (dk_at dksL_law_24 1 rfl rfl)
theorem dL_law_685 : decode cL_law 685 = .ok (.aload_n 2, 1) := dk_44 (dk_at dksL_law_24 4 rfl rfl)
theorem dL_law_686 : decode cL_law 686 = .ok (.aload_n 0, 1) := dk_42 (dk_at dksL_law_24 5 rfl rfl)
theorem dL_law_687 : decode cL_law 687 = .ok (.iload_n 3, 1) := dk_29 (dk_at dksL_law_24 6 rfl rfl)
theorem dL_law_688 : decode cL_law 688 = .ok (.iconst 1, 1) := dk_4 (dk_at dksL_law_24 7 rfl rfl)
theorem dL_law_689 : decode cL_law 689 = .ok (.iadd, 1) := dk_96 (dk_at dksL_law_24 8 rfl rfl)
theorem dL_law_690 : decode cL_law 690 = .ok (.iaload, 1) := dk_46 (dk_at dksL_law_24 9 rfl rfl)
theorem dL_law_691 : decode cL_law 691 = .ok (.aload_n 0, 1) := dk_42 (dk_at dksL_law_24 10 rfl rfl)
theorem dL_law_692 : decode cL_law 692 = .ok (.iload_n 3, 1) := dk_29 (dk_at dksL_law_24 11 rfl rfl)
theorem dL_law_693 : decode cL_law 693 = .ok (.iconst 2, 1) := dk_5 (dk_at dksL_law_24 12 rfl rfl)
theorem dL_law_694 : decode cL_law 694 = .ok (.iadd, 1) := dk_96 (dk_at dksL_law_24 13 rfl rfl)
theorem dL_law_695 : decode cL_law 695 = .ok (.iaload, 1) := dk_46 (dk_at dksL_law_24 14 rfl rfl)
theorem dL_law_696 : decode cL_law 696 = .ok (.invokevirtual 89, 3) := dk_182 0 89 (dk_at dksL_law_24 15 rfl rfl)
theorem dL_law_699 : decode cL_law 699 = .ok (.if_icmp .eq 470, 3) := dk_159 1 214 (dk_at dksL_law_24 18 rfl rfl)
theorem dL_law_702 : decode cL_law 702 = .ok (.iconst 0, 1) := dk_3 (dk_at dksL_law_24 21 rfl rfl)
theorem dL_law_703 : decode cL_law 703 = .ok (.ireturn, 1) := dk_172 (dk_at dksL_law_24 22 rfl rfl)
theorem dL_law_704 : decode cL_law 704 = .ok (.aload_n 1, 1) := dk_43 (dk_at dksL_law_24 23 rfl rfl)
theorem dL_law_705 : decode cL_law 705 = .ok (.aload_n 0, 1) := dk_42 (dk_at dksL_law_25 0 rfl rfl)
theorem dL_law_706 : decode cL_law 706 = .ok (.iload_n 3, 1) := dk_29 (dk_at dksL_law_25 1 rfl rfl)
theorem dL_law_707 : decode cL_law 707 = .ok (.iconst 1, 1) := dk_4 (dk_at dksL_law_25 2 rfl rfl)
theorem dL_law_708 : decode cL_law 708 = .ok (.iadd, 1) := dk_96 (dk_at dksL_law_25 3 rfl rfl)
theorem dL_law_709 : decode cL_law 709 = .ok (.iaload, 1) := dk_46 (dk_at dksL_law_25 4 rfl rfl)
theorem dL_law_710 : decode cL_law 710 = .ok (.aload_n 0, 1) := dk_42 (dk_at dksL_law_25 5 rfl rfl)
theorem dL_law_711 : decode cL_law 711 = .ok (.iload_n 3, 1) := dk_29 (dk_at dksL_law_25 6 rfl rfl)
theorem dL_law_712 : decode cL_law 712 = .ok (.iconst 2, 1) := dk_5 (dk_at dksL_law_25 7 rfl rfl)
theorem dL_law_713 : decode cL_law 713 = .ok (.iadd, 1) := dk_96 (dk_at dksL_law_25 8 rfl rfl)
theorem dL_law_714 : decode cL_law 714 = .ok (.iaload, 1) := dk_46 (dk_at dksL_law_25 9 rfl rfl)
theorem dL_law_715 : decode cL_law 715 = .ok (.invokevirtual 90, 3) := dk_182 0 90 (dk_at dksL_law_25 10 rfl rfl)
theorem dL_law_718 : decode cL_law 718 = .ok (.aload_n 2, 1) := dk_44 (dk_at dksL_law_25 13 rfl rfl)
theorem dL_law_719 : decode cL_law 719 = .ok (.aload_n 0, 1) := dk_42 (dk_at dksL_law_25 14 rfl rfl)
theorem dL_law_720 : decode cL_law 720 = .ok (.iload_n 3, 1) := dk_29 (dk_at dksL_law_25 15 rfl rfl)
theorem dL_law_721 : decode cL_law 721 = .ok (.iconst 1, 1) := dk_4 (dk_at dksL_law_25 16 rfl rfl)
theorem dL_law_722 : decode cL_law 722 = .ok (.iadd, 1) := dk_96 (dk_at dksL_law_25 17 rfl rfl)
theorem dL_law_723 : decode cL_law 723 = .ok (.iaload, 1) := dk_46 (dk_at dksL_law_25 18 rfl rfl)
theorem dL_law_724 : decode cL_law 724 = .ok (.aload_n 0, 1) := dk_42 (dk_at dksL_law_25 19 rfl rfl)
theorem dL_law_725 : decode cL_law 725 = .ok (.iload_n 3, 1) := dk_29 (dk_at dksL_law_25 20 rfl rfl)
theorem dL_law_726 : decode cL_law 726 = .ok (.iconst 2, 1) := dk_5 (dk_at dksL_law_25 21 rfl rfl)
theorem dL_law_727 : decode cL_law 727 = .ok (.iadd, 1) := dk_96 (dk_at dksL_law_25 22 rfl rfl)
theorem dL_law_728 : decode cL_law 728 = .ok (.iaload, 1) := dk_46 (dk_at dksL_law_25 23 rfl rfl)
theorem dL_law_729 : decode cL_law 729 = .ok (.invokevirtual 93, 3) := dk_182 0 93 (dk_at dksL_law_26 0 rfl rfl)
theorem dL_law_732 : decode cL_law 732 = .ok (.if_icmp .eq 437, 3) := dk_159 1 181 (dk_at dksL_law_26 3 rfl rfl)
theorem dL_law_735 : decode cL_law 735 = .ok (.iconst 0, 1) := dk_3 (dk_at dksL_law_26 6 rfl rfl)
theorem dL_law_736 : decode cL_law 736 = .ok (.ireturn, 1) := dk_172 (dk_at dksL_law_26 7 rfl rfl)
theorem dL_law_737 : decode cL_law 737 = .ok (.aload_n 1, 1) := dk_43 (dk_at dksL_law_26 8 rfl rfl)
theorem dL_law_738 : decode cL_law 738 = .ok (.aload_n 0, 1) := dk_42 (dk_at dksL_law_26 9 rfl rfl)
theorem dL_law_739 : decode cL_law 739 = .ok (.iload_n 3, 1) := dk_29 (dk_at dksL_law_26 10 rfl rfl)
theorem dL_law_740 : decode cL_law 740 = .ok (.iconst 1, 1) := dk_4 (dk_at dksL_law_26 11 rfl rfl)
theorem dL_law_741 : decode cL_law 741 = .ok (.iadd, 1) := dk_96 (dk_at dksL_law_26 12 rfl rfl)
theorem dL_law_742 : decode cL_law 742 = .ok (.iaload, 1) := dk_46 (dk_at dksL_law_26 13 rfl rfl)
theorem dL_law_743 : decode cL_law 743 = .ok (.aload_n 0, 1) := dk_42 (dk_at dksL_law_26 14 rfl rfl)
theorem dL_law_744 : decode cL_law 744 = .ok (.iload_n 3, 1) := dk_29 (dk_at dksL_law_26 15 rfl rfl)
theorem dL_law_745 : decode cL_law 745 = .ok (.iconst 2, 1) := dk_5 (dk_at dksL_law_26 16 rfl rfl)
theorem dL_law_746 : decode cL_law 746 = .ok (.iadd, 1) := dk_96 (dk_at dksL_law_26 17 rfl rfl)
theorem dL_law_747 : decode cL_law 747 = .ok (.iaload, 1) := dk_46 (dk_at dksL_law_26 18 rfl rfl)
theorem dL_law_748 : decode cL_law 748 = .ok (.invokevirtual 94, 3) := dk_182 0 94 (dk_at dksL_law_26 19 rfl rfl)
theorem dL_law_751 : decode cL_law 751 = .ok (.aload_n 2, 1) := dk_44 (dk_at dksL_law_26 22 rfl rfl)
theorem dL_law_752 : decode cL_law 752 = .ok (.aload_n 0, 1) := dk_42 (dk_at dksL_law_26 23 rfl rfl)
theorem dL_law_753 : decode cL_law 753 = .ok (.iload_n 3, 1) := dk_29 (dk_at dksL_law_27 0 rfl rfl)
theorem dL_law_754 : decode cL_law 754 = .ok (.iconst 1, 1) := dk_4 (dk_at dksL_law_27 1 rfl rfl)
theorem dL_law_755 : decode cL_law 755 = .ok (.iadd, 1) := dk_96 (dk_at dksL_law_27 2 rfl rfl)
theorem dL_law_756 : decode cL_law 756 = .ok (.iaload, 1) := dk_46 (dk_at dksL_law_27 3 rfl rfl)
theorem dL_law_757 : decode cL_law 757 = .ok (.aload_n 0, 1) := dk_42 (dk_at dksL_law_27 4 rfl rfl)
theorem dL_law_758 : decode cL_law 758 = .ok (.iload_n 3, 1) := dk_29 (dk_at dksL_law_27 5 rfl rfl)
theorem dL_law_759 : decode cL_law 759 = .ok (.iconst 2, 1) := dk_5 (dk_at dksL_law_27 6 rfl rfl)
theorem dL_law_760 : decode cL_law 760 = .ok (.iadd, 1) := dk_96 (dk_at dksL_law_27 7 rfl rfl)
theorem dL_law_761 : decode cL_law 761 = .ok (.iaload, 1) := dk_46 (dk_at dksL_law_27 8 rfl rfl)
theorem dL_law_762 : decode cL_law 762 = .ok (.invokevirtual 97, 3) := dk_182 0 97 (dk_at dksL_law_27 9 rfl rfl)
theorem dL_law_765 : decode cL_law 765 = .ok (.if_icmp .eq 404, 3) := dk_159 1 148 (dk_at dksL_law_27 12 rfl rfl)
theorem dL_law_768 : decode cL_law 768 = .ok (.iconst 0, 1) := dk_3 (dk_at dksL_law_27 15 rfl rfl)
theorem dL_law_769 : decode cL_law 769 = .ok (.ireturn, 1) := dk_172 (dk_at dksL_law_27 16 rfl rfl)
theorem dL_law_770 : decode cL_law 770 = .ok (.aload_n 1, 1) := dk_43 (dk_at dksL_law_27 17 rfl rfl)
theorem dL_law_771 : decode cL_law 771 = .ok (.aload_n 0, 1) := dk_42 (dk_at dksL_law_27 18 rfl rfl)
theorem dL_law_772 : decode cL_law 772 = .ok (.iload_n 3, 1) := dk_29 (dk_at dksL_law_27 19 rfl rfl)
theorem dL_law_773 : decode cL_law 773 = .ok (.iconst 1, 1) := dk_4 (dk_at dksL_law_27 20 rfl rfl)
theorem dL_law_774 : decode cL_law 774 = .ok (.iadd, 1) := dk_96 (dk_at dksL_law_27 21 rfl rfl)
theorem dL_law_775 : decode cL_law 775 = .ok (.iaload, 1) := dk_46 (dk_at dksL_law_27 22 rfl rfl)
theorem dL_law_776 : decode cL_law 776 = .ok (.aload_n 0, 1) := dk_42 (dk_at dksL_law_27 23 rfl rfl)
theorem dL_law_777 : decode cL_law 777 = .ok (.iload_n 3, 1) := dk_29 (dk_at dksL_law_28 0 rfl rfl)
theorem dL_law_778 : decode cL_law 778 = .ok (.iconst 2, 1) := dk_5 (dk_at dksL_law_28 1 rfl rfl)
theorem dL_law_779 : decode cL_law 779 = .ok (.iadd, 1) := dk_96 (dk_at dksL_law_28 2 rfl rfl)
theorem dL_law_780 : decode cL_law 780 = .ok (.iaload, 1) := dk_46 (dk_at dksL_law_28 3 rfl rfl)
theorem dL_law_781 : decode cL_law 781 = .ok (.aload_n 0, 1) := dk_42 (dk_at dksL_law_28 4 rfl rfl)
theorem dL_law_782 : decode cL_law 782 = .ok (.iload_n 3, 1) := dk_29 (dk_at dksL_law_28 5 rfl rfl)
theorem dL_law_783 : decode cL_law 783 = .ok (.iconst 3, 1) := dk_6 (dk_at dksL_law_28 6 rfl rfl)
theorem dL_law_784 : decode cL_law 784 = .ok (.iadd, 1) := dk_96 (dk_at dksL_law_28 7 rfl rfl)
theorem dL_law_785 : decode cL_law 785 = .ok (.iaload, 1) := dk_46 (dk_at dksL_law_28 8 rfl rfl)
theorem dL_law_786 : decode cL_law 786 = .ok (.invokevirtual 98, 3) := dk_182 0 98 (dk_at dksL_law_28 9 rfl rfl)
theorem dL_law_789 : decode cL_law 789 = .ok (.aload_n 2, 1) := dk_44 (dk_at dksL_law_28 12 rfl rfl)
theorem dL_law_790 : decode cL_law 790 = .ok (.aload_n 0, 1) := dk_42 (dk_at dksL_law_28 13 rfl rfl)
theorem dL_law_791 : decode cL_law 791 = .ok (.iload_n 3, 1) := dk_29 (dk_at dksL_law_28 14 rfl rfl)
theorem dL_law_792 : decode cL_law 792 = .ok (.iconst 1, 1) := dk_4 (dk_at dksL_law_28 15 rfl rfl)
theorem dL_law_793 : decode cL_law 793 = .ok (.iadd, 1) := dk_96 (dk_at dksL_law_28 16 rfl rfl)
theorem dL_law_794 : decode cL_law 794 = .ok (.iaload, 1) := dk_46 (dk_at dksL_law_28 17 rfl rfl)
theorem dL_law_795 : decode cL_law 795 = .ok (.aload_n 0, 1) := dk_42 (dk_at dksL_law_28 18 rfl rfl)
theorem dL_law_796 : decode cL_law 796 = .ok (.iload_n 3, 1) := dk_29 (dk_at dksL_law_28 19 rfl rfl)
theorem dL_law_797 : decode cL_law 797 = .ok (.iconst 2, 1) := dk_5 (dk_at dksL_law_28 20 rfl rfl)
theorem dL_law_798 : decode cL_law 798 = .ok (.iadd, 1) := dk_96 (dk_at dksL_law_28 21 rfl rfl)
theorem dL_law_799 : decode cL_law 799 = .ok (.iaload, 1) := dk_46 (dk_at dksL_law_28 22 rfl rfl)
theorem dL_law_800 : decode cL_law 800 = .ok (.aload_n 0, 1) := dk_42 (dk_at dksL_law_28 23 rfl rfl)
theorem dL_law_801 : decode cL_law 801 = .ok (.iload_n 3, 1) := dk_29 (dk_at dksL_law_29 0 rfl rfl)
theorem dL_law_802 : decode cL_law 802 = .ok (.iconst 3, 1) := dk_6 (dk_at dksL_law_29 1 rfl rfl)
theorem dL_law_803 : decode cL_law 803 = .ok (.iadd, 1) := dk_96 (dk_at dksL_law_29 2 rfl rfl)
theorem dL_law_804 : decode cL_law 804 = .ok (.iaload, 1) := dk_46 (dk_at dksL_law_29 3 rfl rfl)
theorem dL_law_805 : decode cL_law 805 = .ok (.invokevirtual 101, 3) := dk_182 0 101 (dk_at dksL_law_29 4 rfl rfl)
theorem dL_law_808 : decode cL_law 808 = .ok (.if_icmp .eq 361, 3) := dk_159 1 105 (dk_at dksL_law_29 7 rfl rfl)
theorem dL_law_811 : decode cL_law 811 = .ok (.iconst 0, 1) := dk_3 (dk_at dksL_law_29 10 rfl rfl)
theorem dL_law_812 : decode cL_law 812 = .ok (.ireturn, 1) := dk_172 (dk_at dksL_law_29 11 rfl rfl)
theorem dL_law_813 : decode cL_law 813 = .ok (.aload_n 1, 1) := dk_43 (dk_at dksL_law_29 12 rfl rfl)
theorem dL_law_814 : decode cL_law 814 = .ok (.aload_n 0, 1) := dk_42 (dk_at dksL_law_29 13 rfl rfl)
theorem dL_law_815 : decode cL_law 815 = .ok (.iload_n 3, 1) := dk_29 (dk_at dksL_law_29 14 rfl rfl)
theorem dL_law_816 : decode cL_law 816 = .ok (.iconst 1, 1) := dk_4 (dk_at dksL_law_29 15 rfl rfl)
theorem dL_law_817 : decode cL_law 817 = .ok (.iadd, 1) := dk_96 (dk_at dksL_law_29 16 rfl rfl)
theorem dL_law_818 : decode cL_law 818 = .ok (.iaload, 1) := dk_46 (dk_at dksL_law_29 17 rfl rfl)
theorem dL_law_819 : decode cL_law 819 = .ok (.invokevirtual 102, 3) := dk_182 0 102 (dk_at dksL_law_29 18 rfl rfl)
theorem dL_law_822 : decode cL_law 822 = .ok (.aload_n 2, 1) := dk_44 (dk_at dksL_law_29 21 rfl rfl)
theorem dL_law_823 : decode cL_law 823 = .ok (.aload_n 0, 1) := dk_42 (dk_at dksL_law_29 22 rfl rfl)
theorem dL_law_824 : decode cL_law 824 = .ok (.iload_n 3, 1) := dk_29 (dk_at dksL_law_29 23 rfl rfl)
theorem dL_law_825 : decode cL_law 825 = .ok (.iconst 1, 1) := dk_4 (dk_at dksL_law_30 0 rfl rfl)
theorem dL_law_826 : decode cL_law 826 = .ok (.iadd, 1) := dk_96 (dk_at dksL_law_30 1 rfl rfl)
theorem dL_law_827 : decode cL_law 827 = .ok (.iaload, 1) := dk_46 (dk_at dksL_law_30 2 rfl rfl)
theorem dL_law_828 : decode cL_law 828 = .ok (.invokevirtual 105, 3) := dk_182 0 105 (dk_at dksL_law_30 3 rfl rfl)
theorem dL_law_831 : decode cL_law 831 = .ok (.if_icmp .eq 338, 3) := dk_159 1 82 (dk_at dksL_law_30 6 rfl rfl)
theorem dL_law_834 : decode cL_law 834 = .ok (.iconst 0, 1) := dk_3 (dk_at dksL_law_30 9 rfl rfl)
theorem dL_law_835 : decode cL_law 835 = .ok (.ireturn, 1) := dk_172 (dk_at dksL_law_30 10 rfl rfl)
theorem dL_law_836 : decode cL_law 836 = .ok (.aload_n 1, 1) := dk_43 (dk_at dksL_law_30 11 rfl rfl)
theorem dL_law_837 : decode cL_law 837 = .ok (.aload_n 0, 1) := dk_42 (dk_at dksL_law_30 12 rfl rfl)
theorem dL_law_838 : decode cL_law 838 = .ok (.iload_n 3, 1) := dk_29 (dk_at dksL_law_30 13 rfl rfl)
theorem dL_law_839 : decode cL_law 839 = .ok (.iconst 1, 1) := dk_4 (dk_at dksL_law_30 14 rfl rfl)
theorem dL_law_840 : decode cL_law 840 = .ok (.iadd, 1) := dk_96 (dk_at dksL_law_30 15 rfl rfl)
theorem dL_law_841 : decode cL_law 841 = .ok (.iaload, 1) := dk_46 (dk_at dksL_law_30 16 rfl rfl)
theorem dL_law_842 : decode cL_law 842 = .ok (.aload_n 0, 1) := dk_42 (dk_at dksL_law_30 17 rfl rfl)
theorem dL_law_843 : decode cL_law 843 = .ok (.iload_n 3, 1) := dk_29 (dk_at dksL_law_30 18 rfl rfl)
theorem dL_law_844 : decode cL_law 844 = .ok (.iconst 2, 1) := dk_5 (dk_at dksL_law_30 19 rfl rfl)
theorem dL_law_845 : decode cL_law 845 = .ok (.iadd, 1) := dk_96 (dk_at dksL_law_30 20 rfl rfl)
theorem dL_law_846 : decode cL_law 846 = .ok (.iaload, 1) := dk_46 (dk_at dksL_law_30 21 rfl rfl)
theorem dL_law_847 : decode cL_law 847 = .ok (.aload_n 0, 1) := dk_42 (dk_at dksL_law_30 22 rfl rfl)
theorem dL_law_848 : decode cL_law 848 = .ok (.iload_n 3, 1) := dk_29 (dk_at dksL_law_30 23 rfl rfl)
theorem dL_law_849 : decode cL_law 849 = .ok (.iconst 3, 1) := dk_6 (dk_at dksL_law_31 0 rfl rfl)
theorem dL_law_850 : decode cL_law 850 = .ok (.iadd, 1) := dk_96 (dk_at dksL_law_31 1 rfl rfl)
theorem dL_law_851 : decode cL_law 851 = .ok (.iaload, 1) := dk_46 (dk_at dksL_law_31 2 rfl rfl)
theorem dL_law_852 : decode cL_law 852 = .ok (.aload_n 0, 1) := dk_42 (dk_at dksL_law_31 3 rfl rfl)
theorem dL_law_853 : decode cL_law 853 = .ok (.iload_n 3, 1) := dk_29 (dk_at dksL_law_31 4 rfl rfl)
theorem dL_law_854 : decode cL_law 854 = .ok (.iconst 4, 1) := dk_7 (dk_at dksL_law_31 5 rfl rfl)
theorem dL_law_855 : decode cL_law 855 = .ok (.iadd, 1) := dk_96 (dk_at dksL_law_31 6 rfl rfl)
theorem dL_law_856 : decode cL_law 856 = .ok (.iaload, 1) := dk_46 (dk_at dksL_law_31 7 rfl rfl)
theorem dL_law_857 : decode cL_law 857 = .ok (.invokevirtual 106, 3) := dk_182 0 106 (dk_at dksL_law_31 8 rfl rfl)
theorem dL_law_860 : decode cL_law 860 = .ok (.aload_n 2, 1) := dk_44 (dk_at dksL_law_31 11 rfl rfl)
theorem dL_law_861 : decode cL_law 861 = .ok (.aload_n 0, 1) := dk_42 (dk_at dksL_law_31 12 rfl rfl)
theorem dL_law_862 : decode cL_law 862 = .ok (.iload_n 3, 1) := dk_29 (dk_at dksL_law_31 13 rfl rfl)
theorem dL_law_863 : decode cL_law 863 = .ok (.iconst 1, 1) := dk_4 (dk_at dksL_law_31 14 rfl rfl)
theorem dL_law_864 : decode cL_law 864 = .ok (.iadd, 1) := dk_96 (dk_at dksL_law_31 15 rfl rfl)
theorem dL_law_865 : decode cL_law 865 = .ok (.iaload, 1) := dk_46 (dk_at dksL_law_31 16 rfl rfl)
theorem dL_law_866 : decode cL_law 866 = .ok (.aload_n 0, 1) := dk_42 (dk_at dksL_law_31 17 rfl rfl)
theorem dL_law_867 : decode cL_law 867 = .ok (.iload_n 3, 1) := dk_29 (dk_at dksL_law_31 18 rfl rfl)
theorem dL_law_868 : decode cL_law 868 = .ok (.iconst 2, 1) := dk_5 (dk_at dksL_law_31 19 rfl rfl)
theorem dL_law_869 : decode cL_law 869 = .ok (.iadd, 1) := dk_96 (dk_at dksL_law_31 20 rfl rfl)
theorem dL_law_870 : decode cL_law 870 = .ok (.iaload, 1) := dk_46 (dk_at dksL_law_31 21 rfl rfl)
theorem dL_law_871 : decode cL_law 871 = .ok (.aload_n 0, 1) := dk_42 (dk_at dksL_law_31 22 rfl rfl)
theorem dL_law_872 : decode cL_law 872 = .ok (.iload_n 3, 1) := dk_29 (dk_at dksL_law_31 23 rfl rfl)
theorem dL_law_873 : decode cL_law 873 = .ok (.iconst 3, 1) := dk_6 (dk_at dksL_law_32 0 rfl rfl)
theorem dL_law_874 : decode cL_law 874 = .ok (.iadd, 1) := dk_96 (dk_at dksL_law_32 1 rfl rfl)
theorem dL_law_875 : decode cL_law 875 = .ok (.iaload, 1) := dk_46 (dk_at dksL_law_32 2 rfl rfl)
theorem dL_law_876 : decode cL_law 876 = .ok (.aload_n 0, 1) := dk_42 (dk_at dksL_law_32 3 rfl rfl)
theorem dL_law_877 : decode cL_law 877 = .ok (.iload_n 3, 1) := dk_29 (dk_at dksL_law_32 4 rfl rfl)
theorem dL_law_878 : decode cL_law 878 = .ok (.iconst 4, 1) := dk_7 (dk_at dksL_law_32 5 rfl rfl)
theorem dL_law_879 : decode cL_law 879 = .ok (.iadd, 1) := dk_96 (dk_at dksL_law_32 6 rfl rfl)
theorem dL_law_880 : decode cL_law 880 = .ok (.iaload, 1) := dk_46 (dk_at dksL_law_32 7 rfl rfl)
theorem dL_law_881 : decode cL_law 881 = .ok (.invokevirtual 110, 3) := dk_182 0 110 (dk_at dksL_law_32 8 rfl rfl)
theorem dL_law_884 : decode cL_law 884 = .ok (.if_icmp .eq 285, 3) := dk_159 1 29 (dk_at dksL_law_32 11 rfl rfl)
theorem dL_law_887 : decode cL_law 887 = .ok (.iconst 0, 1) := dk_3 (dk_at dksL_law_32 14 rfl rfl)
theorem dL_law_888 : decode cL_law 888 = .ok (.ireturn, 1) := dk_172 (dk_at dksL_law_32 15 rfl rfl)
theorem dL_law_889 : decode cL_law 889 = .ok (.aload_n 1, 1) := dk_43 (dk_at dksL_law_32 16 rfl rfl)
theorem dL_law_890 : decode cL_law 890 = .ok (.aload_n 0, 1) := dk_42 (dk_at dksL_law_32 17 rfl rfl)
theorem dL_law_891 : decode cL_law 891 = .ok (.iload_n 3, 1) := dk_29 (dk_at dksL_law_32 18 rfl rfl)
theorem dL_law_892 : decode cL_law 892 = .ok (.iconst 1, 1) := dk_4 (dk_at dksL_law_32 19 rfl rfl)
theorem dL_law_893 : decode cL_law 893 = .ok (.iadd, 1) := dk_96 (dk_at dksL_law_32 20 rfl rfl)
theorem dL_law_894 : decode cL_law 894 = .ok (.iaload, 1) := dk_46 (dk_at dksL_law_32 21 rfl rfl)
theorem dL_law_895 : decode cL_law 895 = .ok (.aload_n 0, 1) := dk_42 (dk_at dksL_law_32 22 rfl rfl)
theorem dL_law_896 : decode cL_law 896 = .ok (.iload_n 3, 1) := dk_29 (dk_at dksL_law_32 23 rfl rfl)
theorem dL_law_897 : decode cL_law 897 = .ok (.iconst 2, 1) := dk_5 (dk_at dksL_law_33 0 rfl rfl)
theorem dL_law_898 : decode cL_law 898 = .ok (.iadd, 1) := dk_96 (dk_at dksL_law_33 1 rfl rfl)
theorem dL_law_899 : decode cL_law 899 = .ok (.iaload, 1) := dk_46 (dk_at dksL_law_33 2 rfl rfl)
theorem dL_law_900 : decode cL_law 900 = .ok (.aload_n 0, 1) := dk_42 (dk_at dksL_law_33 3 rfl rfl)
theorem dL_law_901 : decode cL_law 901 = .ok (.iload_n 3, 1) := dk_29 (dk_at dksL_law_33 4 rfl rfl)
theorem dL_law_902 : decode cL_law 902 = .ok (.iconst 3, 1) := dk_6 (dk_at dksL_law_33 5 rfl rfl)
theorem dL_law_903 : decode cL_law 903 = .ok (.iadd, 1) := dk_96 (dk_at dksL_law_33 6 rfl rfl)
theorem dL_law_904 : decode cL_law 904 = .ok (.iaload, 1) := dk_46 (dk_at dksL_law_33 7 rfl rfl)
theorem dL_law_905 : decode cL_law 905 = .ok (.invokevirtual 111, 3) := dk_182 0 111 (dk_at dksL_law_33 8 rfl rfl)
theorem dL_law_908 : decode cL_law 908 = .ok (.aload_n 2, 1) := dk_44 (dk_at dksL_law_33 11 rfl rfl)
theorem dL_law_909 : decode cL_law 909 = .ok (.aload_n 0, 1) := dk_42 (dk_at dksL_law_33 12 rfl rfl)
theorem dL_law_910 : decode cL_law 910 = .ok (.iload_n 3, 1) := dk_29 (dk_at dksL_law_33 13 rfl rfl)
theorem dL_law_911 : decode cL_law 911 = .ok (.iconst 1, 1) := dk_4 (dk_at dksL_law_33 14 rfl rfl)
theorem dL_law_912 : decode cL_law 912 = .ok (.iadd, 1) := dk_96 (dk_at dksL_law_33 15 rfl rfl)
theorem dL_law_913 : decode cL_law 913 = .ok (.iaload, 1) := dk_46 (dk_at dksL_law_33 16 rfl rfl)
theorem dL_law_914 : decode cL_law 914 = .ok (.aload_n 0, 1) := dk_42 (dk_at dksL_law_33 17 rfl rfl)
theorem dL_law_915 : decode cL_law 915 = .ok (.iload_n 3, 1) := dk_29 (dk_at dksL_law_33 18 rfl rfl)
theorem dL_law_916 : decode cL_law 916 = .ok (.iconst 2, 1) := dk_5 (dk_at dksL_law_33 19 rfl rfl)
theorem dL_law_917 : decode cL_law 917 = .ok (.iadd, 1) := dk_96 (dk_at dksL_law_33 20 rfl rfl)
theorem dL_law_918 : decode cL_law 918 = .ok (.iaload, 1) := dk_46 (dk_at dksL_law_33 21 rfl rfl)
theorem dL_law_919 : decode cL_law 919 = .ok (.aload_n 0, 1) := dk_42 (dk_at dksL_law_33 22 rfl rfl)
theorem dL_law_920 : decode cL_law 920 = .ok (.iload_n 3, 1) := dk_29 (dk_at dksL_law_33 23 rfl rfl)
theorem dL_law_921 : decode cL_law 921 = .ok (.iconst 3, 1) := dk_6 (dk_at dksL_law_34 0 rfl rfl)
theorem dL_law_922 : decode cL_law 922 = .ok (.iadd, 1) := dk_96 (dk_at dksL_law_34 1 rfl rfl)
theorem dL_law_923 : decode cL_law 923 = .ok (.iaload, 1) := dk_46 (dk_at dksL_law_34 2 rfl rfl)
theorem dL_law_924 : decode cL_law 924 = .ok (.invokevirtual 114, 3) := dk_182 0 114 (dk_at dksL_law_34 3 rfl rfl)
theorem dL_law_927 : decode cL_law 927 = .ok (.if_icmp .eq 242, 3) := dk_159 0 242 (dk_at dksL_law_34 6 rfl rfl)
theorem dL_law_930 : decode cL_law 930 = .ok (.iconst 0, 1) := dk_3 (dk_at dksL_law_34 9 rfl rfl)
theorem dL_law_931 : decode cL_law 931 = .ok (.ireturn, 1) := dk_172 (dk_at dksL_law_34 10 rfl rfl)
theorem dL_law_932 : decode cL_law 932 = .ok (.aload_n 1, 1) := dk_43 (dk_at dksL_law_34 11 rfl rfl)
theorem dL_law_933 : decode cL_law 933 = .ok (.aload_n 0, 1) := dk_42 (dk_at dksL_law_34 12 rfl rfl)
theorem dL_law_934 : decode cL_law 934 = .ok (.iload_n 3, 1) := dk_29 (dk_at dksL_law_34 13 rfl rfl)
theorem dL_law_935 : decode cL_law 935 = .ok (.iconst 1, 1) := dk_4 (dk_at dksL_law_34 14 rfl rfl)
theorem dL_law_936 : decode cL_law 936 = .ok (.iadd, 1) := dk_96 (dk_at dksL_law_34 15 rfl rfl)
theorem dL_law_937 : decode cL_law 937 = .ok (.iaload, 1) := dk_46 (dk_at dksL_law_34 16 rfl rfl)
theorem dL_law_938 : decode cL_law 938 = .ok (.aload_n 0, 1) := dk_42 (dk_at dksL_law_34 17 rfl rfl)
theorem dL_law_939 : decode cL_law 939 = .ok (.iload_n 3, 1) := dk_29 (dk_at dksL_law_34 18 rfl rfl)
theorem dL_law_940 : decode cL_law 940 = .ok (.iconst 2, 1) := dk_5 (dk_at dksL_law_34 19 rfl rfl)
theorem dL_law_941 : decode cL_law 941 = .ok (.iadd, 1) := dk_96 (dk_at dksL_law_34 20 rfl rfl)
theorem dL_law_942 : decode cL_law 942 = .ok (.iaload, 1) := dk_46 (dk_at dksL_law_34 21 rfl rfl)
theorem dL_law_943 : decode cL_law 943 = .ok (.aload_n 0, 1) := dk_42 (dk_at dksL_law_34 22 rfl rfl)
theorem dL_law_944 : decode cL_law 944 = .ok (.iload_n 3, 1) := dk_29 (dk_at dksL_law_34 23 rfl rfl)
theorem dL_law_945 : decode cL_law 945 = .ok (.iconst 3, 1) := dk_6 (dk_at dksL_law_35 0 rfl rfl)
theorem dL_law_946 : decode cL_law 946 = .ok (.iadd, 1) := dk_96 (dk_at dksL_law_35 1 rfl rfl)
theorem dL_law_947 : decode cL_law 947 = .ok (.iaload, 1) := dk_46 (dk_at dksL_law_35 2 rfl rfl)
theorem dL_law_948 : decode cL_law 948 = .ok (.invokevirtual 115, 3) := dk_182 0 115 (dk_at dksL_law_35 3 rfl rfl)
theorem dL_law_951 : decode cL_law 951 = .ok (.aload_n 2, 1) := dk_44 (dk_at dksL_law_35 6 rfl rfl)
theorem dL_law_952 : decode cL_law 952 = .ok (.aload_n 0, 1) := dk_42 (dk_at dksL_law_35 7 rfl rfl)
theorem dL_law_953 : decode cL_law 953 = .ok (.iload_n 3, 1) := dk_29 (dk_at dksL_law_35 8 rfl rfl)
theorem dL_law_954 : decode cL_law 954 = .ok (.iconst 1, 1) := dk_4 (dk_at dksL_law_35 9 rfl rfl)
theorem dL_law_955 : decode cL_law 955 = .ok (.iadd, 1) := dk_96 (dk_at dksL_law_35 10 rfl rfl)
theorem dL_law_956 : decode cL_law 956 = .ok (.iaload, 1) := dk_46 (dk_at dksL_law_35 11 rfl rfl)
theorem dL_law_957 : decode cL_law 957 = .ok (.aload_n 0, 1) := dk_42 (dk_at dksL_law_35 12 rfl rfl)
theorem dL_law_958 : decode cL_law 958 = .ok (.iload_n 3, 1) := dk_29 (dk_at dksL_law_35 13 rfl rfl)
theorem dL_law_959 : decode cL_law 959 = .ok (.iconst 2, 1) := dk_5 (dk_at dksL_law_35 14 rfl rfl)
theorem dL_law_960 : decode cL_law 960 = .ok (.iadd, 1) := dk_96 (dk_at dksL_law_35 15 rfl rfl)
theorem dL_law_961 : decode cL_law 961 = .ok (.iaload, 1) := dk_46 (dk_at dksL_law_35 16 rfl rfl)
theorem dL_law_962 : decode cL_law 962 = .ok (.aload_n 0, 1) := dk_42 (dk_at dksL_law_35 17 rfl rfl)
theorem dL_law_963 : decode cL_law 963 = .ok (.iload_n 3, 1) := dk_29 (dk_at dksL_law_35 18 rfl rfl)
theorem dL_law_964 : decode cL_law 964 = .ok (.iconst 3, 1) := dk_6 (dk_at dksL_law_35 19 rfl rfl)
theorem dL_law_965 : decode cL_law 965 = .ok (.iadd, 1) := dk_96 (dk_at dksL_law_35 20 rfl rfl)
theorem dL_law_966 : decode cL_law 966 = .ok (.iaload, 1) := dk_46 (dk_at dksL_law_35 21 rfl rfl)
theorem dL_law_967 : decode cL_law 967 = .ok (.invokevirtual 118, 3) := dk_182 0 118 (dk_at dksL_law_36 0 rfl rfl)
theorem dL_law_970 : decode cL_law 970 = .ok (.if_icmp .eq 199, 3) := dk_159 0 199 (dk_at dksL_law_36 3 rfl rfl)
theorem dL_law_973 : decode cL_law 973 = .ok (.iconst 0, 1) := dk_3 (dk_at dksL_law_36 6 rfl rfl)
theorem dL_law_974 : decode cL_law 974 = .ok (.ireturn, 1) := dk_172 (dk_at dksL_law_36 7 rfl rfl)
theorem dL_law_975 : decode cL_law 975 = .ok (.aload_n 1, 1) := dk_43 (dk_at dksL_law_36 8 rfl rfl)
theorem dL_law_976 : decode cL_law 976 = .ok (.aload_n 0, 1) := dk_42 (dk_at dksL_law_36 9 rfl rfl)
theorem dL_law_977 : decode cL_law 977 = .ok (.iload_n 3, 1) := dk_29 (dk_at dksL_law_36 10 rfl rfl)
theorem dL_law_978 : decode cL_law 978 = .ok (.iconst 1, 1) := dk_4 (dk_at dksL_law_36 11 rfl rfl)
theorem dL_law_979 : decode cL_law 979 = .ok (.iadd, 1) := dk_96 (dk_at dksL_law_36 12 rfl rfl)
theorem dL_law_980 : decode cL_law 980 = .ok (.iaload, 1) := dk_46 (dk_at dksL_law_36 13 rfl rfl)
theorem dL_law_981 : decode cL_law 981 = .ok (.invokevirtual 119, 3) := dk_182 0 119 (dk_at dksL_law_36 14 rfl rfl)
theorem dL_law_984 : decode cL_law 984 = .ok (.aload_n 2, 1) := dk_44 (dk_at dksL_law_36 17 rfl rfl)
theorem dL_law_985 : decode cL_law 985 = .ok (.aload_n 0, 1) := dk_42 (dk_at dksL_law_36 18 rfl rfl)
theorem dL_law_986 : decode cL_law 986 = .ok (.iload_n 3, 1) := dk_29 (dk_at dksL_law_36 19 rfl rfl)
theorem dL_law_987 : decode cL_law 987 = .ok (.iconst 1, 1) := dk_4 (dk_at dksL_law_36 20 rfl rfl)
theorem dL_law_988 : decode cL_law 988 = .ok (.iadd, 1) := dk_96 (dk_at dksL_law_36 21 rfl rfl)
theorem dL_law_989 : decode cL_law 989 = .ok (.iaload, 1) := dk_46 (dk_at dksL_law_36 22 rfl rfl)
theorem dL_law_990 : decode cL_law 990 = .ok (.invokevirtual 122, 3) := dk_182 0 122 (dk_at dksL_law_37 0 rfl rfl)
theorem dL_law_993 : decode cL_law 993 = .ok (.if_icmp .eq 176, 3) := dk_159 0 176 (dk_at dksL_law_37 3 rfl rfl)
theorem dL_law_996 : decode cL_law 996 = .ok (.iconst 0, 1) := dk_3 (dk_at dksL_law_37 6 rfl rfl)
theorem dL_law_997 : decode cL_law 997 = .ok (.ireturn, 1) := dk_172 (dk_at dksL_law_37 7 rfl rfl)
theorem dL_law_998 : decode cL_law 998 = .ok (.aload_n 1, 1) := dk_43 (dk_at dksL_law_37 8 rfl rfl)
theorem dL_law_999 : decode cL_law 999 = .ok (.aload_n 0, 1) := dk_42 (dk_at dksL_law_37 9 rfl rfl)
theorem dL_law_1000 : decode cL_law 1000 = .ok (.iload_n 3, 1) := dk_29 (dk_at dksL_law_37 10 rfl rfl)
theorem dL_law_1001 : decode cL_law 1001 = .ok (.iconst 1, 1) := dk_4 (dk_at dksL_law_37 11 rfl rfl)
theorem dL_law_1002 : decode cL_law 1002 = .ok (.iadd, 1) := dk_96 (dk_at dksL_law_37 12 rfl rfl)
theorem dL_law_1003 : decode cL_law 1003 = .ok (.iaload, 1) := dk_46 (dk_at dksL_law_37 13 rfl rfl)
theorem dL_law_1004 : decode cL_law 1004 = .ok (.invokevirtual 123, 3) := dk_182 0 123 (dk_at dksL_law_37 14 rfl rfl)
theorem dL_law_1007 : decode cL_law 1007 = .ok (.aload_n 2, 1) := dk_44 (dk_at dksL_law_37 17 rfl rfl)
theorem dL_law_1008 : decode cL_law 1008 = .ok (.aload_n 0, 1) := dk_42 (dk_at dksL_law_37 18 rfl rfl)
theorem dL_law_1009 : decode cL_law 1009 = .ok (.iload_n 3, 1) := dk_29 (dk_at dksL_law_37 19 rfl rfl)
theorem dL_law_1010 : decode cL_law 1010 = .ok (.iconst 1, 1) := dk_4 (dk_at dksL_law_37 20 rfl rfl)
theorem dL_law_1011 : decode cL_law 1011 = .ok (.iadd, 1) := dk_96 (dk_at dksL_law_37 21 rfl rfl)
theorem dL_law_1012 : decode cL_law 1012 = .ok (.iaload, 1) := dk_46 (dk_at dksL_law_37 22 rfl rfl)
theorem dL_law_1013 : decode cL_law 1013 = .ok (.invokevirtual 126, 3) := dk_182 0 126 (dk_at dksL_law_38 0 rfl rfl)
theorem dL_law_1016 : decode cL_law 1016 = .ok (.if_icmp .eq 153, 3) := dk_159 0 153 (dk_at dksL_law_38 3 rfl rfl)
theorem dL_law_1019 : decode cL_law 1019 = .ok (.iconst 0, 1) := dk_3 (dk_at dksL_law_38 6 rfl rfl)
theorem dL_law_1020 : decode cL_law 1020 = .ok (.ireturn, 1) := dk_172 (dk_at dksL_law_38 7 rfl rfl)
theorem dL_law_1021 : decode cL_law 1021 = .ok (.aload_n 1, 1) := dk_43 (dk_at dksL_law_38 8 rfl rfl)
theorem dL_law_1022 : decode cL_law 1022 = .ok (.aload_n 0, 1) := dk_42 (dk_at dksL_law_38 9 rfl rfl)
theorem dL_law_1023 : decode cL_law 1023 = .ok (.iload_n 3, 1) := dk_29 (dk_at dksL_law_38 10 rfl rfl)
theorem dL_law_1024 : decode cL_law 1024 = .ok (.iconst 1, 1) := dk_4 (dk_at dksL_law_38 11 rfl rfl)
theorem dL_law_1025 : decode cL_law 1025 = .ok (.iadd, 1) := dk_96 (dk_at dksL_law_38 12 rfl rfl)
theorem dL_law_1026 : decode cL_law 1026 = .ok (.iaload, 1) := dk_46 (dk_at dksL_law_38 13 rfl rfl)
theorem dL_law_1027 : decode cL_law 1027 = .ok (.invokevirtual 127, 3) := dk_182 0 127 (dk_at dksL_law_38 14 rfl rfl)
theorem dL_law_1030 : decode cL_law 1030 = .ok (.aload_n 2, 1) := dk_44 (dk_at dksL_law_38 17 rfl rfl)
theorem dL_law_1031 : decode cL_law 1031 = .ok (.aload_n 0, 1) := dk_42 (dk_at dksL_law_38 18 rfl rfl)
theorem dL_law_1032 : decode cL_law 1032 = .ok (.iload_n 3, 1) := dk_29 (dk_at dksL_law_38 19 rfl rfl)
theorem dL_law_1033 : decode cL_law 1033 = .ok (.iconst 1, 1) := dk_4 (dk_at dksL_law_38 20 rfl rfl)
theorem dL_law_1034 : decode cL_law 1034 = .ok (.iadd, 1) := dk_96 (dk_at dksL_law_38 21 rfl rfl)
theorem dL_law_1035 : decode cL_law 1035 = .ok (.iaload, 1) := dk_46 (dk_at dksL_law_38 22 rfl rfl)
theorem dL_law_1036 : decode cL_law 1036 = .ok (.invokevirtual 130, 3) := dk_182 0 130 (dk_at dksL_law_39 0 rfl rfl)
theorem dL_law_1039 : decode cL_law 1039 = .ok (.if_icmp .eq 130, 3) := dk_159 0 130 (dk_at dksL_law_39 3 rfl rfl)
theorem dL_law_1042 : decode cL_law 1042 = .ok (.iconst 0, 1) := dk_3 (dk_at dksL_law_39 6 rfl rfl)
theorem dL_law_1043 : decode cL_law 1043 = .ok (.ireturn, 1) := dk_172 (dk_at dksL_law_39 7 rfl rfl)
theorem dL_law_1044 : decode cL_law 1044 = .ok (.aload_n 1, 1) := dk_43 (dk_at dksL_law_39 8 rfl rfl)
theorem dL_law_1045 : decode cL_law 1045 = .ok (.aload_n 0, 1) := dk_42 (dk_at dksL_law_39 9 rfl rfl)
theorem dL_law_1046 : decode cL_law 1046 = .ok (.iload_n 3, 1) := dk_29 (dk_at dksL_law_39 10 rfl rfl)
theorem dL_law_1047 : decode cL_law 1047 = .ok (.iconst 1, 1) := dk_4 (dk_at dksL_law_39 11 rfl rfl)
theorem dL_law_1048 : decode cL_law 1048 = .ok (.iadd, 1) := dk_96 (dk_at dksL_law_39 12 rfl rfl)
theorem dL_law_1049 : decode cL_law 1049 = .ok (.iaload, 1) := dk_46 (dk_at dksL_law_39 13 rfl rfl)
theorem dL_law_1050 : decode cL_law 1050 = .ok (.aload_n 0, 1) := dk_42 (dk_at dksL_law_39 14 rfl rfl)
theorem dL_law_1051 : decode cL_law 1051 = .ok (.iload_n 3, 1) := dk_29 (dk_at dksL_law_39 15 rfl rfl)
theorem dL_law_1052 : decode cL_law 1052 = .ok (.iconst 2, 1) := dk_5 (dk_at dksL_law_39 16 rfl rfl)
theorem dL_law_1053 : decode cL_law 1053 = .ok (.iadd, 1) := dk_96 (dk_at dksL_law_39 17 rfl rfl)
theorem dL_law_1054 : decode cL_law 1054 = .ok (.iaload, 1) := dk_46 (dk_at dksL_law_39 18 rfl rfl)
theorem dL_law_1055 : decode cL_law 1055 = .ok (.invokevirtual 131, 3) := dk_182 0 131 (dk_at dksL_law_39 19 rfl rfl)
theorem dL_law_1058 : decode cL_law 1058 = .ok (.aload_n 2, 1) := dk_44 (dk_at dksL_law_39 22 rfl rfl)
theorem dL_law_1059 : decode cL_law 1059 = .ok (.aload_n 0, 1) := dk_42 (dk_at dksL_law_39 23 rfl rfl)
theorem dL_law_1060 : decode cL_law 1060 = .ok (.iload_n 3, 1) := dk_29 (dk_at dksL_law_40 0 rfl rfl)
theorem dL_law_1061 : decode cL_law 1061 = .ok (.iconst 1, 1) := dk_4 (dk_at dksL_law_40 1 rfl rfl)
theorem dL_law_1062 : decode cL_law 1062 = .ok (.iadd, 1) := dk_96 (dk_at dksL_law_40 2 rfl rfl)
theorem dL_law_1063 : decode cL_law 1063 = .ok (.iaload, 1) := dk_46 (dk_at dksL_law_40 3 rfl rfl)
theorem dL_law_1064 : decode cL_law 1064 = .ok (.aload_n 0, 1) := dk_42 (dk_at dksL_law_40 4 rfl rfl)
theorem dL_law_1065 : decode cL_law 1065 = .ok (.iload_n 3, 1) := dk_29 (dk_at dksL_law_40 5 rfl rfl)
theorem dL_law_1066 : decode cL_law 1066 = .ok (.iconst 2, 1) := dk_5 (dk_at dksL_law_40 6 rfl rfl)
theorem dL_law_1067 : decode cL_law 1067 = .ok (.iadd, 1) := dk_96 (dk_at dksL_law_40 7 rfl rfl)
theorem dL_law_1068 : decode cL_law 1068 = .ok (.iaload, 1) := dk_46 (dk_at dksL_law_40 8 rfl rfl)
theorem dL_law_1069 : decode cL_law 1069 = .ok (.invokevirtual 134, 3) := dk_182 0 134 (dk_at dksL_law_40 9 rfl rfl)
theorem dL_law_1072 : decode cL_law 1072 = .ok (.if_icmp .eq 97, 3) := dk_159 0 97 (dk_at dksL_law_40 12 rfl rfl)
theorem dL_law_1075 : decode cL_law 1075 = .ok (.iconst 0, 1) := dk_3 (dk_at dksL_law_40 15 rfl rfl)
theorem dL_law_1076 : decode cL_law 1076 = .ok (.ireturn, 1) := dk_172 (dk_at dksL_law_40 16 rfl rfl)
theorem dL_law_1077 : decode cL_law 1077 = .ok (.aload_n 1, 1) := dk_43 (dk_at dksL_law_40 17 rfl rfl)
theorem dL_law_1078 : decode cL_law 1078 = .ok (.aload_n 0, 1) := dk_42 (dk_at dksL_law_40 18 rfl rfl)
theorem dL_law_1079 : decode cL_law 1079 = .ok (.iload_n 3, 1) := dk_29 (dk_at dksL_law_40 19 rfl rfl)
theorem dL_law_1080 : decode cL_law 1080 = .ok (.iconst 1, 1) := dk_4 (dk_at dksL_law_40 20 rfl rfl)
theorem dL_law_1081 : decode cL_law 1081 = .ok (.iadd, 1) := dk_96 (dk_at dksL_law_40 21 rfl rfl)
theorem dL_law_1082 : decode cL_law 1082 = .ok (.iaload, 1) := dk_46 (dk_at dksL_law_40 22 rfl rfl)
theorem dL_law_1083 : decode cL_law 1083 = .ok (.aload_n 0, 1) := dk_42 (dk_at dksL_law_40 23 rfl rfl)
theorem dL_law_1084 : decode cL_law 1084 = .ok (.iload_n 3, 1) := dk_29 (dk_at dksL_law_41 0 rfl rfl)
theorem dL_law_1085 : decode cL_law 1085 = .ok (.iconst 2, 1) := dk_5 (dk_at dksL_law_41 1 rfl rfl)
theorem dL_law_1086 : decode cL_law 1086 = .ok (.iadd, 1) := dk_96 (dk_at dksL_law_41 2 rfl rfl)
theorem dL_law_1087 : decode cL_law 1087 = .ok (.iaload, 1) := dk_46 (dk_at dksL_law_41 3 rfl rfl)
theorem dL_law_1088 : decode cL_law 1088 = .ok (.invokevirtual 135, 3) := dk_182 0 135 (dk_at dksL_law_41 4 rfl rfl)
theorem dL_law_1091 : decode cL_law 1091 = .ok (.aload_n 2, 1) := dk_44 (dk_at dksL_law_41 7 rfl rfl)
theorem dL_law_1092 : decode cL_law 1092 = .ok (.aload_n 0, 1) := dk_42 (dk_at dksL_law_41 8 rfl rfl)
theorem dL_law_1093 : decode cL_law 1093 = .ok (.iload_n 3, 1) := dk_29 (dk_at dksL_law_41 9 rfl rfl)
theorem dL_law_1094 : decode cL_law 1094 = .ok (.iconst 1, 1) := dk_4 (dk_at dksL_law_41 10 rfl rfl)
theorem dL_law_1095 : decode cL_law 1095 = .ok (.iadd, 1) := dk_96 (dk_at dksL_law_41 11 rfl rfl)
theorem dL_law_1096 : decode cL_law 1096 = .ok (.iaload, 1) := dk_46 (dk_at dksL_law_41 12 rfl rfl)
theorem dL_law_1097 : decode cL_law 1097 = .ok (.aload_n 0, 1) := dk_42 (dk_at dksL_law_41 13 rfl rfl)
theorem dL_law_1098 : decode cL_law 1098 = .ok (.iload_n 3, 1) := dk_29 (dk_at dksL_law_41 14 rfl rfl)
theorem dL_law_1099 : decode cL_law 1099 = .ok (.iconst 2, 1) := dk_5 (dk_at dksL_law_41 15 rfl rfl)
theorem dL_law_1100 : decode cL_law 1100 = .ok (.iadd, 1) := dk_96 (dk_at dksL_law_41 16 rfl rfl)
theorem dL_law_1101 : decode cL_law 1101 = .ok (.iaload, 1) := dk_46 (dk_at dksL_law_41 17 rfl rfl)
theorem dL_law_1102 : decode cL_law 1102 = .ok (.invokevirtual 138, 3) := dk_182 0 138 (dk_at dksL_law_41 18 rfl rfl)
theorem dL_law_1105 : decode cL_law 1105 = .ok (.if_icmp .eq 64, 3) := dk_159 0 64 (dk_at dksL_law_41 21 rfl rfl)
theorem dL_law_1108 : decode cL_law 1108 = .ok (.iconst 0, 1) := dk_3 (dk_at dksL_law_42 0 rfl rfl)
theorem dL_law_1109 : decode cL_law 1109 = .ok (.ireturn, 1) := dk_172 (dk_at dksL_law_42 1 rfl rfl)
theorem dL_law_1110 : decode cL_law 1110 = .ok (.aload_n 1, 1) := dk_43 (dk_at dksL_law_42 2 rfl rfl)
theorem dL_law_1111 : decode cL_law 1111 = .ok (.aload_n 0, 1) := dk_42 (dk_at dksL_law_42 3 rfl rfl)
theorem dL_law_1112 : decode cL_law 1112 = .ok (.iload_n 3, 1) := dk_29 (dk_at dksL_law_42 4 rfl rfl)
theorem dL_law_1113 : decode cL_law 1113 = .ok (.iconst 1, 1) := dk_4 (dk_at dksL_law_42 5 rfl rfl)
theorem dL_law_1114 : decode cL_law 1114 = .ok (.iadd, 1) := dk_96 (dk_at dksL_law_42 6 rfl rfl)
theorem dL_law_1115 : decode cL_law 1115 = .ok (.iaload, 1) := dk_46 (dk_at dksL_law_42 7 rfl rfl)
theorem dL_law_1116 : decode cL_law 1116 = .ok (.invokevirtual 139, 3) := dk_182 0 139 (dk_at dksL_law_42 8 rfl rfl)
theorem dL_law_1119 : decode cL_law 1119 = .ok (.aload_n 2, 1) := dk_44 (dk_at dksL_law_42 11 rfl rfl)
theorem dL_law_1120 : decode cL_law 1120 = .ok (.aload_n 0, 1) := dk_42 (dk_at dksL_law_42 12 rfl rfl)
theorem dL_law_1121 : decode cL_law 1121 = .ok (.iload_n 3, 1) := dk_29 (dk_at dksL_law_42 13 rfl rfl)
theorem dL_law_1122 : decode cL_law 1122 = .ok (.iconst 1, 1) := dk_4 (dk_at dksL_law_42 14 rfl rfl)
theorem dL_law_1123 : decode cL_law 1123 = .ok (.iadd, 1) := dk_96 (dk_at dksL_law_42 15 rfl rfl)
theorem dL_law_1124 : decode cL_law 1124 = .ok (.iaload, 1) := dk_46 (dk_at dksL_law_42 16 rfl rfl)
theorem dL_law_1125 : decode cL_law 1125 = .ok (.invokevirtual 142, 3) := dk_182 0 142 (dk_at dksL_law_42 17 rfl rfl)
theorem dL_law_1128 : decode cL_law 1128 = .ok (.if_icmp .eq 41, 3) := dk_159 0 41 (dk_at dksL_law_42 20 rfl rfl)
theorem dL_law_1131 : decode cL_law 1131 = .ok (.iconst 0, 1) := dk_3 (dk_at dksL_law_42 23 rfl rfl)
theorem dL_law_1132 : decode cL_law 1132 = .ok (.ireturn, 1) := dk_172 (dk_at dksL_law_43 0 rfl rfl)
theorem dL_law_1133 : decode cL_law 1133 = .ok (.aload_n 1, 1) := dk_43 (dk_at dksL_law_43 1 rfl rfl)
theorem dL_law_1134 : decode cL_law 1134 = .ok (.aload_n 0, 1) := dk_42 (dk_at dksL_law_43 2 rfl rfl)
theorem dL_law_1135 : decode cL_law 1135 = .ok (.iload_n 3, 1) := dk_29 (dk_at dksL_law_43 3 rfl rfl)
theorem dL_law_1136 : decode cL_law 1136 = .ok (.iconst 1, 1) := dk_4 (dk_at dksL_law_43 4 rfl rfl)
theorem dL_law_1137 : decode cL_law 1137 = .ok (.iadd, 1) := dk_96 (dk_at dksL_law_43 5 rfl rfl)
theorem dL_law_1138 : decode cL_law 1138 = .ok (.iaload, 1) := dk_46 (dk_at dksL_law_43 6 rfl rfl)
theorem dL_law_1139 : decode cL_law 1139 = .ok (.invokevirtual 143, 3) := dk_182 0 143 (dk_at dksL_law_43 7 rfl rfl)
theorem dL_law_1142 : decode cL_law 1142 = .ok (.aload_n 2, 1) := dk_44 (dk_at dksL_law_43 10 rfl rfl)
theorem dL_law_1143 : decode cL_law 1143 = .ok (.aload_n 0, 1) := dk_42 (dk_at dksL_law_43 11 rfl rfl)
theorem dL_law_1144 : decode cL_law 1144 = .ok (.iload_n 3, 1) := dk_29 (dk_at dksL_law_43 12 rfl rfl)
theorem dL_law_1145 : decode cL_law 1145 = .ok (.iconst 1, 1) := dk_4 (dk_at dksL_law_43 13 rfl rfl)
theorem dL_law_1146 : decode cL_law 1146 = .ok (.iadd, 1) := dk_96 (dk_at dksL_law_43 14 rfl rfl)
theorem dL_law_1147 : decode cL_law 1147 = .ok (.iaload, 1) := dk_46 (dk_at dksL_law_43 15 rfl rfl)
theorem dL_law_1148 : decode cL_law 1148 = .ok (.invokevirtual 146, 3) := dk_182 0 146 (dk_at dksL_law_43 16 rfl rfl)
theorem dL_law_1151 : decode cL_law 1151 = .ok (.if_icmp .eq 18, 3) := dk_159 0 18 (dk_at dksL_law_43 19 rfl rfl)
theorem dL_law_1154 : decode cL_law 1154 = .ok (.iconst 0, 1) := dk_3 (dk_at dksL_law_43 22 rfl rfl)
theorem dL_law_1155 : decode cL_law 1155 = .ok (.ireturn, 1) := dk_172 (dk_at dksL_law_43 23 rfl rfl)
theorem dL_law_1156 : decode cL_law 1156 = .ok (.aload_n 1, 1) := dk_43 (dk_at dksL_law_44 0 rfl rfl)
theorem dL_law_1157 : decode cL_law 1157 = .ok (.invokevirtual 147, 3) := dk_182 0 147 (dk_at dksL_law_44 1 rfl rfl)
theorem dL_law_1160 : decode cL_law 1160 = .ok (.aload_n 2, 1) := dk_44 (dk_at dksL_law_44 4 rfl rfl)
theorem dL_law_1161 : decode cL_law 1161 = .ok (.invokevirtual 150, 3) := dk_182 0 150 (dk_at dksL_law_44 5 rfl rfl)
theorem dL_law_1164 : decode cL_law 1164 = .ok (.if_icmp .eq 5, 3) := dk_159 0 5 (dk_at dksL_law_44 8 rfl rfl)
theorem dL_law_1167 : decode cL_law 1167 = .ok (.iconst 0, 1) := dk_3 (dk_at dksL_law_44 11 rfl rfl)
theorem dL_law_1168 : decode cL_law 1168 = .ok (.ireturn, 1) := dk_172 (dk_at dksL_law_44 12 rfl rfl)
theorem dL_law_1169 : decode cL_law 1169 = .ok (.iinc 3 6, 3) := dk_132 3 6 (dk_at dksL_law_44 13 rfl rfl)
theorem dL_law_1172 : decode cL_law 1172 = .ok (.goto (-1154), 3) := dk_167 251 126 (dk_at dksL_law_44 16 rfl rfl)
theorem dL_law_1175 : decode cL_law 1175 = .ok (.iconst 1, 1) := dk_4 (dk_at dksL_law_44 19 rfl rfl)
theorem dL_law_1176 : decode cL_law 1176 = .ok (.ireturn, 1) := dk_172 (dk_at dksL_law_44 20 rfl rfl)
