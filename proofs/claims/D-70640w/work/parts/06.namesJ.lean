/-! java/util/AbstractCollection -/
set_option maxRecDepth 100000
def RJ0 : String := "java/util/AbstractCollection"
abbrev cJ0_init : ByteArray := prog_24_method_1_code
def yJ0_init : MethodName := ⟨RJ0, "<init>", "()V"⟩
theorem dJ0_init_0 : decode cJ0_init 0 = .ok (.aload_n 0, 1) := by decide +kernel
theorem dJ0_init_1 : decode cJ0_init 1 = .ok (.invokespecial 1, 3) := by decide +kernel
theorem dJ0_init_4 : decode cJ0_init 4 = .ok (.return_, 1) := by decide +kernel
theorem q52 : (Jvm.Cond.initialized "java/util/AbstractCollection") ∈ lw_all := lw_g (lw_at lw_m1 2 rfl) rfl
theorem q93 : (Jvm.Cond.instanceMethod ({ cls := "java/util/AbstractCollection", name := "<init>", desc := "()V" } : Jvm.MethodName)) ∈ lw_all := lw_g (lw_at lw_m1 43 rfl) rfl
theorem q94 : (Jvm.Cond.code ({ cls := "java/util/AbstractCollection", name := "<init>", desc := "()V" } : Jvm.MethodName) prog_24_method_1_code (1 : Nat) (Option.none : Option Jvm.ClassFile.FieldType)) ∈ lw_all := lw_g (lw_at lw_m1 44 rfl) rfl
theorem q95 : (Jvm.Cond.methodLink "java/util/AbstractCollection" (1 : Nat) ({ cls := "java/lang/Object", name := "<init>", desc := "()V" } : Jvm.MethodName)) ∈ lw_all := lw_g (lw_at lw_m1 45 rfl) rfl

/-! java/util/AbstractList -/
set_option maxRecDepth 100000
def RJ1 : String := "java/util/AbstractList"
abbrev cJ1_init : ByteArray := prog_25_method_1_code
def yJ1_init : MethodName := ⟨RJ1, "<init>", "()V"⟩
def dkwJ1_init_0 : List UInt8 := [42, 183, 0, 1, 42, 3, 181, 0, 7, 177]
abbrev dktJ1_init_0 : List UInt8 := dkwJ1_init_0 ++ []
theorem dksJ1_init_0 : cJ1_init.data.toList.drop 0 = dktJ1_init_0 := by decide +kernel
theorem dJ1_init_0 : decode cJ1_init 0 = .ok (.aload_n 0, 1) := dk_42 (dk_at dksJ1_init_0 0 rfl rfl)
theorem dJ1_init_1 : decode cJ1_init 1 = .ok (.invokespecial 1, 3) := dk_183 0 1 (dk_at dksJ1_init_0 1 rfl rfl)
theorem dJ1_init_4 : decode cJ1_init 4 = .ok (.aload_n 0, 1) := dk_42 (dk_at dksJ1_init_0 4 rfl rfl)
theorem dJ1_init_5 : decode cJ1_init 5 = .ok (.iconst 0, 1) := dk_3 (dk_at dksJ1_init_0 5 rfl rfl)
theorem dJ1_init_6 : decode cJ1_init 6 = .ok (.putfield 7, 3) := dk_181 0 7 (dk_at dksJ1_init_0 6 rfl rfl)
theorem dJ1_init_9 : decode cJ1_init 9 = .ok (.return_, 1) := dk_177 (dk_at dksJ1_init_0 9 rfl rfl)
theorem q53 : (Jvm.Cond.initialized "java/util/AbstractList") ∈ lw_all := lw_g (lw_at lw_m1 3 rfl) rfl
theorem q90 : (Jvm.Cond.instanceMethod ({ cls := "java/util/AbstractList", name := "<init>", desc := "()V" } : Jvm.MethodName)) ∈ lw_all := lw_g (lw_at lw_m1 40 rfl) rfl
theorem q91 : (Jvm.Cond.code ({ cls := "java/util/AbstractList", name := "<init>", desc := "()V" } : Jvm.MethodName) prog_25_method_1_code (1 : Nat) (Option.none : Option Jvm.ClassFile.FieldType)) ∈ lw_all := lw_g (lw_at lw_m1 41 rfl) rfl
theorem q92 : (Jvm.Cond.methodLink "java/util/AbstractList" (1 : Nat) ({ cls := "java/util/AbstractCollection", name := "<init>", desc := "()V" } : Jvm.MethodName)) ∈ lw_all := lw_g (lw_at lw_m1 42 rfl) rfl
theorem q100 : (Jvm.Cond.fieldLink "java/util/AbstractList" (7 : Nat) "java/util/AbstractList" "modCount" "I") ∈ lw_all := lw_g (lw_at lw_m1 50 rfl) rfl
theorem q108 : (Jvm.Cond.soleField "java/util/AbstractList" "modCount") ∈ lw_all := lw_g (lw_at lw_m1 58 rfl) rfl

/-! java/lang/IndexOutOfBoundsException -/
set_option maxRecDepth 100000
def RJ10 : String := "java/lang/IndexOutOfBoundsException"
abbrev cJ10_init : ByteArray := prog_15_method_2_code
def yJ10_init : MethodName := ⟨RJ10, "<init>", "(Ljava/lang/String;)V"⟩
def dkwJ10_init_0 : List UInt8 := [42, 43, 183, 0, 7, 177]
abbrev dktJ10_init_0 : List UInt8 := dkwJ10_init_0 ++ []
theorem dksJ10_init_0 : cJ10_init.data.toList.drop 0 = dktJ10_init_0 := by decide +kernel
theorem dJ10_init_0 : decode cJ10_init 0 = .ok (.aload_n 0, 1) := dk_42 (dk_at dksJ10_init_0 0 rfl rfl)
theorem dJ10_init_1 : decode cJ10_init 1 = .ok (.aload_n 1, 1) := dk_43 (dk_at dksJ10_init_0 1 rfl rfl)
theorem dJ10_init_2 : decode cJ10_init 2 = .ok (.invokespecial 7, 3) := dk_183 0 7 (dk_at dksJ10_init_0 2 rfl rfl)
theorem dJ10_init_5 : decode cJ10_init 5 = .ok (.return_, 1) := dk_177 (dk_at dksJ10_init_0 5 rfl rfl)
abbrev cJ10_init_2 : ByteArray := prog_15_method_1_code
def yJ10_init_2 : MethodName := ⟨RJ10, "<init>", "()V"⟩
theorem dJ10_init_2_0 : decode cJ10_init_2 0 = .ok (.aload_n 0, 1) := by decide +kernel
theorem dJ10_init_2_1 : decode cJ10_init_2 1 = .ok (.invokespecial 1, 3) := by decide +kernel
theorem dJ10_init_2_4 : decode cJ10_init_2 4 = .ok (.return_, 1) := by decide +kernel
theorem q64 : (Jvm.Cond.initialized "java/lang/IndexOutOfBoundsException") ∈ lw_all := lw_g (lw_at lw_m1 14 rfl) rfl
theorem q324 : (Jvm.Cond.instanceMethod ({ cls := "java/lang/IndexOutOfBoundsException", name := "<init>", desc := "(Ljava/lang/String;)V" } : Jvm.MethodName)) ∈ lw_all := lw_g (lw_at lw_m2 34 rfl) rfl
theorem q325 : (Jvm.Cond.code ({ cls := "java/lang/IndexOutOfBoundsException", name := "<init>", desc := "(Ljava/lang/String;)V" } : Jvm.MethodName) prog_15_method_2_code (2 : Nat) (Option.none : Option Jvm.ClassFile.FieldType)) ∈ lw_all := lw_g (lw_at lw_m2 35 rfl) rfl
theorem q326 : (Jvm.Cond.methodLink "java/lang/IndexOutOfBoundsException" (7 : Nat) ({ cls := "java/lang/RuntimeException", name := "<init>", desc := "(Ljava/lang/String;)V" } : Jvm.MethodName)) ∈ lw_all := lw_g (lw_at lw_m2 36 rfl) rfl
theorem q335 : (Jvm.Cond.declares ({ cls := "java/lang/IndexOutOfBoundsException", name := "<init>", desc := "()V" } : Jvm.MethodName)) ∈ lw_tbl := lw_at lw_m2 45 rfl
theorem q336 : (Jvm.Cond.declares ({ cls := "java/lang/IndexOutOfBoundsException", name := "<init>", desc := "(Ljava/lang/String;)V" } : Jvm.MethodName)) ∈ lw_tbl := lw_at lw_m2 46 rfl
theorem q368 : (Jvm.Cond.instanceMethod ({ cls := "java/lang/IndexOutOfBoundsException", name := "<init>", desc := "()V" } : Jvm.MethodName)) ∈ lw_all := lw_g (lw_at lw_m2 78 rfl) rfl
theorem q369 : (Jvm.Cond.code ({ cls := "java/lang/IndexOutOfBoundsException", name := "<init>", desc := "()V" } : Jvm.MethodName) prog_15_method_1_code (1 : Nat) (Option.none : Option Jvm.ClassFile.FieldType)) ∈ lw_all := lw_g (lw_at lw_m2 79 rfl) rfl
theorem q370 : (Jvm.Cond.methodLink "java/lang/IndexOutOfBoundsException" (1 : Nat) ({ cls := "java/lang/RuntimeException", name := "<init>", desc := "()V" } : Jvm.MethodName)) ∈ lw_all := lw_g (lw_at lw_m2 80 rfl) rfl

/-! java/lang/ArrayIndexOutOfBoundsException -/
set_option maxRecDepth 100000
def RJ11 : String := "java/lang/ArrayIndexOutOfBoundsException"
def TJ11 : u_T := fun k => match k with
  | 0 => ("java/lang/Throwable", "backtrace", "Ljava/lang/Object;", false)
  | 1 => ("java/lang/Throwable", "detailMessage", "Ljava/lang/String;", false)
  | 2 => ("java/lang/Throwable", "cause", "Ljava/lang/Throwable;", false)
  | 3 => ("java/lang/Throwable", "stackTrace", "[Ljava/lang/StackTraceElement;", false)
  | 4 => ("java/lang/Throwable", "depth", "I", false)
  | _ => ("java/lang/Throwable", "suppressedExceptions", "Ljava/util/List;", false)
def tyJ11 : Nat → FieldType := fun k => match k with
  | 0 => .object "java/lang/Object"
  | 1 => .object "java/lang/String"
  | 2 => .object "java/lang/Throwable"
  | 3 => .array (.object "java/lang/StackTraceElement")
  | 4 => .int
  | _ => .object "java/util/List"
abbrev wsJ110 : List Cond := u_ws RJ11 TJ11 6
theorem nmJ11 : ∀ a, a < 6 → ∀ b, b < 6 → a ≠ b → (TJ11 a).2.1 ≠ (TJ11 b).2.1 := by decide +kernel
theorem tyJ11_ok : ∀ k, k < 6 → parseFieldDescriptor (TJ11 k).2.2.1 = some (tyJ11 k) := by decide +kernel
abbrev cJ11_init : ByteArray := prog_10_method_2_code
def yJ11_init : MethodName := ⟨RJ11, "<init>", "(Ljava/lang/String;)V"⟩
def dkwJ11_init_0 : List UInt8 := [42, 43, 183, 0, 7, 177]
abbrev dktJ11_init_0 : List UInt8 := dkwJ11_init_0 ++ []
theorem dksJ11_init_0 : cJ11_init.data.toList.drop 0 = dktJ11_init_0 := by decide +kernel
theorem dJ11_init_0 : decode cJ11_init 0 = .ok (.aload_n 0, 1) := dk_42 (dk_at dksJ11_init_0 0 rfl rfl)
theorem dJ11_init_1 : decode cJ11_init 1 = .ok (.aload_n 1, 1) := dk_43 (dk_at dksJ11_init_0 1 rfl rfl)
theorem dJ11_init_2 : decode cJ11_init 2 = .ok (.invokespecial 7, 3) := dk_183 0 7 (dk_at dksJ11_init_0 2 rfl rfl)
theorem dJ11_init_5 : decode cJ11_init 5 = .ok (.return_, 1) := dk_177 (dk_at dksJ11_init_0 5 rfl rfl)
abbrev cJ11_init_2 : ByteArray := prog_10_method_1_code
def yJ11_init_2 : MethodName := ⟨RJ11, "<init>", "()V"⟩
theorem dJ11_init_2_0 : decode cJ11_init_2 0 = .ok (.aload_n 0, 1) := by decide +kernel
theorem dJ11_init_2_1 : decode cJ11_init_2 1 = .ok (.invokespecial 1, 3) := by decide +kernel
theorem dJ11_init_2_4 : decode cJ11_init_2 4 = .ok (.return_, 1) := by decide +kernel
theorem q65 : (Jvm.Cond.initialized "java/lang/ArrayIndexOutOfBoundsException") ∈ lw_all := lw_g (lw_at lw_m1 15 rfl) rfl
theorem q215 : (Jvm.Cond.selects "java/lang/ArrayIndexOutOfBoundsException" ({ cls := "java/lang/Throwable", name := "fillInStackTrace", desc := "()Ljava/lang/Throwable;" } : Jvm.MethodName) ({ cls := "java/lang/Throwable", name := "fillInStackTrace", desc := "()Ljava/lang/Throwable;" } : Jvm.MethodName)) ∈ lw_all := lw_g (lw_at lw_m1 165 rfl) rfl
theorem q320 : (Jvm.Cond.instantiable "java/lang/ArrayIndexOutOfBoundsException" (6 : Nat)) ∈ lw_all := lw_g (lw_at lw_m2 30 rfl) rfl
theorem q321 : (Jvm.Cond.instanceMethod ({ cls := "java/lang/ArrayIndexOutOfBoundsException", name := "<init>", desc := "(Ljava/lang/String;)V" } : Jvm.MethodName)) ∈ lw_all := lw_g (lw_at lw_m2 31 rfl) rfl
theorem q322 : (Jvm.Cond.code ({ cls := "java/lang/ArrayIndexOutOfBoundsException", name := "<init>", desc := "(Ljava/lang/String;)V" } : Jvm.MethodName) prog_10_method_2_code (2 : Nat) (Option.none : Option Jvm.ClassFile.FieldType)) ∈ lw_all := lw_g (lw_at lw_m2 32 rfl) rfl
theorem q323 : (Jvm.Cond.methodLink "java/lang/ArrayIndexOutOfBoundsException" (7 : Nat) ({ cls := "java/lang/IndexOutOfBoundsException", name := "<init>", desc := "(Ljava/lang/String;)V" } : Jvm.MethodName)) ∈ lw_all := lw_g (lw_at lw_m2 33 rfl) rfl
theorem q327 : (Jvm.Cond.lays "java/lang/ArrayIndexOutOfBoundsException" "java/lang/Throwable" "backtrace" "Ljava/lang/Object;") ∈ lw_all := lw_g (lw_at lw_m2 37 rfl) rfl
theorem q328 : (Jvm.Cond.lays "java/lang/ArrayIndexOutOfBoundsException" "java/lang/Throwable" "detailMessage" "Ljava/lang/String;") ∈ lw_all := lw_g (lw_at lw_m2 38 rfl) rfl
theorem q329 : (Jvm.Cond.lays "java/lang/ArrayIndexOutOfBoundsException" "java/lang/Throwable" "cause" "Ljava/lang/Throwable;") ∈ lw_all := lw_g (lw_at lw_m2 39 rfl) rfl
theorem q330 : (Jvm.Cond.lays "java/lang/ArrayIndexOutOfBoundsException" "java/lang/Throwable" "stackTrace" "[Ljava/lang/StackTraceElement;") ∈ lw_all := lw_g (lw_at lw_m2 40 rfl) rfl
theorem q331 : (Jvm.Cond.lays "java/lang/ArrayIndexOutOfBoundsException" "java/lang/Throwable" "depth" "I") ∈ lw_all := lw_g (lw_at lw_m2 41 rfl) rfl
theorem q332 : (Jvm.Cond.lays "java/lang/ArrayIndexOutOfBoundsException" "java/lang/Throwable" "suppressedExceptions" "Ljava/util/List;") ∈ lw_all := lw_g (lw_at lw_m2 42 rfl) rfl
theorem q333 : (Jvm.Cond.superclass "java/lang/ArrayIndexOutOfBoundsException" "java/lang/IndexOutOfBoundsException") ∈ lw_all := lw_g (lw_at lw_m2 43 rfl) rfl
theorem q334 : (Jvm.Cond.castable "java/lang/ArrayIndexOutOfBoundsException" "java/lang/ArrayIndexOutOfBoundsException") ∈ lw_tbl := lw_at lw_m2 44 rfl
theorem q337 : (Jvm.Cond.selects "java/lang/ArrayIndexOutOfBoundsException" ({ cls := "java/lang/Throwable", name := "fillInStackTrace", desc := "(I)Ljava/lang/Throwable;" } : Jvm.MethodName) ({ cls := "java/lang/Throwable", name := "fillInStackTrace", desc := "(I)Ljava/lang/Throwable;" } : Jvm.MethodName)) ∈ lw_all := lw_g (lw_at lw_m2 47 rfl) rfl
theorem q365 : (Jvm.Cond.instanceMethod ({ cls := "java/lang/ArrayIndexOutOfBoundsException", name := "<init>", desc := "()V" } : Jvm.MethodName)) ∈ lw_all := lw_g (lw_at lw_m2 75 rfl) rfl
theorem q366 : (Jvm.Cond.code ({ cls := "java/lang/ArrayIndexOutOfBoundsException", name := "<init>", desc := "()V" } : Jvm.MethodName) prog_10_method_1_code (1 : Nat) (Option.none : Option Jvm.ClassFile.FieldType)) ∈ lw_all := lw_g (lw_at lw_m2 76 rfl) rfl
theorem q367 : (Jvm.Cond.methodLink "java/lang/ArrayIndexOutOfBoundsException" (1 : Nat) ({ cls := "java/lang/IndexOutOfBoundsException", name := "<init>", desc := "()V" } : Jvm.MethodName)) ∈ lw_all := lw_g (lw_at lw_m2 77 rfl) rfl
theorem q515 : (Jvm.Cond.selects "java/lang/ArrayIndexOutOfBoundsException" ({ cls := "java/lang/Object", name := "getClass", desc := "()Ljava/lang/Class;" } : Jvm.MethodName) ({ cls := "java/lang/Object", name := "getClass", desc := "()Ljava/lang/Class;" } : Jvm.MethodName)) ∈ lw_all := lw_g (lw_at lw_m2 225 rfl) rfl
theorem q1239 : (Jvm.Cond.castable "java/lang/ArrayIndexOutOfBoundsException" "java/lang/IndexOutOfBoundsException") ∈ lw_tbl := lw_at lw_m5 229 rfl
theorem q1250 : (Jvm.Cond.castable "java/lang/ArrayIndexOutOfBoundsException" "java/lang/Object") ∈ lw_tbl := lw_at lw_m6 0 rfl
theorem in_J11 : ∀ w ∈ wsJ110, w ∈ lw_all := lw_in wsJ110 [327, 328, 329, 330, 331, 332] (by decide +kernel) (by decide +kernel)

/-! java/lang/Math -/
set_option maxRecDepth 100000
def RJ12 : String := "java/lang/Math"
abbrev cJ12_min : ByteArray := prog_17_method_69_code
def yJ12_min : MethodName := ⟨RJ12, "min", "(II)I"⟩
def dkwJ12_min_0 : List UInt8 := [26, 27, 163, 0, 7, 26, 167, 0, 4, 27, 172]
abbrev dktJ12_min_0 : List UInt8 := dkwJ12_min_0 ++ []
theorem dksJ12_min_0 : cJ12_min.data.toList.drop 0 = dktJ12_min_0 := by decide +kernel
theorem dJ12_min_0 : decode cJ12_min 0 = .ok (.iload_n 0, 1) := dk_26 (dk_at dksJ12_min_0 0 rfl rfl)
theorem dJ12_min_1 : decode cJ12_min 1 = .ok (.iload_n 1, 1) := dk_27 (dk_at dksJ12_min_0 1 rfl rfl)
theorem dJ12_min_2 : decode cJ12_min 2 = .ok (.if_icmp .gt 7, 3) := dk_163 0 7 (dk_at dksJ12_min_0 2 rfl rfl)
theorem dJ12_min_5 : decode cJ12_min 5 = .ok (.iload_n 0, 1) := dk_26 (dk_at dksJ12_min_0 5 rfl rfl)
theorem dJ12_min_6 : decode cJ12_min 6 = .ok (.goto 4, 3) := dk_167 0 4 (dk_at dksJ12_min_0 6 rfl rfl)
theorem dJ12_min_9 : decode cJ12_min 9 = .ok (.iload_n 1, 1) := dk_27 (dk_at dksJ12_min_0 9 rfl rfl)
theorem dJ12_min_10 : decode cJ12_min 10 = .ok (.ireturn, 1) := dk_172 (dk_at dksJ12_min_0 10 rfl rfl)
abbrev cJ12_max : ByteArray := prog_17_method_65_code
def yJ12_max : MethodName := ⟨RJ12, "max", "(II)I"⟩
def dkwJ12_max_0 : List UInt8 := [26, 27, 161, 0, 7, 26, 167, 0, 4, 27, 172]
abbrev dktJ12_max_0 : List UInt8 := dkwJ12_max_0 ++ []
theorem dksJ12_max_0 : cJ12_max.data.toList.drop 0 = dktJ12_max_0 := by decide +kernel
theorem dJ12_max_0 : decode cJ12_max 0 = .ok (.iload_n 0, 1) := dk_26 (dk_at dksJ12_max_0 0 rfl rfl)
theorem dJ12_max_1 : decode cJ12_max 1 = .ok (.iload_n 1, 1) := dk_27 (dk_at dksJ12_max_0 1 rfl rfl)
theorem dJ12_max_2 : decode cJ12_max 2 = .ok (.if_icmp .lt 7, 3) := dk_161 0 7 (dk_at dksJ12_max_0 2 rfl rfl)
theorem dJ12_max_5 : decode cJ12_max 5 = .ok (.iload_n 0, 1) := dk_26 (dk_at dksJ12_max_0 5 rfl rfl)
theorem dJ12_max_6 : decode cJ12_max 6 = .ok (.goto 4, 3) := dk_167 0 4 (dk_at dksJ12_max_0 6 rfl rfl)
theorem dJ12_max_9 : decode cJ12_max 9 = .ok (.iload_n 1, 1) := dk_27 (dk_at dksJ12_max_0 9 rfl rfl)
theorem dJ12_max_10 : decode cJ12_max 10 = .ok (.ireturn, 1) := dk_172 (dk_at dksJ12_max_0 10 rfl rfl)
theorem q66 : (Jvm.Cond.initialized "java/lang/Math") ∈ lw_all := lw_g (lw_at lw_m1 16 rfl) rfl
theorem q362 : (Jvm.Cond.static ({ cls := "java/lang/Math", name := "min", desc := "(II)I" } : Jvm.MethodName)) ∈ lw_all := lw_g (lw_at lw_m2 72 rfl) rfl
theorem q363 : (Jvm.Cond.code ({ cls := "java/lang/Math", name := "min", desc := "(II)I" } : Jvm.MethodName) prog_17_method_69_code (2 : Nat) (Option.some Jvm.ClassFile.FieldType.int)) ∈ lw_all := lw_g (lw_at lw_m2 73 rfl) rfl
theorem q497 : (Jvm.Cond.static ({ cls := "java/lang/Math", name := "max", desc := "(II)I" } : Jvm.MethodName)) ∈ lw_all := lw_g (lw_at lw_m2 207 rfl) rfl
theorem q498 : (Jvm.Cond.code ({ cls := "java/lang/Math", name := "max", desc := "(II)I" } : Jvm.MethodName) prog_17_method_65_code (2 : Nat) (Option.some Jvm.ClassFile.FieldType.int)) ∈ lw_all := lw_g (lw_at lw_m2 208 rfl) rfl

/-! jdk/internal/util/ArraysSupport -/
set_option maxRecDepth 100000
def RJ13 : String := "jdk/internal/util/ArraysSupport"
abbrev cJ13_newLength : ByteArray := prog_33_method_27_code
def yJ13_newLength : MethodName := ⟨RJ13, "newLength", "(III)I"⟩
def dkwJ13_newLength_1 : List UInt8 := [184, 0, 201, 172]
abbrev dktJ13_newLength_1 : List UInt8 := dkwJ13_newLength_1 ++ []
def dkwJ13_newLength_0 : List UInt8 := [26, 27, 28, 184, 0, 194, 96, 62, 3, 29, 162, 0, 11, 29, 18, 200, 163, 0, 5, 29, 172, 26, 27]
abbrev dktJ13_newLength_0 : List UInt8 := dkwJ13_newLength_0 ++ dktJ13_newLength_1
theorem dksJ13_newLength_0 : cJ13_newLength.data.toList.drop 0 = dktJ13_newLength_0 := by decide +kernel
theorem dksJ13_newLength_1 : cJ13_newLength.data.toList.drop 23 = dktJ13_newLength_1 := dk_seg dksJ13_newLength_0 23 rfl rfl
theorem dJ13_newLength_0 : decode cJ13_newLength 0 = .ok (.iload_n 0, 1) := dk_26 (dk_at dksJ13_newLength_0 0 rfl rfl)
theorem dJ13_newLength_1 : decode cJ13_newLength 1 = .ok (.iload_n 1, 1) := dk_27 (dk_at dksJ13_newLength_0 1 rfl rfl)
theorem dJ13_newLength_2 : decode cJ13_newLength 2 = .ok (.iload_n 2, 1) := dk_28 (dk_at dksJ13_newLength_0 2 rfl rfl)
theorem dJ13_newLength_3 : decode cJ13_newLength 3 = .ok (.invokestatic 194, 3) := dk_184 0 194 (dk_at dksJ13_newLength_0 3 rfl rfl)
theorem dJ13_newLength_6 : decode cJ13_newLength 6 = .ok (.iadd, 1) := dk_96 (dk_at dksJ13_newLength_0 6 rfl rfl)
theorem dJ13_newLength_7 : decode cJ13_newLength 7 = .ok (.istore_n 3, 1) := dk_62 (dk_at dksJ13_newLength_0 7 rfl rfl)
theorem dJ13_newLength_8 : decode cJ13_newLength 8 = .ok (.iconst 0, 1) := dk_3 (dk_at dksJ13_newLength_0 8 rfl rfl)
theorem dJ13_newLength_9 : decode cJ13_newLength 9 = .ok (.iload_n 3, 1) := dk_29 (dk_at dksJ13_newLength_0 9 rfl rfl)
theorem dJ13_newLength_10 : decode cJ13_newLength 10 = .ok (.if_icmp .ge 11, 3) := dk_162 0 11 (dk_at dksJ13_newLength_0 10 rfl rfl)
theorem dJ13_newLength_13 : decode cJ13_newLength 13 = .ok (.iload_n 3, 1) := dk_29 (dk_at dksJ13_newLength_0 13 rfl rfl)
theorem dJ13_newLength_14 : decode cJ13_newLength 14 = .ok (.ldc 200, 2) := dk_18 200 (dk_at dksJ13_newLength_0 14 rfl rfl)
theorem dJ13_newLength_16 : decode cJ13_newLength 16 = .ok (.if_icmp .gt 5, 3) := dk_163 0 5 (dk_at dksJ13_newLength_0 16 rfl rfl)
theorem dJ13_newLength_19 : decode cJ13_newLength 19 = .ok (.iload_n 3, 1) := dk_29 (dk_at dksJ13_newLength_0 19 rfl rfl)
theorem dJ13_newLength_20 : decode cJ13_newLength 20 = .ok (.ireturn, 1) := dk_172 (dk_at dksJ13_newLength_0 20 rfl rfl)
theorem dJ13_newLength_21 : decode cJ13_newLength 21 = .ok (.iload_n 0, 1) := dk_26 (dk_at dksJ13_newLength_0 21 rfl rfl)
theorem dJ13_newLength_22 : decode cJ13_newLength 22 = .ok (.iload_n 1, 1) := dk_27 (dk_at dksJ13_newLength_0 22 rfl rfl)
theorem dJ13_newLength_23 : decode cJ13_newLength 23 = .ok (.invokestatic 201, 3) := dk_184 0 201 (dk_at dksJ13_newLength_1 0 rfl rfl)
theorem dJ13_newLength_26 : decode cJ13_newLength 26 = .ok (.ireturn, 1) := dk_172 (dk_at dksJ13_newLength_1 3 rfl rfl)
abbrev cJ13_hugeLength : ByteArray := prog_33_method_28_code
def yJ13_hugeLength : MethodName := ⟨RJ13, "hugeLength", "(II)I"⟩
def dkwJ13_hugeLength_2 : List UInt8 := [191, 28, 18, 200, 163, 0, 6, 18, 200, 172, 28, 172]
abbrev dktJ13_hugeLength_2 : List UInt8 := dkwJ13_hugeLength_2 ++ []
def dkwJ13_hugeLength_1 : List UInt8 := [26, 182, 0, 98, 18, 208, 182, 0, 94, 27, 182, 0, 98, 18, 210, 182, 0, 94, 182, 0, 101, 183, 0, 212]
abbrev dktJ13_hugeLength_1 : List UInt8 := dkwJ13_hugeLength_1 ++ dktJ13_hugeLength_2
def dkwJ13_hugeLength_0 : List UInt8 := [26, 27, 96, 61, 28, 156, 0, 44, 187, 0, 204, 89, 187, 0, 89, 89, 183, 0, 91, 18, 206, 182, 0, 94]
abbrev dktJ13_hugeLength_0 : List UInt8 := dkwJ13_hugeLength_0 ++ dktJ13_hugeLength_1
theorem dksJ13_hugeLength_0 : cJ13_hugeLength.data.toList.drop 0 = dktJ13_hugeLength_0 := by decide +kernel
theorem dksJ13_hugeLength_1 : cJ13_hugeLength.data.toList.drop 24 = dktJ13_hugeLength_1 := dk_seg dksJ13_hugeLength_0 24 rfl rfl
theorem dksJ13_hugeLength_2 : cJ13_hugeLength.data.toList.drop 48 = dktJ13_hugeLength_2 := dk_seg dksJ13_hugeLength_1 24 rfl rfl
theorem dJ13_hugeLength_0 : decode cJ13_hugeLength 0 = .ok (.iload_n 0, 1) := dk_26 (dk_at dksJ13_hugeLength_0 0 rfl rfl)
theorem dJ13_hugeLength_1 : decode cJ13_hugeLength 1 = .ok (.iload_n 1, 1) := dk_27 (dk_at dksJ13_hugeLength_0 1 rfl rfl)
theorem dJ13_hugeLength_2 : decode cJ13_hugeLength 2 = .ok (.iadd, 1) := dk_96 (dk_at dksJ13_hugeLength_0 2 rfl rfl)
theorem dJ13_hugeLength_3 : decode cJ13_hugeLength 3 = .ok (.istore_n 2, 1) := dk_61 (dk_at dksJ13_hugeLength_0 3 rfl rfl)
theorem dJ13_hugeLength_4 : decode cJ13_hugeLength 4 = .ok (.iload_n 2, 1) := dk_28 (dk_at dksJ13_hugeLength_0 4 rfl rfl)
theorem dJ13_hugeLength_5 : decode cJ13_hugeLength 5 = .ok (.ifCond .ge 44, 3) := dk_156 0 44 (dk_at dksJ13_hugeLength_0 5 rfl rfl)
theorem dJ13_hugeLength_8 : decode cJ13_hugeLength 8 = .ok (.new 204, 3) := dk_187 0 204 (dk_at dksJ13_hugeLength_0 8 rfl rfl)
theorem dJ13_hugeLength_11 : decode cJ13_hugeLength 11 = .ok (.dup, 1) := dk_89 (dk_at dksJ13_hugeLength_0 11 rfl rfl)
theorem dJ13_hugeLength_12 : decode cJ13_hugeLength 12 = .ok (.new 89, 3) := dk_187 0 89 (dk_at dksJ13_hugeLength_0 12 rfl rfl)
theorem dJ13_hugeLength_15 : decode cJ13_hugeLength 15 = .ok (.dup, 1) := dk_89 (dk_at dksJ13_hugeLength_0 15 rfl rfl)
theorem dJ13_hugeLength_16 : decode cJ13_hugeLength 16 = .ok (.invokespecial 91, 3) := dk_183 0 91 (dk_at dksJ13_hugeLength_0 16 rfl rfl)
theorem dJ13_hugeLength_19 : decode cJ13_hugeLength 19 = .ok (.ldc 206, 2) := dk_18 206 (dk_at dksJ13_hugeLength_0 19 rfl rfl)
theorem dJ13_hugeLength_21 : decode cJ13_hugeLength 21 = .ok (.invokevirtual 94, 3) := dk_182 0 94 (dk_at dksJ13_hugeLength_0 21 rfl rfl)
theorem dJ13_hugeLength_24 : decode cJ13_hugeLength 24 = .ok (.iload_n 0, 1) := dk_26 (dk_at dksJ13_hugeLength_1 0 rfl rfl)
theorem dJ13_hugeLength_25 : decode cJ13_hugeLength 25 = .ok (.invokevirtual 98, 3) := dk_182 0 98 (dk_at dksJ13_hugeLength_1 1 rfl rfl)
theorem dJ13_hugeLength_28 : decode cJ13_hugeLength 28 = .ok (.ldc 208, 2) := dk_18 208 (dk_at dksJ13_hugeLength_1 4 rfl rfl)
theorem dJ13_hugeLength_30 : decode cJ13_hugeLength 30 = .ok (.invokevirtual 94, 3) := dk_182 0 94 (dk_at dksJ13_hugeLength_1 6 rfl rfl)
theorem dJ13_hugeLength_33 : decode cJ13_hugeLength 33 = .ok (.iload_n 1, 1) := dk_27 (dk_at dksJ13_hugeLength_1 9 rfl rfl)
theorem dJ13_hugeLength_34 : decode cJ13_hugeLength 34 = .ok (.invokevirtual 98, 3) := dk_182 0 98 (dk_at dksJ13_hugeLength_1 10 rfl rfl)
theorem dJ13_hugeLength_37 : decode cJ13_hugeLength 37 = .ok (.ldc 210, 2) := dk_18 210 (dk_at dksJ13_hugeLength_1 13 rfl rfl)
theorem dJ13_hugeLength_39 : decode cJ13_hugeLength 39 = .ok (.invokevirtual 94, 3) := dk_182 0 94 (dk_at dksJ13_hugeLength_1 15 rfl rfl)
theorem dJ13_hugeLength_42 : decode cJ13_hugeLength 42 = .ok (.invokevirtual 101, 3) := dk_182 0 101 (dk_at dksJ13_hugeLength_1 18 rfl rfl)
theorem dJ13_hugeLength_45 : decode cJ13_hugeLength 45 = .ok (.invokespecial 212, 3) := dk_183 0 212 (dk_at dksJ13_hugeLength_1 21 rfl rfl)
theorem dJ13_hugeLength_48 : decode cJ13_hugeLength 48 = .ok (.athrow, 1) := dk_191 (dk_at dksJ13_hugeLength_2 0 rfl rfl)
theorem dJ13_hugeLength_49 : decode cJ13_hugeLength 49 = .ok (.iload_n 2, 1) := dk_28 (dk_at dksJ13_hugeLength_2 1 rfl rfl)
theorem dJ13_hugeLength_50 : decode cJ13_hugeLength 50 = .ok (.ldc 200, 2) := dk_18 200 (dk_at dksJ13_hugeLength_2 2 rfl rfl)
theorem dJ13_hugeLength_52 : decode cJ13_hugeLength 52 = .ok (.if_icmp .gt 6, 3) := dk_163 0 6 (dk_at dksJ13_hugeLength_2 4 rfl rfl)
theorem dJ13_hugeLength_55 : decode cJ13_hugeLength 55 = .ok (.ldc 200, 2) := dk_18 200 (dk_at dksJ13_hugeLength_2 7 rfl rfl)
theorem dJ13_hugeLength_57 : decode cJ13_hugeLength 57 = .ok (.ireturn, 1) := dk_172 (dk_at dksJ13_hugeLength_2 9 rfl rfl)
theorem dJ13_hugeLength_58 : decode cJ13_hugeLength 58 = .ok (.iload_n 2, 1) := dk_28 (dk_at dksJ13_hugeLength_2 10 rfl rfl)
theorem dJ13_hugeLength_59 : decode cJ13_hugeLength 59 = .ok (.ireturn, 1) := dk_172 (dk_at dksJ13_hugeLength_2 11 rfl rfl)
theorem q71 : (Jvm.Cond.initialized "jdk/internal/util/ArraysSupport") ∈ lw_all := lw_g (lw_at lw_m1 21 rfl) rfl
theorem q494 : (Jvm.Cond.static ({ cls := "jdk/internal/util/ArraysSupport", name := "newLength", desc := "(III)I" } : Jvm.MethodName)) ∈ lw_all := lw_g (lw_at lw_m2 204 rfl) rfl
theorem q495 : (Jvm.Cond.code ({ cls := "jdk/internal/util/ArraysSupport", name := "newLength", desc := "(III)I" } : Jvm.MethodName) prog_33_method_27_code (4 : Nat) (Option.some Jvm.ClassFile.FieldType.int)) ∈ lw_all := lw_g (lw_at lw_m2 205 rfl) rfl
theorem q496 : (Jvm.Cond.methodLink "jdk/internal/util/ArraysSupport" (194 : Nat) ({ cls := "java/lang/Math", name := "max", desc := "(II)I" } : Jvm.MethodName)) ∈ lw_all := lw_g (lw_at lw_m2 206 rfl) rfl
theorem q499 : (Jvm.Cond.constant "jdk/internal/util/ArraysSupport" (200 : Nat) (2147483639 : Int32)) ∈ lw_all := lw_g (lw_at lw_m2 209 rfl) rfl
theorem q500 : (Jvm.Cond.methodLink "jdk/internal/util/ArraysSupport" (201 : Nat) ({ cls := "jdk/internal/util/ArraysSupport", name := "hugeLength", desc := "(II)I" } : Jvm.MethodName)) ∈ lw_all := lw_g (lw_at lw_m2 210 rfl) rfl
theorem q501 : (Jvm.Cond.static ({ cls := "jdk/internal/util/ArraysSupport", name := "hugeLength", desc := "(II)I" } : Jvm.MethodName)) ∈ lw_all := lw_g (lw_at lw_m2 211 rfl) rfl
theorem q502 : (Jvm.Cond.code ({ cls := "jdk/internal/util/ArraysSupport", name := "hugeLength", desc := "(II)I" } : Jvm.MethodName) prog_33_method_28_code (3 : Nat) (Option.some Jvm.ClassFile.FieldType.int)) ∈ lw_all := lw_g (lw_at lw_m2 212 rfl) rfl

/-! java/util/Arrays -/
set_option maxRecDepth 100000
def RJ14 : String := "java/util/Arrays"
abbrev cJ14_copyOf : ByteArray := prog_27_method_119_code
def yJ14_copyOf : MethodName := ⟨RJ14, "copyOf", "([Ljava/lang/Object;I)[Ljava/lang/Object;"⟩
def dkwJ14_copyOf_0 : List UInt8 := [42, 27, 42, 182, 0, 86, 184, 1, 44, 176]
abbrev dktJ14_copyOf_0 : List UInt8 := dkwJ14_copyOf_0 ++ []
theorem dksJ14_copyOf_0 : cJ14_copyOf.data.toList.drop 0 = dktJ14_copyOf_0 := by decide +kernel
theorem dJ14_copyOf_0 : decode cJ14_copyOf 0 = .ok (.aload_n 0, 1) := dk_42 (dk_at dksJ14_copyOf_0 0 rfl rfl)
theorem dJ14_copyOf_1 : decode cJ14_copyOf 1 = .ok (.iload_n 1, 1) := dk_27 (dk_at dksJ14_copyOf_0 1 rfl rfl)
theorem dJ14_copyOf_2 : decode cJ14_copyOf 2 = .ok (.aload_n 0, 1) := dk_42 (dk_at dksJ14_copyOf_0 2 rfl rfl)
theorem dJ14_copyOf_3 : decode cJ14_copyOf 3 = .ok (.invokevirtual 86, 3) := dk_182 0 86 (dk_at dksJ14_copyOf_0 3 rfl rfl)
theorem dJ14_copyOf_6 : decode cJ14_copyOf 6 = .ok (.invokestatic 300, 3) := dk_184 1 44 (dk_at dksJ14_copyOf_0 6 rfl rfl)
theorem dJ14_copyOf_9 : decode cJ14_copyOf 9 = .ok (.areturn, 1) := dk_176 (dk_at dksJ14_copyOf_0 9 rfl rfl)
abbrev cJ14_copyOf_2 : ByteArray := prog_27_method_120_code
def yJ14_copyOf_2 : MethodName := ⟨RJ14, "copyOf", "([Ljava/lang/Object;ILjava/lang/Class;)[Ljava/lang/Object;"⟩
def dkwJ14_copyOf_2_1 : List UInt8 := [78, 42, 3, 45, 3, 42, 190, 27, 184, 1, 48, 184, 0, 150, 45, 176]
abbrev dktJ14_copyOf_2_1 : List UInt8 := dkwJ14_copyOf_2_1 ++ []
def dkwJ14_copyOf_2_0 : List UInt8 := [44, 18, 110, 166, 0, 10, 27, 189, 0, 2, 167, 0, 14, 44, 182, 0, 90, 27, 184, 0, 95, 192, 0, 110]
abbrev dktJ14_copyOf_2_0 : List UInt8 := dkwJ14_copyOf_2_0 ++ dktJ14_copyOf_2_1
theorem dksJ14_copyOf_2_0 : cJ14_copyOf_2.data.toList.drop 0 = dktJ14_copyOf_2_0 := by decide +kernel
theorem dksJ14_copyOf_2_1 : cJ14_copyOf_2.data.toList.drop 24 = dktJ14_copyOf_2_1 := dk_seg dksJ14_copyOf_2_0 24 rfl rfl
theorem dJ14_copyOf_2_0 : decode cJ14_copyOf_2 0 = .ok (.aload_n 2, 1) := dk_44 (dk_at dksJ14_copyOf_2_0 0 rfl rfl)
theorem dJ14_copyOf_2_1 : decode cJ14_copyOf_2 1 = .ok (.ldc 110, 2) := dk_18 110 (dk_at dksJ14_copyOf_2_0 1 rfl rfl)
theorem dJ14_copyOf_2_3 : decode cJ14_copyOf_2 3 = .ok (.if_acmp .ne 10, 3) := dk_166 0 10 (dk_at dksJ14_copyOf_2_0 3 rfl rfl)
theorem dJ14_copyOf_2_6 : decode cJ14_copyOf_2 6 = .ok (.iload_n 1, 1) := dk_27 (dk_at dksJ14_copyOf_2_0 6 rfl rfl)
theorem dJ14_copyOf_2_7 : decode cJ14_copyOf_2 7 = .ok (.anewarray 2, 3) := dk_189 0 2 (dk_at dksJ14_copyOf_2_0 7 rfl rfl)
theorem dJ14_copyOf_2_10 : decode cJ14_copyOf_2 10 = .ok (.goto 14, 3) := dk_167 0 14 (dk_at dksJ14_copyOf_2_0 10 rfl rfl)
theorem dJ14_copyOf_2_13 : decode cJ14_copyOf_2 13 = .ok (.aload_n 2, 1) := dk_44 (dk_at dksJ14_copyOf_2_0 13 rfl rfl)
theorem dJ14_copyOf_2_14 : decode cJ14_copyOf_2 14 = .ok (.invokevirtual 90, 3) := dk_182 0 90 (dk_at dksJ14_copyOf_2_0 14 rfl rfl)
theorem dJ14_copyOf_2_17 : decode cJ14_copyOf_2 17 = .ok (.iload_n 1, 1) := dk_27 (dk_at dksJ14_copyOf_2_0 17 rfl rfl)
theorem dJ14_copyOf_2_18 : decode cJ14_copyOf_2 18 = .ok (.invokestatic 95, 3) := dk_184 0 95 (dk_at dksJ14_copyOf_2_0 18 rfl rfl)
theorem dJ14_copyOf_2_21 : decode cJ14_copyOf_2 21 = .ok (.checkcast 110, 3) := dk_192 0 110 (dk_at dksJ14_copyOf_2_0 21 rfl rfl)
theorem dJ14_copyOf_2_24 : decode cJ14_copyOf_2 24 = .ok (.astore_n 3, 1) := dk_78 (dk_at dksJ14_copyOf_2_1 0 rfl rfl)
theorem dJ14_copyOf_2_25 : decode cJ14_copyOf_2 25 = .ok (.aload_n 0, 1) := dk_42 (dk_at dksJ14_copyOf_2_1 1 rfl rfl)
theorem dJ14_copyOf_2_26 : decode cJ14_copyOf_2 26 = .ok (.iconst 0, 1) := dk_3 (dk_at dksJ14_copyOf_2_1 2 rfl rfl)
theorem dJ14_copyOf_2_27 : decode cJ14_copyOf_2 27 = .ok (.aload_n 3, 1) := dk_45 (dk_at dksJ14_copyOf_2_1 3 rfl rfl)
theorem dJ14_copyOf_2_28 : decode cJ14_copyOf_2 28 = .ok (.iconst 0, 1) := dk_3 (dk_at dksJ14_copyOf_2_1 4 rfl rfl)
theorem dJ14_copyOf_2_29 : decode cJ14_copyOf_2 29 = .ok (.aload_n 0, 1) := dk_42 (dk_at dksJ14_copyOf_2_1 5 rfl rfl)
theorem dJ14_copyOf_2_30 : decode cJ14_copyOf_2 30 = .ok (.arraylength, 1) := dk_190 (dk_at dksJ14_copyOf_2_1 6 rfl rfl)
theorem dJ14_copyOf_2_31 : decode cJ14_copyOf_2 31 = .ok (.iload_n 1, 1) := dk_27 (dk_at dksJ14_copyOf_2_1 7 rfl rfl)
theorem dJ14_copyOf_2_32 : decode cJ14_copyOf_2 32 = .ok (.invokestatic 304, 3) := dk_184 1 48 (dk_at dksJ14_copyOf_2_1 8 rfl rfl)
theorem dJ14_copyOf_2_35 : decode cJ14_copyOf_2 35 = .ok (.invokestatic 150, 3) := dk_184 0 150 (dk_at dksJ14_copyOf_2_1 11 rfl rfl)
theorem dJ14_copyOf_2_38 : decode cJ14_copyOf_2 38 = .ok (.aload_n 3, 1) := dk_45 (dk_at dksJ14_copyOf_2_1 14 rfl rfl)
theorem dJ14_copyOf_2_39 : decode cJ14_copyOf_2 39 = .ok (.areturn, 1) := dk_176 (dk_at dksJ14_copyOf_2_1 15 rfl rfl)
theorem q72 : (Jvm.Cond.initialized "java/util/Arrays") ∈ lw_all := lw_g (lw_at lw_m1 22 rfl) rfl
theorem q504 : (Jvm.Cond.static ({ cls := "java/util/Arrays", name := "copyOf", desc := "([Ljava/lang/Object;I)[Ljava/lang/Object;" } : Jvm.MethodName)) ∈ lw_all := lw_g (lw_at lw_m2 214 rfl) rfl
theorem q505 : (Jvm.Cond.code ({ cls := "java/util/Arrays", name := "copyOf", desc := "([Ljava/lang/Object;I)[Ljava/lang/Object;" } : Jvm.MethodName) prog_27_method_119_code (2 : Nat) (Option.some (Jvm.ClassFile.FieldType.array (Jvm.ClassFile.FieldType.object "java/lang/Object")))) ∈ lw_all := lw_g (lw_at lw_m2 215 rfl) rfl
theorem q506 : (Jvm.Cond.methodLink "java/util/Arrays" (86 : Nat) ({ cls := "java/lang/Object", name := "getClass", desc := "()Ljava/lang/Class;" } : Jvm.MethodName)) ∈ lw_all := lw_g (lw_at lw_m2 216 rfl) rfl
theorem q522 : (Jvm.Cond.methodLink "java/util/Arrays" (300 : Nat) ({ cls := "java/util/Arrays", name := "copyOf", desc := "([Ljava/lang/Object;ILjava/lang/Class;)[Ljava/lang/Object;" } : Jvm.MethodName)) ∈ lw_all := lw_g (lw_at lw_m2 232 rfl) rfl
theorem q523 : (Jvm.Cond.static ({ cls := "java/util/Arrays", name := "copyOf", desc := "([Ljava/lang/Object;ILjava/lang/Class;)[Ljava/lang/Object;" } : Jvm.MethodName)) ∈ lw_all := lw_g (lw_at lw_m2 233 rfl) rfl
theorem q524 : (Jvm.Cond.code ({ cls := "java/util/Arrays", name := "copyOf", desc := "([Ljava/lang/Object;ILjava/lang/Class;)[Ljava/lang/Object;" } : Jvm.MethodName) prog_27_method_120_code (4 : Nat) (Option.some (Jvm.ClassFile.FieldType.array (Jvm.ClassFile.FieldType.object "java/lang/Object")))) ∈ lw_all := lw_g (lw_at lw_m2 234 rfl) rfl
theorem q525 : (Jvm.Cond.classLink "java/util/Arrays" (110 : Nat) "[Ljava/lang/Object;") ∈ lw_all := lw_g (lw_at lw_m2 235 rfl) rfl
theorem q527 : (Jvm.Cond.classLink "java/util/Arrays" (2 : Nat) "java/lang/Object") ∈ lw_all := lw_g (lw_at lw_m2 237 rfl) rfl
theorem q528 : (Jvm.Cond.methodLink "java/util/Arrays" (304 : Nat) ({ cls := "java/lang/Math", name := "min", desc := "(II)I" } : Jvm.MethodName)) ∈ lw_all := lw_g (lw_at lw_m2 238 rfl) rfl
theorem q529 : (Jvm.Cond.methodLink "java/util/Arrays" (150 : Nat) ({ cls := "java/lang/System", name := "arraycopy", desc := "(Ljava/lang/Object;ILjava/lang/Object;II)V" } : Jvm.MethodName)) ∈ lw_all := lw_g (lw_at lw_m2 239 rfl) rfl

/-! java/util/Objects -/
set_option maxRecDepth 100000
def RJ15 : String := "java/util/Objects"
abbrev cJ15_checkIndex : ByteArray := prog_30_method_17_code
def yJ15_checkIndex : MethodName := ⟨RJ15, "checkIndex", "(II)I"⟩
def dkwJ15_checkIndex_0 : List UInt8 := [26, 27, 1, 184, 0, 105, 172]
abbrev dktJ15_checkIndex_0 : List UInt8 := dkwJ15_checkIndex_0 ++ []
theorem dksJ15_checkIndex_0 : cJ15_checkIndex.data.toList.drop 0 = dktJ15_checkIndex_0 := by decide +kernel
theorem dJ15_checkIndex_0 : decode cJ15_checkIndex 0 = .ok (.iload_n 0, 1) := dk_26 (dk_at dksJ15_checkIndex_0 0 rfl rfl)
theorem dJ15_checkIndex_1 : decode cJ15_checkIndex 1 = .ok (.iload_n 1, 1) := dk_27 (dk_at dksJ15_checkIndex_0 1 rfl rfl)
theorem dJ15_checkIndex_2 : decode cJ15_checkIndex 2 = .ok (.aconst_null, 1) := dk_1 (dk_at dksJ15_checkIndex_0 2 rfl rfl)
theorem dJ15_checkIndex_3 : decode cJ15_checkIndex 3 = .ok (.invokestatic 105, 3) := dk_184 0 105 (dk_at dksJ15_checkIndex_0 3 rfl rfl)
theorem dJ15_checkIndex_6 : decode cJ15_checkIndex 6 = .ok (.ireturn, 1) := dk_172 (dk_at dksJ15_checkIndex_0 6 rfl rfl)
theorem q73 : (Jvm.Cond.initialized "java/util/Objects") ∈ lw_all := lw_g (lw_at lw_m1 23 rfl) rfl
theorem q563 : (Jvm.Cond.static ({ cls := "java/util/Objects", name := "checkIndex", desc := "(II)I" } : Jvm.MethodName)) ∈ lw_all := lw_g (lw_at lw_m3 33 rfl) rfl
theorem q564 : (Jvm.Cond.code ({ cls := "java/util/Objects", name := "checkIndex", desc := "(II)I" } : Jvm.MethodName) prog_30_method_17_code (2 : Nat) (Option.some Jvm.ClassFile.FieldType.int)) ∈ lw_all := lw_g (lw_at lw_m3 34 rfl) rfl
theorem q565 : (Jvm.Cond.methodLink "java/util/Objects" (105 : Nat) ({ cls := "jdk/internal/util/Preconditions", name := "checkIndex", desc := "(IILjava/util/function/BiFunction;)I" } : Jvm.MethodName)) ∈ lw_all := lw_g (lw_at lw_m3 35 rfl) rfl

/-! jdk/internal/util/Preconditions -/
set_option maxRecDepth 100000
def RJ16 : String := "jdk/internal/util/Preconditions"
abbrev cJ16_checkIndex : ByteArray := prog_34_method_11_code
def yJ16_checkIndex : MethodName := ⟨RJ16, "checkIndex", "(IILjava/util/function/BiFunction;)I"⟩
def dkwJ16_checkIndex_0 : List UInt8 := [26, 155, 0, 8, 26, 27, 161, 0, 10, 44, 26, 27, 184, 0, 95, 191, 26, 172]
abbrev dktJ16_checkIndex_0 : List UInt8 := dkwJ16_checkIndex_0 ++ []
theorem dksJ16_checkIndex_0 : cJ16_checkIndex.data.toList.drop 0 = dktJ16_checkIndex_0 := by decide +kernel
theorem dJ16_checkIndex_0 : decode cJ16_checkIndex 0 = .ok (.iload_n 0, 1) := dk_26 (dk_at dksJ16_checkIndex_0 0 rfl rfl)
theorem dJ16_checkIndex_1 : decode cJ16_checkIndex 1 = .ok (.ifCond .lt 8, 3) := dk_155 0 8 (dk_at dksJ16_checkIndex_0 1 rfl rfl)
theorem dJ16_checkIndex_4 : decode cJ16_checkIndex 4 = .ok (.iload_n 0, 1) := dk_26 (dk_at dksJ16_checkIndex_0 4 rfl rfl)
theorem dJ16_checkIndex_5 : decode cJ16_checkIndex 5 = .ok (.iload_n 1, 1) := dk_27 (dk_at dksJ16_checkIndex_0 5 rfl rfl)
theorem dJ16_checkIndex_6 : decode cJ16_checkIndex 6 = .ok (.if_icmp .lt 10, 3) := dk_161 0 10 (dk_at dksJ16_checkIndex_0 6 rfl rfl)
theorem dJ16_checkIndex_9 : decode cJ16_checkIndex 9 = .ok (.aload_n 2, 1) := dk_44 (dk_at dksJ16_checkIndex_0 9 rfl rfl)
theorem dJ16_checkIndex_10 : decode cJ16_checkIndex 10 = .ok (.iload_n 0, 1) := dk_26 (dk_at dksJ16_checkIndex_0 10 rfl rfl)
theorem dJ16_checkIndex_11 : decode cJ16_checkIndex 11 = .ok (.iload_n 1, 1) := dk_27 (dk_at dksJ16_checkIndex_0 11 rfl rfl)
theorem dJ16_checkIndex_12 : decode cJ16_checkIndex 12 = .ok (.invokestatic 95, 3) := dk_184 0 95 (dk_at dksJ16_checkIndex_0 12 rfl rfl)
theorem dJ16_checkIndex_15 : decode cJ16_checkIndex 15 = .ok (.athrow, 1) := dk_191 (dk_at dksJ16_checkIndex_0 15 rfl rfl)
theorem dJ16_checkIndex_16 : decode cJ16_checkIndex 16 = .ok (.iload_n 0, 1) := dk_26 (dk_at dksJ16_checkIndex_0 16 rfl rfl)
theorem dJ16_checkIndex_17 : decode cJ16_checkIndex 17 = .ok (.ireturn, 1) := dk_172 (dk_at dksJ16_checkIndex_0 17 rfl rfl)
theorem q74 : (Jvm.Cond.initialized "jdk/internal/util/Preconditions") ∈ lw_all := lw_g (lw_at lw_m1 24 rfl) rfl
theorem q566 : (Jvm.Cond.static ({ cls := "jdk/internal/util/Preconditions", name := "checkIndex", desc := "(IILjava/util/function/BiFunction;)I" } : Jvm.MethodName)) ∈ lw_all := lw_g (lw_at lw_m3 36 rfl) rfl
theorem q567 : (Jvm.Cond.code ({ cls := "jdk/internal/util/Preconditions", name := "checkIndex", desc := "(IILjava/util/function/BiFunction;)I" } : Jvm.MethodName) prog_34_method_11_code (3 : Nat) (Option.some Jvm.ClassFile.FieldType.int)) ∈ lw_all := lw_g (lw_at lw_m3 37 rfl) rfl

/-! java/lang/ArrayStoreException -/
set_option maxRecDepth 100000
def RJ17 : String := "java/lang/ArrayStoreException"
def TJ17 : u_T := fun k => match k with
  | 0 => ("java/lang/Throwable", "backtrace", "Ljava/lang/Object;", false)
  | 1 => ("java/lang/Throwable", "detailMessage", "Ljava/lang/String;", false)
  | 2 => ("java/lang/Throwable", "cause", "Ljava/lang/Throwable;", false)
  | 3 => ("java/lang/Throwable", "stackTrace", "[Ljava/lang/StackTraceElement;", false)
  | 4 => ("java/lang/Throwable", "depth", "I", false)
  | _ => ("java/lang/Throwable", "suppressedExceptions", "Ljava/util/List;", false)
def tyJ17 : Nat → FieldType := fun k => match k with
  | 0 => .object "java/lang/Object"
  | 1 => .object "java/lang/String"
  | 2 => .object "java/lang/Throwable"
  | 3 => .array (.object "java/lang/StackTraceElement")
  | 4 => .int
  | _ => .object "java/util/List"
abbrev wsJ170 : List Cond := u_ws RJ17 TJ17 6
theorem nmJ17 : ∀ a, a < 6 → ∀ b, b < 6 → a ≠ b → (TJ17 a).2.1 ≠ (TJ17 b).2.1 := by decide +kernel
theorem tyJ17_ok : ∀ k, k < 6 → parseFieldDescriptor (TJ17 k).2.2.1 = some (tyJ17 k) := by decide +kernel
abbrev cJ17_init : ByteArray := prog_11_method_2_code
def yJ17_init : MethodName := ⟨RJ17, "<init>", "(Ljava/lang/String;)V"⟩
def dkwJ17_init_0 : List UInt8 := [42, 43, 183, 0, 7, 177]
abbrev dktJ17_init_0 : List UInt8 := dkwJ17_init_0 ++ []
theorem dksJ17_init_0 : cJ17_init.data.toList.drop 0 = dktJ17_init_0 := by decide +kernel
theorem dJ17_init_0 : decode cJ17_init 0 = .ok (.aload_n 0, 1) := dk_42 (dk_at dksJ17_init_0 0 rfl rfl)
theorem dJ17_init_1 : decode cJ17_init 1 = .ok (.aload_n 1, 1) := dk_43 (dk_at dksJ17_init_0 1 rfl rfl)
theorem dJ17_init_2 : decode cJ17_init 2 = .ok (.invokespecial 7, 3) := dk_183 0 7 (dk_at dksJ17_init_0 2 rfl rfl)
theorem dJ17_init_5 : decode cJ17_init 5 = .ok (.return_, 1) := dk_177 (dk_at dksJ17_init_0 5 rfl rfl)
theorem q75 : (Jvm.Cond.initialized "java/lang/ArrayStoreException") ∈ lw_all := lw_g (lw_at lw_m1 25 rfl) rfl
theorem q216 : (Jvm.Cond.selects "java/lang/ArrayStoreException" ({ cls := "java/lang/Throwable", name := "fillInStackTrace", desc := "()Ljava/lang/Throwable;" } : Jvm.MethodName) ({ cls := "java/lang/Throwable", name := "fillInStackTrace", desc := "()Ljava/lang/Throwable;" } : Jvm.MethodName)) ∈ lw_all := lw_g (lw_at lw_m1 166 rfl) rfl
theorem q516 : (Jvm.Cond.selects "java/lang/ArrayStoreException" ({ cls := "java/lang/Object", name := "getClass", desc := "()Ljava/lang/Class;" } : Jvm.MethodName) ({ cls := "java/lang/Object", name := "getClass", desc := "()Ljava/lang/Class;" } : Jvm.MethodName)) ∈ lw_all := lw_g (lw_at lw_m2 226 rfl) rfl
theorem q797 : (Jvm.Cond.instantiable "java/lang/ArrayStoreException" (6 : Nat)) ∈ lw_all := lw_g (lw_at lw_m4 27 rfl) rfl
theorem q798 : (Jvm.Cond.instanceMethod ({ cls := "java/lang/ArrayStoreException", name := "<init>", desc := "(Ljava/lang/String;)V" } : Jvm.MethodName)) ∈ lw_all := lw_g (lw_at lw_m4 28 rfl) rfl
theorem q799 : (Jvm.Cond.code ({ cls := "java/lang/ArrayStoreException", name := "<init>", desc := "(Ljava/lang/String;)V" } : Jvm.MethodName) prog_11_method_2_code (2 : Nat) (Option.none : Option Jvm.ClassFile.FieldType)) ∈ lw_all := lw_g (lw_at lw_m4 29 rfl) rfl
theorem q800 : (Jvm.Cond.methodLink "java/lang/ArrayStoreException" (7 : Nat) ({ cls := "java/lang/RuntimeException", name := "<init>", desc := "(Ljava/lang/String;)V" } : Jvm.MethodName)) ∈ lw_all := lw_g (lw_at lw_m4 30 rfl) rfl
theorem q801 : (Jvm.Cond.lays "java/lang/ArrayStoreException" "java/lang/Throwable" "backtrace" "Ljava/lang/Object;") ∈ lw_all := lw_g (lw_at lw_m4 31 rfl) rfl
theorem q802 : (Jvm.Cond.lays "java/lang/ArrayStoreException" "java/lang/Throwable" "detailMessage" "Ljava/lang/String;") ∈ lw_all := lw_g (lw_at lw_m4 32 rfl) rfl
theorem q803 : (Jvm.Cond.lays "java/lang/ArrayStoreException" "java/lang/Throwable" "cause" "Ljava/lang/Throwable;") ∈ lw_all := lw_g (lw_at lw_m4 33 rfl) rfl
theorem q804 : (Jvm.Cond.lays "java/lang/ArrayStoreException" "java/lang/Throwable" "stackTrace" "[Ljava/lang/StackTraceElement;") ∈ lw_all := lw_g (lw_at lw_m4 34 rfl) rfl
theorem q805 : (Jvm.Cond.lays "java/lang/ArrayStoreException" "java/lang/Throwable" "depth" "I") ∈ lw_all := lw_g (lw_at lw_m4 35 rfl) rfl
theorem q806 : (Jvm.Cond.lays "java/lang/ArrayStoreException" "java/lang/Throwable" "suppressedExceptions" "Ljava/util/List;") ∈ lw_all := lw_g (lw_at lw_m4 36 rfl) rfl
theorem q807 : (Jvm.Cond.superclass "java/lang/ArrayStoreException" "java/lang/RuntimeException") ∈ lw_all := lw_g (lw_at lw_m4 37 rfl) rfl
theorem q808 : (Jvm.Cond.castable "java/lang/ArrayStoreException" "java/lang/ArrayStoreException") ∈ lw_tbl := lw_at lw_m4 38 rfl
theorem q809 : (Jvm.Cond.selects "java/lang/ArrayStoreException" ({ cls := "java/lang/Throwable", name := "fillInStackTrace", desc := "(I)Ljava/lang/Throwable;" } : Jvm.MethodName) ({ cls := "java/lang/Throwable", name := "fillInStackTrace", desc := "(I)Ljava/lang/Throwable;" } : Jvm.MethodName)) ∈ lw_all := lw_g (lw_at lw_m4 39 rfl) rfl
theorem q1254 : (Jvm.Cond.castable "java/lang/ArrayStoreException" "java/lang/Object") ∈ lw_tbl := lw_at lw_m6 4 rfl
theorem in_J17 : ∀ w ∈ wsJ170, w ∈ lw_all := lw_in wsJ170 [801, 802, 803, 804, 805, 806] (by decide +kernel) (by decide +kernel)

/-! java/lang/Object -/
set_option maxRecDepth 100000
def RJ18 : String := "java/lang/Object"
abbrev cJ18_init : ByteArray := object_method_1_code
def yJ18_init : MethodName := ⟨RJ18, "<init>", "()V"⟩
theorem dJ18_init_0 : decode cJ18_init 0 = .ok (.return_, 1) := by decide +kernel
theorem q82 : (Jvm.Cond.instanceMethod ({ cls := "java/lang/Object", name := "<init>", desc := "()V" } : Jvm.MethodName)) ∈ lw_all := lw_g (lw_at lw_m1 32 rfl) rfl
theorem q83 : (Jvm.Cond.code ({ cls := "java/lang/Object", name := "<init>", desc := "()V" } : Jvm.MethodName) object_method_1_code (1 : Nat) (Option.none : Option Jvm.ClassFile.FieldType)) ∈ lw_all := lw_g (lw_at lw_m1 33 rfl) rfl
theorem q507 : (Jvm.Cond.instanceMethod ({ cls := "java/lang/Object", name := "getClass", desc := "()Ljava/lang/Class;" } : Jvm.MethodName)) ∈ lw_all := lw_g (lw_at lw_m2 217 rfl) rfl
theorem q508 : (Jvm.Cond.sameMethod "java/lang/Object" "java/lang/Object" "getClass" "()Ljava/lang/Class;") ∈ lw_all := lw_g (lw_at lw_m2 218 rfl) rfl
theorem q521 : (Jvm.Cond.native ({ cls := "java/lang/Object", name := "getClass", desc := "()Ljava/lang/Class;" } : Jvm.MethodName)) ∈ lw_all := lw_g (lw_at lw_m2 231 rfl) rfl
theorem q1259 : (Jvm.Cond.declares ({ cls := "java/lang/Object", name := "getClass", desc := "()Ljava/lang/Class;" } : Jvm.MethodName)) ∈ lw_tbl := lw_at lw_m6 9 rfl

/-! java/util/ArrayList -/
set_option maxRecDepth 100000
def RJ2 : String := "java/util/ArrayList"
def TJ2 : u_T := fun k => match k with
  | 0 => ("java/util/AbstractList", "modCount", "I", false)
  | 1 => ("java/util/ArrayList", "elementData", "[Ljava/lang/Object;", false)
  | _ => ("java/util/ArrayList", "size", "I", false)
def tyJ2 : Nat → FieldType := fun k => match k with
  | 0 => .int
  | 1 => .array (.object "java/lang/Object")
  | _ => .int
abbrev wsJ20 : List Cond := u_ws RJ2 TJ2 3
theorem nmJ2 : ∀ a, a < 3 → ∀ b, b < 3 → a ≠ b → (TJ2 a).2.1 ≠ (TJ2 b).2.1 := by decide +kernel
theorem tyJ2_ok : ∀ k, k < 3 → parseFieldDescriptor (TJ2 k).2.2.1 = some (tyJ2 k) := by decide +kernel
abbrev cJ2_init : ByteArray := prog_26_method_2_code
def yJ2_init : MethodName := ⟨RJ2, "<init>", "()V"⟩
def dkwJ2_init_0 : List UInt8 := [42, 183, 0, 1, 42, 178, 0, 39, 181, 0, 9, 177]
abbrev dktJ2_init_0 : List UInt8 := dkwJ2_init_0 ++ []
theorem dksJ2_init_0 : cJ2_init.data.toList.drop 0 = dktJ2_init_0 := by decide +kernel
theorem dJ2_init_0 : decode cJ2_init 0 = .ok (.aload_n 0, 1) := dk_42 (dk_at dksJ2_init_0 0 rfl rfl)
theorem dJ2_init_1 : decode cJ2_init 1 = .ok (.invokespecial 1, 3) := dk_183 0 1 (dk_at dksJ2_init_0 1 rfl rfl)
theorem dJ2_init_4 : decode cJ2_init 4 = .ok (.aload_n 0, 1) := dk_42 (dk_at dksJ2_init_0 4 rfl rfl)
theorem dJ2_init_5 : decode cJ2_init 5 = .ok (.getstatic 39, 3) := dk_178 0 39 (dk_at dksJ2_init_0 5 rfl rfl)
theorem dJ2_init_8 : decode cJ2_init 8 = .ok (.putfield 9, 3) := dk_181 0 9 (dk_at dksJ2_init_0 8 rfl rfl)
theorem dJ2_init_11 : decode cJ2_init 11 = .ok (.return_, 1) := dk_177 (dk_at dksJ2_init_0 11 rfl rfl)
abbrev cJ2_clear : ByteArray := prog_26_method_40_code
def yJ2_clear : MethodName := ⟨RJ2, "clear", "()V"⟩
def dkwJ2_clear_1 : List UInt8 := [181, 0, 48, 62, 29, 28, 162, 0, 13, 43, 29, 1, 83, 132, 3, 1, 167, 255, 244, 177]
abbrev dktJ2_clear_1 : List UInt8 := dkwJ2_clear_1 ++ []
def dkwJ2_clear_0 : List UInt8 := [42, 89, 180, 0, 63, 4, 96, 181, 0, 63, 42, 180, 0, 9, 76, 42, 180, 0, 48, 61, 42, 3, 90]
abbrev dktJ2_clear_0 : List UInt8 := dkwJ2_clear_0 ++ dktJ2_clear_1
theorem dksJ2_clear_0 : cJ2_clear.data.toList.drop 0 = dktJ2_clear_0 := by decide +kernel
theorem dksJ2_clear_1 : cJ2_clear.data.toList.drop 23 = dktJ2_clear_1 := dk_seg dksJ2_clear_0 23 rfl rfl
theorem dJ2_clear_0 : decode cJ2_clear 0 = .ok (.aload_n 0, 1) := dk_42 (dk_at dksJ2_clear_0 0 rfl rfl)
theorem dJ2_clear_1 : decode cJ2_clear 1 = .ok (.dup, 1) := dk_89 (dk_at dksJ2_clear_0 1 rfl rfl)
theorem dJ2_clear_2 : decode cJ2_clear 2 = .ok (.getfield 63, 3) := dk_180 0 63 (dk_at dksJ2_clear_0 2 rfl rfl)
theorem dJ2_clear_5 : decode cJ2_clear 5 = .ok (.iconst 1, 1) := dk_4 (dk_at dksJ2_clear_0 5 rfl rfl)
theorem dJ2_clear_6 : decode cJ2_clear 6 = .ok (.iadd, 1) := dk_96 (dk_at dksJ2_clear_0 6 rfl rfl)
theorem dJ2_clear_7 : decode cJ2_clear 7 = .ok (.putfield 63, 3) := dk_181 0 63 (dk_at dksJ2_clear_0 7 rfl rfl)
theorem dJ2_clear_10 : decode cJ2_clear 10 = .ok (.aload_n 0, 1) := dk_42 (dk_at dksJ2_clear_0 10 rfl rfl)
theorem dJ2_clear_11 : decode cJ2_clear 11 = .ok (.getfield 9, 3) := dk_180 0 9 (dk_at dksJ2_clear_0 11 rfl rfl)
theorem dJ2_clear_14 : decode cJ2_clear 14 = .ok (.astore_n 1, 1) := dk_76 (dk_at dksJ2_clear_0 14 rfl rfl)
theorem dJ2_clear_15 : decode cJ2_clear 15 = .ok (.aload_n 0, 1) := dk_42 (dk_at dksJ2_clear_0 15 rfl rfl)
theorem dJ2_clear_16 : decode cJ2_clear 16 = .ok (.getfield 48, 3) := dk_180 0 48 (dk_at dksJ2_clear_0 16 rfl rfl)
theorem dJ2_clear_19 : decode cJ2_clear 19 = .ok (.istore_n 2, 1) := dk_61 (dk_at dksJ2_clear_0 19 rfl rfl)
theorem dJ2_clear_20 : decode cJ2_clear 20 = .ok (.aload_n 0, 1) := dk_42 (dk_at dksJ2_clear_0 20 rfl rfl)
theorem dJ2_clear_21 : decode cJ2_clear 21 = .ok (.iconst 0, 1) := dk_3 (dk_at dksJ2_clear_0 21 rfl rfl)
theorem dJ2_clear_22 : decode cJ2_clear 22 = .ok (.dup_x1, 1) := dk_90 (dk_at dksJ2_clear_0 22 rfl rfl)
theorem dJ2_clear_23 : decode cJ2_clear 23 = .ok (.putfield 48, 3) := dk_181 0 48 (dk_at dksJ2_clear_1 0 rfl rfl)
theorem dJ2_clear_26 : decode cJ2_clear 26 = .ok (.istore_n 3, 1) := dk_62 (dk_at dksJ2_clear_1 3 rfl rfl)
theorem dJ2_clear_27 : decode cJ2_clear 27 = .ok (.iload_n 3, 1) := dk_29 (dk_at dksJ2_clear_1 4 rfl rfl)
theorem dJ2_clear_28 : decode cJ2_clear 28 = .ok (.iload_n 2, 1) := dk_28 (dk_at dksJ2_clear_1 5 rfl rfl)
theorem dJ2_clear_29 : decode cJ2_clear 29 = .ok (.if_icmp .ge 13, 3) := dk_162 0 13 (dk_at dksJ2_clear_1 6 rfl rfl)
theorem dJ2_clear_32 : decode cJ2_clear 32 = .ok (.aload_n 1, 1) := dk_43 (dk_at dksJ2_clear_1 9 rfl rfl)
theorem dJ2_clear_33 : decode cJ2_clear 33 = .ok (.iload_n 3, 1) := dk_29 (dk_at dksJ2_clear_1 10 rfl rfl)
theorem dJ2_clear_34 : decode cJ2_clear 34 = .ok (.aconst_null, 1) := dk_1 (dk_at dksJ2_clear_1 11 rfl rfl)
theorem dJ2_clear_35 : decode cJ2_clear 35 = .ok (.aastore, 1) := dk_83 (dk_at dksJ2_clear_1 12 rfl rfl)
theorem dJ2_clear_36 : decode cJ2_clear 36 = .ok (.iinc 3 1, 3) := dk_132 3 1 (dk_at dksJ2_clear_1 13 rfl rfl)
theorem dJ2_clear_39 : decode cJ2_clear 39 = .ok (.goto (-12), 3) := dk_167 255 244 (dk_at dksJ2_clear_1 16 rfl rfl)
theorem dJ2_clear_42 : decode cJ2_clear 42 = .ok (.return_, 1) := dk_177 (dk_at dksJ2_clear_1 19 rfl rfl)
abbrev cJ2_add : ByteArray := prog_26_method_25_code
def yJ2_add : MethodName := ⟨RJ2, "add", "(Ljava/lang/Object;)Z"⟩
def dkwJ2_add_1 : List UInt8 := [172]
abbrev dktJ2_add_1 : List UInt8 := dkwJ2_add_1 ++ []
def dkwJ2_add_0 : List UInt8 := [42, 89, 180, 0, 63, 4, 96, 181, 0, 63, 42, 43, 42, 180, 0, 9, 42, 180, 0, 48, 182, 0, 131, 4]
abbrev dktJ2_add_0 : List UInt8 := dkwJ2_add_0 ++ dktJ2_add_1
theorem dksJ2_add_0 : cJ2_add.data.toList.drop 0 = dktJ2_add_0 := by decide +kernel
theorem dksJ2_add_1 : cJ2_add.data.toList.drop 24 = dktJ2_add_1 := dk_seg dksJ2_add_0 24 rfl rfl
theorem dJ2_add_0 : decode cJ2_add 0 = .ok (.aload_n 0, 1) := dk_42 (dk_at dksJ2_add_0 0 rfl rfl)
theorem dJ2_add_1 : decode cJ2_add 1 = .ok (.dup, 1) := dk_89 (dk_at dksJ2_add_0 1 rfl rfl)
theorem dJ2_add_2 : decode cJ2_add 2 = .ok (.getfield 63, 3) := dk_180 0 63 (dk_at dksJ2_add_0 2 rfl rfl)
theorem dJ2_add_5 : decode cJ2_add 5 = .ok (.iconst 1, 1) := dk_4 (dk_at dksJ2_add_0 5 rfl rfl)
theorem dJ2_add_6 : decode cJ2_add 6 = .ok (.iadd, 1) := dk_96 (dk_at dksJ2_add_0 6 rfl rfl)
theorem dJ2_add_7 : decode cJ2_add 7 = .ok (.putfield 63, 3) := dk_181 0 63 (dk_at dksJ2_add_0 7 rfl rfl)
theorem dJ2_add_10 : decode cJ2_add 10 = .ok (.aload_n 0, 1) := dk_42 (dk_at dksJ2_add_0 10 rfl rfl)
theorem dJ2_add_11 : decode cJ2_add 11 = .ok (.aload_n 1, 1) := dk_43 (dk_at dksJ2_add_0 11 rfl rfl)
theorem dJ2_add_12 : decode cJ2_add 12 = .ok (.aload_n 0, 1) := dk_42 (dk_at dksJ2_add_0 12 rfl rfl)
theorem dJ2_add_13 : decode cJ2_add 13 = .ok (.getfield 9, 3) := dk_180 0 9 (dk_at dksJ2_add_0 13 rfl rfl)
theorem dJ2_add_16 : decode cJ2_add 16 = .ok (.aload_n 0, 1) := dk_42 (dk_at dksJ2_add_0 16 rfl rfl)
theorem dJ2_add_17 : decode cJ2_add 17 = .ok (.getfield 48, 3) := dk_180 0 48 (dk_at dksJ2_add_0 17 rfl rfl)
theorem dJ2_add_20 : decode cJ2_add 20 = .ok (.invokevirtual 131, 3) := dk_182 0 131 (dk_at dksJ2_add_0 20 rfl rfl)
theorem dJ2_add_23 : decode cJ2_add 23 = .ok (.iconst 1, 1) := dk_4 (dk_at dksJ2_add_0 23 rfl rfl)
theorem dJ2_add_24 : decode cJ2_add 24 = .ok (.ireturn, 1) := dk_172 (dk_at dksJ2_add_1 0 rfl rfl)
abbrev cJ2_add_2 : ByteArray := prog_26_method_24_code
def yJ2_add_2 : MethodName := ⟨RJ2, "add", "(Ljava/lang/Object;[Ljava/lang/Object;I)V"⟩
def dkwJ2_add_2_0 : List UInt8 := [29, 44, 190, 160, 0, 8, 42, 182, 0, 129, 77, 44, 29, 43, 83, 42, 29, 4, 96, 181, 0, 48, 177]
abbrev dktJ2_add_2_0 : List UInt8 := dkwJ2_add_2_0 ++ []
theorem dksJ2_add_2_0 : cJ2_add_2.data.toList.drop 0 = dktJ2_add_2_0 := by decide +kernel
theorem dJ2_add_2_0 : decode cJ2_add_2 0 = .ok (.iload_n 3, 1) := dk_29 (dk_at dksJ2_add_2_0 0 rfl rfl)
theorem dJ2_add_2_1 : decode cJ2_add_2 1 = .ok (.aload_n 2, 1) := dk_44 (dk_at dksJ2_add_2_0 1 rfl rfl)
theorem dJ2_add_2_2 : decode cJ2_add_2 2 = .ok (.arraylength, 1) := dk_190 (dk_at dksJ2_add_2_0 2 rfl rfl)
theorem dJ2_add_2_3 : decode cJ2_add_2 3 = .ok (.if_icmp .ne 8, 3) := dk_160 0 8 (dk_at dksJ2_add_2_0 3 rfl rfl)
theorem dJ2_add_2_6 : decode cJ2_add_2 6 = .ok (.aload_n 0, 1) := dk_42 (dk_at dksJ2_add_2_0 6 rfl rfl)
theorem dJ2_add_2_7 : decode cJ2_add_2 7 = .ok (.invokevirtual 129, 3) := dk_182 0 129 (dk_at dksJ2_add_2_0 7 rfl rfl)
theorem dJ2_add_2_10 : decode cJ2_add_2 10 = .ok (.astore_n 2, 1) := dk_77 (dk_at dksJ2_add_2_0 10 rfl rfl)
theorem dJ2_add_2_11 : decode cJ2_add_2 11 = .ok (.aload_n 2, 1) := dk_44 (dk_at dksJ2_add_2_0 11 rfl rfl)
theorem dJ2_add_2_12 : decode cJ2_add_2 12 = .ok (.iload_n 3, 1) := dk_29 (dk_at dksJ2_add_2_0 12 rfl rfl)
theorem dJ2_add_2_13 : decode cJ2_add_2 13 = .ok (.aload_n 1, 1) := dk_43 (dk_at dksJ2_add_2_0 13 rfl rfl)
theorem dJ2_add_2_14 : decode cJ2_add_2 14 = .ok (.aastore, 1) := dk_83 (dk_at dksJ2_add_2_0 14 rfl rfl)
theorem dJ2_add_2_15 : decode cJ2_add_2 15 = .ok (.aload_n 0, 1) := dk_42 (dk_at dksJ2_add_2_0 15 rfl rfl)
theorem dJ2_add_2_16 : decode cJ2_add_2 16 = .ok (.iload_n 3, 1) := dk_29 (dk_at dksJ2_add_2_0 16 rfl rfl)
theorem dJ2_add_2_17 : decode cJ2_add_2 17 = .ok (.iconst 1, 1) := dk_4 (dk_at dksJ2_add_2_0 17 rfl rfl)
theorem dJ2_add_2_18 : decode cJ2_add_2 18 = .ok (.iadd, 1) := dk_96 (dk_at dksJ2_add_2_0 18 rfl rfl)
theorem dJ2_add_2_19 : decode cJ2_add_2 19 = .ok (.putfield 48, 3) := dk_181 0 48 (dk_at dksJ2_add_2_0 19 rfl rfl)
theorem dJ2_add_2_22 : decode cJ2_add_2 22 = .ok (.return_, 1) := dk_177 (dk_at dksJ2_add_2_0 22 rfl rfl)
abbrev cJ2_grow : ByteArray := prog_26_method_7_code
def yJ2_grow : MethodName := ⟨RJ2, "grow", "()[Ljava/lang/Object;"⟩
def dkwJ2_grow_0 : List UInt8 := [42, 42, 180, 0, 48, 4, 96, 182, 0, 69, 176]
abbrev dktJ2_grow_0 : List UInt8 := dkwJ2_grow_0 ++ []
theorem dksJ2_grow_0 : cJ2_grow.data.toList.drop 0 = dktJ2_grow_0 := by decide +kernel
theorem dJ2_grow_0 : decode cJ2_grow 0 = .ok (.aload_n 0, 1) := dk_42 (dk_at dksJ2_grow_0 0 rfl rfl)
theorem dJ2_grow_1 : decode cJ2_grow 1 = .ok (.aload_n 0, 1) := dk_42 (dk_at dksJ2_grow_0 1 rfl rfl)
theorem dJ2_grow_2 : decode cJ2_grow 2 = .ok (.getfield 48, 3) := dk_180 0 48 (dk_at dksJ2_grow_0 2 rfl rfl)
theorem dJ2_grow_5 : decode cJ2_grow 5 = .ok (.iconst 1, 1) := dk_4 (dk_at dksJ2_grow_0 5 rfl rfl)
theorem dJ2_grow_6 : decode cJ2_grow 6 = .ok (.iadd, 1) := dk_96 (dk_at dksJ2_grow_0 6 rfl rfl)
theorem dJ2_grow_7 : decode cJ2_grow 7 = .ok (.invokevirtual 69, 3) := dk_182 0 69 (dk_at dksJ2_grow_0 7 rfl rfl)
theorem dJ2_grow_10 : decode cJ2_grow 10 = .ok (.areturn, 1) := dk_176 (dk_at dksJ2_grow_0 10 rfl rfl)
abbrev cJ2_grow_2 : ByteArray := prog_26_method_6_code
def yJ2_grow_2 : MethodName := ⟨RJ2, "grow", "(I)[Ljava/lang/Object;"⟩
def dkwJ2_grow_2_2 : List UInt8 := [27, 184, 0, 79, 189, 0, 7, 90, 181, 0, 9, 176]
abbrev dktJ2_grow_2_2 : List UInt8 := dkwJ2_grow_2_2 ++ []
def dkwJ2_grow_2_1 : List UInt8 := [28, 4, 122, 184, 0, 73, 62, 42, 42, 180, 0, 9, 29, 184, 0, 66, 90, 181, 0, 9, 176, 42, 16, 10]
abbrev dktJ2_grow_2_1 : List UInt8 := dkwJ2_grow_2_1 ++ dktJ2_grow_2_2
def dkwJ2_grow_2_0 : List UInt8 := [42, 180, 0, 9, 190, 61, 28, 157, 0, 13, 42, 180, 0, 9, 178, 0, 39, 165, 0, 28, 28, 27, 28, 100]
abbrev dktJ2_grow_2_0 : List UInt8 := dkwJ2_grow_2_0 ++ dktJ2_grow_2_1
theorem dksJ2_grow_2_0 : cJ2_grow_2.data.toList.drop 0 = dktJ2_grow_2_0 := by decide +kernel
theorem dksJ2_grow_2_1 : cJ2_grow_2.data.toList.drop 24 = dktJ2_grow_2_1 := dk_seg dksJ2_grow_2_0 24 rfl rfl
theorem dksJ2_grow_2_2 : cJ2_grow_2.data.toList.drop 48 = dktJ2_grow_2_2 := dk_seg dksJ2_grow_2_1 24 rfl rfl
theorem dJ2_grow_2_0 : decode cJ2_grow_2 0 = .ok (.aload_n 0, 1) := dk_42 (dk_at dksJ2_grow_2_0 0 rfl rfl)
theorem dJ2_grow_2_1 : decode cJ2_grow_2 1 = .ok (.getfield 9, 3) := dk_180 0 9 (dk_at dksJ2_grow_2_0 1 rfl rfl)
theorem dJ2_grow_2_4 : decode cJ2_grow_2 4 = .ok (.arraylength, 1) := dk_190 (dk_at dksJ2_grow_2_0 4 rfl rfl)
theorem dJ2_grow_2_5 : decode cJ2_grow_2 5 = .ok (.istore_n 2, 1) := dk_61 (dk_at dksJ2_grow_2_0 5 rfl rfl)
theorem dJ2_grow_2_6 : decode cJ2_grow_2 6 = .ok (.iload_n 2, 1) := dk_28 (dk_at dksJ2_grow_2_0 6 rfl rfl)
theorem dJ2_grow_2_7 : decode cJ2_grow_2 7 = .ok (.ifCond .gt 13, 3) := dk_157 0 13 (dk_at dksJ2_grow_2_0 7 rfl rfl)
theorem dJ2_grow_2_10 : decode cJ2_grow_2 10 = .ok (.aload_n 0, 1) := dk_42 (dk_at dksJ2_grow_2_0 10 rfl rfl)
theorem dJ2_grow_2_11 : decode cJ2_grow_2 11 = .ok (.getfield 9, 3) := dk_180 0 9 (dk_at dksJ2_grow_2_0 11 rfl rfl)
theorem dJ2_grow_2_14 : decode cJ2_grow_2 14 = .ok (.getstatic 39, 3) := dk_178 0 39 (dk_at dksJ2_grow_2_0 14 rfl rfl)
theorem dJ2_grow_2_17 : decode cJ2_grow_2 17 = .ok (.if_acmp .eq 28, 3) := dk_165 0 28 (dk_at dksJ2_grow_2_0 17 rfl rfl)
theorem dJ2_grow_2_20 : decode cJ2_grow_2 20 = .ok (.iload_n 2, 1) := dk_28 (dk_at dksJ2_grow_2_0 20 rfl rfl)
theorem dJ2_grow_2_21 : decode cJ2_grow_2 21 = .ok (.iload_n 1, 1) := dk_27 (dk_at dksJ2_grow_2_0 21 rfl rfl)
theorem dJ2_grow_2_22 : decode cJ2_grow_2 22 = .ok (.iload_n 2, 1) := dk_28 (dk_at dksJ2_grow_2_0 22 rfl rfl)
theorem dJ2_grow_2_23 : decode cJ2_grow_2 23 = .ok (.isub, 1) := dk_100 (dk_at dksJ2_grow_2_0 23 rfl rfl)
theorem dJ2_grow_2_24 : decode cJ2_grow_2 24 = .ok (.iload_n 2, 1) := dk_28 (dk_at dksJ2_grow_2_1 0 rfl rfl)
theorem dJ2_grow_2_25 : decode cJ2_grow_2 25 = .ok (.iconst 1, 1) := dk_4 (dk_at dksJ2_grow_2_1 1 rfl rfl)
theorem dJ2_grow_2_26 : decode cJ2_grow_2 26 = .ok (.ishr, 1) := dk_122 (dk_at dksJ2_grow_2_1 2 rfl rfl)
theorem dJ2_grow_2_27 : decode cJ2_grow_2 27 = .ok (.invokestatic 73, 3) := dk_184 0 73 (dk_at dksJ2_grow_2_1 3 rfl rfl)
theorem dJ2_grow_2_30 : decode cJ2_grow_2 30 = .ok (.istore_n 3, 1) := dk_62 (dk_at dksJ2_grow_2_1 6 rfl rfl)
theorem dJ2_grow_2_31 : decode cJ2_grow_2 31 = .ok (.aload_n 0, 1) := dk_42 (dk_at dksJ2_grow_2_1 7 rfl rfl)
theorem dJ2_grow_2_32 : decode cJ2_grow_2 32 = .ok (.aload_n 0, 1) := dk_42 (dk_at dksJ2_grow_2_1 8 rfl rfl)
theorem dJ2_grow_2_33 : decode cJ2_grow_2 33 = .ok (.getfield 9, 3) := dk_180 0 9 (dk_at dksJ2_grow_2_1 9 rfl rfl)
theorem dJ2_grow_2_36 : decode cJ2_grow_2 36 = .ok (.iload_n 3, 1) := dk_29 (dk_at dksJ2_grow_2_1 12 rfl rfl)
theorem dJ2_grow_2_37 : decode cJ2_grow_2 37 = .ok (.invokestatic 66, 3) := dk_184 0 66 (dk_at dksJ2_grow_2_1 13 rfl rfl)
theorem dJ2_grow_2_40 : decode cJ2_grow_2 40 = .ok (.dup_x1, 1) := dk_90 (dk_at dksJ2_grow_2_1 16 rfl rfl)
theorem dJ2_grow_2_41 : decode cJ2_grow_2 41 = .ok (.putfield 9, 3) := dk_181 0 9 (dk_at dksJ2_grow_2_1 17 rfl rfl)
theorem dJ2_grow_2_44 : decode cJ2_grow_2 44 = .ok (.areturn, 1) := dk_176 (dk_at dksJ2_grow_2_1 20 rfl rfl)
theorem dJ2_grow_2_45 : decode cJ2_grow_2 45 = .ok (.aload_n 0, 1) := dk_42 (dk_at dksJ2_grow_2_1 21 rfl rfl)
theorem dJ2_grow_2_46 : decode cJ2_grow_2 46 = .ok (.bipush 10, 2) := dk_16 10 (dk_at dksJ2_grow_2_1 22 rfl rfl)
theorem dJ2_grow_2_48 : decode cJ2_grow_2 48 = .ok (.iload_n 1, 1) := dk_27 (dk_at dksJ2_grow_2_2 0 rfl rfl)
theorem dJ2_grow_2_49 : decode cJ2_grow_2 49 = .ok (.invokestatic 79, 3) := dk_184 0 79 (dk_at dksJ2_grow_2_2 1 rfl rfl)
theorem dJ2_grow_2_52 : decode cJ2_grow_2 52 = .ok (.anewarray 7, 3) := dk_189 0 7 (dk_at dksJ2_grow_2_2 4 rfl rfl)
theorem dJ2_grow_2_55 : decode cJ2_grow_2 55 = .ok (.dup_x1, 1) := dk_90 (dk_at dksJ2_grow_2_2 7 rfl rfl)
theorem dJ2_grow_2_56 : decode cJ2_grow_2 56 = .ok (.putfield 9, 3) := dk_181 0 9 (dk_at dksJ2_grow_2_2 8 rfl rfl)
theorem dJ2_grow_2_59 : decode cJ2_grow_2 59 = .ok (.areturn, 1) := dk_176 (dk_at dksJ2_grow_2_2 11 rfl rfl)
abbrev cJ2_size : ByteArray := prog_26_method_8_code
def yJ2_size : MethodName := ⟨RJ2, "size", "()I"⟩
theorem dJ2_size_0 : decode cJ2_size 0 = .ok (.aload_n 0, 1) := by decide +kernel
theorem dJ2_size_1 : decode cJ2_size 1 = .ok (.getfield 48, 3) := by decide +kernel
theorem dJ2_size_4 : decode cJ2_size 4 = .ok (.ireturn, 1) := by decide +kernel
abbrev cJ2_get : ByteArray := prog_26_method_20_code
def yJ2_get : MethodName := ⟨RJ2, "get", "(I)Ljava/lang/Object;"⟩
def dkwJ2_get_0 : List UInt8 := [27, 42, 180, 0, 48, 184, 0, 118, 87, 42, 27, 182, 0, 123, 176]
abbrev dktJ2_get_0 : List UInt8 := dkwJ2_get_0 ++ []
theorem dksJ2_get_0 : cJ2_get.data.toList.drop 0 = dktJ2_get_0 := by decide +kernel
theorem dJ2_get_0 : decode cJ2_get 0 = .ok (.iload_n 1, 1) := dk_27 (dk_at dksJ2_get_0 0 rfl rfl)
theorem dJ2_get_1 : decode cJ2_get 1 = .ok (.aload_n 0, 1) := dk_42 (dk_at dksJ2_get_0 1 rfl rfl)
theorem dJ2_get_2 : decode cJ2_get 2 = .ok (.getfield 48, 3) := dk_180 0 48 (dk_at dksJ2_get_0 2 rfl rfl)
theorem dJ2_get_5 : decode cJ2_get 5 = .ok (.invokestatic 118, 3) := dk_184 0 118 (dk_at dksJ2_get_0 5 rfl rfl)
theorem dJ2_get_8 : decode cJ2_get 8 = .ok (.pop, 1) := dk_87 (dk_at dksJ2_get_0 8 rfl rfl)
theorem dJ2_get_9 : decode cJ2_get 9 = .ok (.aload_n 0, 1) := dk_42 (dk_at dksJ2_get_0 9 rfl rfl)
theorem dJ2_get_10 : decode cJ2_get 10 = .ok (.iload_n 1, 1) := dk_27 (dk_at dksJ2_get_0 10 rfl rfl)
theorem dJ2_get_11 : decode cJ2_get 11 = .ok (.invokevirtual 123, 3) := dk_182 0 123 (dk_at dksJ2_get_0 11 rfl rfl)
theorem dJ2_get_14 : decode cJ2_get 14 = .ok (.areturn, 1) := dk_176 (dk_at dksJ2_get_0 14 rfl rfl)
abbrev cJ2_elementData : ByteArray := prog_26_method_18_code
def yJ2_elementData : MethodName := ⟨RJ2, "elementData", "(I)Ljava/lang/Object;"⟩
def dkwJ2_elementData_0 : List UInt8 := [42, 180, 0, 9, 27, 50, 176]
abbrev dktJ2_elementData_0 : List UInt8 := dkwJ2_elementData_0 ++ []
theorem dksJ2_elementData_0 : cJ2_elementData.data.toList.drop 0 = dktJ2_elementData_0 := by decide +kernel
theorem dJ2_elementData_0 : decode cJ2_elementData 0 = .ok (.aload_n 0, 1) := dk_42 (dk_at dksJ2_elementData_0 0 rfl rfl)
theorem dJ2_elementData_1 : decode cJ2_elementData 1 = .ok (.getfield 9, 3) := dk_180 0 9 (dk_at dksJ2_elementData_0 1 rfl rfl)
theorem dJ2_elementData_4 : decode cJ2_elementData 4 = .ok (.iload_n 1, 1) := dk_27 (dk_at dksJ2_elementData_0 4 rfl rfl)
theorem dJ2_elementData_5 : decode cJ2_elementData 5 = .ok (.aaload, 1) := dk_50 (dk_at dksJ2_elementData_0 5 rfl rfl)
theorem dJ2_elementData_6 : decode cJ2_elementData 6 = .ok (.areturn, 1) := dk_176 (dk_at dksJ2_elementData_0 6 rfl rfl)
theorem q54 : (Jvm.Cond.initialized "java/util/ArrayList") ∈ lw_all := lw_g (lw_at lw_m1 4 rfl) rfl
theorem q85 : (Jvm.Cond.instantiable "java/util/ArrayList" (3 : Nat)) ∈ lw_all := lw_g (lw_at lw_m1 35 rfl) rfl
theorem q87 : (Jvm.Cond.instanceMethod ({ cls := "java/util/ArrayList", name := "<init>", desc := "()V" } : Jvm.MethodName)) ∈ lw_all := lw_g (lw_at lw_m1 37 rfl) rfl
theorem q88 : (Jvm.Cond.code ({ cls := "java/util/ArrayList", name := "<init>", desc := "()V" } : Jvm.MethodName) prog_26_method_2_code (1 : Nat) (Option.none : Option Jvm.ClassFile.FieldType)) ∈ lw_all := lw_g (lw_at lw_m1 38 rfl) rfl
theorem q89 : (Jvm.Cond.methodLink "java/util/ArrayList" (1 : Nat) ({ cls := "java/util/AbstractList", name := "<init>", desc := "()V" } : Jvm.MethodName)) ∈ lw_all := lw_g (lw_at lw_m1 39 rfl) rfl
theorem q96 : (Jvm.Cond.fieldLink "java/util/ArrayList" (39 : Nat) "java/util/ArrayList" "DEFAULTCAPACITY_EMPTY_ELEMENTDATA" "[Ljava/lang/Object;") ∈ lw_all := lw_g (lw_at lw_m1 46 rfl) rfl
theorem q97 : (Jvm.Cond.laysStatic "java/util/ArrayList" "DEFAULTCAPACITY_EMPTY_ELEMENTDATA" "[Ljava/lang/Object;") ∈ lw_tbl := lw_at lw_m1 47 rfl
theorem q98 : (Jvm.Cond.fieldLink "java/util/ArrayList" (9 : Nat) "java/util/ArrayList" "elementData" "[Ljava/lang/Object;") ∈ lw_all := lw_g (lw_at lw_m1 48 rfl) rfl
theorem q99 : (Jvm.Cond.fieldLink "java/util/ArrayList" (48 : Nat) "java/util/ArrayList" "size" "I") ∈ lw_all := lw_g (lw_at lw_m1 49 rfl) rfl
theorem q101 : (Jvm.Cond.fieldLink "java/util/ArrayList" (63 : Nat) "java/util/ArrayList" "modCount" "I") ∈ lw_all := lw_g (lw_at lw_m1 51 rfl) rfl
theorem q102 : (Jvm.Cond.sameField "java/util/ArrayList" "java/util/AbstractList" "modCount" "I") ∈ lw_all := lw_g (lw_at lw_m1 52 rfl) rfl
theorem q103 : (Jvm.Cond.lays "java/util/ArrayList" "java/util/ArrayList" "elementData" "[Ljava/lang/Object;") ∈ lw_all := lw_g (lw_at lw_m1 53 rfl) rfl
theorem q104 : (Jvm.Cond.soleField "java/util/ArrayList" "elementData") ∈ lw_all := lw_g (lw_at lw_m1 54 rfl) rfl
theorem q105 : (Jvm.Cond.lays "java/util/ArrayList" "java/util/ArrayList" "size" "I") ∈ lw_all := lw_g (lw_at lw_m1 55 rfl) rfl
theorem q106 : (Jvm.Cond.soleField "java/util/ArrayList" "size") ∈ lw_all := lw_g (lw_at lw_m1 56 rfl) rfl
theorem q107 : (Jvm.Cond.lays "java/util/ArrayList" "java/util/AbstractList" "modCount" "I") ∈ lw_all := lw_g (lw_at lw_m1 57 rfl) rfl
theorem q109 : (Jvm.Cond.superclass "java/util/ArrayList" "java/util/AbstractList") ∈ lw_all := lw_g (lw_at lw_m1 59 rfl) rfl
theorem q406 : (Jvm.Cond.castable "java/util/ArrayList" "java/util/List") ∈ lw_tbl := lw_at lw_m2 116 rfl
theorem q407 : (Jvm.Cond.selects "java/util/ArrayList" ({ cls := "java/util/List", name := "clear", desc := "()V" } : Jvm.MethodName) ({ cls := "java/util/ArrayList", name := "clear", desc := "()V" } : Jvm.MethodName)) ∈ lw_all := lw_g (lw_at lw_m2 117 rfl) rfl
theorem q408 : (Jvm.Cond.unhidden "java/util/ArrayList" "clear" "()V") ∈ lw_tbl := lw_at lw_m2 118 rfl
theorem q409 : (Jvm.Cond.instanceMethod ({ cls := "java/util/ArrayList", name := "clear", desc := "()V" } : Jvm.MethodName)) ∈ lw_all := lw_g (lw_at lw_m2 119 rfl) rfl
theorem q410 : (Jvm.Cond.publicMethod ({ cls := "java/util/ArrayList", name := "clear", desc := "()V" } : Jvm.MethodName)) ∈ lw_tbl := lw_at lw_m2 120 rfl
theorem q411 : (Jvm.Cond.code ({ cls := "java/util/ArrayList", name := "clear", desc := "()V" } : Jvm.MethodName) prog_26_method_40_code (4 : Nat) (Option.none : Option Jvm.ClassFile.FieldType)) ∈ lw_all := lw_g (lw_at lw_m2 121 rfl) rfl
theorem q476 : (Jvm.Cond.selects "java/util/ArrayList" ({ cls := "java/util/List", name := "add", desc := "(Ljava/lang/Object;)Z" } : Jvm.MethodName) ({ cls := "java/util/ArrayList", name := "add", desc := "(Ljava/lang/Object;)Z" } : Jvm.MethodName)) ∈ lw_all := lw_g (lw_at lw_m2 186 rfl) rfl
theorem q477 : (Jvm.Cond.unhidden "java/util/ArrayList" "add" "(Ljava/lang/Object;)Z") ∈ lw_tbl := lw_at lw_m2 187 rfl
theorem q478 : (Jvm.Cond.instanceMethod ({ cls := "java/util/ArrayList", name := "add", desc := "(Ljava/lang/Object;)Z" } : Jvm.MethodName)) ∈ lw_all := lw_g (lw_at lw_m2 188 rfl) rfl
theorem q479 : (Jvm.Cond.publicMethod ({ cls := "java/util/ArrayList", name := "add", desc := "(Ljava/lang/Object;)Z" } : Jvm.MethodName)) ∈ lw_tbl := lw_at lw_m2 189 rfl
theorem q480 : (Jvm.Cond.code ({ cls := "java/util/ArrayList", name := "add", desc := "(Ljava/lang/Object;)Z" } : Jvm.MethodName) prog_26_method_25_code (2 : Nat) (Option.some Jvm.ClassFile.FieldType.boolean)) ∈ lw_all := lw_g (lw_at lw_m2 190 rfl) rfl
theorem q481 : (Jvm.Cond.methodLink "java/util/ArrayList" (131 : Nat) ({ cls := "java/util/ArrayList", name := "add", desc := "(Ljava/lang/Object;[Ljava/lang/Object;I)V" } : Jvm.MethodName)) ∈ lw_all := lw_g (lw_at lw_m2 191 rfl) rfl
theorem q482 : (Jvm.Cond.privateMethod ({ cls := "java/util/ArrayList", name := "add", desc := "(Ljava/lang/Object;[Ljava/lang/Object;I)V" } : Jvm.MethodName)) ∈ lw_tbl := lw_at lw_m2 192 rfl
theorem q483 : (Jvm.Cond.instanceMethod ({ cls := "java/util/ArrayList", name := "add", desc := "(Ljava/lang/Object;[Ljava/lang/Object;I)V" } : Jvm.MethodName)) ∈ lw_all := lw_g (lw_at lw_m2 193 rfl) rfl
theorem q484 : (Jvm.Cond.code ({ cls := "java/util/ArrayList", name := "add", desc := "(Ljava/lang/Object;[Ljava/lang/Object;I)V" } : Jvm.MethodName) prog_26_method_24_code (4 : Nat) (Option.none : Option Jvm.ClassFile.FieldType)) ∈ lw_all := lw_g (lw_at lw_m2 194 rfl) rfl
theorem q485 : (Jvm.Cond.methodLink "java/util/ArrayList" (129 : Nat) ({ cls := "java/util/ArrayList", name := "grow", desc := "()[Ljava/lang/Object;" } : Jvm.MethodName)) ∈ lw_all := lw_g (lw_at lw_m2 195 rfl) rfl
theorem q486 : (Jvm.Cond.privateMethod ({ cls := "java/util/ArrayList", name := "grow", desc := "()[Ljava/lang/Object;" } : Jvm.MethodName)) ∈ lw_tbl := lw_at lw_m2 196 rfl
theorem q487 : (Jvm.Cond.instanceMethod ({ cls := "java/util/ArrayList", name := "grow", desc := "()[Ljava/lang/Object;" } : Jvm.MethodName)) ∈ lw_all := lw_g (lw_at lw_m2 197 rfl) rfl
theorem q488 : (Jvm.Cond.code ({ cls := "java/util/ArrayList", name := "grow", desc := "()[Ljava/lang/Object;" } : Jvm.MethodName) prog_26_method_7_code (1 : Nat) (Option.some (Jvm.ClassFile.FieldType.array (Jvm.ClassFile.FieldType.object "java/lang/Object")))) ∈ lw_all := lw_g (lw_at lw_m2 198 rfl) rfl
theorem q489 : (Jvm.Cond.methodLink "java/util/ArrayList" (69 : Nat) ({ cls := "java/util/ArrayList", name := "grow", desc := "(I)[Ljava/lang/Object;" } : Jvm.MethodName)) ∈ lw_all := lw_g (lw_at lw_m2 199 rfl) rfl
theorem q490 : (Jvm.Cond.privateMethod ({ cls := "java/util/ArrayList", name := "grow", desc := "(I)[Ljava/lang/Object;" } : Jvm.MethodName)) ∈ lw_tbl := lw_at lw_m2 200 rfl
theorem q491 : (Jvm.Cond.instanceMethod ({ cls := "java/util/ArrayList", name := "grow", desc := "(I)[Ljava/lang/Object;" } : Jvm.MethodName)) ∈ lw_all := lw_g (lw_at lw_m2 201 rfl) rfl
theorem q492 : (Jvm.Cond.code ({ cls := "java/util/ArrayList", name := "grow", desc := "(I)[Ljava/lang/Object;" } : Jvm.MethodName) prog_26_method_6_code (4 : Nat) (Option.some (Jvm.ClassFile.FieldType.array (Jvm.ClassFile.FieldType.object "java/lang/Object")))) ∈ lw_all := lw_g (lw_at lw_m2 202 rfl) rfl
theorem q493 : (Jvm.Cond.methodLink "java/util/ArrayList" (73 : Nat) ({ cls := "jdk/internal/util/ArraysSupport", name := "newLength", desc := "(III)I" } : Jvm.MethodName)) ∈ lw_all := lw_g (lw_at lw_m2 203 rfl) rfl
theorem q503 : (Jvm.Cond.methodLink "java/util/ArrayList" (66 : Nat) ({ cls := "java/util/Arrays", name := "copyOf", desc := "([Ljava/lang/Object;I)[Ljava/lang/Object;" } : Jvm.MethodName)) ∈ lw_all := lw_g (lw_at lw_m2 213 rfl) rfl
theorem q520 : (Jvm.Cond.selects "java/util/ArrayList" ({ cls := "java/lang/Object", name := "getClass", desc := "()Ljava/lang/Class;" } : Jvm.MethodName) ({ cls := "java/lang/Object", name := "getClass", desc := "()Ljava/lang/Class;" } : Jvm.MethodName)) ∈ lw_all := lw_g (lw_at lw_m2 230 rfl) rfl
theorem q530 : (Jvm.Cond.methodLink "java/util/ArrayList" (79 : Nat) ({ cls := "java/lang/Math", name := "max", desc := "(II)I" } : Jvm.MethodName)) ∈ lw_all := lw_g (lw_at lw_m3 0 rfl) rfl
theorem q531 : (Jvm.Cond.classLink "java/util/ArrayList" (7 : Nat) "java/lang/Object") ∈ lw_all := lw_g (lw_at lw_m3 1 rfl) rfl
theorem q548 : (Jvm.Cond.selects "java/util/ArrayList" ({ cls := "java/util/List", name := "size", desc := "()I" } : Jvm.MethodName) ({ cls := "java/util/ArrayList", name := "size", desc := "()I" } : Jvm.MethodName)) ∈ lw_all := lw_g (lw_at lw_m3 18 rfl) rfl
theorem q549 : (Jvm.Cond.unhidden "java/util/ArrayList" "size" "()I") ∈ lw_tbl := lw_at lw_m3 19 rfl
theorem q550 : (Jvm.Cond.instanceMethod ({ cls := "java/util/ArrayList", name := "size", desc := "()I" } : Jvm.MethodName)) ∈ lw_all := lw_g (lw_at lw_m3 20 rfl) rfl
theorem q551 : (Jvm.Cond.publicMethod ({ cls := "java/util/ArrayList", name := "size", desc := "()I" } : Jvm.MethodName)) ∈ lw_tbl := lw_at lw_m3 21 rfl
theorem q552 : (Jvm.Cond.code ({ cls := "java/util/ArrayList", name := "size", desc := "()I" } : Jvm.MethodName) prog_26_method_8_code (1 : Nat) (Option.some Jvm.ClassFile.FieldType.int)) ∈ lw_all := lw_g (lw_at lw_m3 22 rfl) rfl
theorem q557 : (Jvm.Cond.selects "java/util/ArrayList" ({ cls := "java/util/List", name := "get", desc := "(I)Ljava/lang/Object;" } : Jvm.MethodName) ({ cls := "java/util/ArrayList", name := "get", desc := "(I)Ljava/lang/Object;" } : Jvm.MethodName)) ∈ lw_all := lw_g (lw_at lw_m3 27 rfl) rfl
theorem q558 : (Jvm.Cond.unhidden "java/util/ArrayList" "get" "(I)Ljava/lang/Object;") ∈ lw_tbl := lw_at lw_m3 28 rfl
theorem q559 : (Jvm.Cond.instanceMethod ({ cls := "java/util/ArrayList", name := "get", desc := "(I)Ljava/lang/Object;" } : Jvm.MethodName)) ∈ lw_all := lw_g (lw_at lw_m3 29 rfl) rfl
theorem q560 : (Jvm.Cond.publicMethod ({ cls := "java/util/ArrayList", name := "get", desc := "(I)Ljava/lang/Object;" } : Jvm.MethodName)) ∈ lw_tbl := lw_at lw_m3 30 rfl
theorem q561 : (Jvm.Cond.code ({ cls := "java/util/ArrayList", name := "get", desc := "(I)Ljava/lang/Object;" } : Jvm.MethodName) prog_26_method_20_code (2 : Nat) (Option.some (Jvm.ClassFile.FieldType.object "java/lang/Object"))) ∈ lw_all := lw_g (lw_at lw_m3 31 rfl) rfl
theorem q562 : (Jvm.Cond.methodLink "java/util/ArrayList" (118 : Nat) ({ cls := "java/util/Objects", name := "checkIndex", desc := "(II)I" } : Jvm.MethodName)) ∈ lw_all := lw_g (lw_at lw_m3 32 rfl) rfl
theorem q568 : (Jvm.Cond.methodLink "java/util/ArrayList" (123 : Nat) ({ cls := "java/util/ArrayList", name := "elementData", desc := "(I)Ljava/lang/Object;" } : Jvm.MethodName)) ∈ lw_all := lw_g (lw_at lw_m3 38 rfl) rfl
theorem q569 : (Jvm.Cond.instanceMethod ({ cls := "java/util/ArrayList", name := "elementData", desc := "(I)Ljava/lang/Object;" } : Jvm.MethodName)) ∈ lw_all := lw_g (lw_at lw_m3 39 rfl) rfl
theorem q570 : (Jvm.Cond.selects "java/util/ArrayList" ({ cls := "java/util/ArrayList", name := "elementData", desc := "(I)Ljava/lang/Object;" } : Jvm.MethodName) ({ cls := "java/util/ArrayList", name := "elementData", desc := "(I)Ljava/lang/Object;" } : Jvm.MethodName)) ∈ lw_all := lw_g (lw_at lw_m3 40 rfl) rfl
theorem q571 : (Jvm.Cond.code ({ cls := "java/util/ArrayList", name := "elementData", desc := "(I)Ljava/lang/Object;" } : Jvm.MethodName) prog_26_method_18_code (2 : Nat) (Option.some (Jvm.ClassFile.FieldType.object "java/lang/Object"))) ∈ lw_all := lw_g (lw_at lw_m3 41 rfl) rfl
theorem q1245 : (Jvm.Cond.castable "java/util/ArrayList" "java/lang/Object") ∈ lw_tbl := lw_at lw_m5 235 rfl
theorem in_J2 : ∀ w ∈ wsJ20, w ∈ lw_all := lw_in wsJ20 [107, 103, 105] (by decide +kernel) (by decide +kernel)

/-! java/lang/Throwable -/
set_option maxRecDepth 100000
def RJ3 : String := "java/lang/Throwable"
def TJ3 : u_T := fun k => match k with
  | 0 => ("java/lang/Throwable", "cause", "Ljava/lang/Throwable;", false)
  | 1 => ("java/lang/Throwable", "stackTrace", "[Ljava/lang/StackTraceElement;", false)
  | 2 => ("java/lang/Throwable", "suppressedExceptions", "Ljava/util/List;", false)
  | 3 => ("java/lang/Throwable", "detailMessage", "Ljava/lang/String;", false)
  | _ => ("java/lang/Throwable", "backtrace", "Ljava/lang/Object;", false)
def tyJ3 : Nat → FieldType := fun k => match k with
  | 0 => .object "java/lang/Throwable"
  | 1 => .array (.object "java/lang/StackTraceElement")
  | 2 => .object "java/util/List"
  | 3 => .object "java/lang/String"
  | _ => .object "java/lang/Object"
abbrev wsJ30 : List Cond := u_ws RJ3 TJ3 5
theorem nmJ3 : ∀ a, a < 5 → ∀ b, b < 5 → a ≠ b → (TJ3 a).2.1 ≠ (TJ3 b).2.1 := by decide +kernel
theorem tyJ3_ok : ∀ k, k < 5 → parseFieldDescriptor (TJ3 k).2.2.1 = some (tyJ3 k) := by decide +kernel
abbrev cJ3_init : ByteArray := prog_23_method_2_code
def yJ3_init : MethodName := ⟨RJ3, "<init>", "(Ljava/lang/String;)V"⟩
def dkwJ3_init_1 : List UInt8 := [182, 0, 27, 87, 42, 43, 181, 0, 31, 177]
abbrev dktJ3_init_1 : List UInt8 := dkwJ3_init_1 ++ []
def dkwJ3_init_0 : List UInt8 := [42, 183, 0, 1, 42, 42, 181, 0, 7, 42, 178, 0, 13, 181, 0, 17, 42, 178, 0, 20, 181, 0, 24, 42]
abbrev dktJ3_init_0 : List UInt8 := dkwJ3_init_0 ++ dktJ3_init_1
theorem dksJ3_init_0 : cJ3_init.data.toList.drop 0 = dktJ3_init_0 := by decide +kernel
theorem dksJ3_init_1 : cJ3_init.data.toList.drop 24 = dktJ3_init_1 := dk_seg dksJ3_init_0 24 rfl rfl
theorem dJ3_init_0 : decode cJ3_init 0 = .ok (.aload_n 0, 1) := dk_42 (dk_at dksJ3_init_0 0 rfl rfl)
theorem dJ3_init_1 : decode cJ3_init 1 = .ok (.invokespecial 1, 3) := dk_183 0 1 (dk_at dksJ3_init_0 1 rfl rfl)
theorem dJ3_init_4 : decode cJ3_init 4 = .ok (.aload_n 0, 1) := dk_42 (dk_at dksJ3_init_0 4 rfl rfl)
theorem dJ3_init_5 : decode cJ3_init 5 = .ok (.aload_n 0, 1) := dk_42 (dk_at dksJ3_init_0 5 rfl rfl)
theorem dJ3_init_6 : decode cJ3_init 6 = .ok (.putfield 7, 3) := dk_181 0 7 (dk_at dksJ3_init_0 6 rfl rfl)
theorem dJ3_init_9 : decode cJ3_init 9 = .ok (.aload_n 0, 1) := dk_42 (dk_at dksJ3_init_0 9 rfl rfl)
theorem dJ3_init_10 : decode cJ3_init 10 = .ok (.getstatic 13, 3) := dk_178 0 13 (dk_at dksJ3_init_0 10 rfl rfl)
theorem dJ3_init_13 : decode cJ3_init 13 = .ok (.putfield 17, 3) := dk_181 0 17 (dk_at dksJ3_init_0 13 rfl rfl)
theorem dJ3_init_16 : decode cJ3_init 16 = .ok (.aload_n 0, 1) := dk_42 (dk_at dksJ3_init_0 16 rfl rfl)
theorem dJ3_init_17 : decode cJ3_init 17 = .ok (.getstatic 20, 3) := dk_178 0 20 (dk_at dksJ3_init_0 17 rfl rfl)
theorem dJ3_init_20 : decode cJ3_init 20 = .ok (.putfield 24, 3) := dk_181 0 24 (dk_at dksJ3_init_0 20 rfl rfl)
theorem dJ3_init_23 : decode cJ3_init 23 = .ok (.aload_n 0, 1) := dk_42 (dk_at dksJ3_init_0 23 rfl rfl)
theorem dJ3_init_24 : decode cJ3_init 24 = .ok (.invokevirtual 27, 3) := dk_182 0 27 (dk_at dksJ3_init_1 0 rfl rfl)
theorem dJ3_init_27 : decode cJ3_init 27 = .ok (.pop, 1) := dk_87 (dk_at dksJ3_init_1 3 rfl rfl)
theorem dJ3_init_28 : decode cJ3_init 28 = .ok (.aload_n 0, 1) := dk_42 (dk_at dksJ3_init_1 4 rfl rfl)
theorem dJ3_init_29 : decode cJ3_init 29 = .ok (.aload_n 1, 1) := dk_43 (dk_at dksJ3_init_1 5 rfl rfl)
theorem dJ3_init_30 : decode cJ3_init 30 = .ok (.putfield 31, 3) := dk_181 0 31 (dk_at dksJ3_init_1 6 rfl rfl)
theorem dJ3_init_33 : decode cJ3_init 33 = .ok (.return_, 1) := dk_177 (dk_at dksJ3_init_1 9 rfl rfl)
abbrev cJ3_init_2 : ByteArray := prog_23_method_1_code
def yJ3_init_2 : MethodName := ⟨RJ3, "<init>", "()V"⟩
def dkwJ3_init_2_1 : List UInt8 := [182, 0, 27, 87, 177]
abbrev dktJ3_init_2_1 : List UInt8 := dkwJ3_init_2_1 ++ []
def dkwJ3_init_2_0 : List UInt8 := [42, 183, 0, 1, 42, 42, 181, 0, 7, 42, 178, 0, 13, 181, 0, 17, 42, 178, 0, 20, 181, 0, 24, 42]
abbrev dktJ3_init_2_0 : List UInt8 := dkwJ3_init_2_0 ++ dktJ3_init_2_1
theorem dksJ3_init_2_0 : cJ3_init_2.data.toList.drop 0 = dktJ3_init_2_0 := by decide +kernel
theorem dksJ3_init_2_1 : cJ3_init_2.data.toList.drop 24 = dktJ3_init_2_1 := dk_seg dksJ3_init_2_0 24 rfl rfl
theorem dJ3_init_2_0 : decode cJ3_init_2 0 = .ok (.aload_n 0, 1) := dk_42 (dk_at dksJ3_init_2_0 0 rfl rfl)
theorem dJ3_init_2_1 : decode cJ3_init_2 1 = .ok (.invokespecial 1, 3) := dk_183 0 1 (dk_at dksJ3_init_2_0 1 rfl rfl)
theorem dJ3_init_2_4 : decode cJ3_init_2 4 = .ok (.aload_n 0, 1) := dk_42 (dk_at dksJ3_init_2_0 4 rfl rfl)
theorem dJ3_init_2_5 : decode cJ3_init_2 5 = .ok (.aload_n 0, 1) := dk_42 (dk_at dksJ3_init_2_0 5 rfl rfl)
theorem dJ3_init_2_6 : decode cJ3_init_2 6 = .ok (.putfield 7, 3) := dk_181 0 7 (dk_at dksJ3_init_2_0 6 rfl rfl)
theorem dJ3_init_2_9 : decode cJ3_init_2 9 = .ok (.aload_n 0, 1) := dk_42 (dk_at dksJ3_init_2_0 9 rfl rfl)
theorem dJ3_init_2_10 : decode cJ3_init_2 10 = .ok (.getstatic 13, 3) := dk_178 0 13 (dk_at dksJ3_init_2_0 10 rfl rfl)
theorem dJ3_init_2_13 : decode cJ3_init_2 13 = .ok (.putfield 17, 3) := dk_181 0 17 (dk_at dksJ3_init_2_0 13 rfl rfl)
theorem dJ3_init_2_16 : decode cJ3_init_2 16 = .ok (.aload_n 0, 1) := dk_42 (dk_at dksJ3_init_2_0 16 rfl rfl)
theorem dJ3_init_2_17 : decode cJ3_init_2 17 = .ok (.getstatic 20, 3) := dk_178 0 20 (dk_at dksJ3_init_2_0 17 rfl rfl)
theorem dJ3_init_2_20 : decode cJ3_init_2 20 = .ok (.putfield 24, 3) := dk_181 0 24 (dk_at dksJ3_init_2_0 20 rfl rfl)
theorem dJ3_init_2_23 : decode cJ3_init_2 23 = .ok (.aload_n 0, 1) := dk_42 (dk_at dksJ3_init_2_0 23 rfl rfl)
theorem dJ3_init_2_24 : decode cJ3_init_2 24 = .ok (.invokevirtual 27, 3) := dk_182 0 27 (dk_at dksJ3_init_2_1 0 rfl rfl)
theorem dJ3_init_2_27 : decode cJ3_init_2 27 = .ok (.pop, 1) := dk_87 (dk_at dksJ3_init_2_1 3 rfl rfl)
theorem dJ3_init_2_28 : decode cJ3_init_2 28 = .ok (.return_, 1) := dk_177 (dk_at dksJ3_init_2_1 4 rfl rfl)
theorem q57 : (Jvm.Cond.initialized "java/lang/Throwable") ∈ lw_all := lw_g (lw_at lw_m1 7 rfl) rfl
theorem q205 : (Jvm.Cond.instanceMethod ({ cls := "java/lang/Throwable", name := "<init>", desc := "(Ljava/lang/String;)V" } : Jvm.MethodName)) ∈ lw_all := lw_g (lw_at lw_m1 155 rfl) rfl
theorem q206 : (Jvm.Cond.code ({ cls := "java/lang/Throwable", name := "<init>", desc := "(Ljava/lang/String;)V" } : Jvm.MethodName) prog_23_method_2_code (2 : Nat) (Option.none : Option Jvm.ClassFile.FieldType)) ∈ lw_all := lw_g (lw_at lw_m1 156 rfl) rfl
theorem q207 : (Jvm.Cond.methodLink "java/lang/Throwable" (1 : Nat) ({ cls := "java/lang/Object", name := "<init>", desc := "()V" } : Jvm.MethodName)) ∈ lw_all := lw_g (lw_at lw_m1 157 rfl) rfl
theorem q208 : (Jvm.Cond.fieldLink "java/lang/Throwable" (13 : Nat) "java/lang/Throwable" "UNASSIGNED_STACK" "[Ljava/lang/StackTraceElement;") ∈ lw_all := lw_g (lw_at lw_m1 158 rfl) rfl
theorem q209 : (Jvm.Cond.laysStatic "java/lang/Throwable" "UNASSIGNED_STACK" "[Ljava/lang/StackTraceElement;") ∈ lw_tbl := lw_at lw_m1 159 rfl
theorem q210 : (Jvm.Cond.fieldLink "java/lang/Throwable" (20 : Nat) "java/lang/Throwable" "SUPPRESSED_SENTINEL" "Ljava/util/List;") ∈ lw_all := lw_g (lw_at lw_m1 160 rfl) rfl
theorem q211 : (Jvm.Cond.laysStatic "java/lang/Throwable" "SUPPRESSED_SENTINEL" "Ljava/util/List;") ∈ lw_tbl := lw_at lw_m1 161 rfl
theorem q212 : (Jvm.Cond.methodLink "java/lang/Throwable" (27 : Nat) ({ cls := "java/lang/Throwable", name := "fillInStackTrace", desc := "()Ljava/lang/Throwable;" } : Jvm.MethodName)) ∈ lw_all := lw_g (lw_at lw_m1 162 rfl) rfl
theorem q213 : (Jvm.Cond.instanceMethod ({ cls := "java/lang/Throwable", name := "fillInStackTrace", desc := "()Ljava/lang/Throwable;" } : Jvm.MethodName)) ∈ lw_all := lw_g (lw_at lw_m1 163 rfl) rfl
theorem q214 : (Jvm.Cond.sameMethod "java/lang/Throwable" "java/lang/Throwable" "fillInStackTrace" "()Ljava/lang/Throwable;") ∈ lw_all := lw_g (lw_at lw_m1 164 rfl) rfl
theorem q229 : (Jvm.Cond.declares ({ cls := "java/lang/Throwable", name := "fillInStackTrace", desc := "()Ljava/lang/Throwable;" } : Jvm.MethodName)) ∈ lw_tbl := lw_at lw_m1 179 rfl
theorem q233 : (Jvm.Cond.codeSync ({ cls := "java/lang/Throwable", name := "fillInStackTrace", desc := "()Ljava/lang/Throwable;" } : Jvm.MethodName) prog_23_method_18_code (1 : Nat) (Option.some (Jvm.ClassFile.FieldType.object "java/lang/Throwable"))) ∈ lw_all := lw_g (lw_at lw_m1 183 rfl) rfl
theorem q234 : (Jvm.Cond.methodLink "java/lang/Throwable" (202 : Nat) ({ cls := "java/lang/Throwable", name := "fillInStackTrace", desc := "(I)Ljava/lang/Throwable;" } : Jvm.MethodName)) ∈ lw_all := lw_g (lw_at lw_m1 184 rfl) rfl
theorem q235 : (Jvm.Cond.privateMethod ({ cls := "java/lang/Throwable", name := "fillInStackTrace", desc := "(I)Ljava/lang/Throwable;" } : Jvm.MethodName)) ∈ lw_tbl := lw_at lw_m1 185 rfl
theorem q236 : (Jvm.Cond.instanceMethod ({ cls := "java/lang/Throwable", name := "fillInStackTrace", desc := "(I)Ljava/lang/Throwable;" } : Jvm.MethodName)) ∈ lw_all := lw_g (lw_at lw_m1 186 rfl) rfl
theorem q237 : (Jvm.Cond.instantiable "java/lang/Throwable" (6 : Nat)) ∈ lw_all := lw_g (lw_at lw_m1 187 rfl) rfl
theorem q238 : (Jvm.Cond.native ({ cls := "java/lang/Throwable", name := "fillInStackTrace", desc := "(I)Ljava/lang/Throwable;" } : Jvm.MethodName)) ∈ lw_all := lw_g (lw_at lw_m1 188 rfl) rfl
theorem q239 : (Jvm.Cond.fieldLink "java/lang/Throwable" (198 : Nat) "java/lang/Throwable" "backtrace" "Ljava/lang/Object;") ∈ lw_all := lw_g (lw_at lw_m1 189 rfl) rfl
theorem q240 : (Jvm.Cond.fieldLink "java/lang/Throwable" (31 : Nat) "java/lang/Throwable" "detailMessage" "Ljava/lang/String;") ∈ lw_all := lw_g (lw_at lw_m1 190 rfl) rfl
theorem q241 : (Jvm.Cond.fieldLink "java/lang/Throwable" (7 : Nat) "java/lang/Throwable" "cause" "Ljava/lang/Throwable;") ∈ lw_all := lw_g (lw_at lw_m1 191 rfl) rfl
theorem q242 : (Jvm.Cond.fieldLink "java/lang/Throwable" (17 : Nat) "java/lang/Throwable" "stackTrace" "[Ljava/lang/StackTraceElement;") ∈ lw_all := lw_g (lw_at lw_m1 192 rfl) rfl
theorem q243 : (Jvm.Cond.fieldLink "java/lang/Throwable" (24 : Nat) "java/lang/Throwable" "suppressedExceptions" "Ljava/util/List;") ∈ lw_all := lw_g (lw_at lw_m1 193 rfl) rfl
theorem q245 : (Jvm.Cond.soleField "java/lang/Throwable" "backtrace") ∈ lw_all := lw_g (lw_at lw_m1 195 rfl) rfl
theorem q247 : (Jvm.Cond.soleField "java/lang/Throwable" "detailMessage") ∈ lw_all := lw_g (lw_at lw_m1 197 rfl) rfl
theorem q249 : (Jvm.Cond.soleField "java/lang/Throwable" "cause") ∈ lw_all := lw_g (lw_at lw_m1 199 rfl) rfl
theorem q251 : (Jvm.Cond.soleField "java/lang/Throwable" "stackTrace") ∈ lw_all := lw_g (lw_at lw_m1 201 rfl) rfl
theorem q253 : (Jvm.Cond.soleField "java/lang/Throwable" "depth") ∈ lw_all := lw_g (lw_at lw_m1 203 rfl) rfl
theorem q255 : (Jvm.Cond.soleField "java/lang/Throwable" "suppressedExceptions") ∈ lw_all := lw_g (lw_at lw_m1 205 rfl) rfl
theorem q262 : (Jvm.Cond.declares ({ cls := "java/lang/Throwable", name := "<init>", desc := "()V" } : Jvm.MethodName)) ∈ lw_tbl := lw_at lw_m1 212 rfl
theorem q263 : (Jvm.Cond.declares ({ cls := "java/lang/Throwable", name := "<init>", desc := "(Ljava/lang/String;)V" } : Jvm.MethodName)) ∈ lw_tbl := lw_at lw_m1 213 rfl
theorem q265 : (Jvm.Cond.lays "java/lang/Throwable" "java/lang/Throwable" "cause" "Ljava/lang/Throwable;") ∈ lw_all := lw_g (lw_at lw_m1 215 rfl) rfl
theorem q266 : (Jvm.Cond.lays "java/lang/Throwable" "java/lang/Throwable" "stackTrace" "[Ljava/lang/StackTraceElement;") ∈ lw_all := lw_g (lw_at lw_m1 216 rfl) rfl
theorem q267 : (Jvm.Cond.lays "java/lang/Throwable" "java/lang/Throwable" "suppressedExceptions" "Ljava/util/List;") ∈ lw_all := lw_g (lw_at lw_m1 217 rfl) rfl
theorem q268 : (Jvm.Cond.lays "java/lang/Throwable" "java/lang/Throwable" "detailMessage" "Ljava/lang/String;") ∈ lw_all := lw_g (lw_at lw_m1 218 rfl) rfl
theorem q269 : (Jvm.Cond.lays "java/lang/Throwable" "java/lang/Throwable" "backtrace" "Ljava/lang/Object;") ∈ lw_all := lw_g (lw_at lw_m1 219 rfl) rfl
theorem q270 : (Jvm.Cond.fieldLink "java/lang/Throwable" (198 : Nat) "java/lang/Throwable" "backtrace" "Ljava/lang/Object;") ∈ lw_all := lw_g (lw_at lw_m1 220 rfl) rfl
theorem q271 : (Jvm.Cond.superclass "java/lang/Throwable" "java/lang/Object") ∈ lw_all := lw_g (lw_at lw_m1 221 rfl) rfl
theorem q272 : (Jvm.Cond.instanceMethod ({ cls := "java/lang/Throwable", name := "<init>", desc := "()V" } : Jvm.MethodName)) ∈ lw_all := lw_g (lw_at lw_m1 222 rfl) rfl
theorem q273 : (Jvm.Cond.code ({ cls := "java/lang/Throwable", name := "<init>", desc := "()V" } : Jvm.MethodName) prog_23_method_1_code (1 : Nat) (Option.none : Option Jvm.ClassFile.FieldType)) ∈ lw_all := lw_g (lw_at lw_m1 223 rfl) rfl
theorem q1232 : (Jvm.Cond.sameMethod "java/lang/Throwable" "java/lang/Throwable" "fillInStackTrace" "(I)Ljava/lang/Throwable;") ∈ lw_all := lw_g (lw_at lw_m5 222 rfl) rfl
theorem q1255 : (Jvm.Cond.castable "java/lang/Throwable" "java/lang/Object") ∈ lw_tbl := lw_at lw_m6 5 rfl
theorem in_J3 : ∀ w ∈ wsJ30, w ∈ lw_all := lw_in wsJ30 [265, 266, 267, 268, 269] (by decide +kernel) (by decide +kernel)

/-! java/lang/Exception -/
set_option maxRecDepth 100000
def RJ4 : String := "java/lang/Exception"
abbrev cJ4_init : ByteArray := prog_14_method_2_code
def yJ4_init : MethodName := ⟨RJ4, "<init>", "(Ljava/lang/String;)V"⟩
def dkwJ4_init_0 : List UInt8 := [42, 43, 183, 0, 7, 177]
abbrev dktJ4_init_0 : List UInt8 := dkwJ4_init_0 ++ []
theorem dksJ4_init_0 : cJ4_init.data.toList.drop 0 = dktJ4_init_0 := by decide +kernel
theorem dJ4_init_0 : decode cJ4_init 0 = .ok (.aload_n 0, 1) := dk_42 (dk_at dksJ4_init_0 0 rfl rfl)
theorem dJ4_init_1 : decode cJ4_init 1 = .ok (.aload_n 1, 1) := dk_43 (dk_at dksJ4_init_0 1 rfl rfl)
theorem dJ4_init_2 : decode cJ4_init 2 = .ok (.invokespecial 7, 3) := dk_183 0 7 (dk_at dksJ4_init_0 2 rfl rfl)
theorem dJ4_init_5 : decode cJ4_init 5 = .ok (.return_, 1) := dk_177 (dk_at dksJ4_init_0 5 rfl rfl)
abbrev cJ4_init_2 : ByteArray := prog_14_method_1_code
def yJ4_init_2 : MethodName := ⟨RJ4, "<init>", "()V"⟩
theorem dJ4_init_2_0 : decode cJ4_init_2 0 = .ok (.aload_n 0, 1) := by decide +kernel
theorem dJ4_init_2_1 : decode cJ4_init_2 1 = .ok (.invokespecial 1, 3) := by decide +kernel
theorem dJ4_init_2_4 : decode cJ4_init_2 4 = .ok (.return_, 1) := by decide +kernel
theorem q58 : (Jvm.Cond.initialized "java/lang/Exception") ∈ lw_all := lw_g (lw_at lw_m1 8 rfl) rfl
theorem q202 : (Jvm.Cond.instanceMethod ({ cls := "java/lang/Exception", name := "<init>", desc := "(Ljava/lang/String;)V" } : Jvm.MethodName)) ∈ lw_all := lw_g (lw_at lw_m1 152 rfl) rfl
theorem q203 : (Jvm.Cond.code ({ cls := "java/lang/Exception", name := "<init>", desc := "(Ljava/lang/String;)V" } : Jvm.MethodName) prog_14_method_2_code (2 : Nat) (Option.none : Option Jvm.ClassFile.FieldType)) ∈ lw_all := lw_g (lw_at lw_m1 153 rfl) rfl
theorem q204 : (Jvm.Cond.methodLink "java/lang/Exception" (7 : Nat) ({ cls := "java/lang/Throwable", name := "<init>", desc := "(Ljava/lang/String;)V" } : Jvm.MethodName)) ∈ lw_all := lw_g (lw_at lw_m1 154 rfl) rfl
theorem q232 : (Jvm.Cond.superclass "java/lang/Exception" "java/lang/Throwable") ∈ lw_all := lw_g (lw_at lw_m1 182 rfl) rfl
theorem q260 : (Jvm.Cond.declares ({ cls := "java/lang/Exception", name := "<init>", desc := "()V" } : Jvm.MethodName)) ∈ lw_tbl := lw_at lw_m1 210 rfl
theorem q261 : (Jvm.Cond.declares ({ cls := "java/lang/Exception", name := "<init>", desc := "(Ljava/lang/String;)V" } : Jvm.MethodName)) ∈ lw_tbl := lw_at lw_m1 211 rfl
theorem q287 : (Jvm.Cond.instanceMethod ({ cls := "java/lang/Exception", name := "<init>", desc := "()V" } : Jvm.MethodName)) ∈ lw_all := lw_g (lw_at lw_m1 237 rfl) rfl
theorem q288 : (Jvm.Cond.code ({ cls := "java/lang/Exception", name := "<init>", desc := "()V" } : Jvm.MethodName) prog_14_method_1_code (1 : Nat) (Option.none : Option Jvm.ClassFile.FieldType)) ∈ lw_all := lw_g (lw_at lw_m1 238 rfl) rfl
theorem q289 : (Jvm.Cond.methodLink "java/lang/Exception" (1 : Nat) ({ cls := "java/lang/Throwable", name := "<init>", desc := "()V" } : Jvm.MethodName)) ∈ lw_all := lw_g (lw_at lw_m1 239 rfl) rfl

/-! java/lang/RuntimeException -/
set_option maxRecDepth 100000
def RJ5 : String := "java/lang/RuntimeException"
abbrev cJ5_init : ByteArray := prog_20_method_2_code
def yJ5_init : MethodName := ⟨RJ5, "<init>", "(Ljava/lang/String;)V"⟩
def dkwJ5_init_0 : List UInt8 := [42, 43, 183, 0, 7, 177]
abbrev dktJ5_init_0 : List UInt8 := dkwJ5_init_0 ++ []
theorem dksJ5_init_0 : cJ5_init.data.toList.drop 0 = dktJ5_init_0 := by decide +kernel
theorem dJ5_init_0 : decode cJ5_init 0 = .ok (.aload_n 0, 1) := dk_42 (dk_at dksJ5_init_0 0 rfl rfl)
theorem dJ5_init_1 : decode cJ5_init 1 = .ok (.aload_n 1, 1) := dk_43 (dk_at dksJ5_init_0 1 rfl rfl)
theorem dJ5_init_2 : decode cJ5_init 2 = .ok (.invokespecial 7, 3) := dk_183 0 7 (dk_at dksJ5_init_0 2 rfl rfl)
theorem dJ5_init_5 : decode cJ5_init 5 = .ok (.return_, 1) := dk_177 (dk_at dksJ5_init_0 5 rfl rfl)
abbrev cJ5_init_2 : ByteArray := prog_20_method_1_code
def yJ5_init_2 : MethodName := ⟨RJ5, "<init>", "()V"⟩
theorem dJ5_init_2_0 : decode cJ5_init_2 0 = .ok (.aload_n 0, 1) := by decide +kernel
theorem dJ5_init_2_1 : decode cJ5_init_2 1 = .ok (.invokespecial 1, 3) := by decide +kernel
theorem dJ5_init_2_4 : decode cJ5_init_2 4 = .ok (.return_, 1) := by decide +kernel
theorem q59 : (Jvm.Cond.initialized "java/lang/RuntimeException") ∈ lw_all := lw_g (lw_at lw_m1 9 rfl) rfl
theorem q199 : (Jvm.Cond.instanceMethod ({ cls := "java/lang/RuntimeException", name := "<init>", desc := "(Ljava/lang/String;)V" } : Jvm.MethodName)) ∈ lw_all := lw_g (lw_at lw_m1 149 rfl) rfl
theorem q200 : (Jvm.Cond.code ({ cls := "java/lang/RuntimeException", name := "<init>", desc := "(Ljava/lang/String;)V" } : Jvm.MethodName) prog_20_method_2_code (2 : Nat) (Option.none : Option Jvm.ClassFile.FieldType)) ∈ lw_all := lw_g (lw_at lw_m1 150 rfl) rfl
theorem q201 : (Jvm.Cond.methodLink "java/lang/RuntimeException" (7 : Nat) ({ cls := "java/lang/Exception", name := "<init>", desc := "(Ljava/lang/String;)V" } : Jvm.MethodName)) ∈ lw_all := lw_g (lw_at lw_m1 151 rfl) rfl
theorem q228 : (Jvm.Cond.sameMethod "java/lang/RuntimeException" "java/lang/Throwable" "fillInStackTrace" "()Ljava/lang/Throwable;") ∈ lw_all := lw_g (lw_at lw_m1 178 rfl) rfl
theorem q231 : (Jvm.Cond.superclass "java/lang/RuntimeException" "java/lang/Exception") ∈ lw_all := lw_g (lw_at lw_m1 181 rfl) rfl
theorem q258 : (Jvm.Cond.declares ({ cls := "java/lang/RuntimeException", name := "<init>", desc := "()V" } : Jvm.MethodName)) ∈ lw_tbl := lw_at lw_m1 208 rfl
theorem q259 : (Jvm.Cond.declares ({ cls := "java/lang/RuntimeException", name := "<init>", desc := "(Ljava/lang/String;)V" } : Jvm.MethodName)) ∈ lw_tbl := lw_at lw_m1 209 rfl
theorem q284 : (Jvm.Cond.instanceMethod ({ cls := "java/lang/RuntimeException", name := "<init>", desc := "()V" } : Jvm.MethodName)) ∈ lw_all := lw_g (lw_at lw_m1 234 rfl) rfl
theorem q285 : (Jvm.Cond.code ({ cls := "java/lang/RuntimeException", name := "<init>", desc := "()V" } : Jvm.MethodName) prog_20_method_1_code (1 : Nat) (Option.none : Option Jvm.ClassFile.FieldType)) ∈ lw_all := lw_g (lw_at lw_m1 235 rfl) rfl
theorem q286 : (Jvm.Cond.methodLink "java/lang/RuntimeException" (1 : Nat) ({ cls := "java/lang/Exception", name := "<init>", desc := "()V" } : Jvm.MethodName)) ∈ lw_all := lw_g (lw_at lw_m1 236 rfl) rfl
theorem q304 : (Jvm.Cond.castable "java/lang/RuntimeException" "java/lang/Throwable") ∈ lw_tbl := lw_at lw_m2 14 rfl

/-! java/lang/ClassCastException -/
set_option maxRecDepth 100000
def RJ6 : String := "java/lang/ClassCastException"
def TJ6 : u_T := fun k => match k with
  | 0 => ("java/lang/Throwable", "backtrace", "Ljava/lang/Object;", false)
  | 1 => ("java/lang/Throwable", "detailMessage", "Ljava/lang/String;", false)
  | 2 => ("java/lang/Throwable", "cause", "Ljava/lang/Throwable;", false)
  | 3 => ("java/lang/Throwable", "stackTrace", "[Ljava/lang/StackTraceElement;", false)
  | 4 => ("java/lang/Throwable", "depth", "I", false)
  | _ => ("java/lang/Throwable", "suppressedExceptions", "Ljava/util/List;", false)
def tyJ6 : Nat → FieldType := fun k => match k with
  | 0 => .object "java/lang/Object"
  | 1 => .object "java/lang/String"
  | 2 => .object "java/lang/Throwable"
  | 3 => .array (.object "java/lang/StackTraceElement")
  | 4 => .int
  | _ => .object "java/util/List"
abbrev wsJ60 : List Cond := u_ws RJ6 TJ6 6
theorem nmJ6 : ∀ a, a < 6 → ∀ b, b < 6 → a ≠ b → (TJ6 a).2.1 ≠ (TJ6 b).2.1 := by decide +kernel
theorem tyJ6_ok : ∀ k, k < 6 → parseFieldDescriptor (TJ6 k).2.2.1 = some (tyJ6 k) := by decide +kernel
abbrev cJ6_init : ByteArray := prog_12_method_2_code
def yJ6_init : MethodName := ⟨RJ6, "<init>", "(Ljava/lang/String;)V"⟩
def dkwJ6_init_0 : List UInt8 := [42, 43, 183, 0, 7, 177]
abbrev dktJ6_init_0 : List UInt8 := dkwJ6_init_0 ++ []
theorem dksJ6_init_0 : cJ6_init.data.toList.drop 0 = dktJ6_init_0 := by decide +kernel
theorem dJ6_init_0 : decode cJ6_init 0 = .ok (.aload_n 0, 1) := dk_42 (dk_at dksJ6_init_0 0 rfl rfl)
theorem dJ6_init_1 : decode cJ6_init 1 = .ok (.aload_n 1, 1) := dk_43 (dk_at dksJ6_init_0 1 rfl rfl)
theorem dJ6_init_2 : decode cJ6_init 2 = .ok (.invokespecial 7, 3) := dk_183 0 7 (dk_at dksJ6_init_0 2 rfl rfl)
theorem dJ6_init_5 : decode cJ6_init 5 = .ok (.return_, 1) := dk_177 (dk_at dksJ6_init_0 5 rfl rfl)
theorem q60 : (Jvm.Cond.initialized "java/lang/ClassCastException") ∈ lw_all := lw_g (lw_at lw_m1 10 rfl) rfl
theorem q195 : (Jvm.Cond.instantiable "java/lang/ClassCastException" (6 : Nat)) ∈ lw_all := lw_g (lw_at lw_m1 145 rfl) rfl
theorem q196 : (Jvm.Cond.instanceMethod ({ cls := "java/lang/ClassCastException", name := "<init>", desc := "(Ljava/lang/String;)V" } : Jvm.MethodName)) ∈ lw_all := lw_g (lw_at lw_m1 146 rfl) rfl
theorem q197 : (Jvm.Cond.code ({ cls := "java/lang/ClassCastException", name := "<init>", desc := "(Ljava/lang/String;)V" } : Jvm.MethodName) prog_12_method_2_code (2 : Nat) (Option.none : Option Jvm.ClassFile.FieldType)) ∈ lw_all := lw_g (lw_at lw_m1 147 rfl) rfl
theorem q198 : (Jvm.Cond.methodLink "java/lang/ClassCastException" (7 : Nat) ({ cls := "java/lang/RuntimeException", name := "<init>", desc := "(Ljava/lang/String;)V" } : Jvm.MethodName)) ∈ lw_all := lw_g (lw_at lw_m1 148 rfl) rfl
theorem q217 : (Jvm.Cond.selects "java/lang/ClassCastException" ({ cls := "java/lang/Throwable", name := "fillInStackTrace", desc := "()Ljava/lang/Throwable;" } : Jvm.MethodName) ({ cls := "java/lang/Throwable", name := "fillInStackTrace", desc := "()Ljava/lang/Throwable;" } : Jvm.MethodName)) ∈ lw_all := lw_g (lw_at lw_m1 167 rfl) rfl
theorem q244 : (Jvm.Cond.lays "java/lang/ClassCastException" "java/lang/Throwable" "backtrace" "Ljava/lang/Object;") ∈ lw_all := lw_g (lw_at lw_m1 194 rfl) rfl
theorem q246 : (Jvm.Cond.lays "java/lang/ClassCastException" "java/lang/Throwable" "detailMessage" "Ljava/lang/String;") ∈ lw_all := lw_g (lw_at lw_m1 196 rfl) rfl
theorem q248 : (Jvm.Cond.lays "java/lang/ClassCastException" "java/lang/Throwable" "cause" "Ljava/lang/Throwable;") ∈ lw_all := lw_g (lw_at lw_m1 198 rfl) rfl
theorem q250 : (Jvm.Cond.lays "java/lang/ClassCastException" "java/lang/Throwable" "stackTrace" "[Ljava/lang/StackTraceElement;") ∈ lw_all := lw_g (lw_at lw_m1 200 rfl) rfl
theorem q252 : (Jvm.Cond.lays "java/lang/ClassCastException" "java/lang/Throwable" "depth" "I") ∈ lw_all := lw_g (lw_at lw_m1 202 rfl) rfl
theorem q254 : (Jvm.Cond.lays "java/lang/ClassCastException" "java/lang/Throwable" "suppressedExceptions" "Ljava/util/List;") ∈ lw_all := lw_g (lw_at lw_m1 204 rfl) rfl
theorem q256 : (Jvm.Cond.superclass "java/lang/ClassCastException" "java/lang/RuntimeException") ∈ lw_all := lw_g (lw_at lw_m1 206 rfl) rfl
theorem q257 : (Jvm.Cond.castable "java/lang/ClassCastException" "java/lang/ClassCastException") ∈ lw_tbl := lw_at lw_m1 207 rfl
theorem q264 : (Jvm.Cond.selects "java/lang/ClassCastException" ({ cls := "java/lang/Throwable", name := "fillInStackTrace", desc := "(I)Ljava/lang/Throwable;" } : Jvm.MethodName) ({ cls := "java/lang/Throwable", name := "fillInStackTrace", desc := "(I)Ljava/lang/Throwable;" } : Jvm.MethodName)) ∈ lw_all := lw_g (lw_at lw_m1 214 rfl) rfl
theorem q517 : (Jvm.Cond.selects "java/lang/ClassCastException" ({ cls := "java/lang/Object", name := "getClass", desc := "()Ljava/lang/Class;" } : Jvm.MethodName) ({ cls := "java/lang/Object", name := "getClass", desc := "()Ljava/lang/Class;" } : Jvm.MethodName)) ∈ lw_all := lw_g (lw_at lw_m2 227 rfl) rfl
theorem q1247 : (Jvm.Cond.castable "java/lang/ClassCastException" "java/lang/Object") ∈ lw_tbl := lw_at lw_m5 237 rfl
theorem in_J6 : ∀ w ∈ wsJ60, w ∈ lw_all := lw_in wsJ60 [244, 246, 248, 250, 252, 254] (by decide +kernel) (by decide +kernel)

/-! java/lang/String -/
set_option maxRecDepth 100000
def RJ7 : String := "java/lang/String"
def TJ7 : u_T := fun k => match k with
  | 0 => ("java/lang/String", "value", "[B", true)
  | _ => ("java/lang/String", "coder", "B", true)
def tyJ7 : Nat → FieldType := fun k => match k with
  | 0 => .array .byte
  | _ => .byte
abbrev wsJ70 : List Cond := u_ws RJ7 TJ7 2
theorem nmJ7 : ∀ a, a < 2 → ∀ b, b < 2 → a ≠ b → (TJ7 a).2.1 ≠ (TJ7 b).2.1 := by decide +kernel
theorem tyJ7_ok : ∀ k, k < 2 → parseFieldDescriptor (TJ7 k).2.2.1 = some (tyJ7 k) := by decide +kernel
theorem q61 : (Jvm.Cond.initialized "java/lang/String") ∈ lw_all := lw_g (lw_at lw_m1 11 rfl) rfl
theorem q274 : (Jvm.Cond.instantiable "java/lang/String" (4 : Nat)) ∈ lw_all := lw_g (lw_at lw_m1 224 rfl) rfl
theorem q276 : (Jvm.Cond.laysFinal "java/lang/String" "java/lang/String" "value" "[B") ∈ lw_all := lw_g (lw_at lw_m1 226 rfl) rfl
theorem q277 : (Jvm.Cond.soleField "java/lang/String" "value") ∈ lw_all := lw_g (lw_at lw_m1 227 rfl) rfl
theorem q278 : (Jvm.Cond.laysFinal "java/lang/String" "java/lang/String" "coder" "B") ∈ lw_all := lw_g (lw_at lw_m1 228 rfl) rfl
theorem q279 : (Jvm.Cond.soleField "java/lang/String" "coder") ∈ lw_all := lw_g (lw_at lw_m1 229 rfl) rfl
theorem q1256 : (Jvm.Cond.castable "java/lang/String" "java/lang/Object") ∈ lw_tbl := lw_at lw_m6 6 rfl
theorem in_J7 : ∀ w ∈ wsJ70, w ∈ lw_all := lw_in wsJ70 [276, 278] (by decide +kernel) (by decide +kernel)

/-! java/lang/NullPointerException -/
set_option maxRecDepth 100000
def RJ8 : String := "java/lang/NullPointerException"
def TJ8 : u_T := fun k => match k with
  | 0 => ("java/lang/Throwable", "backtrace", "Ljava/lang/Object;", false)
  | 1 => ("java/lang/Throwable", "detailMessage", "Ljava/lang/String;", false)
  | 2 => ("java/lang/Throwable", "cause", "Ljava/lang/Throwable;", false)
  | 3 => ("java/lang/Throwable", "stackTrace", "[Ljava/lang/StackTraceElement;", false)
  | 4 => ("java/lang/Throwable", "depth", "I", false)
  | 5 => ("java/lang/Throwable", "suppressedExceptions", "Ljava/util/List;", false)
  | 6 => ("java/lang/NullPointerException", "extendedMessageState", "I", false)
  | _ => ("java/lang/NullPointerException", "extendedMessage", "Ljava/lang/String;", false)
def tyJ8 : Nat → FieldType := fun k => match k with
  | 0 => .object "java/lang/Object"
  | 1 => .object "java/lang/String"
  | 2 => .object "java/lang/Throwable"
  | 3 => .array (.object "java/lang/StackTraceElement")
  | 4 => .int
  | 5 => .object "java/util/List"
  | 6 => .int
  | _ => .object "java/lang/String"
abbrev wsJ80 : List Cond := u_ws RJ8 TJ8 8
theorem nmJ8 : ∀ a, a < 8 → ∀ b, b < 8 → a ≠ b → (TJ8 a).2.1 ≠ (TJ8 b).2.1 := by decide +kernel
theorem tyJ8_ok : ∀ k, k < 8 → parseFieldDescriptor (TJ8 k).2.2.1 = some (tyJ8 k) := by decide +kernel
abbrev cJ8_init : ByteArray := prog_19_method_1_code
def yJ8_init : MethodName := ⟨RJ8, "<init>", "()V"⟩
theorem dJ8_init_0 : decode cJ8_init 0 = .ok (.aload_n 0, 1) := by decide +kernel
theorem dJ8_init_1 : decode cJ8_init 1 = .ok (.invokespecial 1, 3) := by decide +kernel
theorem dJ8_init_4 : decode cJ8_init 4 = .ok (.return_, 1) := by decide +kernel
theorem q62 : (Jvm.Cond.initialized "java/lang/NullPointerException") ∈ lw_all := lw_g (lw_at lw_m1 12 rfl) rfl
theorem q219 : (Jvm.Cond.selects "java/lang/NullPointerException" ({ cls := "java/lang/Throwable", name := "fillInStackTrace", desc := "()Ljava/lang/Throwable;" } : Jvm.MethodName) ({ cls := "java/lang/NullPointerException", name := "fillInStackTrace", desc := "()Ljava/lang/Throwable;" } : Jvm.MethodName)) ∈ lw_all := lw_g (lw_at lw_m1 169 rfl) rfl
theorem q220 : (Jvm.Cond.instanceMethod ({ cls := "java/lang/NullPointerException", name := "fillInStackTrace", desc := "()Ljava/lang/Throwable;" } : Jvm.MethodName)) ∈ lw_all := lw_g (lw_at lw_m1 170 rfl) rfl
theorem q221 : (Jvm.Cond.codeSync ({ cls := "java/lang/NullPointerException", name := "fillInStackTrace", desc := "()Ljava/lang/Throwable;" } : Jvm.MethodName) prog_19_method_3_code (1 : Nat) (Option.some (Jvm.ClassFile.FieldType.object "java/lang/Throwable"))) ∈ lw_all := lw_g (lw_at lw_m1 171 rfl) rfl
theorem q222 : (Jvm.Cond.methodLink "java/lang/NullPointerException" (16 : Nat) ({ cls := "java/lang/NullPointerException", name := "getExtendedNPEMessage", desc := "()Ljava/lang/String;" } : Jvm.MethodName)) ∈ lw_all := lw_g (lw_at lw_m1 172 rfl) rfl
theorem q223 : (Jvm.Cond.privateMethod ({ cls := "java/lang/NullPointerException", name := "getExtendedNPEMessage", desc := "()Ljava/lang/String;" } : Jvm.MethodName)) ∈ lw_tbl := lw_at lw_m1 173 rfl
theorem q224 : (Jvm.Cond.instanceMethod ({ cls := "java/lang/NullPointerException", name := "getExtendedNPEMessage", desc := "()Ljava/lang/String;" } : Jvm.MethodName)) ∈ lw_all := lw_g (lw_at lw_m1 174 rfl) rfl
theorem q225 : (Jvm.Cond.instantiable "java/lang/NullPointerException" (8 : Nat)) ∈ lw_all := lw_g (lw_at lw_m1 175 rfl) rfl
theorem q226 : (Jvm.Cond.native ({ cls := "java/lang/NullPointerException", name := "getExtendedNPEMessage", desc := "()Ljava/lang/String;" } : Jvm.MethodName)) ∈ lw_all := lw_g (lw_at lw_m1 176 rfl) rfl
theorem q227 : (Jvm.Cond.methodLink "java/lang/NullPointerException" (24 : Nat) ({ cls := "java/lang/RuntimeException", name := "fillInStackTrace", desc := "()Ljava/lang/Throwable;" } : Jvm.MethodName)) ∈ lw_all := lw_g (lw_at lw_m1 177 rfl) rfl
theorem q230 : (Jvm.Cond.superclass "java/lang/NullPointerException" "java/lang/RuntimeException") ∈ lw_all := lw_g (lw_at lw_m1 180 rfl) rfl
theorem q281 : (Jvm.Cond.instanceMethod ({ cls := "java/lang/NullPointerException", name := "<init>", desc := "()V" } : Jvm.MethodName)) ∈ lw_all := lw_g (lw_at lw_m1 231 rfl) rfl
theorem q282 : (Jvm.Cond.code ({ cls := "java/lang/NullPointerException", name := "<init>", desc := "()V" } : Jvm.MethodName) prog_19_method_1_code (1 : Nat) (Option.none : Option Jvm.ClassFile.FieldType)) ∈ lw_all := lw_g (lw_at lw_m1 232 rfl) rfl
theorem q283 : (Jvm.Cond.methodLink "java/lang/NullPointerException" (1 : Nat) ({ cls := "java/lang/RuntimeException", name := "<init>", desc := "()V" } : Jvm.MethodName)) ∈ lw_all := lw_g (lw_at lw_m1 233 rfl) rfl
theorem q290 : (Jvm.Cond.fieldLink "java/lang/NullPointerException" (10 : Nat) "java/lang/NullPointerException" "extendedMessageState" "I") ∈ lw_all := lw_g (lw_at lw_m2 0 rfl) rfl
theorem q291 : (Jvm.Cond.fieldLink "java/lang/NullPointerException" (20 : Nat) "java/lang/NullPointerException" "extendedMessage" "Ljava/lang/String;") ∈ lw_all := lw_g (lw_at lw_m2 1 rfl) rfl
theorem q292 : (Jvm.Cond.lays "java/lang/NullPointerException" "java/lang/NullPointerException" "extendedMessageState" "I") ∈ lw_all := lw_g (lw_at lw_m2 2 rfl) rfl
theorem q293 : (Jvm.Cond.soleField "java/lang/NullPointerException" "extendedMessageState") ∈ lw_all := lw_g (lw_at lw_m2 3 rfl) rfl
theorem q294 : (Jvm.Cond.lays "java/lang/NullPointerException" "java/lang/NullPointerException" "extendedMessage" "Ljava/lang/String;") ∈ lw_all := lw_g (lw_at lw_m2 4 rfl) rfl
theorem q295 : (Jvm.Cond.soleField "java/lang/NullPointerException" "extendedMessage") ∈ lw_all := lw_g (lw_at lw_m2 5 rfl) rfl
theorem q296 : (Jvm.Cond.lays "java/lang/NullPointerException" "java/lang/Throwable" "backtrace" "Ljava/lang/Object;") ∈ lw_all := lw_g (lw_at lw_m2 6 rfl) rfl
theorem q297 : (Jvm.Cond.lays "java/lang/NullPointerException" "java/lang/Throwable" "detailMessage" "Ljava/lang/String;") ∈ lw_all := lw_g (lw_at lw_m2 7 rfl) rfl
theorem q298 : (Jvm.Cond.lays "java/lang/NullPointerException" "java/lang/Throwable" "cause" "Ljava/lang/Throwable;") ∈ lw_all := lw_g (lw_at lw_m2 8 rfl) rfl
theorem q299 : (Jvm.Cond.lays "java/lang/NullPointerException" "java/lang/Throwable" "stackTrace" "[Ljava/lang/StackTraceElement;") ∈ lw_all := lw_g (lw_at lw_m2 9 rfl) rfl
theorem q300 : (Jvm.Cond.lays "java/lang/NullPointerException" "java/lang/Throwable" "depth" "I") ∈ lw_all := lw_g (lw_at lw_m2 10 rfl) rfl
theorem q301 : (Jvm.Cond.lays "java/lang/NullPointerException" "java/lang/Throwable" "suppressedExceptions" "Ljava/util/List;") ∈ lw_all := lw_g (lw_at lw_m2 11 rfl) rfl
theorem q302 : (Jvm.Cond.castable "java/lang/NullPointerException" "java/lang/NullPointerException") ∈ lw_tbl := lw_at lw_m2 12 rfl
theorem q303 : (Jvm.Cond.selects "java/lang/NullPointerException" ({ cls := "java/lang/Throwable", name := "fillInStackTrace", desc := "(I)Ljava/lang/Throwable;" } : Jvm.MethodName) ({ cls := "java/lang/Throwable", name := "fillInStackTrace", desc := "(I)Ljava/lang/Throwable;" } : Jvm.MethodName)) ∈ lw_all := lw_g (lw_at lw_m2 13 rfl) rfl
theorem q519 : (Jvm.Cond.selects "java/lang/NullPointerException" ({ cls := "java/lang/Object", name := "getClass", desc := "()Ljava/lang/Class;" } : Jvm.MethodName) ({ cls := "java/lang/Object", name := "getClass", desc := "()Ljava/lang/Class;" } : Jvm.MethodName)) ∈ lw_all := lw_g (lw_at lw_m2 229 rfl) rfl
theorem q1248 : (Jvm.Cond.castable "java/lang/NullPointerException" "java/lang/Object") ∈ lw_tbl := lw_at lw_m5 238 rfl
theorem in_J8 : ∀ w ∈ wsJ80, w ∈ lw_all := lw_in wsJ80 [296, 297, 298, 299, 300, 301, 292, 294] (by decide +kernel) (by decide +kernel)

/-! java/lang/NegativeArraySizeException -/
set_option maxRecDepth 100000
def RJ9 : String := "java/lang/NegativeArraySizeException"
def TJ9 : u_T := fun k => match k with
  | 0 => ("java/lang/Throwable", "backtrace", "Ljava/lang/Object;", false)
  | 1 => ("java/lang/Throwable", "detailMessage", "Ljava/lang/String;", false)
  | 2 => ("java/lang/Throwable", "cause", "Ljava/lang/Throwable;", false)
  | 3 => ("java/lang/Throwable", "stackTrace", "[Ljava/lang/StackTraceElement;", false)
  | 4 => ("java/lang/Throwable", "depth", "I", false)
  | _ => ("java/lang/Throwable", "suppressedExceptions", "Ljava/util/List;", false)
def tyJ9 : Nat → FieldType := fun k => match k with
  | 0 => .object "java/lang/Object"
  | 1 => .object "java/lang/String"
  | 2 => .object "java/lang/Throwable"
  | 3 => .array (.object "java/lang/StackTraceElement")
  | 4 => .int
  | _ => .object "java/util/List"
abbrev wsJ90 : List Cond := u_ws RJ9 TJ9 6
theorem nmJ9 : ∀ a, a < 6 → ∀ b, b < 6 → a ≠ b → (TJ9 a).2.1 ≠ (TJ9 b).2.1 := by decide +kernel
theorem tyJ9_ok : ∀ k, k < 6 → parseFieldDescriptor (TJ9 k).2.2.1 = some (tyJ9 k) := by decide +kernel
abbrev cJ9_init : ByteArray := prog_18_method_2_code
def yJ9_init : MethodName := ⟨RJ9, "<init>", "(Ljava/lang/String;)V"⟩
def dkwJ9_init_0 : List UInt8 := [42, 43, 183, 0, 7, 177]
abbrev dktJ9_init_0 : List UInt8 := dkwJ9_init_0 ++ []
theorem dksJ9_init_0 : cJ9_init.data.toList.drop 0 = dktJ9_init_0 := by decide +kernel
theorem dJ9_init_0 : decode cJ9_init 0 = .ok (.aload_n 0, 1) := dk_42 (dk_at dksJ9_init_0 0 rfl rfl)
theorem dJ9_init_1 : decode cJ9_init 1 = .ok (.aload_n 1, 1) := dk_43 (dk_at dksJ9_init_0 1 rfl rfl)
theorem dJ9_init_2 : decode cJ9_init 2 = .ok (.invokespecial 7, 3) := dk_183 0 7 (dk_at dksJ9_init_0 2 rfl rfl)
theorem dJ9_init_5 : decode cJ9_init 5 = .ok (.return_, 1) := dk_177 (dk_at dksJ9_init_0 5 rfl rfl)
theorem q63 : (Jvm.Cond.initialized "java/lang/NegativeArraySizeException") ∈ lw_all := lw_g (lw_at lw_m1 13 rfl) rfl
theorem q218 : (Jvm.Cond.selects "java/lang/NegativeArraySizeException" ({ cls := "java/lang/Throwable", name := "fillInStackTrace", desc := "()Ljava/lang/Throwable;" } : Jvm.MethodName) ({ cls := "java/lang/Throwable", name := "fillInStackTrace", desc := "()Ljava/lang/Throwable;" } : Jvm.MethodName)) ∈ lw_all := lw_g (lw_at lw_m1 168 rfl) rfl
theorem q306 : (Jvm.Cond.instantiable "java/lang/NegativeArraySizeException" (6 : Nat)) ∈ lw_all := lw_g (lw_at lw_m2 16 rfl) rfl
theorem q307 : (Jvm.Cond.instanceMethod ({ cls := "java/lang/NegativeArraySizeException", name := "<init>", desc := "(Ljava/lang/String;)V" } : Jvm.MethodName)) ∈ lw_all := lw_g (lw_at lw_m2 17 rfl) rfl
theorem q308 : (Jvm.Cond.code ({ cls := "java/lang/NegativeArraySizeException", name := "<init>", desc := "(Ljava/lang/String;)V" } : Jvm.MethodName) prog_18_method_2_code (2 : Nat) (Option.none : Option Jvm.ClassFile.FieldType)) ∈ lw_all := lw_g (lw_at lw_m2 18 rfl) rfl
theorem q309 : (Jvm.Cond.methodLink "java/lang/NegativeArraySizeException" (7 : Nat) ({ cls := "java/lang/RuntimeException", name := "<init>", desc := "(Ljava/lang/String;)V" } : Jvm.MethodName)) ∈ lw_all := lw_g (lw_at lw_m2 19 rfl) rfl
theorem q310 : (Jvm.Cond.lays "java/lang/NegativeArraySizeException" "java/lang/Throwable" "backtrace" "Ljava/lang/Object;") ∈ lw_all := lw_g (lw_at lw_m2 20 rfl) rfl
theorem q311 : (Jvm.Cond.lays "java/lang/NegativeArraySizeException" "java/lang/Throwable" "detailMessage" "Ljava/lang/String;") ∈ lw_all := lw_g (lw_at lw_m2 21 rfl) rfl
theorem q312 : (Jvm.Cond.lays "java/lang/NegativeArraySizeException" "java/lang/Throwable" "cause" "Ljava/lang/Throwable;") ∈ lw_all := lw_g (lw_at lw_m2 22 rfl) rfl
theorem q313 : (Jvm.Cond.lays "java/lang/NegativeArraySizeException" "java/lang/Throwable" "stackTrace" "[Ljava/lang/StackTraceElement;") ∈ lw_all := lw_g (lw_at lw_m2 23 rfl) rfl
theorem q314 : (Jvm.Cond.lays "java/lang/NegativeArraySizeException" "java/lang/Throwable" "depth" "I") ∈ lw_all := lw_g (lw_at lw_m2 24 rfl) rfl
theorem q315 : (Jvm.Cond.lays "java/lang/NegativeArraySizeException" "java/lang/Throwable" "suppressedExceptions" "Ljava/util/List;") ∈ lw_all := lw_g (lw_at lw_m2 25 rfl) rfl
theorem q316 : (Jvm.Cond.superclass "java/lang/NegativeArraySizeException" "java/lang/RuntimeException") ∈ lw_all := lw_g (lw_at lw_m2 26 rfl) rfl
theorem q317 : (Jvm.Cond.castable "java/lang/NegativeArraySizeException" "java/lang/NegativeArraySizeException") ∈ lw_tbl := lw_at lw_m2 27 rfl
theorem q318 : (Jvm.Cond.selects "java/lang/NegativeArraySizeException" ({ cls := "java/lang/Throwable", name := "fillInStackTrace", desc := "(I)Ljava/lang/Throwable;" } : Jvm.MethodName) ({ cls := "java/lang/Throwable", name := "fillInStackTrace", desc := "(I)Ljava/lang/Throwable;" } : Jvm.MethodName)) ∈ lw_all := lw_g (lw_at lw_m2 28 rfl) rfl
theorem q518 : (Jvm.Cond.selects "java/lang/NegativeArraySizeException" ({ cls := "java/lang/Object", name := "getClass", desc := "()Ljava/lang/Class;" } : Jvm.MethodName) ({ cls := "java/lang/Object", name := "getClass", desc := "()Ljava/lang/Class;" } : Jvm.MethodName)) ∈ lw_all := lw_g (lw_at lw_m2 228 rfl) rfl
theorem q1249 : (Jvm.Cond.castable "java/lang/NegativeArraySizeException" "java/lang/Object") ∈ lw_tbl := lw_at lw_m5 239 rfl
theorem in_J9 : ∀ w ∈ wsJ90, w ∈ lw_all := lw_in wsJ90 [310, 311, 312, 313, 314, 315] (by decide +kernel) (by decide +kernel)

theorem q50 : (Jvm.Cond.initialized "MustardFastLaw") ∈ lw_all := lw_g (lw_at lw_m1 0 rfl) rfl
set_option maxRecDepth 100000
theorem q76 : (Jvm.Cond.classLink "MustardFastLaw" (7 : Nat) "MustardFast") ∈ lw_all := lw_g (lw_at lw_m1 26 rfl) rfl
theorem q78 : (Jvm.Cond.methodLink "MustardFastLaw" (9 : Nat) ({ cls := "MustardFast", name := "<init>", desc := "()V" } : Jvm.MethodName)) ∈ lw_all := lw_g (lw_at lw_m1 28 rfl) rfl
theorem q190 : (Jvm.Cond.methodLink "MustardFastLaw" (13 : Nat) ({ cls := "MustardFast", name := "duchy", desc := "(IIII)I" } : Jvm.MethodName)) ∈ lw_all := lw_g (lw_at lw_m1 140 rfl) rfl
theorem q536 : (Jvm.Cond.methodLink "MustardFastLaw" (18 : Nat) ({ cls := "MustardFast", name := "ofEater", desc := "(II)I" } : Jvm.MethodName)) ∈ lw_all := lw_g (lw_at lw_m3 6 rfl) rfl
theorem q597 : (Jvm.Cond.methodLink "MustardFastLaw" (23 : Nat) ({ cls := "MustardFast", name := "look", desc := "(I)I" } : Jvm.MethodName)) ∈ lw_all := lw_g (lw_at lw_m3 67 rfl) rfl
theorem q605 : (Jvm.Cond.methodLink "MustardFastLaw" (28 : Nat) ({ cls := "MustardFast", name := "pull", desc := "(II)I" } : Jvm.MethodName)) ∈ lw_all := lw_g (lw_at lw_m3 75 rfl) rfl
theorem q613 : (Jvm.Cond.methodLink "MustardFastLaw" (32 : Nat) ({ cls := "MustardFast", name := "sour", desc := "(I)I" } : Jvm.MethodName)) ∈ lw_all := lw_g (lw_at lw_m3 83 rfl) rfl
theorem q621 : (Jvm.Cond.methodLink "MustardFastLaw" (36 : Nat) ({ cls := "MustardFast", name := "crave", desc := "(II)I" } : Jvm.MethodName)) ∈ lw_all := lw_g (lw_at lw_m3 91 rfl) rfl
theorem q626 : (Jvm.Cond.methodLink "MustardFastLaw" (40 : Nat) ({ cls := "MustardFast", name := "fasts", desc := "()I" } : Jvm.MethodName)) ∈ lw_all := lw_g (lw_at lw_m3 96 rfl) rfl
theorem q638 : (Jvm.Cond.methodLink "MustardFastLaw" (45 : Nat) ({ cls := "MustardFast", name := "yellow", desc := "(II)I" } : Jvm.MethodName)) ∈ lw_all := lw_g (lw_at lw_m3 108 rfl) rfl
theorem q670 : (Jvm.Cond.methodLink "MustardFastLaw" (49 : Nat) ({ cls := "MustardFast", name := "found", desc := "(III)I" } : Jvm.MethodName)) ∈ lw_all := lw_g (lw_at lw_m3 140 rfl) rfl
theorem q693 : (Jvm.Cond.methodLink "MustardFastLaw" (54 : Nat) ({ cls := "MustardFast", name := "plan", desc := "(IIIII)I" } : Jvm.MethodName)) ∈ lw_all := lw_g (lw_at lw_m3 163 rfl) rfl
theorem q715 : (Jvm.Cond.methodLink "MustardFastLaw" (59 : Nat) ({ cls := "MustardFast", name := "best", desc := "(II)I" } : Jvm.MethodName)) ∈ lw_all := lw_g (lw_at lw_m3 185 rfl) rfl
theorem q727 : (Jvm.Cond.methodLink "MustardFastLaw" (63 : Nat) ({ cls := "MustardFast", name := "village", desc := "()I" } : Jvm.MethodName)) ∈ lw_all := lw_g (lw_at lw_m3 197 rfl) rfl
theorem q735 : (Jvm.Cond.methodLink "MustardFastLaw" (67 : Nat) ({ cls := "MustardFast", name := "smile", desc := "(I)I" } : Jvm.MethodName)) ∈ lw_all := lw_g (lw_at lw_m3 205 rfl) rfl
theorem q739 : (Jvm.Cond.methodLink "MustardFastLaw" (71 : Nat) ({ cls := "MustardFast", name := "reading", desc := "(IIIZ)I" } : Jvm.MethodName)) ∈ lw_all := lw_g (lw_at lw_m3 209 rfl) rfl
theorem q743 : (Jvm.Cond.methodLink "MustardFastLaw" (76 : Nat) ({ cls := "MustardFast", name := "back", desc := "(I)I" } : Jvm.MethodName)) ∈ lw_all := lw_g (lw_at lw_m3 213 rfl) rfl
theorem q747 : (Jvm.Cond.methodLink "MustardFastLaw" (80 : Nat) ({ cls := "MustardFast", name := "stays", desc := "(I)I" } : Jvm.MethodName)) ∈ lw_all := lw_g (lw_at lw_m3 217 rfl) rfl
theorem q755 : (Jvm.Cond.methodLink "MustardFastLaw" (84 : Nat) ({ cls := "MustardFast", name := "kinds", desc := "(I)I" } : Jvm.MethodName)) ∈ lw_all := lw_g (lw_at lw_m3 225 rfl) rfl
theorem q759 : (Jvm.Cond.methodLink "MustardFastLaw" (88 : Nat) ({ cls := "MustardFast", name := "sours", desc := "()I" } : Jvm.MethodName)) ∈ lw_all := lw_g (lw_at lw_m3 229 rfl) rfl
theorem q763 : (Jvm.Cond.methodLink "MustardFastLaw" (92 : Nat) ({ cls := "MustardFast", name := "odds", desc := "(III)J" } : Jvm.MethodName)) ∈ lw_all := lw_g (lw_at lw_m3 233 rfl) rfl
theorem q771 : (Jvm.Cond.methodLink "MustardFastLaw" (97 : Nat) ({ cls := "MustardFast", name := "sheet", desc := "(III)I" } : Jvm.MethodName)) ∈ lw_all := lw_g (lw_at lw_m4 1 rfl) rfl
theorem q776 : (Jvm.Cond.methodLink "MustardFastLaw" (101 : Nat) ({ cls := "MustardFast", name := "lose", desc := "(I)I" } : Jvm.MethodName)) ∈ lw_all := lw_g (lw_at lw_m4 6 rfl) rfl
theorem q780 : (Jvm.Cond.methodLink "MustardFastLaw" (105 : Nat) ({ cls := "MustardFast", name := "put", desc := "(III)I" } : Jvm.MethodName)) ∈ lw_all := lw_g (lw_at lw_m4 10 rfl) rfl
theorem q784 : (Jvm.Cond.methodLink "MustardFastLaw" (109 : Nat) ({ cls := "MustardFast", name := "cell", desc := "(III)J" } : Jvm.MethodName)) ∈ lw_all := lw_g (lw_at lw_m4 14 rfl) rfl
theorem q792 : (Jvm.Cond.methodLink "MustardFastLaw" (113 : Nat) ({ cls := "MustardFast", name := "copy", desc := "(IIIII)I" } : Jvm.MethodName)) ∈ lw_all := lw_g (lw_at lw_m4 22 rfl) rfl
theorem q811 : (Jvm.Cond.methodLink "MustardFastLaw" (117 : Nat) ({ cls := "MustardFast", name := "tell", desc := "(I)I" } : Jvm.MethodName)) ∈ lw_all := lw_g (lw_at lw_m4 41 rfl) rfl
theorem q841 : (Jvm.Cond.methodLink "MustardFastLaw" (121 : Nat) ({ cls := "MustardFast", name := "sniff", desc := "(I)I" } : Jvm.MethodName)) ∈ lw_all := lw_g (lw_at lw_m4 71 rfl) rfl
theorem q879 : (Jvm.Cond.methodLink "MustardFastLaw" (125 : Nat) ({ cls := "MustardFast", name := "as", desc := "(II)I" } : Jvm.MethodName)) ∈ lw_all := lw_g (lw_at lw_m4 109 rfl) rfl
theorem q886 : (Jvm.Cond.methodLink "MustardFastLaw" (129 : Nat) ({ cls := "MustardFast", name := "trace", desc := "()I" } : Jvm.MethodName)) ∈ lw_all := lw_g (lw_at lw_m4 116 rfl) rfl
theorem q890 : (Jvm.Cond.methodLink "MustardFastLaw" (133 : Nat) ({ cls := "MustardFast", name := "fault", desc := "()I" } : Jvm.MethodName)) ∈ lw_all := lw_g (lw_at lw_m4 120 rfl) rfl
theorem q894 : (Jvm.Cond.methodLink "MustardFastLaw" (137 : Nat) ({ cls := "MustardFast", name := "many", desc := "(I)I" } : Jvm.MethodName)) ∈ lw_all := lw_g (lw_at lw_m4 124 rfl) rfl
theorem q898 : (Jvm.Cond.classLink "MustardFastLaw" (10 : Nat) "MustardFastModel") ∈ lw_all := lw_g (lw_at lw_m4 128 rfl) rfl
theorem q900 : (Jvm.Cond.methodLink "MustardFastLaw" (12 : Nat) ({ cls := "MustardFastModel", name := "<init>", desc := "()V" } : Jvm.MethodName)) ∈ lw_all := lw_g (lw_at lw_m4 130 rfl) rfl
theorem q992 : (Jvm.Cond.methodLink "MustardFastLaw" (17 : Nat) ({ cls := "MustardFastModel", name := "duchy", desc := "(IIII)I" } : Jvm.MethodName)) ∈ lw_all := lw_g (lw_at lw_m4 222 rfl) rfl
theorem q1039 : (Jvm.Cond.methodLink "MustardFastLaw" (22 : Nat) ({ cls := "MustardFastModel", name := "ofEater", desc := "(II)I" } : Jvm.MethodName)) ∈ lw_all := lw_g (lw_at lw_m5 29 rfl) rfl
theorem q1051 : (Jvm.Cond.methodLink "MustardFastLaw" (27 : Nat) ({ cls := "MustardFastModel", name := "look", desc := "(I)I" } : Jvm.MethodName)) ∈ lw_all := lw_g (lw_at lw_m5 41 rfl) rfl
theorem q1059 : (Jvm.Cond.methodLink "MustardFastLaw" (31 : Nat) ({ cls := "MustardFastModel", name := "pull", desc := "(II)I" } : Jvm.MethodName)) ∈ lw_all := lw_g (lw_at lw_m5 49 rfl) rfl
theorem q1064 : (Jvm.Cond.methodLink "MustardFastLaw" (35 : Nat) ({ cls := "MustardFastModel", name := "sour", desc := "(I)I" } : Jvm.MethodName)) ∈ lw_all := lw_g (lw_at lw_m5 54 rfl) rfl
theorem q1068 : (Jvm.Cond.methodLink "MustardFastLaw" (39 : Nat) ({ cls := "MustardFastModel", name := "crave", desc := "(II)I" } : Jvm.MethodName)) ∈ lw_all := lw_g (lw_at lw_m5 58 rfl) rfl
theorem q1073 : (Jvm.Cond.methodLink "MustardFastLaw" (44 : Nat) ({ cls := "MustardFastModel", name := "fasts", desc := "()I" } : Jvm.MethodName)) ∈ lw_all := lw_g (lw_at lw_m5 63 rfl) rfl
theorem q1081 : (Jvm.Cond.methodLink "MustardFastLaw" (48 : Nat) ({ cls := "MustardFastModel", name := "yellow", desc := "(II)I" } : Jvm.MethodName)) ∈ lw_all := lw_g (lw_at lw_m5 71 rfl) rfl
theorem q1096 : (Jvm.Cond.methodLink "MustardFastLaw" (53 : Nat) ({ cls := "MustardFastModel", name := "found", desc := "(III)I" } : Jvm.MethodName)) ∈ lw_all := lw_g (lw_at lw_m5 86 rfl) rfl
theorem q1111 : (Jvm.Cond.methodLink "MustardFastLaw" (58 : Nat) ({ cls := "MustardFastModel", name := "plan", desc := "(IIIII)I" } : Jvm.MethodName)) ∈ lw_all := lw_g (lw_at lw_m5 101 rfl) rfl
theorem q1121 : (Jvm.Cond.methodLink "MustardFastLaw" (62 : Nat) ({ cls := "MustardFastModel", name := "best", desc := "(II)I" } : Jvm.MethodName)) ∈ lw_all := lw_g (lw_at lw_m5 111 rfl) rfl
theorem q1129 : (Jvm.Cond.methodLink "MustardFastLaw" (66 : Nat) ({ cls := "MustardFastModel", name := "village", desc := "()I" } : Jvm.MethodName)) ∈ lw_all := lw_g (lw_at lw_m5 119 rfl) rfl
theorem q1137 : (Jvm.Cond.methodLink "MustardFastLaw" (70 : Nat) ({ cls := "MustardFastModel", name := "smile", desc := "(I)I" } : Jvm.MethodName)) ∈ lw_all := lw_g (lw_at lw_m5 127 rfl) rfl
theorem q1141 : (Jvm.Cond.methodLink "MustardFastLaw" (75 : Nat) ({ cls := "MustardFastModel", name := "reading", desc := "(IIIZ)I" } : Jvm.MethodName)) ∈ lw_all := lw_g (lw_at lw_m5 131 rfl) rfl
theorem q1145 : (Jvm.Cond.methodLink "MustardFastLaw" (79 : Nat) ({ cls := "MustardFastModel", name := "back", desc := "(I)I" } : Jvm.MethodName)) ∈ lw_all := lw_g (lw_at lw_m5 135 rfl) rfl
theorem q1149 : (Jvm.Cond.methodLink "MustardFastLaw" (83 : Nat) ({ cls := "MustardFastModel", name := "stays", desc := "(I)I" } : Jvm.MethodName)) ∈ lw_all := lw_g (lw_at lw_m5 139 rfl) rfl
theorem q1157 : (Jvm.Cond.methodLink "MustardFastLaw" (87 : Nat) ({ cls := "MustardFastModel", name := "kinds", desc := "(I)I" } : Jvm.MethodName)) ∈ lw_all := lw_g (lw_at lw_m5 147 rfl) rfl
theorem q1161 : (Jvm.Cond.methodLink "MustardFastLaw" (91 : Nat) ({ cls := "MustardFastModel", name := "sours", desc := "()I" } : Jvm.MethodName)) ∈ lw_all := lw_g (lw_at lw_m5 151 rfl) rfl
theorem q1165 : (Jvm.Cond.methodLink "MustardFastLaw" (96 : Nat) ({ cls := "MustardFastModel", name := "odds", desc := "(III)J" } : Jvm.MethodName)) ∈ lw_all := lw_g (lw_at lw_m5 155 rfl) rfl
theorem q1176 : (Jvm.Cond.methodLink "MustardFastLaw" (100 : Nat) ({ cls := "MustardFastModel", name := "sheet", desc := "(III)I" } : Jvm.MethodName)) ∈ lw_all := lw_g (lw_at lw_m5 166 rfl) rfl
theorem q1180 : (Jvm.Cond.methodLink "MustardFastLaw" (104 : Nat) ({ cls := "MustardFastModel", name := "lose", desc := "(I)I" } : Jvm.MethodName)) ∈ lw_all := lw_g (lw_at lw_m5 170 rfl) rfl
theorem q1184 : (Jvm.Cond.methodLink "MustardFastLaw" (108 : Nat) ({ cls := "MustardFastModel", name := "put", desc := "(III)I" } : Jvm.MethodName)) ∈ lw_all := lw_g (lw_at lw_m5 174 rfl) rfl
theorem q1192 : (Jvm.Cond.methodLink "MustardFastLaw" (112 : Nat) ({ cls := "MustardFastModel", name := "cell", desc := "(III)J" } : Jvm.MethodName)) ∈ lw_all := lw_g (lw_at lw_m5 182 rfl) rfl
theorem q1200 : (Jvm.Cond.methodLink "MustardFastLaw" (116 : Nat) ({ cls := "MustardFastModel", name := "copy", desc := "(IIIII)I" } : Jvm.MethodName)) ∈ lw_all := lw_g (lw_at lw_m5 190 rfl) rfl
theorem q1204 : (Jvm.Cond.methodLink "MustardFastLaw" (120 : Nat) ({ cls := "MustardFastModel", name := "tell", desc := "(I)I" } : Jvm.MethodName)) ∈ lw_all := lw_g (lw_at lw_m5 194 rfl) rfl
theorem q1212 : (Jvm.Cond.methodLink "MustardFastLaw" (124 : Nat) ({ cls := "MustardFastModel", name := "sniff", desc := "(I)I" } : Jvm.MethodName)) ∈ lw_all := lw_g (lw_at lw_m5 202 rfl) rfl
theorem q1216 : (Jvm.Cond.methodLink "MustardFastLaw" (128 : Nat) ({ cls := "MustardFastModel", name := "as", desc := "(II)I" } : Jvm.MethodName)) ∈ lw_all := lw_g (lw_at lw_m5 206 rfl) rfl
theorem q1220 : (Jvm.Cond.methodLink "MustardFastLaw" (132 : Nat) ({ cls := "MustardFastModel", name := "trace", desc := "()I" } : Jvm.MethodName)) ∈ lw_all := lw_g (lw_at lw_m5 210 rfl) rfl
theorem q1224 : (Jvm.Cond.methodLink "MustardFastLaw" (136 : Nat) ({ cls := "MustardFastModel", name := "fault", desc := "()I" } : Jvm.MethodName)) ∈ lw_all := lw_g (lw_at lw_m5 214 rfl) rfl
theorem q1228 : (Jvm.Cond.methodLink "MustardFastLaw" (140 : Nat) ({ cls := "MustardFastModel", name := "many", desc := "(I)I" } : Jvm.MethodName)) ∈ lw_all := lw_g (lw_at lw_m5 218 rfl) rfl

theorem q1263 : (Jvm.Cond.castable "[B" "java/lang/Object") ∈ lw_tbl := lw_at lw_m6 13 rfl
set_option maxRecDepth 100000

theorem q1261 : (Jvm.Cond.castable "[I" "java/lang/Object") ∈ lw_tbl := lw_at lw_m6 11 rfl
set_option maxRecDepth 100000

theorem q1260 : (Jvm.Cond.castable "[LMustardFast$Place;" "java/lang/Object") ∈ lw_tbl := lw_at lw_m6 10 rfl
set_option maxRecDepth 100000

theorem q1257 : (Jvm.Cond.sameMethod "[Ljava/lang/Object;" "java/lang/Object" "getClass" "()Ljava/lang/Class;") ∈ lw_all := lw_g (lw_at lw_m6 7 rfl) rfl
set_option maxRecDepth 100000
theorem q1258 : (Jvm.Cond.selects "[Ljava/lang/Object;" ({ cls := "java/lang/Object", name := "getClass", desc := "()Ljava/lang/Class;" } : Jvm.MethodName) ({ cls := "java/lang/Object", name := "getClass", desc := "()Ljava/lang/Class;" } : Jvm.MethodName)) ∈ lw_all := lw_g (lw_at lw_m6 8 rfl) rfl
theorem q1264 : (Jvm.Cond.castable "[Ljava/lang/Object;" "java/lang/Object") ∈ lw_tbl := lw_at lw_m6 14 rfl

theorem q1265 : (Jvm.Cond.castable "[S" "java/lang/Object") ∈ lw_tbl := lw_at lw_m6 15 rfl
set_option maxRecDepth 100000

theorem q1262 : (Jvm.Cond.castable "[Z" "java/lang/Object") ∈ lw_tbl := lw_at lw_m6 12 rfl
set_option maxRecDepth 100000

theorem q67 : (Jvm.Cond.initialized "java/lang/System") ∈ lw_all := lw_g (lw_at lw_m1 17 rfl) rfl
set_option maxRecDepth 100000
theorem q400 : (Jvm.Cond.static ({ cls := "java/lang/System", name := "arraycopy", desc := "(Ljava/lang/Object;ILjava/lang/Object;II)V" } : Jvm.MethodName)) ∈ lw_all := lw_g (lw_at lw_m2 110 rfl) rfl
theorem q401 : (Jvm.Cond.native ({ cls := "java/lang/System", name := "arraycopy", desc := "(Ljava/lang/Object;ILjava/lang/Object;II)V" } : Jvm.MethodName)) ∈ lw_all := lw_g (lw_at lw_m2 111 rfl) rfl

theorem q404 : (Jvm.Cond.interfaceMethod "java/util/List" "java/util/List" "clear" "()V") ∈ lw_tbl := lw_at lw_m2 114 rfl
set_option maxRecDepth 100000
theorem q405 : (Jvm.Cond.declares ({ cls := "java/util/List", name := "clear", desc := "()V" } : Jvm.MethodName)) ∈ lw_tbl := lw_at lw_m2 115 rfl
theorem q474 : (Jvm.Cond.interfaceMethod "java/util/List" "java/util/List" "add" "(Ljava/lang/Object;)Z") ∈ lw_tbl := lw_at lw_m2 184 rfl
theorem q475 : (Jvm.Cond.declares ({ cls := "java/util/List", name := "add", desc := "(Ljava/lang/Object;)Z" } : Jvm.MethodName)) ∈ lw_tbl := lw_at lw_m2 185 rfl
theorem q546 : (Jvm.Cond.interfaceMethod "java/util/List" "java/util/List" "size" "()I") ∈ lw_tbl := lw_at lw_m3 16 rfl
theorem q547 : (Jvm.Cond.declares ({ cls := "java/util/List", name := "size", desc := "()I" } : Jvm.MethodName)) ∈ lw_tbl := lw_at lw_m3 17 rfl
theorem q555 : (Jvm.Cond.interfaceMethod "java/util/List" "java/util/List" "get" "(I)Ljava/lang/Object;") ∈ lw_tbl := lw_at lw_m3 25 rfl
theorem q556 : (Jvm.Cond.declares ({ cls := "java/util/List", name := "get", desc := "(I)Ljava/lang/Object;" } : Jvm.MethodName)) ∈ lw_tbl := lw_at lw_m3 26 rfl

theorem q114 : (Jvm.Cond.arrayOver (Jvm.ClassFile.FieldType.object "MustardFast$Place")) ∈ lw_tbl := lw_at lw_m1 64 rfl
set_option maxRecDepth 100000
theorem q124 : (Jvm.Cond.arrayClass Jvm.ClassFile.FieldType.int) ∈ lw_all := lw_g (lw_at lw_m1 74 rfl) rfl
theorem q125 : (Jvm.Cond.arrayClass Jvm.ClassFile.FieldType.boolean) ∈ lw_all := lw_g (lw_at lw_m1 75 rfl) rfl
theorem q275 : (Jvm.Cond.arrayClass Jvm.ClassFile.FieldType.byte) ∈ lw_all := lw_g (lw_at lw_m1 225 rfl) rfl
theorem q526 : (Jvm.Cond.arrayOver (Jvm.ClassFile.FieldType.object "java/lang/Object")) ∈ lw_tbl := lw_at lw_m2 236 rfl
theorem q775 : (Jvm.Cond.arrayClass Jvm.ClassFile.FieldType.short) ∈ lw_all := lw_g (lw_at lw_m4 5 rfl) rfl
