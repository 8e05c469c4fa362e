/-! java/util/AbstractCollection -/
set_option maxRecDepth 100000
def RJ0 : String := "java/util/AbstractCollection"
abbrev cJ0_init : ByteArray := prog_26_method_1_code
def yJ0_init : MethodName := ⟨RJ0, "<init>", "()V"⟩
theorem dJ0_init_0 : decode cJ0_init 0 = .ok (.aload_n 0, 1) := by decide +kernel
theorem dJ0_init_1 : decode cJ0_init 1 = .ok (.invokespecial 1, 3) := by decide +kernel
theorem dJ0_init_4 : decode cJ0_init 4 = .ok (.return_, 1) := by decide +kernel
theorem q46 : (Jvm.Cond.initialized "java/util/AbstractCollection") ∈ lw_all := lw_g (lw_at lw_m1 8 rfl) rfl
theorem q251 : (Jvm.Cond.instanceMethod ({ cls := "java/util/AbstractCollection", name := "<init>", desc := "()V" } : Jvm.MethodName)) ∈ lw_all := lw_g (lw_at lw_m1 213 rfl) rfl
theorem q252 : (Jvm.Cond.code ({ cls := "java/util/AbstractCollection", name := "<init>", desc := "()V" } : Jvm.MethodName) prog_26_method_1_code (1 : Nat) (Option.none : Option Jvm.ClassFile.FieldType)) ∈ lw_all := lw_g (lw_at lw_m1 214 rfl) rfl
theorem q253 : (Jvm.Cond.methodLink "java/util/AbstractCollection" (1 : Nat) ({ cls := "java/lang/Object", name := "<init>", desc := "()V" } : Jvm.MethodName)) ∈ lw_all := lw_g (lw_at lw_m1 215 rfl) rfl
/-! java/util/AbstractList -/
set_option maxRecDepth 100000
def RJ1 : String := "java/util/AbstractList"
abbrev cJ1_init : ByteArray := prog_27_method_1_code
def yJ1_init : MethodName := ⟨RJ1, "<init>", "()V"⟩
def dkwJ1_init_0 : List UInt8 := [42, 183, 0, 1, 42, 3, 181, 0, 7, 177]
abbrev dktJ1_init_0 : List UInt8 := dkwJ1_init_0 ++ []
theorem dksJ1_init_0 : cJ1_init.data.toList.drop 0 = dktJ1_init_0 := by decide +kernel
theorem dJ1_init_0 : decode cJ1_init 0 = .ok (.aload_n 0, 1) := dk_42 (dk_at dksJ1_init_0 0 rfl rfl)
theorem dJ1_init_1 : decode cJ1_init 1 = .ok (.invokespecial 1, 3) := dk_183 0 1 (dk_at dksJ1_init_0 1 rfl rfl)
theorem dJ1_init_4 : decode cJ1_init 4 = .ok (.aload_n 0, 1) := dk_42 (dk_at dksJ1_init_0 4 rfl rfl)
theorem dJ1_init_5 : decode cJ1_init 5 = .ok (.iconst 0, 1) := dk_3 (dk_at dksJ1_init_0 5 rfl rfl)
theorem dJ1_init_6 : decode cJ1_init 6 = .ok (.putfield 7, 3) := dk_181 0 7 (dk_at dksJ1_init_0 6 rfl rfl)
theorem dJ1_init_9 : decode cJ1_init 9 = .ok (.return_, 1) := dk_177 (dk_at dksJ1_init_0 9 rfl rfl)
theorem q47 : (Jvm.Cond.initialized "java/util/AbstractList") ∈ lw_all := lw_g (lw_at lw_m1 9 rfl) rfl
theorem q248 : (Jvm.Cond.instanceMethod ({ cls := "java/util/AbstractList", name := "<init>", desc := "()V" } : Jvm.MethodName)) ∈ lw_all := lw_g (lw_at lw_m1 210 rfl) rfl
theorem q249 : (Jvm.Cond.code ({ cls := "java/util/AbstractList", name := "<init>", desc := "()V" } : Jvm.MethodName) prog_27_method_1_code (1 : Nat) (Option.none : Option Jvm.ClassFile.FieldType)) ∈ lw_all := lw_g (lw_at lw_m1 211 rfl) rfl
theorem q250 : (Jvm.Cond.methodLink "java/util/AbstractList" (1 : Nat) ({ cls := "java/util/AbstractCollection", name := "<init>", desc := "()V" } : Jvm.MethodName)) ∈ lw_all := lw_g (lw_at lw_m1 212 rfl) rfl
theorem q258 : (Jvm.Cond.fieldLink "java/util/AbstractList" (7 : Nat) "java/util/AbstractList" "modCount" "I") ∈ lw_all := lw_g (lw_at lw_m1 220 rfl) rfl
theorem q266 : (Jvm.Cond.soleField "java/util/AbstractList" "modCount") ∈ lw_all := lw_g (lw_at lw_m1 228 rfl) rfl
/-! java/lang/RuntimeException -/
set_option maxRecDepth 100000
def RJ10 : String := "java/lang/RuntimeException"
abbrev cJ10_init : ByteArray := prog_22_method_2_code
def yJ10_init : MethodName := ⟨RJ10, "<init>", "(Ljava/lang/String;)V"⟩
def dkwJ10_init_0 : List UInt8 := [42, 43, 183, 0, 7, 177]
abbrev dktJ10_init_0 : List UInt8 := dkwJ10_init_0 ++ []
theorem dksJ10_init_0 : cJ10_init.data.toList.drop 0 = dktJ10_init_0 := by decide +kernel
theorem dJ10_init_0 : decode cJ10_init 0 = .ok (.aload_n 0, 1) := dk_42 (dk_at dksJ10_init_0 0 rfl rfl)
theorem dJ10_init_1 : decode cJ10_init 1 = .ok (.aload_n 1, 1) := dk_43 (dk_at dksJ10_init_0 1 rfl rfl)
theorem dJ10_init_2 : decode cJ10_init 2 = .ok (.invokespecial 7, 3) := dk_183 0 7 (dk_at dksJ10_init_0 2 rfl rfl)
theorem dJ10_init_5 : decode cJ10_init 5 = .ok (.return_, 1) := dk_177 (dk_at dksJ10_init_0 5 rfl rfl)
abbrev cJ10_init_2 : ByteArray := prog_22_method_1_code
def yJ10_init_2 : MethodName := ⟨RJ10, "<init>", "()V"⟩
theorem dJ10_init_2_0 : decode cJ10_init_2 0 = .ok (.aload_n 0, 1) := by decide +kernel
theorem dJ10_init_2_1 : decode cJ10_init_2 1 = .ok (.invokespecial 1, 3) := by decide +kernel
theorem dJ10_init_2_4 : decode cJ10_init_2 4 = .ok (.return_, 1) := by decide +kernel
theorem q60 : (Jvm.Cond.initialized "java/lang/RuntimeException") ∈ lw_all := lw_g (lw_at lw_m1 22 rfl) rfl
theorem q577 : (Jvm.Cond.instanceMethod ({ cls := "java/lang/RuntimeException", name := "<init>", desc := "(Ljava/lang/String;)V" } : Jvm.MethodName)) ∈ lw_all := lw_g (lw_at lw_m3 59 rfl) rfl
theorem q578 : (Jvm.Cond.code ({ cls := "java/lang/RuntimeException", name := "<init>", desc := "(Ljava/lang/String;)V" } : Jvm.MethodName) prog_22_method_2_code (2 : Nat) (Option.none : Option Jvm.ClassFile.FieldType)) ∈ lw_all := lw_g (lw_at lw_m3 60 rfl) rfl
theorem q579 : (Jvm.Cond.methodLink "java/lang/RuntimeException" (7 : Nat) ({ cls := "java/lang/Exception", name := "<init>", desc := "(Ljava/lang/String;)V" } : Jvm.MethodName)) ∈ lw_all := lw_g (lw_at lw_m3 61 rfl) rfl
theorem q605 : (Jvm.Cond.sameMethod "java/lang/RuntimeException" "java/lang/Throwable" "fillInStackTrace" "()Ljava/lang/Throwable;") ∈ lw_all := lw_g (lw_at lw_m3 87 rfl) rfl
theorem q608 : (Jvm.Cond.superclass "java/lang/RuntimeException" "java/lang/Exception") ∈ lw_all := lw_g (lw_at lw_m3 90 rfl) rfl
theorem q637 : (Jvm.Cond.declares ({ cls := "java/lang/RuntimeException", name := "<init>", desc := "()V" } : Jvm.MethodName)) ∈ lw_tbl := lw_at lw_m3 119 rfl
theorem q638 : (Jvm.Cond.declares ({ cls := "java/lang/RuntimeException", name := "<init>", desc := "(Ljava/lang/String;)V" } : Jvm.MethodName)) ∈ lw_tbl := lw_at lw_m3 120 rfl
theorem q793 : (Jvm.Cond.instanceMethod ({ cls := "java/lang/RuntimeException", name := "<init>", desc := "()V" } : Jvm.MethodName)) ∈ lw_all := lw_g (lw_at lw_m4 35 rfl) rfl
theorem q794 : (Jvm.Cond.code ({ cls := "java/lang/RuntimeException", name := "<init>", desc := "()V" } : Jvm.MethodName) prog_22_method_1_code (1 : Nat) (Option.none : Option Jvm.ClassFile.FieldType)) ∈ lw_all := lw_g (lw_at lw_m4 36 rfl) rfl
theorem q795 : (Jvm.Cond.methodLink "java/lang/RuntimeException" (1 : Nat) ({ cls := "java/lang/Exception", name := "<init>", desc := "()V" } : Jvm.MethodName)) ∈ lw_all := lw_g (lw_at lw_m4 37 rfl) rfl
theorem q813 : (Jvm.Cond.castable "java/lang/RuntimeException" "java/lang/Throwable") ∈ lw_tbl := lw_at lw_m4 55 rfl
/-! java/lang/IndexOutOfBoundsException -/
set_option maxRecDepth 100000
def RJ11 : String := "java/lang/IndexOutOfBoundsException"
abbrev cJ11_init : ByteArray := prog_17_method_2_code
def yJ11_init : MethodName := ⟨RJ11, "<init>", "(Ljava/lang/String;)V"⟩
def dkwJ11_init_0 : List UInt8 := [42, 43, 183, 0, 7, 177]
abbrev dktJ11_init_0 : List UInt8 := dkwJ11_init_0 ++ []
theorem dksJ11_init_0 : cJ11_init.data.toList.drop 0 = dktJ11_init_0 := by decide +kernel
theorem dJ11_init_0 : decode cJ11_init 0 = .ok (.aload_n 0, 1) := dk_42 (dk_at dksJ11_init_0 0 rfl rfl)
theorem dJ11_init_1 : decode cJ11_init 1 = .ok (.aload_n 1, 1) := dk_43 (dk_at dksJ11_init_0 1 rfl rfl)
theorem dJ11_init_2 : decode cJ11_init 2 = .ok (.invokespecial 7, 3) := dk_183 0 7 (dk_at dksJ11_init_0 2 rfl rfl)
theorem dJ11_init_5 : decode cJ11_init 5 = .ok (.return_, 1) := dk_177 (dk_at dksJ11_init_0 5 rfl rfl)
theorem q61 : (Jvm.Cond.initialized "java/lang/IndexOutOfBoundsException") ∈ lw_all := lw_g (lw_at lw_m1 23 rfl) rfl
theorem q574 : (Jvm.Cond.instanceMethod ({ cls := "java/lang/IndexOutOfBoundsException", name := "<init>", desc := "(Ljava/lang/String;)V" } : Jvm.MethodName)) ∈ lw_all := lw_g (lw_at lw_m3 56 rfl) rfl
theorem q575 : (Jvm.Cond.code ({ cls := "java/lang/IndexOutOfBoundsException", name := "<init>", desc := "(Ljava/lang/String;)V" } : Jvm.MethodName) prog_17_method_2_code (2 : Nat) (Option.none : Option Jvm.ClassFile.FieldType)) ∈ lw_all := lw_g (lw_at lw_m3 57 rfl) rfl
theorem q576 : (Jvm.Cond.methodLink "java/lang/IndexOutOfBoundsException" (7 : Nat) ({ cls := "java/lang/RuntimeException", name := "<init>", desc := "(Ljava/lang/String;)V" } : Jvm.MethodName)) ∈ lw_all := lw_g (lw_at lw_m3 58 rfl) rfl
theorem q635 : (Jvm.Cond.declares ({ cls := "java/lang/IndexOutOfBoundsException", name := "<init>", desc := "()V" } : Jvm.MethodName)) ∈ lw_tbl := lw_at lw_m3 117 rfl
theorem q636 : (Jvm.Cond.declares ({ cls := "java/lang/IndexOutOfBoundsException", name := "<init>", desc := "(Ljava/lang/String;)V" } : Jvm.MethodName)) ∈ lw_tbl := lw_at lw_m3 118 rfl
/-! java/lang/ArrayIndexOutOfBoundsException -/
set_option maxRecDepth 100000
def RJ12 : String := "java/lang/ArrayIndexOutOfBoundsException"
def TJ12 : u_T := fun k => match k with
  | 0 => ("java/lang/Throwable", "backtrace", "Ljava/lang/Object;", false)
  | 1 => ("java/lang/Throwable", "detailMessage", "Ljava/lang/String;", false)
  | 2 => ("java/lang/Throwable", "cause", "Ljava/lang/Throwable;", false)
  | 3 => ("java/lang/Throwable", "stackTrace", "[Ljava/lang/StackTraceElement;", false)
  | 4 => ("java/lang/Throwable", "depth", "I", false)
  | _ => ("java/lang/Throwable", "suppressedExceptions", "Ljava/util/List;", false)
def tyJ12 : Nat → FieldType := fun k => match k with
  | 0 => .object "java/lang/Object"
  | 1 => .object "java/lang/String"
  | 2 => .object "java/lang/Throwable"
  | 3 => .array (.object "java/lang/StackTraceElement")
  | 4 => .int
  | _ => .object "java/util/List"
abbrev wsJ120 : List Cond := u_ws RJ12 TJ12 6
theorem nmJ12 : ∀ a, a < 6 → ∀ b, b < 6 → a ≠ b → (TJ12 a).2.1 ≠ (TJ12 b).2.1 := by decide +kernel
theorem tyJ12_ok : ∀ k, k < 6 → parseFieldDescriptor (TJ12 k).2.2.1 = some (tyJ12 k) := by decide +kernel
abbrev cJ12_init : ByteArray := prog_13_method_2_code
def yJ12_init : MethodName := ⟨RJ12, "<init>", "(Ljava/lang/String;)V"⟩
def dkwJ12_init_0 : List UInt8 := [42, 43, 183, 0, 7, 177]
abbrev dktJ12_init_0 : List UInt8 := dkwJ12_init_0 ++ []
theorem dksJ12_init_0 : cJ12_init.data.toList.drop 0 = dktJ12_init_0 := by decide +kernel
theorem dJ12_init_0 : decode cJ12_init 0 = .ok (.aload_n 0, 1) := dk_42 (dk_at dksJ12_init_0 0 rfl rfl)
theorem dJ12_init_1 : decode cJ12_init 1 = .ok (.aload_n 1, 1) := dk_43 (dk_at dksJ12_init_0 1 rfl rfl)
theorem dJ12_init_2 : decode cJ12_init 2 = .ok (.invokespecial 7, 3) := dk_183 0 7 (dk_at dksJ12_init_0 2 rfl rfl)
theorem dJ12_init_5 : decode cJ12_init 5 = .ok (.return_, 1) := dk_177 (dk_at dksJ12_init_0 5 rfl rfl)
theorem q62 : (Jvm.Cond.initialized "java/lang/ArrayIndexOutOfBoundsException") ∈ lw_all := lw_g (lw_at lw_m1 24 rfl) rfl
theorem q538 : (Jvm.Cond.selects "java/lang/ArrayIndexOutOfBoundsException" ({ cls := "java/lang/Object", name := "getClass", desc := "()Ljava/lang/Class;" } : Jvm.MethodName) ({ cls := "java/lang/Object", name := "getClass", desc := "()Ljava/lang/Class;" } : Jvm.MethodName)) ∈ lw_all := lw_g (lw_at lw_m3 20 rfl) rfl
theorem q570 : (Jvm.Cond.instantiable "java/lang/ArrayIndexOutOfBoundsException" (6 : Nat)) ∈ lw_all := lw_g (lw_at lw_m3 52 rfl) rfl
theorem q571 : (Jvm.Cond.instanceMethod ({ cls := "java/lang/ArrayIndexOutOfBoundsException", name := "<init>", desc := "(Ljava/lang/String;)V" } : Jvm.MethodName)) ∈ lw_all := lw_g (lw_at lw_m3 53 rfl) rfl
theorem q572 : (Jvm.Cond.code ({ cls := "java/lang/ArrayIndexOutOfBoundsException", name := "<init>", desc := "(Ljava/lang/String;)V" } : Jvm.MethodName) prog_13_method_2_code (2 : Nat) (Option.none : Option Jvm.ClassFile.FieldType)) ∈ lw_all := lw_g (lw_at lw_m3 54 rfl) rfl
theorem q573 : (Jvm.Cond.methodLink "java/lang/ArrayIndexOutOfBoundsException" (7 : Nat) ({ cls := "java/lang/IndexOutOfBoundsException", name := "<init>", desc := "(Ljava/lang/String;)V" } : Jvm.MethodName)) ∈ lw_all := lw_g (lw_at lw_m3 55 rfl) rfl
theorem q593 : (Jvm.Cond.selects "java/lang/ArrayIndexOutOfBoundsException" ({ cls := "java/lang/Throwable", name := "fillInStackTrace", desc := "()Ljava/lang/Throwable;" } : Jvm.MethodName) ({ cls := "java/lang/Throwable", name := "fillInStackTrace", desc := "()Ljava/lang/Throwable;" } : Jvm.MethodName)) ∈ lw_all := lw_g (lw_at lw_m3 75 rfl) rfl
theorem q621 : (Jvm.Cond.lays "java/lang/ArrayIndexOutOfBoundsException" "java/lang/Throwable" "backtrace" "Ljava/lang/Object;") ∈ lw_all := lw_g (lw_at lw_m3 103 rfl) rfl
theorem q623 : (Jvm.Cond.lays "java/lang/ArrayIndexOutOfBoundsException" "java/lang/Throwable" "detailMessage" "Ljava/lang/String;") ∈ lw_all := lw_g (lw_at lw_m3 105 rfl) rfl
theorem q625 : (Jvm.Cond.lays "java/lang/ArrayIndexOutOfBoundsException" "java/lang/Throwable" "cause" "Ljava/lang/Throwable;") ∈ lw_all := lw_g (lw_at lw_m3 107 rfl) rfl
theorem q627 : (Jvm.Cond.lays "java/lang/ArrayIndexOutOfBoundsException" "java/lang/Throwable" "stackTrace" "[Ljava/lang/StackTraceElement;") ∈ lw_all := lw_g (lw_at lw_m3 109 rfl) rfl
theorem q629 : (Jvm.Cond.lays "java/lang/ArrayIndexOutOfBoundsException" "java/lang/Throwable" "depth" "I") ∈ lw_all := lw_g (lw_at lw_m3 111 rfl) rfl
theorem q631 : (Jvm.Cond.lays "java/lang/ArrayIndexOutOfBoundsException" "java/lang/Throwable" "suppressedExceptions" "Ljava/util/List;") ∈ lw_all := lw_g (lw_at lw_m3 113 rfl) rfl
theorem q633 : (Jvm.Cond.superclass "java/lang/ArrayIndexOutOfBoundsException" "java/lang/IndexOutOfBoundsException") ∈ lw_all := lw_g (lw_at lw_m3 115 rfl) rfl
theorem q634 : (Jvm.Cond.castable "java/lang/ArrayIndexOutOfBoundsException" "java/lang/ArrayIndexOutOfBoundsException") ∈ lw_tbl := lw_at lw_m3 116 rfl
theorem q643 : (Jvm.Cond.selects "java/lang/ArrayIndexOutOfBoundsException" ({ cls := "java/lang/Throwable", name := "fillInStackTrace", desc := "(I)Ljava/lang/Throwable;" } : Jvm.MethodName) ({ cls := "java/lang/Throwable", name := "fillInStackTrace", desc := "(I)Ljava/lang/Throwable;" } : Jvm.MethodName)) ∈ lw_all := lw_g (lw_at lw_m3 125 rfl) rfl
theorem q1269 : (Jvm.Cond.castable "java/lang/ArrayIndexOutOfBoundsException" "java/lang/IndexOutOfBoundsException") ∈ lw_tbl := lw_at lw_m6 31 rfl
theorem q1280 : (Jvm.Cond.castable "java/lang/ArrayIndexOutOfBoundsException" "java/lang/Object") ∈ lw_tbl := lw_at lw_m6 42 rfl
theorem in_J12 : ∀ w ∈ wsJ120, w ∈ lw_all := lw_in wsJ120 [621, 623, 625, 627, 629, 631] (by decide +kernel) (by decide +kernel)
/-! java/lang/String -/
set_option maxRecDepth 100000
def RJ13 : String := "java/lang/String"
def TJ13 : u_T := fun k => match k with
  | 0 => ("java/lang/String", "value", "[B", true)
  | _ => ("java/lang/String", "coder", "B", true)
def tyJ13 : Nat → FieldType := fun k => match k with
  | 0 => .array .byte
  | _ => .byte
abbrev wsJ130 : List Cond := u_ws RJ13 TJ13 2
theorem nmJ13 : ∀ a, a < 2 → ∀ b, b < 2 → a ≠ b → (TJ13 a).2.1 ≠ (TJ13 b).2.1 := by decide +kernel
theorem tyJ13_ok : ∀ k, k < 2 → parseFieldDescriptor (TJ13 k).2.2.1 = some (tyJ13 k) := by decide +kernel
theorem q63 : (Jvm.Cond.initialized "java/lang/String") ∈ lw_all := lw_g (lw_at lw_m1 25 rfl) rfl
theorem q653 : (Jvm.Cond.instantiable "java/lang/String" (4 : Nat)) ∈ lw_all := lw_g (lw_at lw_m3 135 rfl) rfl
theorem q655 : (Jvm.Cond.laysFinal "java/lang/String" "java/lang/String" "value" "[B") ∈ lw_all := lw_g (lw_at lw_m3 137 rfl) rfl
theorem q656 : (Jvm.Cond.soleField "java/lang/String" "value") ∈ lw_all := lw_g (lw_at lw_m3 138 rfl) rfl
theorem q657 : (Jvm.Cond.laysFinal "java/lang/String" "java/lang/String" "coder" "B") ∈ lw_all := lw_g (lw_at lw_m3 139 rfl) rfl
theorem q658 : (Jvm.Cond.soleField "java/lang/String" "coder") ∈ lw_all := lw_g (lw_at lw_m3 140 rfl) rfl
theorem q1285 : (Jvm.Cond.castable "java/lang/String" "java/lang/Object") ∈ lw_tbl := lw_at lw_m6 47 rfl
theorem in_J13 : ∀ w ∈ wsJ130, w ∈ lw_all := lw_in wsJ130 [655, 657] (by decide +kernel) (by decide +kernel)
/-! java/lang/NegativeArraySizeException -/
set_option maxRecDepth 100000
def RJ14 : String := "java/lang/NegativeArraySizeException"
def TJ14 : u_T := fun k => match k with
  | 0 => ("java/lang/Throwable", "backtrace", "Ljava/lang/Object;", false)
  | 1 => ("java/lang/Throwable", "detailMessage", "Ljava/lang/String;", false)
  | 2 => ("java/lang/Throwable", "cause", "Ljava/lang/Throwable;", false)
  | 3 => ("java/lang/Throwable", "stackTrace", "[Ljava/lang/StackTraceElement;", false)
  | 4 => ("java/lang/Throwable", "depth", "I", false)
  | _ => ("java/lang/Throwable", "suppressedExceptions", "Ljava/util/List;", false)
def tyJ14 : Nat → FieldType := fun k => match k with
  | 0 => .object "java/lang/Object"
  | 1 => .object "java/lang/String"
  | 2 => .object "java/lang/Throwable"
  | 3 => .array (.object "java/lang/StackTraceElement")
  | 4 => .int
  | _ => .object "java/util/List"
abbrev wsJ140 : List Cond := u_ws RJ14 TJ14 6
theorem nmJ14 : ∀ a, a < 6 → ∀ b, b < 6 → a ≠ b → (TJ14 a).2.1 ≠ (TJ14 b).2.1 := by decide +kernel
theorem tyJ14_ok : ∀ k, k < 6 → parseFieldDescriptor (TJ14 k).2.2.1 = some (tyJ14 k) := by decide +kernel
abbrev cJ14_init : ByteArray := prog_20_method_2_code
def yJ14_init : MethodName := ⟨RJ14, "<init>", "(Ljava/lang/String;)V"⟩
def dkwJ14_init_0 : List UInt8 := [42, 43, 183, 0, 7, 177]
abbrev dktJ14_init_0 : List UInt8 := dkwJ14_init_0 ++ []
theorem dksJ14_init_0 : cJ14_init.data.toList.drop 0 = dktJ14_init_0 := by decide +kernel
theorem dJ14_init_0 : decode cJ14_init 0 = .ok (.aload_n 0, 1) := dk_42 (dk_at dksJ14_init_0 0 rfl rfl)
theorem dJ14_init_1 : decode cJ14_init 1 = .ok (.aload_n 1, 1) := dk_43 (dk_at dksJ14_init_0 1 rfl rfl)
theorem dJ14_init_2 : decode cJ14_init 2 = .ok (.invokespecial 7, 3) := dk_183 0 7 (dk_at dksJ14_init_0 2 rfl rfl)
theorem dJ14_init_5 : decode cJ14_init 5 = .ok (.return_, 1) := dk_177 (dk_at dksJ14_init_0 5 rfl rfl)
theorem q64 : (Jvm.Cond.initialized "java/lang/NegativeArraySizeException") ∈ lw_all := lw_g (lw_at lw_m1 26 rfl) rfl
theorem q540 : (Jvm.Cond.selects "java/lang/NegativeArraySizeException" ({ cls := "java/lang/Object", name := "getClass", desc := "()Ljava/lang/Class;" } : Jvm.MethodName) ({ cls := "java/lang/Object", name := "getClass", desc := "()Ljava/lang/Class;" } : Jvm.MethodName)) ∈ lw_all := lw_g (lw_at lw_m3 22 rfl) rfl
theorem q595 : (Jvm.Cond.selects "java/lang/NegativeArraySizeException" ({ cls := "java/lang/Throwable", name := "fillInStackTrace", desc := "()Ljava/lang/Throwable;" } : Jvm.MethodName) ({ cls := "java/lang/Throwable", name := "fillInStackTrace", desc := "()Ljava/lang/Throwable;" } : Jvm.MethodName)) ∈ lw_all := lw_g (lw_at lw_m3 77 rfl) rfl
theorem q757 : (Jvm.Cond.instantiable "java/lang/NegativeArraySizeException" (6 : Nat)) ∈ lw_all := lw_g (lw_at lw_m3 239 rfl) rfl
theorem q758 : (Jvm.Cond.instanceMethod ({ cls := "java/lang/NegativeArraySizeException", name := "<init>", desc := "(Ljava/lang/String;)V" } : Jvm.MethodName)) ∈ lw_all := lw_g (lw_at lw_m4 0 rfl) rfl
theorem q759 : (Jvm.Cond.code ({ cls := "java/lang/NegativeArraySizeException", name := "<init>", desc := "(Ljava/lang/String;)V" } : Jvm.MethodName) prog_20_method_2_code (2 : Nat) (Option.none : Option Jvm.ClassFile.FieldType)) ∈ lw_all := lw_g (lw_at lw_m4 1 rfl) rfl
theorem q760 : (Jvm.Cond.methodLink "java/lang/NegativeArraySizeException" (7 : Nat) ({ cls := "java/lang/RuntimeException", name := "<init>", desc := "(Ljava/lang/String;)V" } : Jvm.MethodName)) ∈ lw_all := lw_g (lw_at lw_m4 2 rfl) rfl
theorem q761 : (Jvm.Cond.lays "java/lang/NegativeArraySizeException" "java/lang/Throwable" "backtrace" "Ljava/lang/Object;") ∈ lw_all := lw_g (lw_at lw_m4 3 rfl) rfl
theorem q762 : (Jvm.Cond.lays "java/lang/NegativeArraySizeException" "java/lang/Throwable" "detailMessage" "Ljava/lang/String;") ∈ lw_all := lw_g (lw_at lw_m4 4 rfl) rfl
theorem q763 : (Jvm.Cond.lays "java/lang/NegativeArraySizeException" "java/lang/Throwable" "cause" "Ljava/lang/Throwable;") ∈ lw_all := lw_g (lw_at lw_m4 5 rfl) rfl
theorem q764 : (Jvm.Cond.lays "java/lang/NegativeArraySizeException" "java/lang/Throwable" "stackTrace" "[Ljava/lang/StackTraceElement;") ∈ lw_all := lw_g (lw_at lw_m4 6 rfl) rfl
theorem q765 : (Jvm.Cond.lays "java/lang/NegativeArraySizeException" "java/lang/Throwable" "depth" "I") ∈ lw_all := lw_g (lw_at lw_m4 7 rfl) rfl
theorem q766 : (Jvm.Cond.lays "java/lang/NegativeArraySizeException" "java/lang/Throwable" "suppressedExceptions" "Ljava/util/List;") ∈ lw_all := lw_g (lw_at lw_m4 8 rfl) rfl
theorem q767 : (Jvm.Cond.superclass "java/lang/NegativeArraySizeException" "java/lang/RuntimeException") ∈ lw_all := lw_g (lw_at lw_m4 9 rfl) rfl
theorem q768 : (Jvm.Cond.castable "java/lang/NegativeArraySizeException" "java/lang/NegativeArraySizeException") ∈ lw_tbl := lw_at lw_m4 10 rfl
theorem q769 : (Jvm.Cond.selects "java/lang/NegativeArraySizeException" ({ cls := "java/lang/Throwable", name := "fillInStackTrace", desc := "(I)Ljava/lang/Throwable;" } : Jvm.MethodName) ({ cls := "java/lang/Throwable", name := "fillInStackTrace", desc := "(I)Ljava/lang/Throwable;" } : Jvm.MethodName)) ∈ lw_all := lw_g (lw_at lw_m4 11 rfl) rfl
theorem q1281 : (Jvm.Cond.castable "java/lang/NegativeArraySizeException" "java/lang/Object") ∈ lw_tbl := lw_at lw_m6 43 rfl
theorem in_J14 : ∀ w ∈ wsJ140, w ∈ lw_all := lw_in wsJ140 [761, 762, 763, 764, 765, 766] (by decide +kernel) (by decide +kernel)
/-! java/lang/NullPointerException -/
set_option maxRecDepth 100000
def RJ15 : String := "java/lang/NullPointerException"
def TJ15 : u_T := fun k => match k with
  | 0 => ("java/lang/Throwable", "backtrace", "Ljava/lang/Object;", false)
  | 1 => ("java/lang/Throwable", "detailMessage", "Ljava/lang/String;", false)
  | 2 => ("java/lang/Throwable", "cause", "Ljava/lang/Throwable;", false)
  | 3 => ("java/lang/Throwable", "stackTrace", "[Ljava/lang/StackTraceElement;", false)
  | 4 => ("java/lang/Throwable", "depth", "I", false)
  | 5 => ("java/lang/Throwable", "suppressedExceptions", "Ljava/util/List;", false)
  | 6 => ("java/lang/NullPointerException", "extendedMessageState", "I", false)
  | _ => ("java/lang/NullPointerException", "extendedMessage", "Ljava/lang/String;", false)
def tyJ15 : Nat → FieldType := fun k => match k with
  | 0 => .object "java/lang/Object"
  | 1 => .object "java/lang/String"
  | 2 => .object "java/lang/Throwable"
  | 3 => .array (.object "java/lang/StackTraceElement")
  | 4 => .int
  | 5 => .object "java/util/List"
  | 6 => .int
  | _ => .object "java/lang/String"
abbrev wsJ150 : List Cond := u_ws RJ15 TJ15 8
theorem nmJ15 : ∀ a, a < 8 → ∀ b, b < 8 → a ≠ b → (TJ15 a).2.1 ≠ (TJ15 b).2.1 := by decide +kernel
theorem tyJ15_ok : ∀ k, k < 8 → parseFieldDescriptor (TJ15 k).2.2.1 = some (tyJ15 k) := by decide +kernel
abbrev cJ15_init : ByteArray := prog_21_method_1_code
def yJ15_init : MethodName := ⟨RJ15, "<init>", "()V"⟩
theorem dJ15_init_0 : decode cJ15_init 0 = .ok (.aload_n 0, 1) := by decide +kernel
theorem dJ15_init_1 : decode cJ15_init 1 = .ok (.invokespecial 1, 3) := by decide +kernel
theorem dJ15_init_4 : decode cJ15_init 4 = .ok (.return_, 1) := by decide +kernel
theorem q65 : (Jvm.Cond.initialized "java/lang/NullPointerException") ∈ lw_all := lw_g (lw_at lw_m1 27 rfl) rfl
theorem q541 : (Jvm.Cond.selects "java/lang/NullPointerException" ({ cls := "java/lang/Object", name := "getClass", desc := "()Ljava/lang/Class;" } : Jvm.MethodName) ({ cls := "java/lang/Object", name := "getClass", desc := "()Ljava/lang/Class;" } : Jvm.MethodName)) ∈ lw_all := lw_g (lw_at lw_m3 23 rfl) rfl
theorem q596 : (Jvm.Cond.selects "java/lang/NullPointerException" ({ cls := "java/lang/Throwable", name := "fillInStackTrace", desc := "()Ljava/lang/Throwable;" } : Jvm.MethodName) ({ cls := "java/lang/NullPointerException", name := "fillInStackTrace", desc := "()Ljava/lang/Throwable;" } : Jvm.MethodName)) ∈ lw_all := lw_g (lw_at lw_m3 78 rfl) rfl
theorem q597 : (Jvm.Cond.instanceMethod ({ cls := "java/lang/NullPointerException", name := "fillInStackTrace", desc := "()Ljava/lang/Throwable;" } : Jvm.MethodName)) ∈ lw_all := lw_g (lw_at lw_m3 79 rfl) rfl
theorem q598 : (Jvm.Cond.codeSync ({ cls := "java/lang/NullPointerException", name := "fillInStackTrace", desc := "()Ljava/lang/Throwable;" } : Jvm.MethodName) prog_21_method_3_code (1 : Nat) (Option.some (Jvm.ClassFile.FieldType.object "java/lang/Throwable"))) ∈ lw_all := lw_g (lw_at lw_m3 80 rfl) rfl
theorem q599 : (Jvm.Cond.methodLink "java/lang/NullPointerException" (16 : Nat) ({ cls := "java/lang/NullPointerException", name := "getExtendedNPEMessage", desc := "()Ljava/lang/String;" } : Jvm.MethodName)) ∈ lw_all := lw_g (lw_at lw_m3 81 rfl) rfl
theorem q600 : (Jvm.Cond.privateMethod ({ cls := "java/lang/NullPointerException", name := "getExtendedNPEMessage", desc := "()Ljava/lang/String;" } : Jvm.MethodName)) ∈ lw_tbl := lw_at lw_m3 82 rfl
theorem q601 : (Jvm.Cond.instanceMethod ({ cls := "java/lang/NullPointerException", name := "getExtendedNPEMessage", desc := "()Ljava/lang/String;" } : Jvm.MethodName)) ∈ lw_all := lw_g (lw_at lw_m3 83 rfl) rfl
theorem q602 : (Jvm.Cond.instantiable "java/lang/NullPointerException" (8 : Nat)) ∈ lw_all := lw_g (lw_at lw_m3 84 rfl) rfl
theorem q603 : (Jvm.Cond.native ({ cls := "java/lang/NullPointerException", name := "getExtendedNPEMessage", desc := "()Ljava/lang/String;" } : Jvm.MethodName)) ∈ lw_all := lw_g (lw_at lw_m3 85 rfl) rfl
theorem q604 : (Jvm.Cond.methodLink "java/lang/NullPointerException" (24 : Nat) ({ cls := "java/lang/RuntimeException", name := "fillInStackTrace", desc := "()Ljava/lang/Throwable;" } : Jvm.MethodName)) ∈ lw_all := lw_g (lw_at lw_m3 86 rfl) rfl
theorem q607 : (Jvm.Cond.superclass "java/lang/NullPointerException" "java/lang/RuntimeException") ∈ lw_all := lw_g (lw_at lw_m3 89 rfl) rfl
theorem q790 : (Jvm.Cond.instanceMethod ({ cls := "java/lang/NullPointerException", name := "<init>", desc := "()V" } : Jvm.MethodName)) ∈ lw_all := lw_g (lw_at lw_m4 32 rfl) rfl
theorem q791 : (Jvm.Cond.code ({ cls := "java/lang/NullPointerException", name := "<init>", desc := "()V" } : Jvm.MethodName) prog_21_method_1_code (1 : Nat) (Option.none : Option Jvm.ClassFile.FieldType)) ∈ lw_all := lw_g (lw_at lw_m4 33 rfl) rfl
theorem q792 : (Jvm.Cond.methodLink "java/lang/NullPointerException" (1 : Nat) ({ cls := "java/lang/RuntimeException", name := "<init>", desc := "()V" } : Jvm.MethodName)) ∈ lw_all := lw_g (lw_at lw_m4 34 rfl) rfl
theorem q799 : (Jvm.Cond.fieldLink "java/lang/NullPointerException" (10 : Nat) "java/lang/NullPointerException" "extendedMessageState" "I") ∈ lw_all := lw_g (lw_at lw_m4 41 rfl) rfl
theorem q800 : (Jvm.Cond.fieldLink "java/lang/NullPointerException" (20 : Nat) "java/lang/NullPointerException" "extendedMessage" "Ljava/lang/String;") ∈ lw_all := lw_g (lw_at lw_m4 42 rfl) rfl
theorem q801 : (Jvm.Cond.lays "java/lang/NullPointerException" "java/lang/NullPointerException" "extendedMessageState" "I") ∈ lw_all := lw_g (lw_at lw_m4 43 rfl) rfl
theorem q802 : (Jvm.Cond.soleField "java/lang/NullPointerException" "extendedMessageState") ∈ lw_all := lw_g (lw_at lw_m4 44 rfl) rfl
theorem q803 : (Jvm.Cond.lays "java/lang/NullPointerException" "java/lang/NullPointerException" "extendedMessage" "Ljava/lang/String;") ∈ lw_all := lw_g (lw_at lw_m4 45 rfl) rfl
theorem q804 : (Jvm.Cond.soleField "java/lang/NullPointerException" "extendedMessage") ∈ lw_all := lw_g (lw_at lw_m4 46 rfl) rfl
theorem q805 : (Jvm.Cond.lays "java/lang/NullPointerException" "java/lang/Throwable" "backtrace" "Ljava/lang/Object;") ∈ lw_all := lw_g (lw_at lw_m4 47 rfl) rfl
theorem q806 : (Jvm.Cond.lays "java/lang/NullPointerException" "java/lang/Throwable" "detailMessage" "Ljava/lang/String;") ∈ lw_all := lw_g (lw_at lw_m4 48 rfl) rfl
theorem q807 : (Jvm.Cond.lays "java/lang/NullPointerException" "java/lang/Throwable" "cause" "Ljava/lang/Throwable;") ∈ lw_all := lw_g (lw_at lw_m4 49 rfl) rfl
theorem q808 : (Jvm.Cond.lays "java/lang/NullPointerException" "java/lang/Throwable" "stackTrace" "[Ljava/lang/StackTraceElement;") ∈ lw_all := lw_g (lw_at lw_m4 50 rfl) rfl
theorem q809 : (Jvm.Cond.lays "java/lang/NullPointerException" "java/lang/Throwable" "depth" "I") ∈ lw_all := lw_g (lw_at lw_m4 51 rfl) rfl
theorem q810 : (Jvm.Cond.lays "java/lang/NullPointerException" "java/lang/Throwable" "suppressedExceptions" "Ljava/util/List;") ∈ lw_all := lw_g (lw_at lw_m4 52 rfl) rfl
theorem q811 : (Jvm.Cond.castable "java/lang/NullPointerException" "java/lang/NullPointerException") ∈ lw_tbl := lw_at lw_m4 53 rfl
theorem q812 : (Jvm.Cond.selects "java/lang/NullPointerException" ({ cls := "java/lang/Throwable", name := "fillInStackTrace", desc := "(I)Ljava/lang/Throwable;" } : Jvm.MethodName) ({ cls := "java/lang/Throwable", name := "fillInStackTrace", desc := "(I)Ljava/lang/Throwable;" } : Jvm.MethodName)) ∈ lw_all := lw_g (lw_at lw_m4 54 rfl) rfl
theorem q1282 : (Jvm.Cond.castable "java/lang/NullPointerException" "java/lang/Object") ∈ lw_tbl := lw_at lw_m6 44 rfl
theorem in_J15 : ∀ w ∈ wsJ150, w ∈ lw_all := lw_in wsJ150 [805, 806, 807, 808, 809, 810, 801, 803] (by decide +kernel) (by decide +kernel)
/-! java/lang/ClassCastException -/
set_option maxRecDepth 100000
def RJ16 : String := "java/lang/ClassCastException"
def TJ16 : u_T := fun k => match k with
  | 0 => ("java/lang/Throwable", "backtrace", "Ljava/lang/Object;", false)
  | 1 => ("java/lang/Throwable", "detailMessage", "Ljava/lang/String;", false)
  | 2 => ("java/lang/Throwable", "cause", "Ljava/lang/Throwable;", false)
  | 3 => ("java/lang/Throwable", "stackTrace", "[Ljava/lang/StackTraceElement;", false)
  | 4 => ("java/lang/Throwable", "depth", "I", false)
  | _ => ("java/lang/Throwable", "suppressedExceptions", "Ljava/util/List;", false)
def tyJ16 : Nat → FieldType := fun k => match k with
  | 0 => .object "java/lang/Object"
  | 1 => .object "java/lang/String"
  | 2 => .object "java/lang/Throwable"
  | 3 => .array (.object "java/lang/StackTraceElement")
  | 4 => .int
  | _ => .object "java/util/List"
abbrev wsJ160 : List Cond := u_ws RJ16 TJ16 6
theorem nmJ16 : ∀ a, a < 6 → ∀ b, b < 6 → a ≠ b → (TJ16 a).2.1 ≠ (TJ16 b).2.1 := by decide +kernel
theorem tyJ16_ok : ∀ k, k < 6 → parseFieldDescriptor (TJ16 k).2.2.1 = some (tyJ16 k) := by decide +kernel
abbrev cJ16_init : ByteArray := prog_14_method_2_code
def yJ16_init : MethodName := ⟨RJ16, "<init>", "(Ljava/lang/String;)V"⟩
def dkwJ16_init_0 : List UInt8 := [42, 43, 183, 0, 7, 177]
abbrev dktJ16_init_0 : List UInt8 := dkwJ16_init_0 ++ []
theorem dksJ16_init_0 : cJ16_init.data.toList.drop 0 = dktJ16_init_0 := by decide +kernel
theorem dJ16_init_0 : decode cJ16_init 0 = .ok (.aload_n 0, 1) := dk_42 (dk_at dksJ16_init_0 0 rfl rfl)
theorem dJ16_init_1 : decode cJ16_init 1 = .ok (.aload_n 1, 1) := dk_43 (dk_at dksJ16_init_0 1 rfl rfl)
theorem dJ16_init_2 : decode cJ16_init 2 = .ok (.invokespecial 7, 3) := dk_183 0 7 (dk_at dksJ16_init_0 2 rfl rfl)
theorem dJ16_init_5 : decode cJ16_init 5 = .ok (.return_, 1) := dk_177 (dk_at dksJ16_init_0 5 rfl rfl)
theorem q66 : (Jvm.Cond.initialized "java/lang/ClassCastException") ∈ lw_all := lw_g (lw_at lw_m1 28 rfl) rfl
theorem q539 : (Jvm.Cond.selects "java/lang/ClassCastException" ({ cls := "java/lang/Object", name := "getClass", desc := "()Ljava/lang/Class;" } : Jvm.MethodName) ({ cls := "java/lang/Object", name := "getClass", desc := "()Ljava/lang/Class;" } : Jvm.MethodName)) ∈ lw_all := lw_g (lw_at lw_m3 21 rfl) rfl
theorem q594 : (Jvm.Cond.selects "java/lang/ClassCastException" ({ cls := "java/lang/Throwable", name := "fillInStackTrace", desc := "()Ljava/lang/Throwable;" } : Jvm.MethodName) ({ cls := "java/lang/Throwable", name := "fillInStackTrace", desc := "()Ljava/lang/Throwable;" } : Jvm.MethodName)) ∈ lw_all := lw_g (lw_at lw_m3 76 rfl) rfl
theorem q815 : (Jvm.Cond.instantiable "java/lang/ClassCastException" (6 : Nat)) ∈ lw_all := lw_g (lw_at lw_m4 57 rfl) rfl
theorem q816 : (Jvm.Cond.instanceMethod ({ cls := "java/lang/ClassCastException", name := "<init>", desc := "(Ljava/lang/String;)V" } : Jvm.MethodName)) ∈ lw_all := lw_g (lw_at lw_m4 58 rfl) rfl
theorem q817 : (Jvm.Cond.code ({ cls := "java/lang/ClassCastException", name := "<init>", desc := "(Ljava/lang/String;)V" } : Jvm.MethodName) prog_14_method_2_code (2 : Nat) (Option.none : Option Jvm.ClassFile.FieldType)) ∈ lw_all := lw_g (lw_at lw_m4 59 rfl) rfl
theorem q818 : (Jvm.Cond.methodLink "java/lang/ClassCastException" (7 : Nat) ({ cls := "java/lang/RuntimeException", name := "<init>", desc := "(Ljava/lang/String;)V" } : Jvm.MethodName)) ∈ lw_all := lw_g (lw_at lw_m4 60 rfl) rfl
theorem q819 : (Jvm.Cond.lays "java/lang/ClassCastException" "java/lang/Throwable" "backtrace" "Ljava/lang/Object;") ∈ lw_all := lw_g (lw_at lw_m4 61 rfl) rfl
theorem q820 : (Jvm.Cond.lays "java/lang/ClassCastException" "java/lang/Throwable" "detailMessage" "Ljava/lang/String;") ∈ lw_all := lw_g (lw_at lw_m4 62 rfl) rfl
theorem q821 : (Jvm.Cond.lays "java/lang/ClassCastException" "java/lang/Throwable" "cause" "Ljava/lang/Throwable;") ∈ lw_all := lw_g (lw_at lw_m4 63 rfl) rfl
theorem q822 : (Jvm.Cond.lays "java/lang/ClassCastException" "java/lang/Throwable" "stackTrace" "[Ljava/lang/StackTraceElement;") ∈ lw_all := lw_g (lw_at lw_m4 64 rfl) rfl
theorem q823 : (Jvm.Cond.lays "java/lang/ClassCastException" "java/lang/Throwable" "depth" "I") ∈ lw_all := lw_g (lw_at lw_m4 65 rfl) rfl
theorem q824 : (Jvm.Cond.lays "java/lang/ClassCastException" "java/lang/Throwable" "suppressedExceptions" "Ljava/util/List;") ∈ lw_all := lw_g (lw_at lw_m4 66 rfl) rfl
theorem q825 : (Jvm.Cond.superclass "java/lang/ClassCastException" "java/lang/RuntimeException") ∈ lw_all := lw_g (lw_at lw_m4 67 rfl) rfl
theorem q826 : (Jvm.Cond.castable "java/lang/ClassCastException" "java/lang/ClassCastException") ∈ lw_tbl := lw_at lw_m4 68 rfl
theorem q827 : (Jvm.Cond.selects "java/lang/ClassCastException" ({ cls := "java/lang/Throwable", name := "fillInStackTrace", desc := "(I)Ljava/lang/Throwable;" } : Jvm.MethodName) ({ cls := "java/lang/Throwable", name := "fillInStackTrace", desc := "(I)Ljava/lang/Throwable;" } : Jvm.MethodName)) ∈ lw_all := lw_g (lw_at lw_m4 69 rfl) rfl
theorem q1283 : (Jvm.Cond.castable "java/lang/ClassCastException" "java/lang/Object") ∈ lw_tbl := lw_at lw_m6 45 rfl
theorem in_J16 : ∀ w ∈ wsJ160, w ∈ lw_all := lw_in wsJ160 [819, 820, 821, 822, 823, 824] (by decide +kernel) (by decide +kernel)
/-! java/lang/Object -/
set_option maxRecDepth 100000
def RJ17 : String := "java/lang/Object"
abbrev cJ17_init : ByteArray := object_method_1_code
def yJ17_init : MethodName := ⟨RJ17, "<init>", "()V"⟩
theorem dJ17_init_0 : decode cJ17_init 0 = .ok (.return_, 1) := by decide +kernel
theorem q73 : (Jvm.Cond.instanceMethod ({ cls := "java/lang/Object", name := "<init>", desc := "()V" } : Jvm.MethodName)) ∈ lw_all := lw_g (lw_at lw_m1 35 rfl) rfl
theorem q74 : (Jvm.Cond.code ({ cls := "java/lang/Object", name := "<init>", desc := "()V" } : Jvm.MethodName) object_method_1_code (1 : Nat) (Option.none : Option Jvm.ClassFile.FieldType)) ∈ lw_all := lw_g (lw_at lw_m1 36 rfl) rfl
theorem q527 : (Jvm.Cond.instanceMethod ({ cls := "java/lang/Object", name := "getClass", desc := "()Ljava/lang/Class;" } : Jvm.MethodName)) ∈ lw_all := lw_g (lw_at lw_m3 9 rfl) rfl
theorem q528 : (Jvm.Cond.sameMethod "java/lang/Object" "java/lang/Object" "getClass" "()Ljava/lang/Class;") ∈ lw_all := lw_g (lw_at lw_m3 10 rfl) rfl
theorem q543 : (Jvm.Cond.native ({ cls := "java/lang/Object", name := "getClass", desc := "()Ljava/lang/Class;" } : Jvm.MethodName)) ∈ lw_all := lw_g (lw_at lw_m3 25 rfl) rfl
theorem q1288 : (Jvm.Cond.declares ({ cls := "java/lang/Object", name := "getClass", desc := "()Ljava/lang/Class;" } : Jvm.MethodName)) ∈ lw_tbl := lw_at lw_m6 50 rfl
/-! java/util/ArrayList -/
set_option maxRecDepth 100000
def RJ2 : String := "java/util/ArrayList"
def TJ2 : u_T := fun k => match k with
  | 0 => ("java/util/AbstractList", "modCount", "I", false)
  | 1 => ("java/util/ArrayList", "elementData", "[Ljava/lang/Object;", false)
  | _ => ("java/util/ArrayList", "size", "I", false)
def tyJ2 : Nat → FieldType := fun k => match k with
  | 0 => .int
  | 1 => .array (.object "java/lang/Object")
  | _ => .int
abbrev wsJ20 : List Cond := u_ws RJ2 TJ2 3
theorem nmJ2 : ∀ a, a < 3 → ∀ b, b < 3 → a ≠ b → (TJ2 a).2.1 ≠ (TJ2 b).2.1 := by decide +kernel
theorem tyJ2_ok : ∀ k, k < 3 → parseFieldDescriptor (TJ2 k).2.2.1 = some (tyJ2 k) := by decide +kernel
abbrev cJ2_init : ByteArray := prog_28_method_2_code
def yJ2_init : MethodName := ⟨RJ2, "<init>", "()V"⟩
def dkwJ2_init_0 : List UInt8 := [42, 183, 0, 1, 42, 178, 0, 39, 181, 0, 9, 177]
abbrev dktJ2_init_0 : List UInt8 := dkwJ2_init_0 ++ []
theorem dksJ2_init_0 : cJ2_init.data.toList.drop 0 = dktJ2_init_0 := by decide +kernel
theorem dJ2_init_0 : decode cJ2_init 0 = .ok (.aload_n 0, 1) := dk_42 (dk_at dksJ2_init_0 0 rfl rfl)
theorem dJ2_init_1 : decode cJ2_init 1 = .ok (.invokespecial 1, 3) := dk_183 0 1 (dk_at dksJ2_init_0 1 rfl rfl)
theorem dJ2_init_4 : decode cJ2_init 4 = .ok (.aload_n 0, 1) := dk_42 (dk_at dksJ2_init_0 4 rfl rfl)
theorem dJ2_init_5 : decode cJ2_init 5 = .ok (.getstatic 39, 3) := dk_178 0 39 (dk_at dksJ2_init_0 5 rfl rfl)
theorem dJ2_init_8 : decode cJ2_init 8 = .ok (.putfield 9, 3) := dk_181 0 9 (dk_at dksJ2_init_0 8 rfl rfl)
theorem dJ2_init_11 : decode cJ2_init 11 = .ok (.return_, 1) := dk_177 (dk_at dksJ2_init_0 11 rfl rfl)
abbrev cJ2_size : ByteArray := prog_28_method_8_code
def yJ2_size : MethodName := ⟨RJ2, "size", "()I"⟩
theorem dJ2_size_0 : decode cJ2_size 0 = .ok (.aload_n 0, 1) := by decide +kernel
theorem dJ2_size_1 : decode cJ2_size 1 = .ok (.getfield 48, 3) := by decide +kernel
theorem dJ2_size_4 : decode cJ2_size 4 = .ok (.ireturn, 1) := by decide +kernel
abbrev cJ2_get : ByteArray := prog_28_method_20_code
def yJ2_get : MethodName := ⟨RJ2, "get", "(I)Ljava/lang/Object;"⟩
def dkwJ2_get_0 : List UInt8 := [27, 42, 180, 0, 48, 184, 0, 118, 87, 42, 27, 182, 0, 123, 176]
abbrev dktJ2_get_0 : List UInt8 := dkwJ2_get_0 ++ []
theorem dksJ2_get_0 : cJ2_get.data.toList.drop 0 = dktJ2_get_0 := by decide +kernel
theorem dJ2_get_0 : decode cJ2_get 0 = .ok (.iload_n 1, 1) := dk_27 (dk_at dksJ2_get_0 0 rfl rfl)
theorem dJ2_get_1 : decode cJ2_get 1 = .ok (.aload_n 0, 1) := dk_42 (dk_at dksJ2_get_0 1 rfl rfl)
theorem dJ2_get_2 : decode cJ2_get 2 = .ok (.getfield 48, 3) := dk_180 0 48 (dk_at dksJ2_get_0 2 rfl rfl)
theorem dJ2_get_5 : decode cJ2_get 5 = .ok (.invokestatic 118, 3) := dk_184 0 118 (dk_at dksJ2_get_0 5 rfl rfl)
theorem dJ2_get_8 : decode cJ2_get 8 = .ok (.pop, 1) := dk_87 (dk_at dksJ2_get_0 8 rfl rfl)
theorem dJ2_get_9 : decode cJ2_get 9 = .ok (.aload_n 0, 1) := dk_42 (dk_at dksJ2_get_0 9 rfl rfl)
theorem dJ2_get_10 : decode cJ2_get 10 = .ok (.iload_n 1, 1) := dk_27 (dk_at dksJ2_get_0 10 rfl rfl)
theorem dJ2_get_11 : decode cJ2_get 11 = .ok (.invokevirtual 123, 3) := dk_182 0 123 (dk_at dksJ2_get_0 11 rfl rfl)
theorem dJ2_get_14 : decode cJ2_get 14 = .ok (.areturn, 1) := dk_176 (dk_at dksJ2_get_0 14 rfl rfl)
abbrev cJ2_elementData : ByteArray := prog_28_method_18_code
def yJ2_elementData : MethodName := ⟨RJ2, "elementData", "(I)Ljava/lang/Object;"⟩
def dkwJ2_elementData_0 : List UInt8 := [42, 180, 0, 9, 27, 50, 176]
abbrev dktJ2_elementData_0 : List UInt8 := dkwJ2_elementData_0 ++ []
theorem dksJ2_elementData_0 : cJ2_elementData.data.toList.drop 0 = dktJ2_elementData_0 := by decide +kernel
theorem dJ2_elementData_0 : decode cJ2_elementData 0 = .ok (.aload_n 0, 1) := dk_42 (dk_at dksJ2_elementData_0 0 rfl rfl)
theorem dJ2_elementData_1 : decode cJ2_elementData 1 = .ok (.getfield 9, 3) := dk_180 0 9 (dk_at dksJ2_elementData_0 1 rfl rfl)
theorem dJ2_elementData_4 : decode cJ2_elementData 4 = .ok (.iload_n 1, 1) := dk_27 (dk_at dksJ2_elementData_0 4 rfl rfl)
theorem dJ2_elementData_5 : decode cJ2_elementData 5 = .ok (.aaload, 1) := dk_50 (dk_at dksJ2_elementData_0 5 rfl rfl)
theorem dJ2_elementData_6 : decode cJ2_elementData 6 = .ok (.areturn, 1) := dk_176 (dk_at dksJ2_elementData_0 6 rfl rfl)
abbrev cJ2_add : ByteArray := prog_28_method_25_code
def yJ2_add : MethodName := ⟨RJ2, "add", "(Ljava/lang/Object;)Z"⟩
def dkwJ2_add_1 : List UInt8 := [172]
abbrev dktJ2_add_1 : List UInt8 := dkwJ2_add_1 ++ []
def dkwJ2_add_0 : List UInt8 := [42, 89, 180, 0, 63, 4, 96, 181, 0, 63, 42, 43, 42, 180, 0, 9, 42, 180, 0, 48, 182, 0, 131, 4]
abbrev dktJ2_add_0 : List UInt8 := dkwJ2_add_0 ++ dktJ2_add_1
theorem dksJ2_add_0 : cJ2_add.data.toList.drop 0 = dktJ2_add_0 := by decide +kernel
theorem dksJ2_add_1 : cJ2_add.data.toList.drop 24 = dktJ2_add_1 := dk_seg dksJ2_add_0 24 rfl rfl
theorem dJ2_add_0 : decode cJ2_add 0 = .ok (.aload_n 0, 1) := dk_42 (dk_at dksJ2_add_0 0 rfl rfl)
theorem dJ2_add_1 : decode cJ2_add 1 = .ok (.dup, 1) := dk_89 (dk_at dksJ2_add_0 1 rfl rfl)
theorem dJ2_add_2 : decode cJ2_add 2 = .ok (.getfield 63, 3) := dk_180 0 63 (dk_at dksJ2_add_0 2 rfl rfl)
theorem dJ2_add_5 : decode cJ2_add 5 = .ok (.iconst 1, 1) := dk_4 (dk_at dksJ2_add_0 5 rfl rfl)
theorem dJ2_add_6 : decode cJ2_add 6 = .ok (.iadd, 1) := dk_96 (dk_at dksJ2_add_0 6 rfl rfl)
theorem dJ2_add_7 : decode cJ2_add 7 = .ok (.putfield 63, 3) := dk_181 0 63 (dk_at dksJ2_add_0 7 rfl rfl)
theorem dJ2_add_10 : decode cJ2_add 10 = .ok (.aload_n 0, 1) := dk_42 (dk_at dksJ2_add_0 10 rfl rfl)
theorem dJ2_add_11 : decode cJ2_add 11 = .ok (.aload_n 1, 1) := dk_43 (dk_at dksJ2_add_0 11 rfl rfl)
theorem dJ2_add_12 : decode cJ2_add 12 = .ok (.aload_n 0, 1) := dk_42 (dk_at dksJ2_add_0 12 rfl rfl)
theorem dJ2_add_13 : decode cJ2_add 13 = .ok (.getfield 9, 3) := dk_180 0 9 (dk_at dksJ2_add_0 13 rfl rfl)
theorem dJ2_add_16 : decode cJ2_add 16 = .ok (.aload_n 0, 1) := dk_42 (dk_at dksJ2_add_0 16 rfl rfl)
theorem dJ2_add_17 : decode cJ2_add 17 = .ok (.getfield 48, 3) := dk_180 0 48 (dk_at dksJ2_add_0 17 rfl rfl)
theorem dJ2_add_20 : decode cJ2_add 20 = .ok (.invokevirtual 131, 3) := dk_182 0 131 (dk_at dksJ2_add_0 20 rfl rfl)
theorem dJ2_add_23 : decode cJ2_add 23 = .ok (.iconst 1, 1) := dk_4 (dk_at dksJ2_add_0 23 rfl rfl)
theorem dJ2_add_24 : decode cJ2_add 24 = .ok (.ireturn, 1) := dk_172 (dk_at dksJ2_add_1 0 rfl rfl)
abbrev cJ2_add_2 : ByteArray := prog_28_method_24_code
def yJ2_add_2 : MethodName := ⟨RJ2, "add", "(Ljava/lang/Object;[Ljava/lang/Object;I)V"⟩
def dkwJ2_add_2_0 : List UInt8 := [29, 44, 190, 160, 0, 8, 42, 182, 0, 129, 77, 44, 29, 43, 83, 42, 29, 4, 96, 181, 0, 48, 177]
abbrev dktJ2_add_2_0 : List UInt8 := dkwJ2_add_2_0 ++ []
theorem dksJ2_add_2_0 : cJ2_add_2.data.toList.drop 0 = dktJ2_add_2_0 := by decide +kernel
theorem dJ2_add_2_0 : decode cJ2_add_2 0 = .ok (.iload_n 3, 1) := dk_29 (dk_at dksJ2_add_2_0 0 rfl rfl)
theorem dJ2_add_2_1 : decode cJ2_add_2 1 = .ok (.aload_n 2, 1) := dk_44 (dk_at dksJ2_add_2_0 1 rfl rfl)
theorem dJ2_add_2_2 : decode cJ2_add_2 2 = .ok (.arraylength, 1) := dk_190 (dk_at dksJ2_add_2_0 2 rfl rfl)
theorem dJ2_add_2_3 : decode cJ2_add_2 3 = .ok (.if_icmp .ne 8, 3) := dk_160 0 8 (dk_at dksJ2_add_2_0 3 rfl rfl)
theorem dJ2_add_2_6 : decode cJ2_add_2 6 = .ok (.aload_n 0, 1) := dk_42 (dk_at dksJ2_add_2_0 6 rfl rfl)
theorem dJ2_add_2_7 : decode cJ2_add_2 7 = .ok (.invokevirtual 129, 3) := dk_182 0 129 (dk_at dksJ2_add_2_0 7 rfl rfl)
theorem dJ2_add_2_10 : decode cJ2_add_2 10 = .ok (.astore_n 2, 1) := dk_77 (dk_at dksJ2_add_2_0 10 rfl rfl)
theorem dJ2_add_2_11 : decode cJ2_add_2 11 = .ok (.aload_n 2, 1) := dk_44 (dk_at dksJ2_add_2_0 11 rfl rfl)
theorem dJ2_add_2_12 : decode cJ2_add_2 12 = .ok (.iload_n 3, 1) := dk_29 (dk_at dksJ2_add_2_0 12 rfl rfl)
theorem dJ2_add_2_13 : decode cJ2_add_2 13 = .ok (.aload_n 1, 1) := dk_43 (dk_at dksJ2_add_2_0 13 rfl rfl)
theorem dJ2_add_2_14 : decode cJ2_add_2 14 = .ok (.aastore, 1) := dk_83 (dk_at dksJ2_add_2_0 14 rfl rfl)
theorem dJ2_add_2_15 : decode cJ2_add_2 15 = .ok (.aload_n 0, 1) := dk_42 (dk_at dksJ2_add_2_0 15 rfl rfl)
theorem dJ2_add_2_16 : decode cJ2_add_2 16 = .ok (.iload_n 3, 1) := dk_29 (dk_at dksJ2_add_2_0 16 rfl rfl)
theorem dJ2_add_2_17 : decode cJ2_add_2 17 = .ok (.iconst 1, 1) := dk_4 (dk_at dksJ2_add_2_0 17 rfl rfl)
theorem dJ2_add_2_18 : decode cJ2_add_2 18 = .ok (.iadd, 1) := dk_96 (dk_at dksJ2_add_2_0 18 rfl rfl)
theorem dJ2_add_2_19 : decode cJ2_add_2 19 = .ok (.putfield 48, 3) := dk_181 0 48 (dk_at dksJ2_add_2_0 19 rfl rfl)
theorem dJ2_add_2_22 : decode cJ2_add_2 22 = .ok (.return_, 1) := dk_177 (dk_at dksJ2_add_2_0 22 rfl rfl)
abbrev cJ2_grow : ByteArray := prog_28_method_7_code
def yJ2_grow : MethodName := ⟨RJ2, "grow", "()[Ljava/lang/Object;"⟩
def dkwJ2_grow_0 : List UInt8 := [42, 42, 180, 0, 48, 4, 96, 182, 0, 69, 176]
abbrev dktJ2_grow_0 : List UInt8 := dkwJ2_grow_0 ++ []
theorem dksJ2_grow_0 : cJ2_grow.data.toList.drop 0 = dktJ2_grow_0 := by decide +kernel
theorem dJ2_grow_0 : decode cJ2_grow 0 = .ok (.aload_n 0, 1) := dk_42 (dk_at dksJ2_grow_0 0 rfl rfl)
theorem dJ2_grow_1 : decode cJ2_grow 1 = .ok (.aload_n 0, 1) := dk_42 (dk_at dksJ2_grow_0 1 rfl rfl)
theorem dJ2_grow_2 : decode cJ2_grow 2 = .ok (.getfield 48, 3) := dk_180 0 48 (dk_at dksJ2_grow_0 2 rfl rfl)
theorem dJ2_grow_5 : decode cJ2_grow 5 = .ok (.iconst 1, 1) := dk_4 (dk_at dksJ2_grow_0 5 rfl rfl)
theorem dJ2_grow_6 : decode cJ2_grow 6 = .ok (.iadd, 1) := dk_96 (dk_at dksJ2_grow_0 6 rfl rfl)
theorem dJ2_grow_7 : decode cJ2_grow 7 = .ok (.invokevirtual 69, 3) := dk_182 0 69 (dk_at dksJ2_grow_0 7 rfl rfl)
theorem dJ2_grow_10 : decode cJ2_grow 10 = .ok (.areturn, 1) := dk_176 (dk_at dksJ2_grow_0 10 rfl rfl)
abbrev cJ2_grow_2 : ByteArray := prog_28_method_6_code
def yJ2_grow_2 : MethodName := ⟨RJ2, "grow", "(I)[Ljava/lang/Object;"⟩
def dkwJ2_grow_2_2 : List UInt8 := [27, 184, 0, 79, 189, 0, 7, 90, 181, 0, 9, 176]
abbrev dktJ2_grow_2_2 : List UInt8 := dkwJ2_grow_2_2 ++ []
def dkwJ2_grow_2_1 : List UInt8 := [28, 4, 122, 184, 0, 73, 62, 42, 42, 180, 0, 9, 29, 184, 0, 66, 90, 181, 0, 9, 176, 42, 16, 10]
abbrev dktJ2_grow_2_1 : List UInt8 := dkwJ2_grow_2_1 ++ dktJ2_grow_2_2
def dkwJ2_grow_2_0 : List UInt8 := [42, 180, 0, 9, 190, 61, 28, 157, 0, 13, 42, 180, 0, 9, 178, 0, 39, 165, 0, 28, 28, 27, 28, 100]
abbrev dktJ2_grow_2_0 : List UInt8 := dkwJ2_grow_2_0 ++ dktJ2_grow_2_1
theorem dksJ2_grow_2_0 : cJ2_grow_2.data.toList.drop 0 = dktJ2_grow_2_0 := by decide +kernel
theorem dksJ2_grow_2_1 : cJ2_grow_2.data.toList.drop 24 = dktJ2_grow_2_1 := dk_seg dksJ2_grow_2_0 24 rfl rfl
theorem dksJ2_grow_2_2 : cJ2_grow_2.data.toList.drop 48 = dktJ2_grow_2_2 := dk_seg dksJ2_grow_2_1 24 rfl rfl
theorem dJ2_grow_2_0 : decode cJ2_grow_2 0 = .ok (.aload_n 0, 1) := dk_42 (dk_at dksJ2_grow_2_0 0 rfl rfl)
theorem dJ2_grow_2_1 : decode cJ2_grow_2 1 = .ok (.getfield 9, 3) := dk_180 0 9 (dk_at dksJ2_grow_2_0 1 rfl rfl)
theorem dJ2_grow_2_4 : decode cJ2_grow_2 4 = .ok (.arraylength, 1) := dk_190 (dk_at dksJ2_grow_2_0 4 rfl rfl)
theorem dJ2_grow_2_5 : decode cJ2_grow_2 5 = .ok (.istore_n 2, 1) := dk_61 (dk_at dksJ2_grow_2_0 5 rfl rfl)
theorem dJ2_grow_2_6 : decode cJ2_grow_2 6 = .ok (.iload_n 2, 1) := dk_28 (dk_at dksJ2_grow_2_0 6 rfl rfl)
theorem dJ2_grow_2_7 : decode cJ2_grow_2 7 = .ok (.ifCond .gt 13, 3) := dk_157 0 13 (dk_at dksJ2_grow_2_0 7 rfl rfl)
theorem dJ2_grow_2_10 : decode cJ2_grow_2 10 = .ok (.aload_n 0, 1) := dk_42 (dk_at dksJ2_grow_2_0 10 rfl rfl)
theorem dJ2_grow_2_11 : decode cJ2_grow_2 11 = .ok (.getfield 9, 3) := dk_180 0 9 (dk_at dksJ2_grow_2_0 11 rfl rfl)
theorem dJ2_grow_2_14 : decode cJ2_grow_2 14 = .ok (.getstatic 39, 3) := dk_178 0 39 (dk_at dksJ2_grow_2_0 14 rfl rfl)
theorem dJ2_grow_2_17 : decode cJ2_grow_2 17 = .ok (.if_acmp .eq 28, 3) := dk_165 0 28 (dk_at dksJ2_grow_2_0 17 rfl rfl)
theorem dJ2_grow_2_20 : decode cJ2_grow_2 20 = .ok (.iload_n 2, 1) := dk_28 (dk_at dksJ2_grow_2_0 20 rfl rfl)
theorem dJ2_grow_2_21 : decode cJ2_grow_2 21 = .ok (.iload_n 1, 1) := dk_27 (dk_at dksJ2_grow_2_0 21 rfl rfl)
theorem dJ2_grow_2_22 : decode cJ2_grow_2 22 = .ok (.iload_n 2, 1) := dk_28 (dk_at dksJ2_grow_2_0 22 rfl rfl)
theorem dJ2_grow_2_23 : decode cJ2_grow_2 23 = .ok (.isub, 1) := dk_100 (dk_at dksJ2_grow_2_0 23 rfl rfl)
theorem dJ2_grow_2_24 : decode cJ2_grow_2 24 = .ok (.iload_n 2, 1) := dk_28 (dk_at dksJ2_grow_2_1 0 rfl rfl)
theorem dJ2_grow_2_25 : decode cJ2_grow_2 25 = .ok (.iconst 1, 1) := dk_4 (dk_at dksJ2_grow_2_1 1 rfl rfl)
theorem dJ2_grow_2_26 : decode cJ2_grow_2 26 = .ok (.ishr, 1) := dk_122 (dk_at dksJ2_grow_2_1 2 rfl rfl)
theorem dJ2_grow_2_27 : decode cJ2_grow_2 27 = .ok (.invokestatic 73, 3) := dk_184 0 73 (dk_at dksJ2_grow_2_1 3 rfl rfl)
theorem dJ2_grow_2_30 : decode cJ2_grow_2 30 = .ok (.istore_n 3, 1) := dk_62 (dk_at dksJ2_grow_2_1 6 rfl rfl)
theorem dJ2_grow_2_31 : decode cJ2_grow_2 31 = .ok (.aload_n 0, 1) := dk_42 (dk_at dksJ2_grow_2_1 7 rfl rfl)
theorem dJ2_grow_2_32 : decode cJ2_grow_2 32 = .ok (.aload_n 0, 1) := dk_42 (dk_at dksJ2_grow_2_1 8 rfl rfl)
theorem dJ2_grow_2_33 : decode cJ2_grow_2 33 = .ok (.getfield 9, 3) := dk_180 0 9 (dk_at dksJ2_grow_2_1 9 rfl rfl)
theorem dJ2_grow_2_36 : decode cJ2_grow_2 36 = .ok (.iload_n 3, 1) := dk_29 (dk_at dksJ2_grow_2_1 12 rfl rfl)
theorem dJ2_grow_2_37 : decode cJ2_grow_2 37 = .ok (.invokestatic 66, 3) := dk_184 0 66 (dk_at dksJ2_grow_2_1 13 rfl rfl)
theorem dJ2_grow_2_40 : decode cJ2_grow_2 40 = .ok (.dup_x1, 1) := dk_90 (dk_at dksJ2_grow_2_1 16 rfl rfl)
theorem dJ2_grow_2_41 : decode cJ2_grow_2 41 = .ok (.putfield 9, 3) := dk_181 0 9 (dk_at dksJ2_grow_2_1 17 rfl rfl)
theorem dJ2_grow_2_44 : decode cJ2_grow_2 44 = .ok (.areturn, 1) := dk_176 (dk_at dksJ2_grow_2_1 20 rfl rfl)
theorem dJ2_grow_2_45 : decode cJ2_grow_2 45 = .ok (.aload_n 0, 1) := dk_42 (dk_at dksJ2_grow_2_1 21 rfl rfl)
theorem dJ2_grow_2_46 : decode cJ2_grow_2 46 = .ok (.bipush 10, 2) := dk_16 10 (dk_at dksJ2_grow_2_1 22 rfl rfl)
theorem dJ2_grow_2_48 : decode cJ2_grow_2 48 = .ok (.iload_n 1, 1) := dk_27 (dk_at dksJ2_grow_2_2 0 rfl rfl)
theorem dJ2_grow_2_49 : decode cJ2_grow_2 49 = .ok (.invokestatic 79, 3) := dk_184 0 79 (dk_at dksJ2_grow_2_2 1 rfl rfl)
theorem dJ2_grow_2_52 : decode cJ2_grow_2 52 = .ok (.anewarray 7, 3) := dk_189 0 7 (dk_at dksJ2_grow_2_2 4 rfl rfl)
theorem dJ2_grow_2_55 : decode cJ2_grow_2 55 = .ok (.dup_x1, 1) := dk_90 (dk_at dksJ2_grow_2_2 7 rfl rfl)
theorem dJ2_grow_2_56 : decode cJ2_grow_2 56 = .ok (.putfield 9, 3) := dk_181 0 9 (dk_at dksJ2_grow_2_2 8 rfl rfl)
theorem dJ2_grow_2_59 : decode cJ2_grow_2 59 = .ok (.areturn, 1) := dk_176 (dk_at dksJ2_grow_2_2 11 rfl rfl)
theorem q48 : (Jvm.Cond.initialized "java/util/ArrayList") ∈ lw_all := lw_g (lw_at lw_m1 10 rfl) rfl
theorem q243 : (Jvm.Cond.instantiable "java/util/ArrayList" (3 : Nat)) ∈ lw_all := lw_g (lw_at lw_m1 205 rfl) rfl
theorem q245 : (Jvm.Cond.instanceMethod ({ cls := "java/util/ArrayList", name := "<init>", desc := "()V" } : Jvm.MethodName)) ∈ lw_all := lw_g (lw_at lw_m1 207 rfl) rfl
theorem q246 : (Jvm.Cond.code ({ cls := "java/util/ArrayList", name := "<init>", desc := "()V" } : Jvm.MethodName) prog_28_method_2_code (1 : Nat) (Option.none : Option Jvm.ClassFile.FieldType)) ∈ lw_all := lw_g (lw_at lw_m1 208 rfl) rfl
theorem q247 : (Jvm.Cond.methodLink "java/util/ArrayList" (1 : Nat) ({ cls := "java/util/AbstractList", name := "<init>", desc := "()V" } : Jvm.MethodName)) ∈ lw_all := lw_g (lw_at lw_m1 209 rfl) rfl
theorem q254 : (Jvm.Cond.fieldLink "java/util/ArrayList" (39 : Nat) "java/util/ArrayList" "DEFAULTCAPACITY_EMPTY_ELEMENTDATA" "[Ljava/lang/Object;") ∈ lw_all := lw_g (lw_at lw_m1 216 rfl) rfl
theorem q255 : (Jvm.Cond.laysStatic "java/util/ArrayList" "DEFAULTCAPACITY_EMPTY_ELEMENTDATA" "[Ljava/lang/Object;") ∈ lw_tbl := lw_at lw_m1 217 rfl
theorem q256 : (Jvm.Cond.fieldLink "java/util/ArrayList" (9 : Nat) "java/util/ArrayList" "elementData" "[Ljava/lang/Object;") ∈ lw_all := lw_g (lw_at lw_m1 218 rfl) rfl
theorem q257 : (Jvm.Cond.fieldLink "java/util/ArrayList" (48 : Nat) "java/util/ArrayList" "size" "I") ∈ lw_all := lw_g (lw_at lw_m1 219 rfl) rfl
theorem q259 : (Jvm.Cond.fieldLink "java/util/ArrayList" (63 : Nat) "java/util/ArrayList" "modCount" "I") ∈ lw_all := lw_g (lw_at lw_m1 221 rfl) rfl
theorem q260 : (Jvm.Cond.sameField "java/util/ArrayList" "java/util/AbstractList" "modCount" "I") ∈ lw_all := lw_g (lw_at lw_m1 222 rfl) rfl
theorem q261 : (Jvm.Cond.lays "java/util/ArrayList" "java/util/ArrayList" "elementData" "[Ljava/lang/Object;") ∈ lw_all := lw_g (lw_at lw_m1 223 rfl) rfl
theorem q262 : (Jvm.Cond.soleField "java/util/ArrayList" "elementData") ∈ lw_all := lw_g (lw_at lw_m1 224 rfl) rfl
theorem q263 : (Jvm.Cond.lays "java/util/ArrayList" "java/util/ArrayList" "size" "I") ∈ lw_all := lw_g (lw_at lw_m1 225 rfl) rfl
theorem q264 : (Jvm.Cond.soleField "java/util/ArrayList" "size") ∈ lw_all := lw_g (lw_at lw_m1 226 rfl) rfl
theorem q265 : (Jvm.Cond.lays "java/util/ArrayList" "java/util/AbstractList" "modCount" "I") ∈ lw_all := lw_g (lw_at lw_m1 227 rfl) rfl
theorem q267 : (Jvm.Cond.superclass "java/util/ArrayList" "java/util/AbstractList") ∈ lw_all := lw_g (lw_at lw_m1 229 rfl) rfl
theorem q450 : (Jvm.Cond.instanceMethod ({ cls := "java/util/ArrayList", name := "size", desc := "()I" } : Jvm.MethodName)) ∈ lw_all := lw_g (lw_at lw_m2 172 rfl) rfl
theorem q451 : (Jvm.Cond.selects "java/util/ArrayList" ({ cls := "java/util/ArrayList", name := "size", desc := "()I" } : Jvm.MethodName) ({ cls := "java/util/ArrayList", name := "size", desc := "()I" } : Jvm.MethodName)) ∈ lw_all := lw_g (lw_at lw_m2 173 rfl) rfl
theorem q452 : (Jvm.Cond.code ({ cls := "java/util/ArrayList", name := "size", desc := "()I" } : Jvm.MethodName) prog_28_method_8_code (1 : Nat) (Option.some Jvm.ClassFile.FieldType.int)) ∈ lw_all := lw_g (lw_at lw_m2 174 rfl) rfl
theorem q454 : (Jvm.Cond.instanceMethod ({ cls := "java/util/ArrayList", name := "get", desc := "(I)Ljava/lang/Object;" } : Jvm.MethodName)) ∈ lw_all := lw_g (lw_at lw_m2 176 rfl) rfl
theorem q455 : (Jvm.Cond.selects "java/util/ArrayList" ({ cls := "java/util/ArrayList", name := "get", desc := "(I)Ljava/lang/Object;" } : Jvm.MethodName) ({ cls := "java/util/ArrayList", name := "get", desc := "(I)Ljava/lang/Object;" } : Jvm.MethodName)) ∈ lw_all := lw_g (lw_at lw_m2 177 rfl) rfl
theorem q456 : (Jvm.Cond.code ({ cls := "java/util/ArrayList", name := "get", desc := "(I)Ljava/lang/Object;" } : Jvm.MethodName) prog_28_method_20_code (2 : Nat) (Option.some (Jvm.ClassFile.FieldType.object "java/lang/Object"))) ∈ lw_all := lw_g (lw_at lw_m2 178 rfl) rfl
theorem q457 : (Jvm.Cond.methodLink "java/util/ArrayList" (118 : Nat) ({ cls := "java/util/Objects", name := "checkIndex", desc := "(II)I" } : Jvm.MethodName)) ∈ lw_all := lw_g (lw_at lw_m2 179 rfl) rfl
theorem q463 : (Jvm.Cond.methodLink "java/util/ArrayList" (123 : Nat) ({ cls := "java/util/ArrayList", name := "elementData", desc := "(I)Ljava/lang/Object;" } : Jvm.MethodName)) ∈ lw_all := lw_g (lw_at lw_m2 185 rfl) rfl
theorem q464 : (Jvm.Cond.instanceMethod ({ cls := "java/util/ArrayList", name := "elementData", desc := "(I)Ljava/lang/Object;" } : Jvm.MethodName)) ∈ lw_all := lw_g (lw_at lw_m2 186 rfl) rfl
theorem q465 : (Jvm.Cond.selects "java/util/ArrayList" ({ cls := "java/util/ArrayList", name := "elementData", desc := "(I)Ljava/lang/Object;" } : Jvm.MethodName) ({ cls := "java/util/ArrayList", name := "elementData", desc := "(I)Ljava/lang/Object;" } : Jvm.MethodName)) ∈ lw_all := lw_g (lw_at lw_m2 187 rfl) rfl
theorem q466 : (Jvm.Cond.code ({ cls := "java/util/ArrayList", name := "elementData", desc := "(I)Ljava/lang/Object;" } : Jvm.MethodName) prog_28_method_18_code (2 : Nat) (Option.some (Jvm.ClassFile.FieldType.object "java/lang/Object"))) ∈ lw_all := lw_g (lw_at lw_m2 188 rfl) rfl
theorem q500 : (Jvm.Cond.instanceMethod ({ cls := "java/util/ArrayList", name := "add", desc := "(Ljava/lang/Object;)Z" } : Jvm.MethodName)) ∈ lw_all := lw_g (lw_at lw_m2 222 rfl) rfl
theorem q501 : (Jvm.Cond.selects "java/util/ArrayList" ({ cls := "java/util/ArrayList", name := "add", desc := "(Ljava/lang/Object;)Z" } : Jvm.MethodName) ({ cls := "java/util/ArrayList", name := "add", desc := "(Ljava/lang/Object;)Z" } : Jvm.MethodName)) ∈ lw_all := lw_g (lw_at lw_m2 223 rfl) rfl
theorem q502 : (Jvm.Cond.code ({ cls := "java/util/ArrayList", name := "add", desc := "(Ljava/lang/Object;)Z" } : Jvm.MethodName) prog_28_method_25_code (2 : Nat) (Option.some Jvm.ClassFile.FieldType.boolean)) ∈ lw_all := lw_g (lw_at lw_m2 224 rfl) rfl
theorem q503 : (Jvm.Cond.methodLink "java/util/ArrayList" (131 : Nat) ({ cls := "java/util/ArrayList", name := "add", desc := "(Ljava/lang/Object;[Ljava/lang/Object;I)V" } : Jvm.MethodName)) ∈ lw_all := lw_g (lw_at lw_m2 225 rfl) rfl
theorem q504 : (Jvm.Cond.privateMethod ({ cls := "java/util/ArrayList", name := "add", desc := "(Ljava/lang/Object;[Ljava/lang/Object;I)V" } : Jvm.MethodName)) ∈ lw_tbl := lw_at lw_m2 226 rfl
theorem q505 : (Jvm.Cond.instanceMethod ({ cls := "java/util/ArrayList", name := "add", desc := "(Ljava/lang/Object;[Ljava/lang/Object;I)V" } : Jvm.MethodName)) ∈ lw_all := lw_g (lw_at lw_m2 227 rfl) rfl
theorem q506 : (Jvm.Cond.code ({ cls := "java/util/ArrayList", name := "add", desc := "(Ljava/lang/Object;[Ljava/lang/Object;I)V" } : Jvm.MethodName) prog_28_method_24_code (4 : Nat) (Option.none : Option Jvm.ClassFile.FieldType)) ∈ lw_all := lw_g (lw_at lw_m2 228 rfl) rfl
theorem q507 : (Jvm.Cond.methodLink "java/util/ArrayList" (129 : Nat) ({ cls := "java/util/ArrayList", name := "grow", desc := "()[Ljava/lang/Object;" } : Jvm.MethodName)) ∈ lw_all := lw_g (lw_at lw_m2 229 rfl) rfl
theorem q508 : (Jvm.Cond.privateMethod ({ cls := "java/util/ArrayList", name := "grow", desc := "()[Ljava/lang/Object;" } : Jvm.MethodName)) ∈ lw_tbl := lw_at lw_m2 230 rfl
theorem q509 : (Jvm.Cond.instanceMethod ({ cls := "java/util/ArrayList", name := "grow", desc := "()[Ljava/lang/Object;" } : Jvm.MethodName)) ∈ lw_all := lw_g (lw_at lw_m2 231 rfl) rfl
theorem q510 : (Jvm.Cond.code ({ cls := "java/util/ArrayList", name := "grow", desc := "()[Ljava/lang/Object;" } : Jvm.MethodName) prog_28_method_7_code (1 : Nat) (Option.some (Jvm.ClassFile.FieldType.array (Jvm.ClassFile.FieldType.object "java/lang/Object")))) ∈ lw_all := lw_g (lw_at lw_m2 232 rfl) rfl
theorem q511 : (Jvm.Cond.methodLink "java/util/ArrayList" (69 : Nat) ({ cls := "java/util/ArrayList", name := "grow", desc := "(I)[Ljava/lang/Object;" } : Jvm.MethodName)) ∈ lw_all := lw_g (lw_at lw_m2 233 rfl) rfl
theorem q512 : (Jvm.Cond.privateMethod ({ cls := "java/util/ArrayList", name := "grow", desc := "(I)[Ljava/lang/Object;" } : Jvm.MethodName)) ∈ lw_tbl := lw_at lw_m2 234 rfl
theorem q513 : (Jvm.Cond.instanceMethod ({ cls := "java/util/ArrayList", name := "grow", desc := "(I)[Ljava/lang/Object;" } : Jvm.MethodName)) ∈ lw_all := lw_g (lw_at lw_m2 235 rfl) rfl
theorem q514 : (Jvm.Cond.code ({ cls := "java/util/ArrayList", name := "grow", desc := "(I)[Ljava/lang/Object;" } : Jvm.MethodName) prog_28_method_6_code (4 : Nat) (Option.some (Jvm.ClassFile.FieldType.array (Jvm.ClassFile.FieldType.object "java/lang/Object")))) ∈ lw_all := lw_g (lw_at lw_m2 236 rfl) rfl
theorem q515 : (Jvm.Cond.methodLink "java/util/ArrayList" (73 : Nat) ({ cls := "jdk/internal/util/ArraysSupport", name := "newLength", desc := "(III)I" } : Jvm.MethodName)) ∈ lw_all := lw_g (lw_at lw_m2 237 rfl) rfl
theorem q523 : (Jvm.Cond.methodLink "java/util/ArrayList" (66 : Nat) ({ cls := "java/util/Arrays", name := "copyOf", desc := "([Ljava/lang/Object;I)[Ljava/lang/Object;" } : Jvm.MethodName)) ∈ lw_all := lw_g (lw_at lw_m3 5 rfl) rfl
theorem q542 : (Jvm.Cond.selects "java/util/ArrayList" ({ cls := "java/lang/Object", name := "getClass", desc := "()Ljava/lang/Class;" } : Jvm.MethodName) ({ cls := "java/lang/Object", name := "getClass", desc := "()Ljava/lang/Class;" } : Jvm.MethodName)) ∈ lw_all := lw_g (lw_at lw_m3 24 rfl) rfl
theorem q554 : (Jvm.Cond.methodLink "java/util/ArrayList" (79 : Nat) ({ cls := "java/lang/Math", name := "max", desc := "(II)I" } : Jvm.MethodName)) ∈ lw_all := lw_g (lw_at lw_m3 36 rfl) rfl
theorem q555 : (Jvm.Cond.classLink "java/util/ArrayList" (7 : Nat) "java/lang/Object") ∈ lw_all := lw_g (lw_at lw_m3 37 rfl) rfl
theorem q1278 : (Jvm.Cond.castable "java/util/ArrayList" "java/lang/Object") ∈ lw_tbl := lw_at lw_m6 40 rfl
theorem in_J2 : ∀ w ∈ wsJ20, w ∈ lw_all := lw_in wsJ20 [265, 261, 263] (by decide +kernel) (by decide +kernel)
/-! java/lang/Math -/
set_option maxRecDepth 100000
def RJ3 : String := "java/lang/Math"
abbrev cJ3_max : ByteArray := prog_19_method_65_code
def yJ3_max : MethodName := ⟨RJ3, "max", "(II)I"⟩
def dkwJ3_max_0 : List UInt8 := [26, 27, 161, 0, 7, 26, 167, 0, 4, 27, 172]
abbrev dktJ3_max_0 : List UInt8 := dkwJ3_max_0 ++ []
theorem dksJ3_max_0 : cJ3_max.data.toList.drop 0 = dktJ3_max_0 := by decide +kernel
theorem dJ3_max_0 : decode cJ3_max 0 = .ok (.iload_n 0, 1) := dk_26 (dk_at dksJ3_max_0 0 rfl rfl)
theorem dJ3_max_1 : decode cJ3_max 1 = .ok (.iload_n 1, 1) := dk_27 (dk_at dksJ3_max_0 1 rfl rfl)
theorem dJ3_max_2 : decode cJ3_max 2 = .ok (.if_icmp .lt 7, 3) := dk_161 0 7 (dk_at dksJ3_max_0 2 rfl rfl)
theorem dJ3_max_5 : decode cJ3_max 5 = .ok (.iload_n 0, 1) := dk_26 (dk_at dksJ3_max_0 5 rfl rfl)
theorem dJ3_max_6 : decode cJ3_max 6 = .ok (.goto 4, 3) := dk_167 0 4 (dk_at dksJ3_max_0 6 rfl rfl)
theorem dJ3_max_9 : decode cJ3_max 9 = .ok (.iload_n 1, 1) := dk_27 (dk_at dksJ3_max_0 9 rfl rfl)
theorem dJ3_max_10 : decode cJ3_max 10 = .ok (.ireturn, 1) := dk_172 (dk_at dksJ3_max_0 10 rfl rfl)
abbrev cJ3_min : ByteArray := prog_19_method_69_code
def yJ3_min : MethodName := ⟨RJ3, "min", "(II)I"⟩
def dkwJ3_min_0 : List UInt8 := [26, 27, 163, 0, 7, 26, 167, 0, 4, 27, 172]
abbrev dktJ3_min_0 : List UInt8 := dkwJ3_min_0 ++ []
theorem dksJ3_min_0 : cJ3_min.data.toList.drop 0 = dktJ3_min_0 := by decide +kernel
theorem dJ3_min_0 : decode cJ3_min 0 = .ok (.iload_n 0, 1) := dk_26 (dk_at dksJ3_min_0 0 rfl rfl)
theorem dJ3_min_1 : decode cJ3_min 1 = .ok (.iload_n 1, 1) := dk_27 (dk_at dksJ3_min_0 1 rfl rfl)
theorem dJ3_min_2 : decode cJ3_min 2 = .ok (.if_icmp .gt 7, 3) := dk_163 0 7 (dk_at dksJ3_min_0 2 rfl rfl)
theorem dJ3_min_5 : decode cJ3_min 5 = .ok (.iload_n 0, 1) := dk_26 (dk_at dksJ3_min_0 5 rfl rfl)
theorem dJ3_min_6 : decode cJ3_min 6 = .ok (.goto 4, 3) := dk_167 0 4 (dk_at dksJ3_min_0 6 rfl rfl)
theorem dJ3_min_9 : decode cJ3_min 9 = .ok (.iload_n 1, 1) := dk_27 (dk_at dksJ3_min_0 9 rfl rfl)
theorem dJ3_min_10 : decode cJ3_min 10 = .ok (.ireturn, 1) := dk_172 (dk_at dksJ3_min_0 10 rfl rfl)
theorem q51 : (Jvm.Cond.initialized "java/lang/Math") ∈ lw_all := lw_g (lw_at lw_m1 13 rfl) rfl
theorem q415 : (Jvm.Cond.static ({ cls := "java/lang/Math", name := "max", desc := "(II)I" } : Jvm.MethodName)) ∈ lw_all := lw_g (lw_at lw_m2 137 rfl) rfl
theorem q416 : (Jvm.Cond.code ({ cls := "java/lang/Math", name := "max", desc := "(II)I" } : Jvm.MethodName) prog_19_method_65_code (2 : Nat) (Option.some Jvm.ClassFile.FieldType.int)) ∈ lw_all := lw_g (lw_at lw_m2 138 rfl) rfl
theorem q437 : (Jvm.Cond.static ({ cls := "java/lang/Math", name := "min", desc := "(II)I" } : Jvm.MethodName)) ∈ lw_all := lw_g (lw_at lw_m2 159 rfl) rfl
theorem q438 : (Jvm.Cond.code ({ cls := "java/lang/Math", name := "min", desc := "(II)I" } : Jvm.MethodName) prog_19_method_69_code (2 : Nat) (Option.some Jvm.ClassFile.FieldType.int)) ∈ lw_all := lw_g (lw_at lw_m2 160 rfl) rfl
/-! java/util/Objects -/
set_option maxRecDepth 100000
def RJ4 : String := "java/util/Objects"
abbrev cJ4_checkIndex : ByteArray := prog_32_method_17_code
def yJ4_checkIndex : MethodName := ⟨RJ4, "checkIndex", "(II)I"⟩
def dkwJ4_checkIndex_0 : List UInt8 := [26, 27, 1, 184, 0, 105, 172]
abbrev dktJ4_checkIndex_0 : List UInt8 := dkwJ4_checkIndex_0 ++ []
theorem dksJ4_checkIndex_0 : cJ4_checkIndex.data.toList.drop 0 = dktJ4_checkIndex_0 := by decide +kernel
theorem dJ4_checkIndex_0 : decode cJ4_checkIndex 0 = .ok (.iload_n 0, 1) := dk_26 (dk_at dksJ4_checkIndex_0 0 rfl rfl)
theorem dJ4_checkIndex_1 : decode cJ4_checkIndex 1 = .ok (.iload_n 1, 1) := dk_27 (dk_at dksJ4_checkIndex_0 1 rfl rfl)
theorem dJ4_checkIndex_2 : decode cJ4_checkIndex 2 = .ok (.aconst_null, 1) := dk_1 (dk_at dksJ4_checkIndex_0 2 rfl rfl)
theorem dJ4_checkIndex_3 : decode cJ4_checkIndex 3 = .ok (.invokestatic 105, 3) := dk_184 0 105 (dk_at dksJ4_checkIndex_0 3 rfl rfl)
theorem dJ4_checkIndex_6 : decode cJ4_checkIndex 6 = .ok (.ireturn, 1) := dk_172 (dk_at dksJ4_checkIndex_0 6 rfl rfl)
theorem q52 : (Jvm.Cond.initialized "java/util/Objects") ∈ lw_all := lw_g (lw_at lw_m1 14 rfl) rfl
theorem q458 : (Jvm.Cond.static ({ cls := "java/util/Objects", name := "checkIndex", desc := "(II)I" } : Jvm.MethodName)) ∈ lw_all := lw_g (lw_at lw_m2 180 rfl) rfl
theorem q459 : (Jvm.Cond.code ({ cls := "java/util/Objects", name := "checkIndex", desc := "(II)I" } : Jvm.MethodName) prog_32_method_17_code (2 : Nat) (Option.some Jvm.ClassFile.FieldType.int)) ∈ lw_all := lw_g (lw_at lw_m2 181 rfl) rfl
theorem q460 : (Jvm.Cond.methodLink "java/util/Objects" (105 : Nat) ({ cls := "jdk/internal/util/Preconditions", name := "checkIndex", desc := "(IILjava/util/function/BiFunction;)I" } : Jvm.MethodName)) ∈ lw_all := lw_g (lw_at lw_m2 182 rfl) rfl
/-! jdk/internal/util/Preconditions -/
set_option maxRecDepth 100000
def RJ5 : String := "jdk/internal/util/Preconditions"
abbrev cJ5_checkIndex : ByteArray := prog_36_method_11_code
def yJ5_checkIndex : MethodName := ⟨RJ5, "checkIndex", "(IILjava/util/function/BiFunction;)I"⟩
def dkwJ5_checkIndex_0 : List UInt8 := [26, 155, 0, 8, 26, 27, 161, 0, 10, 44, 26, 27, 184, 0, 95, 191, 26, 172]
abbrev dktJ5_checkIndex_0 : List UInt8 := dkwJ5_checkIndex_0 ++ []
theorem dksJ5_checkIndex_0 : cJ5_checkIndex.data.toList.drop 0 = dktJ5_checkIndex_0 := by decide +kernel
theorem dJ5_checkIndex_0 : decode cJ5_checkIndex 0 = .ok (.iload_n 0, 1) := dk_26 (dk_at dksJ5_checkIndex_0 0 rfl rfl)
theorem dJ5_checkIndex_1 : decode cJ5_checkIndex 1 = .ok (.ifCond .lt 8, 3) := dk_155 0 8 (dk_at dksJ5_checkIndex_0 1 rfl rfl)
theorem dJ5_checkIndex_4 : decode cJ5_checkIndex 4 = .ok (.iload_n 0, 1) := dk_26 (dk_at dksJ5_checkIndex_0 4 rfl rfl)
theorem dJ5_checkIndex_5 : decode cJ5_checkIndex 5 = .ok (.iload_n 1, 1) := dk_27 (dk_at dksJ5_checkIndex_0 5 rfl rfl)
theorem dJ5_checkIndex_6 : decode cJ5_checkIndex 6 = .ok (.if_icmp .lt 10, 3) := dk_161 0 10 (dk_at dksJ5_checkIndex_0 6 rfl rfl)
theorem dJ5_checkIndex_9 : decode cJ5_checkIndex 9 = .ok (.aload_n 2, 1) := dk_44 (dk_at dksJ5_checkIndex_0 9 rfl rfl)
theorem dJ5_checkIndex_10 : decode cJ5_checkIndex 10 = .ok (.iload_n 0, 1) := dk_26 (dk_at dksJ5_checkIndex_0 10 rfl rfl)
theorem dJ5_checkIndex_11 : decode cJ5_checkIndex 11 = .ok (.iload_n 1, 1) := dk_27 (dk_at dksJ5_checkIndex_0 11 rfl rfl)
theorem dJ5_checkIndex_12 : decode cJ5_checkIndex 12 = .ok (.invokestatic 95, 3) := dk_184 0 95 (dk_at dksJ5_checkIndex_0 12 rfl rfl)
theorem dJ5_checkIndex_15 : decode cJ5_checkIndex 15 = .ok (.athrow, 1) := dk_191 (dk_at dksJ5_checkIndex_0 15 rfl rfl)
theorem dJ5_checkIndex_16 : decode cJ5_checkIndex 16 = .ok (.iload_n 0, 1) := dk_26 (dk_at dksJ5_checkIndex_0 16 rfl rfl)
theorem dJ5_checkIndex_17 : decode cJ5_checkIndex 17 = .ok (.ireturn, 1) := dk_172 (dk_at dksJ5_checkIndex_0 17 rfl rfl)
theorem q53 : (Jvm.Cond.initialized "jdk/internal/util/Preconditions") ∈ lw_all := lw_g (lw_at lw_m1 15 rfl) rfl
theorem q461 : (Jvm.Cond.static ({ cls := "jdk/internal/util/Preconditions", name := "checkIndex", desc := "(IILjava/util/function/BiFunction;)I" } : Jvm.MethodName)) ∈ lw_all := lw_g (lw_at lw_m2 183 rfl) rfl
theorem q462 : (Jvm.Cond.code ({ cls := "jdk/internal/util/Preconditions", name := "checkIndex", desc := "(IILjava/util/function/BiFunction;)I" } : Jvm.MethodName) prog_36_method_11_code (3 : Nat) (Option.some Jvm.ClassFile.FieldType.int)) ∈ lw_all := lw_g (lw_at lw_m2 184 rfl) rfl
/-! jdk/internal/util/ArraysSupport -/
set_option maxRecDepth 100000
def RJ6 : String := "jdk/internal/util/ArraysSupport"
abbrev cJ6_newLength : ByteArray := prog_35_method_27_code
def yJ6_newLength : MethodName := ⟨RJ6, "newLength", "(III)I"⟩
def dkwJ6_newLength_1 : List UInt8 := [184, 0, 201, 172]
abbrev dktJ6_newLength_1 : List UInt8 := dkwJ6_newLength_1 ++ []
def dkwJ6_newLength_0 : List UInt8 := [26, 27, 28, 184, 0, 194, 96, 62, 3, 29, 162, 0, 11, 29, 18, 200, 163, 0, 5, 29, 172, 26, 27]
abbrev dktJ6_newLength_0 : List UInt8 := dkwJ6_newLength_0 ++ dktJ6_newLength_1
theorem dksJ6_newLength_0 : cJ6_newLength.data.toList.drop 0 = dktJ6_newLength_0 := by decide +kernel
theorem dksJ6_newLength_1 : cJ6_newLength.data.toList.drop 23 = dktJ6_newLength_1 := dk_seg dksJ6_newLength_0 23 rfl rfl
theorem dJ6_newLength_0 : decode cJ6_newLength 0 = .ok (.iload_n 0, 1) := dk_26 (dk_at dksJ6_newLength_0 0 rfl rfl)
theorem dJ6_newLength_1 : decode cJ6_newLength 1 = .ok (.iload_n 1, 1) := dk_27 (dk_at dksJ6_newLength_0 1 rfl rfl)
theorem dJ6_newLength_2 : decode cJ6_newLength 2 = .ok (.iload_n 2, 1) := dk_28 (dk_at dksJ6_newLength_0 2 rfl rfl)
theorem dJ6_newLength_3 : decode cJ6_newLength 3 = .ok (.invokestatic 194, 3) := dk_184 0 194 (dk_at dksJ6_newLength_0 3 rfl rfl)
theorem dJ6_newLength_6 : decode cJ6_newLength 6 = .ok (.iadd, 1) := dk_96 (dk_at dksJ6_newLength_0 6 rfl rfl)
theorem dJ6_newLength_7 : decode cJ6_newLength 7 = .ok (.istore_n 3, 1) := dk_62 (dk_at dksJ6_newLength_0 7 rfl rfl)
theorem dJ6_newLength_8 : decode cJ6_newLength 8 = .ok (.iconst 0, 1) := dk_3 (dk_at dksJ6_newLength_0 8 rfl rfl)
theorem dJ6_newLength_9 : decode cJ6_newLength 9 = .ok (.iload_n 3, 1) := dk_29 (dk_at dksJ6_newLength_0 9 rfl rfl)
theorem dJ6_newLength_10 : decode cJ6_newLength 10 = .ok (.if_icmp .ge 11, 3) := dk_162 0 11 (dk_at dksJ6_newLength_0 10 rfl rfl)
theorem dJ6_newLength_13 : decode cJ6_newLength 13 = .ok (.iload_n 3, 1) := dk_29 (dk_at dksJ6_newLength_0 13 rfl rfl)
theorem dJ6_newLength_14 : decode cJ6_newLength 14 = .ok (.ldc 200, 2) := dk_18 200 (dk_at dksJ6_newLength_0 14 rfl rfl)
theorem dJ6_newLength_16 : decode cJ6_newLength 16 = .ok (.if_icmp .gt 5, 3) := dk_163 0 5 (dk_at dksJ6_newLength_0 16 rfl rfl)
theorem dJ6_newLength_19 : decode cJ6_newLength 19 = .ok (.iload_n 3, 1) := dk_29 (dk_at dksJ6_newLength_0 19 rfl rfl)
theorem dJ6_newLength_20 : decode cJ6_newLength 20 = .ok (.ireturn, 1) := dk_172 (dk_at dksJ6_newLength_0 20 rfl rfl)
theorem dJ6_newLength_21 : decode cJ6_newLength 21 = .ok (.iload_n 0, 1) := dk_26 (dk_at dksJ6_newLength_0 21 rfl rfl)
theorem dJ6_newLength_22 : decode cJ6_newLength 22 = .ok (.iload_n 1, 1) := dk_27 (dk_at dksJ6_newLength_0 22 rfl rfl)
theorem dJ6_newLength_23 : decode cJ6_newLength 23 = .ok (.invokestatic 201, 3) := dk_184 0 201 (dk_at dksJ6_newLength_1 0 rfl rfl)
theorem dJ6_newLength_26 : decode cJ6_newLength 26 = .ok (.ireturn, 1) := dk_172 (dk_at dksJ6_newLength_1 3 rfl rfl)
abbrev cJ6_hugeLength : ByteArray := prog_35_method_28_code
def yJ6_hugeLength : MethodName := ⟨RJ6, "hugeLength", "(II)I"⟩
def dkwJ6_hugeLength_2 : List UInt8 := [191, 28, 18, 200, 163, 0, 6, 18, 200, 172, 28, 172]
abbrev dktJ6_hugeLength_2 : List UInt8 := dkwJ6_hugeLength_2 ++ []
def dkwJ6_hugeLength_1 : List UInt8 := [26, 182, 0, 98, 18, 208, 182, 0, 94, 27, 182, 0, 98, 18, 210, 182, 0, 94, 182, 0, 101, 183, 0, 212]
abbrev dktJ6_hugeLength_1 : List UInt8 := dkwJ6_hugeLength_1 ++ dktJ6_hugeLength_2
def dkwJ6_hugeLength_0 : List UInt8 := [26, 27, 96, 61, 28, 156, 0, 44, 187, 0, 204, 89, 187, 0, 89, 89, 183, 0, 91, 18, 206, 182, 0, 94]
abbrev dktJ6_hugeLength_0 : List UInt8 := dkwJ6_hugeLength_0 ++ dktJ6_hugeLength_1
theorem dksJ6_hugeLength_0 : cJ6_hugeLength.data.toList.drop 0 = dktJ6_hugeLength_0 := by decide +kernel
theorem dksJ6_hugeLength_1 : cJ6_hugeLength.data.toList.drop 24 = dktJ6_hugeLength_1 := dk_seg dksJ6_hugeLength_0 24 rfl rfl
theorem dksJ6_hugeLength_2 : cJ6_hugeLength.data.toList.drop 48 = dktJ6_hugeLength_2 := dk_seg dksJ6_hugeLength_1 24 rfl rfl
theorem dJ6_hugeLength_0 : decode cJ6_hugeLength 0 = .ok (.iload_n 0, 1) := dk_26 (dk_at dksJ6_hugeLength_0 0 rfl rfl)
theorem dJ6_hugeLength_1 : decode cJ6_hugeLength 1 = .ok (.iload_n 1, 1) := dk_27 (dk_at dksJ6_hugeLength_0 1 rfl rfl)
theorem dJ6_hugeLength_2 : decode cJ6_hugeLength 2 = .ok (.iadd, 1) := dk_96 (dk_at dksJ6_hugeLength_0 2 rfl rfl)
theorem dJ6_hugeLength_3 : decode cJ6_hugeLength 3 = .ok (.istore_n 2, 1) := dk_61 (dk_at dksJ6_hugeLength_0 3 rfl rfl)
theorem dJ6_hugeLength_4 : decode cJ6_hugeLength 4 = .ok (.iload_n 2, 1) := dk_28 (dk_at dksJ6_hugeLength_0 4 rfl rfl)
theorem dJ6_hugeLength_5 : decode cJ6_hugeLength 5 = .ok (.ifCond .ge 44, 3) := dk_156 0 44 (dk_at dksJ6_hugeLength_0 5 rfl rfl)
theorem dJ6_hugeLength_8 : decode cJ6_hugeLength 8 = .ok (.new 204, 3) := dk_187 0 204 (dk_at dksJ6_hugeLength_0 8 rfl rfl)
theorem dJ6_hugeLength_11 : decode cJ6_hugeLength 11 = .ok (.dup, 1) := dk_89 (dk_at dksJ6_hugeLength_0 11 rfl rfl)
theorem dJ6_hugeLength_12 : decode cJ6_hugeLength 12 = .ok (.new 89, 3) := dk_187 0 89 (dk_at dksJ6_hugeLength_0 12 rfl rfl)
theorem dJ6_hugeLength_15 : decode cJ6_hugeLength 15 = .ok (.dup, 1) := dk_89 (dk_at dksJ6_hugeLength_0 15 rfl rfl)
theorem dJ6_hugeLength_16 : decode cJ6_hugeLength 16 = .ok (.invokespecial 91, 3) := dk_183 0 91 (dk_at dksJ6_hugeLength_0 16 rfl rfl)
theorem dJ6_hugeLength_19 : decode cJ6_hugeLength 19 = .ok (.ldc 206, 2) := dk_18 206 (dk_at dksJ6_hugeLength_0 19 rfl rfl)
theorem dJ6_hugeLength_21 : decode cJ6_hugeLength 21 = .ok (.invokevirtual 94, 3) := dk_182 0 94 (dk_at dksJ6_hugeLength_0 21 rfl rfl)
theorem dJ6_hugeLength_24 : decode cJ6_hugeLength 24 = .ok (.iload_n 0, 1) := dk_26 (dk_at dksJ6_hugeLength_1 0 rfl rfl)
theorem dJ6_hugeLength_25 : decode cJ6_hugeLength 25 = .ok (.invokevirtual 98, 3) := dk_182 0 98 (dk_at dksJ6_hugeLength_1 1 rfl rfl)
theorem dJ6_hugeLength_28 : decode cJ6_hugeLength 28 = .ok (.ldc 208, 2) := dk_18 208 (dk_at dksJ6_hugeLength_1 4 rfl rfl)
theorem dJ6_hugeLength_30 : decode cJ6_hugeLength 30 = .ok (.invokevirtual 94, 3) := dk_182 0 94 (dk_at dksJ6_hugeLength_1 6 rfl rfl)
theorem dJ6_hugeLength_33 : decode cJ6_hugeLength 33 = .ok (.iload_n 1, 1) := dk_27 (dk_at dksJ6_hugeLength_1 9 rfl rfl)
theorem dJ6_hugeLength_34 : decode cJ6_hugeLength 34 = .ok (.invokevirtual 98, 3) := dk_182 0 98 (dk_at dksJ6_hugeLength_1 10 rfl rfl)
theorem dJ6_hugeLength_37 : decode cJ6_hugeLength 37 = .ok (.ldc 210, 2) := dk_18 210 (dk_at dksJ6_hugeLength_1 13 rfl rfl)
theorem dJ6_hugeLength_39 : decode cJ6_hugeLength 39 = .ok (.invokevirtual 94, 3) := dk_182 0 94 (dk_at dksJ6_hugeLength_1 15 rfl rfl)
theorem dJ6_hugeLength_42 : decode cJ6_hugeLength 42 = .ok (.invokevirtual 101, 3) := dk_182 0 101 (dk_at dksJ6_hugeLength_1 18 rfl rfl)
theorem dJ6_hugeLength_45 : decode cJ6_hugeLength 45 = .ok (.invokespecial 212, 3) := dk_183 0 212 (dk_at dksJ6_hugeLength_1 21 rfl rfl)
theorem dJ6_hugeLength_48 : decode cJ6_hugeLength 48 = .ok (.athrow, 1) := dk_191 (dk_at dksJ6_hugeLength_2 0 rfl rfl)
theorem dJ6_hugeLength_49 : decode cJ6_hugeLength 49 = .ok (.iload_n 2, 1) := dk_28 (dk_at dksJ6_hugeLength_2 1 rfl rfl)
theorem dJ6_hugeLength_50 : decode cJ6_hugeLength 50 = .ok (.ldc 200, 2) := dk_18 200 (dk_at dksJ6_hugeLength_2 2 rfl rfl)
theorem dJ6_hugeLength_52 : decode cJ6_hugeLength 52 = .ok (.if_icmp .gt 6, 3) := dk_163 0 6 (dk_at dksJ6_hugeLength_2 4 rfl rfl)
theorem dJ6_hugeLength_55 : decode cJ6_hugeLength 55 = .ok (.ldc 200, 2) := dk_18 200 (dk_at dksJ6_hugeLength_2 7 rfl rfl)
theorem dJ6_hugeLength_57 : decode cJ6_hugeLength 57 = .ok (.ireturn, 1) := dk_172 (dk_at dksJ6_hugeLength_2 9 rfl rfl)
theorem dJ6_hugeLength_58 : decode cJ6_hugeLength 58 = .ok (.iload_n 2, 1) := dk_28 (dk_at dksJ6_hugeLength_2 10 rfl rfl)
theorem dJ6_hugeLength_59 : decode cJ6_hugeLength 59 = .ok (.ireturn, 1) := dk_172 (dk_at dksJ6_hugeLength_2 11 rfl rfl)
theorem q55 : (Jvm.Cond.initialized "jdk/internal/util/ArraysSupport") ∈ lw_all := lw_g (lw_at lw_m1 17 rfl) rfl
theorem q516 : (Jvm.Cond.static ({ cls := "jdk/internal/util/ArraysSupport", name := "newLength", desc := "(III)I" } : Jvm.MethodName)) ∈ lw_all := lw_g (lw_at lw_m2 238 rfl) rfl
theorem q517 : (Jvm.Cond.code ({ cls := "jdk/internal/util/ArraysSupport", name := "newLength", desc := "(III)I" } : Jvm.MethodName) prog_35_method_27_code (4 : Nat) (Option.some Jvm.ClassFile.FieldType.int)) ∈ lw_all := lw_g (lw_at lw_m2 239 rfl) rfl
theorem q518 : (Jvm.Cond.methodLink "jdk/internal/util/ArraysSupport" (194 : Nat) ({ cls := "java/lang/Math", name := "max", desc := "(II)I" } : Jvm.MethodName)) ∈ lw_all := lw_g (lw_at lw_m3 0 rfl) rfl
theorem q519 : (Jvm.Cond.constant "jdk/internal/util/ArraysSupport" (200 : Nat) (2147483639 : Int32)) ∈ lw_all := lw_g (lw_at lw_m3 1 rfl) rfl
theorem q520 : (Jvm.Cond.methodLink "jdk/internal/util/ArraysSupport" (201 : Nat) ({ cls := "jdk/internal/util/ArraysSupport", name := "hugeLength", desc := "(II)I" } : Jvm.MethodName)) ∈ lw_all := lw_g (lw_at lw_m3 2 rfl) rfl
theorem q521 : (Jvm.Cond.static ({ cls := "jdk/internal/util/ArraysSupport", name := "hugeLength", desc := "(II)I" } : Jvm.MethodName)) ∈ lw_all := lw_g (lw_at lw_m3 3 rfl) rfl
theorem q522 : (Jvm.Cond.code ({ cls := "jdk/internal/util/ArraysSupport", name := "hugeLength", desc := "(II)I" } : Jvm.MethodName) prog_35_method_28_code (3 : Nat) (Option.some Jvm.ClassFile.FieldType.int)) ∈ lw_all := lw_g (lw_at lw_m3 4 rfl) rfl
/-! java/util/Arrays -/
set_option maxRecDepth 100000
def RJ7 : String := "java/util/Arrays"
abbrev cJ7_copyOf : ByteArray := prog_29_method_119_code
def yJ7_copyOf : MethodName := ⟨RJ7, "copyOf", "([Ljava/lang/Object;I)[Ljava/lang/Object;"⟩
def dkwJ7_copyOf_0 : List UInt8 := [42, 27, 42, 182, 0, 86, 184, 1, 44, 176]
abbrev dktJ7_copyOf_0 : List UInt8 := dkwJ7_copyOf_0 ++ []
theorem dksJ7_copyOf_0 : cJ7_copyOf.data.toList.drop 0 = dktJ7_copyOf_0 := by decide +kernel
theorem dJ7_copyOf_0 : decode cJ7_copyOf 0 = .ok (.aload_n 0, 1) := dk_42 (dk_at dksJ7_copyOf_0 0 rfl rfl)
theorem dJ7_copyOf_1 : decode cJ7_copyOf 1 = .ok (.iload_n 1, 1) := dk_27 (dk_at dksJ7_copyOf_0 1 rfl rfl)
theorem dJ7_copyOf_2 : decode cJ7_copyOf 2 = .ok (.aload_n 0, 1) := dk_42 (dk_at dksJ7_copyOf_0 2 rfl rfl)
theorem dJ7_copyOf_3 : decode cJ7_copyOf 3 = .ok (.invokevirtual 86, 3) := dk_182 0 86 (dk_at dksJ7_copyOf_0 3 rfl rfl)
theorem dJ7_copyOf_6 : decode cJ7_copyOf 6 = .ok (.invokestatic 300, 3) := dk_184 1 44 (dk_at dksJ7_copyOf_0 6 rfl rfl)
theorem dJ7_copyOf_9 : decode cJ7_copyOf 9 = .ok (.areturn, 1) := dk_176 (dk_at dksJ7_copyOf_0 9 rfl rfl)
abbrev cJ7_copyOf_2 : ByteArray := prog_29_method_120_code
def yJ7_copyOf_2 : MethodName := ⟨RJ7, "copyOf", "([Ljava/lang/Object;ILjava/lang/Class;)[Ljava/lang/Object;"⟩
def dkwJ7_copyOf_2_1 : List UInt8 := [78, 42, 3, 45, 3, 42, 190, 27, 184, 1, 48, 184, 0, 150, 45, 176]
abbrev dktJ7_copyOf_2_1 : List UInt8 := dkwJ7_copyOf_2_1 ++ []
def dkwJ7_copyOf_2_0 : List UInt8 := [44, 18, 110, 166, 0, 10, 27, 189, 0, 2, 167, 0, 14, 44, 182, 0, 90, 27, 184, 0, 95, 192, 0, 110]
abbrev dktJ7_copyOf_2_0 : List UInt8 := dkwJ7_copyOf_2_0 ++ dktJ7_copyOf_2_1
theorem dksJ7_copyOf_2_0 : cJ7_copyOf_2.data.toList.drop 0 = dktJ7_copyOf_2_0 := by decide +kernel
theorem dksJ7_copyOf_2_1 : cJ7_copyOf_2.data.toList.drop 24 = dktJ7_copyOf_2_1 := dk_seg dksJ7_copyOf_2_0 24 rfl rfl
theorem dJ7_copyOf_2_0 : decode cJ7_copyOf_2 0 = .ok (.aload_n 2, 1) := dk_44 (dk_at dksJ7_copyOf_2_0 0 rfl rfl)
theorem dJ7_copyOf_2_1 : decode cJ7_copyOf_2 1 = .ok (.ldc 110, 2) := dk_18 110 (dk_at dksJ7_copyOf_2_0 1 rfl rfl)
theorem dJ7_copyOf_2_3 : decode cJ7_copyOf_2 3 = .ok (.if_acmp .ne 10, 3) := dk_166 0 10 (dk_at dksJ7_copyOf_2_0 3 rfl rfl)
theorem dJ7_copyOf_2_6 : decode cJ7_copyOf_2 6 = .ok (.iload_n 1, 1) := dk_27 (dk_at dksJ7_copyOf_2_0 6 rfl rfl)
theorem dJ7_copyOf_2_7 : decode cJ7_copyOf_2 7 = .ok (.anewarray 2, 3) := dk_189 0 2 (dk_at dksJ7_copyOf_2_0 7 rfl rfl)
theorem dJ7_copyOf_2_10 : decode cJ7_copyOf_2 10 = .ok (.goto 14, 3) := dk_167 0 14 (dk_at dksJ7_copyOf_2_0 10 rfl rfl)
theorem dJ7_copyOf_2_13 : decode cJ7_copyOf_2 13 = .ok (.aload_n 2, 1) := dk_44 (dk_at dksJ7_copyOf_2_0 13 rfl rfl)
theorem dJ7_copyOf_2_14 : decode cJ7_copyOf_2 14 = .ok (.invokevirtual 90, 3) := dk_182 0 90 (dk_at dksJ7_copyOf_2_0 14 rfl rfl)
theorem dJ7_copyOf_2_17 : decode cJ7_copyOf_2 17 = .ok (.iload_n 1, 1) := dk_27 (dk_at dksJ7_copyOf_2_0 17 rfl rfl)
theorem dJ7_copyOf_2_18 : decode cJ7_copyOf_2 18 = .ok (.invokestatic 95, 3) := dk_184 0 95 (dk_at dksJ7_copyOf_2_0 18 rfl rfl)
theorem dJ7_copyOf_2_21 : decode cJ7_copyOf_2 21 = .ok (.checkcast 110, 3) := dk_192 0 110 (dk_at dksJ7_copyOf_2_0 21 rfl rfl)
theorem dJ7_copyOf_2_24 : decode cJ7_copyOf_2 24 = .ok (.astore_n 3, 1) := dk_78 (dk_at dksJ7_copyOf_2_1 0 rfl rfl)
theorem dJ7_copyOf_2_25 : decode cJ7_copyOf_2 25 = .ok (.aload_n 0, 1) := dk_42 (dk_at dksJ7_copyOf_2_1 1 rfl rfl)
theorem dJ7_copyOf_2_26 : decode cJ7_copyOf_2 26 = .ok (.iconst 0, 1) := dk_3 (dk_at dksJ7_copyOf_2_1 2 rfl rfl)
theorem dJ7_copyOf_2_27 : decode cJ7_copyOf_2 27 = .ok (.aload_n 3, 1) := dk_45 (dk_at dksJ7_copyOf_2_1 3 rfl rfl)
theorem dJ7_copyOf_2_28 : decode cJ7_copyOf_2 28 = .ok (.iconst 0, 1) := dk_3 (dk_at dksJ7_copyOf_2_1 4 rfl rfl)
theorem dJ7_copyOf_2_29 : decode cJ7_copyOf_2 29 = .ok (.aload_n 0, 1) := dk_42 (dk_at dksJ7_copyOf_2_1 5 rfl rfl)
theorem dJ7_copyOf_2_30 : decode cJ7_copyOf_2 30 = .ok (.arraylength, 1) := dk_190 (dk_at dksJ7_copyOf_2_1 6 rfl rfl)
theorem dJ7_copyOf_2_31 : decode cJ7_copyOf_2 31 = .ok (.iload_n 1, 1) := dk_27 (dk_at dksJ7_copyOf_2_1 7 rfl rfl)
theorem dJ7_copyOf_2_32 : decode cJ7_copyOf_2 32 = .ok (.invokestatic 304, 3) := dk_184 1 48 (dk_at dksJ7_copyOf_2_1 8 rfl rfl)
theorem dJ7_copyOf_2_35 : decode cJ7_copyOf_2 35 = .ok (.invokestatic 150, 3) := dk_184 0 150 (dk_at dksJ7_copyOf_2_1 11 rfl rfl)
theorem dJ7_copyOf_2_38 : decode cJ7_copyOf_2 38 = .ok (.aload_n 3, 1) := dk_45 (dk_at dksJ7_copyOf_2_1 14 rfl rfl)
theorem dJ7_copyOf_2_39 : decode cJ7_copyOf_2 39 = .ok (.areturn, 1) := dk_176 (dk_at dksJ7_copyOf_2_1 15 rfl rfl)
theorem q56 : (Jvm.Cond.initialized "java/util/Arrays") ∈ lw_all := lw_g (lw_at lw_m1 18 rfl) rfl
theorem q524 : (Jvm.Cond.static ({ cls := "java/util/Arrays", name := "copyOf", desc := "([Ljava/lang/Object;I)[Ljava/lang/Object;" } : Jvm.MethodName)) ∈ lw_all := lw_g (lw_at lw_m3 6 rfl) rfl
theorem q525 : (Jvm.Cond.code ({ cls := "java/util/Arrays", name := "copyOf", desc := "([Ljava/lang/Object;I)[Ljava/lang/Object;" } : Jvm.MethodName) prog_29_method_119_code (2 : Nat) (Option.some (Jvm.ClassFile.FieldType.array (Jvm.ClassFile.FieldType.object "java/lang/Object")))) ∈ lw_all := lw_g (lw_at lw_m3 7 rfl) rfl
theorem q526 : (Jvm.Cond.methodLink "java/util/Arrays" (86 : Nat) ({ cls := "java/lang/Object", name := "getClass", desc := "()Ljava/lang/Class;" } : Jvm.MethodName)) ∈ lw_all := lw_g (lw_at lw_m3 8 rfl) rfl
theorem q544 : (Jvm.Cond.methodLink "java/util/Arrays" (300 : Nat) ({ cls := "java/util/Arrays", name := "copyOf", desc := "([Ljava/lang/Object;ILjava/lang/Class;)[Ljava/lang/Object;" } : Jvm.MethodName)) ∈ lw_all := lw_g (lw_at lw_m3 26 rfl) rfl
theorem q545 : (Jvm.Cond.static ({ cls := "java/util/Arrays", name := "copyOf", desc := "([Ljava/lang/Object;ILjava/lang/Class;)[Ljava/lang/Object;" } : Jvm.MethodName)) ∈ lw_all := lw_g (lw_at lw_m3 27 rfl) rfl
theorem q546 : (Jvm.Cond.code ({ cls := "java/util/Arrays", name := "copyOf", desc := "([Ljava/lang/Object;ILjava/lang/Class;)[Ljava/lang/Object;" } : Jvm.MethodName) prog_29_method_120_code (4 : Nat) (Option.some (Jvm.ClassFile.FieldType.array (Jvm.ClassFile.FieldType.object "java/lang/Object")))) ∈ lw_all := lw_g (lw_at lw_m3 28 rfl) rfl
theorem q547 : (Jvm.Cond.classLink "java/util/Arrays" (110 : Nat) "[Ljava/lang/Object;") ∈ lw_all := lw_g (lw_at lw_m3 29 rfl) rfl
theorem q549 : (Jvm.Cond.classLink "java/util/Arrays" (2 : Nat) "java/lang/Object") ∈ lw_all := lw_g (lw_at lw_m3 31 rfl) rfl
theorem q550 : (Jvm.Cond.methodLink "java/util/Arrays" (304 : Nat) ({ cls := "java/lang/Math", name := "min", desc := "(II)I" } : Jvm.MethodName)) ∈ lw_all := lw_g (lw_at lw_m3 32 rfl) rfl
theorem q551 : (Jvm.Cond.methodLink "java/util/Arrays" (150 : Nat) ({ cls := "java/lang/System", name := "arraycopy", desc := "(Ljava/lang/Object;ILjava/lang/Object;II)V" } : Jvm.MethodName)) ∈ lw_all := lw_g (lw_at lw_m3 33 rfl) rfl
/-! java/lang/Throwable -/
set_option maxRecDepth 100000
def RJ8 : String := "java/lang/Throwable"
def TJ8 : u_T := fun k => match k with
  | 0 => ("java/lang/Throwable", "cause", "Ljava/lang/Throwable;", false)
  | 1 => ("java/lang/Throwable", "stackTrace", "[Ljava/lang/StackTraceElement;", false)
  | 2 => ("java/lang/Throwable", "suppressedExceptions", "Ljava/util/List;", false)
  | 3 => ("java/lang/Throwable", "detailMessage", "Ljava/lang/String;", false)
  | _ => ("java/lang/Throwable", "backtrace", "Ljava/lang/Object;", false)
def tyJ8 : Nat → FieldType := fun k => match k with
  | 0 => .object "java/lang/Throwable"
  | 1 => .array (.object "java/lang/StackTraceElement")
  | 2 => .object "java/util/List"
  | 3 => .object "java/lang/String"
  | _ => .object "java/lang/Object"
abbrev wsJ80 : List Cond := u_ws RJ8 TJ8 5
theorem nmJ8 : ∀ a, a < 5 → ∀ b, b < 5 → a ≠ b → (TJ8 a).2.1 ≠ (TJ8 b).2.1 := by decide +kernel
theorem tyJ8_ok : ∀ k, k < 5 → parseFieldDescriptor (TJ8 k).2.2.1 = some (tyJ8 k) := by decide +kernel
abbrev cJ8_init : ByteArray := prog_25_method_2_code
def yJ8_init : MethodName := ⟨RJ8, "<init>", "(Ljava/lang/String;)V"⟩
def dkwJ8_init_1 : List UInt8 := [182, 0, 27, 87, 42, 43, 181, 0, 31, 177]
abbrev dktJ8_init_1 : List UInt8 := dkwJ8_init_1 ++ []
def dkwJ8_init_0 : List UInt8 := [42, 183, 0, 1, 42, 42, 181, 0, 7, 42, 178, 0, 13, 181, 0, 17, 42, 178, 0, 20, 181, 0, 24, 42]
abbrev dktJ8_init_0 : List UInt8 := dkwJ8_init_0 ++ dktJ8_init_1
theorem dksJ8_init_0 : cJ8_init.data.toList.drop 0 = dktJ8_init_0 := by decide +kernel
theorem dksJ8_init_1 : cJ8_init.data.toList.drop 24 = dktJ8_init_1 := dk_seg dksJ8_init_0 24 rfl rfl
theorem dJ8_init_0 : decode cJ8_init 0 = .ok (.aload_n 0, 1) := dk_42 (dk_at dksJ8_init_0 0 rfl rfl)
theorem dJ8_init_1 : decode cJ8_init 1 = .ok (.invokespecial 1, 3) := dk_183 0 1 (dk_at dksJ8_init_0 1 rfl rfl)
theorem dJ8_init_4 : decode cJ8_init 4 = .ok (.aload_n 0, 1) := dk_42 (dk_at dksJ8_init_0 4 rfl rfl)
theorem dJ8_init_5 : decode cJ8_init 5 = .ok (.aload_n 0, 1) := dk_42 (dk_at dksJ8_init_0 5 rfl rfl)
theorem dJ8_init_6 : decode cJ8_init 6 = .ok (.putfield 7, 3) := dk_181 0 7 (dk_at dksJ8_init_0 6 rfl rfl)
theorem dJ8_init_9 : decode cJ8_init 9 = .ok (.aload_n 0, 1) := dk_42 (dk_at dksJ8_init_0 9 rfl rfl)
theorem dJ8_init_10 : decode cJ8_init 10 = .ok (.getstatic 13, 3) := dk_178 0 13 (dk_at dksJ8_init_0 10 rfl rfl)
theorem dJ8_init_13 : decode cJ8_init 13 = .ok (.putfield 17, 3) := dk_181 0 17 (dk_at dksJ8_init_0 13 rfl rfl)
theorem dJ8_init_16 : decode cJ8_init 16 = .ok (.aload_n 0, 1) := dk_42 (dk_at dksJ8_init_0 16 rfl rfl)
theorem dJ8_init_17 : decode cJ8_init 17 = .ok (.getstatic 20, 3) := dk_178 0 20 (dk_at dksJ8_init_0 17 rfl rfl)
theorem dJ8_init_20 : decode cJ8_init 20 = .ok (.putfield 24, 3) := dk_181 0 24 (dk_at dksJ8_init_0 20 rfl rfl)
theorem dJ8_init_23 : decode cJ8_init 23 = .ok (.aload_n 0, 1) := dk_42 (dk_at dksJ8_init_0 23 rfl rfl)
theorem dJ8_init_24 : decode cJ8_init 24 = .ok (.invokevirtual 27, 3) := dk_182 0 27 (dk_at dksJ8_init_1 0 rfl rfl)
theorem dJ8_init_27 : decode cJ8_init 27 = .ok (.pop, 1) := dk_87 (dk_at dksJ8_init_1 3 rfl rfl)
theorem dJ8_init_28 : decode cJ8_init 28 = .ok (.aload_n 0, 1) := dk_42 (dk_at dksJ8_init_1 4 rfl rfl)
theorem dJ8_init_29 : decode cJ8_init 29 = .ok (.aload_n 1, 1) := dk_43 (dk_at dksJ8_init_1 5 rfl rfl)
theorem dJ8_init_30 : decode cJ8_init 30 = .ok (.putfield 31, 3) := dk_181 0 31 (dk_at dksJ8_init_1 6 rfl rfl)
theorem dJ8_init_33 : decode cJ8_init 33 = .ok (.return_, 1) := dk_177 (dk_at dksJ8_init_1 9 rfl rfl)
abbrev cJ8_init_2 : ByteArray := prog_25_method_1_code
def yJ8_init_2 : MethodName := ⟨RJ8, "<init>", "()V"⟩
def dkwJ8_init_2_1 : List UInt8 := [182, 0, 27, 87, 177]
abbrev dktJ8_init_2_1 : List UInt8 := dkwJ8_init_2_1 ++ []
def dkwJ8_init_2_0 : List UInt8 := [42, 183, 0, 1, 42, 42, 181, 0, 7, 42, 178, 0, 13, 181, 0, 17, 42, 178, 0, 20, 181, 0, 24, 42]
abbrev dktJ8_init_2_0 : List UInt8 := dkwJ8_init_2_0 ++ dktJ8_init_2_1
theorem dksJ8_init_2_0 : cJ8_init_2.data.toList.drop 0 = dktJ8_init_2_0 := by decide +kernel
theorem dksJ8_init_2_1 : cJ8_init_2.data.toList.drop 24 = dktJ8_init_2_1 := dk_seg dksJ8_init_2_0 24 rfl rfl
theorem dJ8_init_2_0 : decode cJ8_init_2 0 = .ok (.aload_n 0, 1) := dk_42 (dk_at dksJ8_init_2_0 0 rfl rfl)
theorem dJ8_init_2_1 : decode cJ8_init_2 1 = .ok (.invokespecial 1, 3) := dk_183 0 1 (dk_at dksJ8_init_2_0 1 rfl rfl)
theorem dJ8_init_2_4 : decode cJ8_init_2 4 = .ok (.aload_n 0, 1) := dk_42 (dk_at dksJ8_init_2_0 4 rfl rfl)
theorem dJ8_init_2_5 : decode cJ8_init_2 5 = .ok (.aload_n 0, 1) := dk_42 (dk_at dksJ8_init_2_0 5 rfl rfl)
theorem dJ8_init_2_6 : decode cJ8_init_2 6 = .ok (.putfield 7, 3) := dk_181 0 7 (dk_at dksJ8_init_2_0 6 rfl rfl)
theorem dJ8_init_2_9 : decode cJ8_init_2 9 = .ok (.aload_n 0, 1) := dk_42 (dk_at dksJ8_init_2_0 9 rfl rfl)
theorem dJ8_init_2_10 : decode cJ8_init_2 10 = .ok (.getstatic 13, 3) := dk_178 0 13 (dk_at dksJ8_init_2_0 10 rfl rfl)
theorem dJ8_init_2_13 : decode cJ8_init_2 13 = .ok (.putfield 17, 3) := dk_181 0 17 (dk_at dksJ8_init_2_0 13 rfl rfl)
theorem dJ8_init_2_16 : decode cJ8_init_2 16 = .ok (.aload_n 0, 1) := dk_42 (dk_at dksJ8_init_2_0 16 rfl rfl)
theorem dJ8_init_2_17 : decode cJ8_init_2 17 = .ok (.getstatic 20, 3) := dk_178 0 20 (dk_at dksJ8_init_2_0 17 rfl rfl)
theorem dJ8_init_2_20 : decode cJ8_init_2 20 = .ok (.putfield 24, 3) := dk_181 0 24 (dk_at dksJ8_init_2_0 20 rfl rfl)
theorem dJ8_init_2_23 : decode cJ8_init_2 23 = .ok (.aload_n 0, 1) := dk_42 (dk_at dksJ8_init_2_0 23 rfl rfl)
theorem dJ8_init_2_24 : decode cJ8_init_2 24 = .ok (.invokevirtual 27, 3) := dk_182 0 27 (dk_at dksJ8_init_2_1 0 rfl rfl)
theorem dJ8_init_2_27 : decode cJ8_init_2 27 = .ok (.pop, 1) := dk_87 (dk_at dksJ8_init_2_1 3 rfl rfl)
theorem dJ8_init_2_28 : decode cJ8_init_2 28 = .ok (.return_, 1) := dk_177 (dk_at dksJ8_init_2_1 4 rfl rfl)
theorem q58 : (Jvm.Cond.initialized "java/lang/Throwable") ∈ lw_all := lw_g (lw_at lw_m1 20 rfl) rfl
theorem q583 : (Jvm.Cond.instanceMethod ({ cls := "java/lang/Throwable", name := "<init>", desc := "(Ljava/lang/String;)V" } : Jvm.MethodName)) ∈ lw_all := lw_g (lw_at lw_m3 65 rfl) rfl
theorem q584 : (Jvm.Cond.code ({ cls := "java/lang/Throwable", name := "<init>", desc := "(Ljava/lang/String;)V" } : Jvm.MethodName) prog_25_method_2_code (2 : Nat) (Option.none : Option Jvm.ClassFile.FieldType)) ∈ lw_all := lw_g (lw_at lw_m3 66 rfl) rfl
theorem q585 : (Jvm.Cond.methodLink "java/lang/Throwable" (1 : Nat) ({ cls := "java/lang/Object", name := "<init>", desc := "()V" } : Jvm.MethodName)) ∈ lw_all := lw_g (lw_at lw_m3 67 rfl) rfl
theorem q586 : (Jvm.Cond.fieldLink "java/lang/Throwable" (13 : Nat) "java/lang/Throwable" "UNASSIGNED_STACK" "[Ljava/lang/StackTraceElement;") ∈ lw_all := lw_g (lw_at lw_m3 68 rfl) rfl
theorem q587 : (Jvm.Cond.laysStatic "java/lang/Throwable" "UNASSIGNED_STACK" "[Ljava/lang/StackTraceElement;") ∈ lw_tbl := lw_at lw_m3 69 rfl
theorem q588 : (Jvm.Cond.fieldLink "java/lang/Throwable" (20 : Nat) "java/lang/Throwable" "SUPPRESSED_SENTINEL" "Ljava/util/List;") ∈ lw_all := lw_g (lw_at lw_m3 70 rfl) rfl
theorem q589 : (Jvm.Cond.laysStatic "java/lang/Throwable" "SUPPRESSED_SENTINEL" "Ljava/util/List;") ∈ lw_tbl := lw_at lw_m3 71 rfl
theorem q590 : (Jvm.Cond.methodLink "java/lang/Throwable" (27 : Nat) ({ cls := "java/lang/Throwable", name := "fillInStackTrace", desc := "()Ljava/lang/Throwable;" } : Jvm.MethodName)) ∈ lw_all := lw_g (lw_at lw_m3 72 rfl) rfl
theorem q591 : (Jvm.Cond.instanceMethod ({ cls := "java/lang/Throwable", name := "fillInStackTrace", desc := "()Ljava/lang/Throwable;" } : Jvm.MethodName)) ∈ lw_all := lw_g (lw_at lw_m3 73 rfl) rfl
theorem q592 : (Jvm.Cond.sameMethod "java/lang/Throwable" "java/lang/Throwable" "fillInStackTrace" "()Ljava/lang/Throwable;") ∈ lw_all := lw_g (lw_at lw_m3 74 rfl) rfl
theorem q606 : (Jvm.Cond.declares ({ cls := "java/lang/Throwable", name := "fillInStackTrace", desc := "()Ljava/lang/Throwable;" } : Jvm.MethodName)) ∈ lw_tbl := lw_at lw_m3 88 rfl
theorem q610 : (Jvm.Cond.codeSync ({ cls := "java/lang/Throwable", name := "fillInStackTrace", desc := "()Ljava/lang/Throwable;" } : Jvm.MethodName) prog_25_method_18_code (1 : Nat) (Option.some (Jvm.ClassFile.FieldType.object "java/lang/Throwable"))) ∈ lw_all := lw_g (lw_at lw_m3 92 rfl) rfl
theorem q611 : (Jvm.Cond.methodLink "java/lang/Throwable" (202 : Nat) ({ cls := "java/lang/Throwable", name := "fillInStackTrace", desc := "(I)Ljava/lang/Throwable;" } : Jvm.MethodName)) ∈ lw_all := lw_g (lw_at lw_m3 93 rfl) rfl
theorem q612 : (Jvm.Cond.privateMethod ({ cls := "java/lang/Throwable", name := "fillInStackTrace", desc := "(I)Ljava/lang/Throwable;" } : Jvm.MethodName)) ∈ lw_tbl := lw_at lw_m3 94 rfl
theorem q613 : (Jvm.Cond.instanceMethod ({ cls := "java/lang/Throwable", name := "fillInStackTrace", desc := "(I)Ljava/lang/Throwable;" } : Jvm.MethodName)) ∈ lw_all := lw_g (lw_at lw_m3 95 rfl) rfl
theorem q614 : (Jvm.Cond.instantiable "java/lang/Throwable" (6 : Nat)) ∈ lw_all := lw_g (lw_at lw_m3 96 rfl) rfl
theorem q615 : (Jvm.Cond.native ({ cls := "java/lang/Throwable", name := "fillInStackTrace", desc := "(I)Ljava/lang/Throwable;" } : Jvm.MethodName)) ∈ lw_all := lw_g (lw_at lw_m3 97 rfl) rfl
theorem q616 : (Jvm.Cond.fieldLink "java/lang/Throwable" (198 : Nat) "java/lang/Throwable" "backtrace" "Ljava/lang/Object;") ∈ lw_all := lw_g (lw_at lw_m3 98 rfl) rfl
theorem q617 : (Jvm.Cond.fieldLink "java/lang/Throwable" (31 : Nat) "java/lang/Throwable" "detailMessage" "Ljava/lang/String;") ∈ lw_all := lw_g (lw_at lw_m3 99 rfl) rfl
theorem q618 : (Jvm.Cond.fieldLink "java/lang/Throwable" (7 : Nat) "java/lang/Throwable" "cause" "Ljava/lang/Throwable;") ∈ lw_all := lw_g (lw_at lw_m3 100 rfl) rfl
theorem q619 : (Jvm.Cond.fieldLink "java/lang/Throwable" (17 : Nat) "java/lang/Throwable" "stackTrace" "[Ljava/lang/StackTraceElement;") ∈ lw_all := lw_g (lw_at lw_m3 101 rfl) rfl
theorem q620 : (Jvm.Cond.fieldLink "java/lang/Throwable" (24 : Nat) "java/lang/Throwable" "suppressedExceptions" "Ljava/util/List;") ∈ lw_all := lw_g (lw_at lw_m3 102 rfl) rfl
theorem q622 : (Jvm.Cond.soleField "java/lang/Throwable" "backtrace") ∈ lw_all := lw_g (lw_at lw_m3 104 rfl) rfl
theorem q624 : (Jvm.Cond.soleField "java/lang/Throwable" "detailMessage") ∈ lw_all := lw_g (lw_at lw_m3 106 rfl) rfl
theorem q626 : (Jvm.Cond.soleField "java/lang/Throwable" "cause") ∈ lw_all := lw_g (lw_at lw_m3 108 rfl) rfl
theorem q628 : (Jvm.Cond.soleField "java/lang/Throwable" "stackTrace") ∈ lw_all := lw_g (lw_at lw_m3 110 rfl) rfl
theorem q630 : (Jvm.Cond.soleField "java/lang/Throwable" "depth") ∈ lw_all := lw_g (lw_at lw_m3 112 rfl) rfl
theorem q632 : (Jvm.Cond.soleField "java/lang/Throwable" "suppressedExceptions") ∈ lw_all := lw_g (lw_at lw_m3 114 rfl) rfl
theorem q641 : (Jvm.Cond.declares ({ cls := "java/lang/Throwable", name := "<init>", desc := "()V" } : Jvm.MethodName)) ∈ lw_tbl := lw_at lw_m3 123 rfl
theorem q642 : (Jvm.Cond.declares ({ cls := "java/lang/Throwable", name := "<init>", desc := "(Ljava/lang/String;)V" } : Jvm.MethodName)) ∈ lw_tbl := lw_at lw_m3 124 rfl
theorem q644 : (Jvm.Cond.lays "java/lang/Throwable" "java/lang/Throwable" "cause" "Ljava/lang/Throwable;") ∈ lw_all := lw_g (lw_at lw_m3 126 rfl) rfl
theorem q645 : (Jvm.Cond.lays "java/lang/Throwable" "java/lang/Throwable" "stackTrace" "[Ljava/lang/StackTraceElement;") ∈ lw_all := lw_g (lw_at lw_m3 127 rfl) rfl
theorem q646 : (Jvm.Cond.lays "java/lang/Throwable" "java/lang/Throwable" "suppressedExceptions" "Ljava/util/List;") ∈ lw_all := lw_g (lw_at lw_m3 128 rfl) rfl
theorem q647 : (Jvm.Cond.lays "java/lang/Throwable" "java/lang/Throwable" "detailMessage" "Ljava/lang/String;") ∈ lw_all := lw_g (lw_at lw_m3 129 rfl) rfl
theorem q648 : (Jvm.Cond.lays "java/lang/Throwable" "java/lang/Throwable" "backtrace" "Ljava/lang/Object;") ∈ lw_all := lw_g (lw_at lw_m3 130 rfl) rfl
theorem q649 : (Jvm.Cond.fieldLink "java/lang/Throwable" (198 : Nat) "java/lang/Throwable" "backtrace" "Ljava/lang/Object;") ∈ lw_all := lw_g (lw_at lw_m3 131 rfl) rfl
theorem q650 : (Jvm.Cond.superclass "java/lang/Throwable" "java/lang/Object") ∈ lw_all := lw_g (lw_at lw_m3 132 rfl) rfl
theorem q651 : (Jvm.Cond.instanceMethod ({ cls := "java/lang/Throwable", name := "<init>", desc := "()V" } : Jvm.MethodName)) ∈ lw_all := lw_g (lw_at lw_m3 133 rfl) rfl
theorem q652 : (Jvm.Cond.code ({ cls := "java/lang/Throwable", name := "<init>", desc := "()V" } : Jvm.MethodName) prog_25_method_1_code (1 : Nat) (Option.none : Option Jvm.ClassFile.FieldType)) ∈ lw_all := lw_g (lw_at lw_m3 134 rfl) rfl
theorem q1268 : (Jvm.Cond.sameMethod "java/lang/Throwable" "java/lang/Throwable" "fillInStackTrace" "(I)Ljava/lang/Throwable;") ∈ lw_all := lw_g (lw_at lw_m6 30 rfl) rfl
theorem q1284 : (Jvm.Cond.castable "java/lang/Throwable" "java/lang/Object") ∈ lw_tbl := lw_at lw_m6 46 rfl
theorem in_J8 : ∀ w ∈ wsJ80, w ∈ lw_all := lw_in wsJ80 [644, 645, 646, 647, 648] (by decide +kernel) (by decide +kernel)
/-! java/lang/Exception -/
set_option maxRecDepth 100000
def RJ9 : String := "java/lang/Exception"
abbrev cJ9_init : ByteArray := prog_16_method_2_code
def yJ9_init : MethodName := ⟨RJ9, "<init>", "(Ljava/lang/String;)V"⟩
def dkwJ9_init_0 : List UInt8 := [42, 43, 183, 0, 7, 177]
abbrev dktJ9_init_0 : List UInt8 := dkwJ9_init_0 ++ []
theorem dksJ9_init_0 : cJ9_init.data.toList.drop 0 = dktJ9_init_0 := by decide +kernel
theorem dJ9_init_0 : decode cJ9_init 0 = .ok (.aload_n 0, 1) := dk_42 (dk_at dksJ9_init_0 0 rfl rfl)
theorem dJ9_init_1 : decode cJ9_init 1 = .ok (.aload_n 1, 1) := dk_43 (dk_at dksJ9_init_0 1 rfl rfl)
theorem dJ9_init_2 : decode cJ9_init 2 = .ok (.invokespecial 7, 3) := dk_183 0 7 (dk_at dksJ9_init_0 2 rfl rfl)
theorem dJ9_init_5 : decode cJ9_init 5 = .ok (.return_, 1) := dk_177 (dk_at dksJ9_init_0 5 rfl rfl)
abbrev cJ9_init_2 : ByteArray := prog_16_method_1_code
def yJ9_init_2 : MethodName := ⟨RJ9, "<init>", "()V"⟩
theorem dJ9_init_2_0 : decode cJ9_init_2 0 = .ok (.aload_n 0, 1) := by decide +kernel
theorem dJ9_init_2_1 : decode cJ9_init_2 1 = .ok (.invokespecial 1, 3) := by decide +kernel
theorem dJ9_init_2_4 : decode cJ9_init_2 4 = .ok (.return_, 1) := by decide +kernel
theorem q59 : (Jvm.Cond.initialized "java/lang/Exception") ∈ lw_all := lw_g (lw_at lw_m1 21 rfl) rfl
theorem q580 : (Jvm.Cond.instanceMethod ({ cls := "java/lang/Exception", name := "<init>", desc := "(Ljava/lang/String;)V" } : Jvm.MethodName)) ∈ lw_all := lw_g (lw_at lw_m3 62 rfl) rfl
theorem q581 : (Jvm.Cond.code ({ cls := "java/lang/Exception", name := "<init>", desc := "(Ljava/lang/String;)V" } : Jvm.MethodName) prog_16_method_2_code (2 : Nat) (Option.none : Option Jvm.ClassFile.FieldType)) ∈ lw_all := lw_g (lw_at lw_m3 63 rfl) rfl
theorem q582 : (Jvm.Cond.methodLink "java/lang/Exception" (7 : Nat) ({ cls := "java/lang/Throwable", name := "<init>", desc := "(Ljava/lang/String;)V" } : Jvm.MethodName)) ∈ lw_all := lw_g (lw_at lw_m3 64 rfl) rfl
theorem q609 : (Jvm.Cond.superclass "java/lang/Exception" "java/lang/Throwable") ∈ lw_all := lw_g (lw_at lw_m3 91 rfl) rfl
theorem q639 : (Jvm.Cond.declares ({ cls := "java/lang/Exception", name := "<init>", desc := "()V" } : Jvm.MethodName)) ∈ lw_tbl := lw_at lw_m3 121 rfl
theorem q640 : (Jvm.Cond.declares ({ cls := "java/lang/Exception", name := "<init>", desc := "(Ljava/lang/String;)V" } : Jvm.MethodName)) ∈ lw_tbl := lw_at lw_m3 122 rfl
theorem q796 : (Jvm.Cond.instanceMethod ({ cls := "java/lang/Exception", name := "<init>", desc := "()V" } : Jvm.MethodName)) ∈ lw_all := lw_g (lw_at lw_m4 38 rfl) rfl
theorem q797 : (Jvm.Cond.code ({ cls := "java/lang/Exception", name := "<init>", desc := "()V" } : Jvm.MethodName) prog_16_method_1_code (1 : Nat) (Option.none : Option Jvm.ClassFile.FieldType)) ∈ lw_all := lw_g (lw_at lw_m4 39 rfl) rfl
theorem q798 : (Jvm.Cond.methodLink "java/lang/Exception" (1 : Nat) ({ cls := "java/lang/Throwable", name := "<init>", desc := "()V" } : Jvm.MethodName)) ∈ lw_all := lw_g (lw_at lw_m4 40 rfl) rfl
theorem q38 : (Jvm.Cond.initialized "BilletBarsLaw") ∈ lw_all := lw_g (lw_at lw_m1 0 rfl) rfl
set_option maxRecDepth 100000
theorem q67 : (Jvm.Cond.classLink "BilletBarsLaw" (7 : Nat) "BilletBars") ∈ lw_all := lw_g (lw_at lw_m1 29 rfl) rfl
theorem q69 : (Jvm.Cond.methodLink "BilletBarsLaw" (9 : Nat) ({ cls := "BilletBars", name := "<init>", desc := "()V" } : Jvm.MethodName)) ∈ lw_all := lw_g (lw_at lw_m1 31 rfl) rfl
theorem q230 : (Jvm.Cond.methodLink "BilletBarsLaw" (13 : Nat) ({ cls := "BilletBars", name := "profile", desc := "(IIII)I" } : Jvm.MethodName)) ∈ lw_all := lw_g (lw_at lw_m1 192 rfl) rfl
theorem q289 : (Jvm.Cond.methodLink "BilletBarsLaw" (18 : Nat) ({ cls := "BilletBars", name := "die", desc := "(II)I" } : Jvm.MethodName)) ∈ lw_all := lw_g (lw_at lw_m2 11 rfl) rfl
theorem q330 : (Jvm.Cond.methodLink "BilletBarsLaw" (23 : Nat) ({ cls := "BilletBars", name := "warm", desc := "(I)I" } : Jvm.MethodName)) ∈ lw_all := lw_g (lw_at lw_m2 52 rfl) rfl
theorem q338 : (Jvm.Cond.methodLink "BilletBarsLaw" (28 : Nat) ({ cls := "BilletBars", name := "cool", desc := "(I)I" } : Jvm.MethodName)) ∈ lw_all := lw_g (lw_at lw_m2 60 rfl) rfl
theorem q342 : (Jvm.Cond.methodLink "BilletBarsLaw" (32 : Nat) ({ cls := "BilletBars", name := "nitride", desc := "(I)I" } : Jvm.MethodName)) ∈ lw_all := lw_g (lw_at lw_m2 64 rfl) rfl
theorem q346 : (Jvm.Cond.methodLink "BilletBarsLaw" (36 : Nat) ({ cls := "BilletBars", name := "about", desc := "(II)I" } : Jvm.MethodName)) ∈ lw_all := lw_g (lw_at lw_m2 68 rfl) rfl
theorem q359 : (Jvm.Cond.methodLink "BilletBarsLaw" (40 : Nat) ({ cls := "BilletBars", name := "ready", desc := "(I)I" } : Jvm.MethodName)) ∈ lw_all := lw_g (lw_at lw_m2 81 rfl) rfl
theorem q363 : (Jvm.Cond.methodLink "BilletBarsLaw" (44 : Nat) ({ cls := "BilletBars", name := "pass", desc := "(I)I" } : Jvm.MethodName)) ∈ lw_all := lw_g (lw_at lw_m2 85 rfl) rfl
theorem q367 : (Jvm.Cond.methodLink "BilletBarsLaw" (48 : Nat) ({ cls := "BilletBars", name := "law", desc := "(II)I" } : Jvm.MethodName)) ∈ lw_all := lw_g (lw_at lw_m2 89 rfl) rfl
theorem q373 : (Jvm.Cond.methodLink "BilletBarsLaw" (52 : Nat) ({ cls := "BilletBars", name := "press", desc := "(II)I" } : Jvm.MethodName)) ∈ lw_all := lw_g (lw_at lw_m2 95 rfl) rfl
theorem q473 : (Jvm.Cond.methodLink "BilletBarsLaw" (56 : Nat) ({ cls := "BilletBars", name := "bar", desc := "(II)I" } : Jvm.MethodName)) ∈ lw_all := lw_g (lw_at lw_m2 195 rfl) rfl
theorem q481 : (Jvm.Cond.methodLink "BilletBarsLaw" (60 : Nat) ({ cls := "BilletBars", name := "order", desc := "(III)I" } : Jvm.MethodName)) ∈ lw_all := lw_g (lw_at lw_m2 203 rfl) rfl
theorem q556 : (Jvm.Cond.methodLink "BilletBarsLaw" (65 : Nat) ({ cls := "BilletBars", name := "wanted", desc := "(II)I" } : Jvm.MethodName)) ∈ lw_all := lw_g (lw_at lw_m3 38 rfl) rfl
theorem q560 : (Jvm.Cond.methodLink "BilletBarsLaw" (69 : Nat) ({ cls := "BilletBars", name := "pattern", desc := "(III)I" } : Jvm.MethodName)) ∈ lw_all := lw_g (lw_at lw_m3 42 rfl) rfl
theorem q565 : (Jvm.Cond.methodLink "BilletBarsLaw" (73 : Nat) ({ cls := "BilletBars", name := "account", desc := "(I)I" } : Jvm.MethodName)) ∈ lw_all := lw_g (lw_at lw_m3 47 rfl) rfl
theorem q659 : (Jvm.Cond.methodLink "BilletBarsLaw" (77 : Nat) ({ cls := "BilletBars", name := "stock", desc := "(I)I" } : Jvm.MethodName)) ∈ lw_all := lw_g (lw_at lw_m3 141 rfl) rfl
theorem q663 : (Jvm.Cond.methodLink "BilletBarsLaw" (81 : Nat) ({ cls := "BilletBars", name := "best", desc := "(IZ)I" } : Jvm.MethodName)) ∈ lw_all := lw_g (lw_at lw_m3 145 rfl) rfl
theorem q667 : (Jvm.Cond.methodLink "BilletBarsLaw" (86 : Nat) ({ cls := "BilletBars", name := "job", desc := "(III)I" } : Jvm.MethodName)) ∈ lw_all := lw_g (lw_at lw_m3 149 rfl) rfl
theorem q671 : (Jvm.Cond.methodLink "BilletBarsLaw" (90 : Nat) ({ cls := "BilletBars", name := "change", desc := "(I)I" } : Jvm.MethodName)) ∈ lw_all := lw_g (lw_at lw_m3 153 rfl) rfl
theorem q675 : (Jvm.Cond.methodLink "BilletBarsLaw" (94 : Nat) ({ cls := "BilletBars", name := "late", desc := "()I" } : Jvm.MethodName)) ∈ lw_all := lw_g (lw_at lw_m3 157 rfl) rfl
theorem q692 : (Jvm.Cond.methodLink "BilletBarsLaw" (99 : Nat) ({ cls := "BilletBars", name := "planned", desc := "(I)I" } : Jvm.MethodName)) ∈ lw_all := lw_g (lw_at lw_m3 174 rfl) rfl
theorem q696 : (Jvm.Cond.methodLink "BilletBarsLaw" (103 : Nat) ({ cls := "BilletBars", name := "room", desc := "(I)I" } : Jvm.MethodName)) ∈ lw_all := lw_g (lw_at lw_m3 178 rfl) rfl
theorem q701 : (Jvm.Cond.methodLink "BilletBarsLaw" (107 : Nat) ({ cls := "BilletBars", name := "age", desc := "()I" } : Jvm.MethodName)) ∈ lw_all := lw_g (lw_at lw_m3 183 rfl) rfl
theorem q709 : (Jvm.Cond.methodLink "BilletBarsLaw" (111 : Nat) ({ cls := "BilletBars", name := "batches", desc := "()I" } : Jvm.MethodName)) ∈ lw_all := lw_g (lw_at lw_m3 191 rfl) rfl
theorem q713 : (Jvm.Cond.methodLink "BilletBarsLaw" (115 : Nat) ({ cls := "BilletBars", name := "sample", desc := "(IZ)I" } : Jvm.MethodName)) ∈ lw_all := lw_g (lw_at lw_m3 195 rfl) rfl
theorem q717 : (Jvm.Cond.methodLink "BilletBarsLaw" (119 : Nat) ({ cls := "BilletBars", name := "suspect", desc := "(I)I" } : Jvm.MethodName)) ∈ lw_all := lw_g (lw_at lw_m3 199 rfl) rfl
theorem q729 : (Jvm.Cond.methodLink "BilletBarsLaw" (123 : Nat) ({ cls := "BilletBars", name := "held", desc := "()I" } : Jvm.MethodName)) ∈ lw_all := lw_g (lw_at lw_m3 211 rfl) rfl
theorem q733 : (Jvm.Cond.methodLink "BilletBarsLaw" (127 : Nat) ({ cls := "BilletBars", name := "drift", desc := "(II)I" } : Jvm.MethodName)) ∈ lw_all := lw_g (lw_at lw_m3 215 rfl) rfl
theorem q752 : (Jvm.Cond.methodLink "BilletBarsLaw" (131 : Nat) ({ cls := "BilletBars", name := "sheet", desc := "(III)I" } : Jvm.MethodName)) ∈ lw_all := lw_g (lw_at lw_m3 234 rfl) rfl
theorem q781 : (Jvm.Cond.methodLink "BilletBarsLaw" (135 : Nat) ({ cls := "BilletBars", name := "lose", desc := "(I)I" } : Jvm.MethodName)) ∈ lw_all := lw_g (lw_at lw_m4 23 rfl) rfl
theorem q785 : (Jvm.Cond.methodLink "BilletBarsLaw" (139 : Nat) ({ cls := "BilletBars", name := "put", desc := "(IIII)I" } : Jvm.MethodName)) ∈ lw_all := lw_g (lw_at lw_m4 27 rfl) rfl
theorem q831 : (Jvm.Cond.methodLink "BilletBarsLaw" (143 : Nat) ({ cls := "BilletBars", name := "get", desc := "(III)I" } : Jvm.MethodName)) ∈ lw_all := lw_g (lw_at lw_m4 73 rfl) rfl
theorem q836 : (Jvm.Cond.methodLink "BilletBarsLaw" (147 : Nat) ({ cls := "BilletBars", name := "copy", desc := "(IIIII)I" } : Jvm.MethodName)) ∈ lw_all := lw_g (lw_at lw_m4 78 rfl) rfl
theorem q842 : (Jvm.Cond.methodLink "BilletBarsLaw" (152 : Nat) ({ cls := "BilletBars", name := "count", desc := "(I)I" } : Jvm.MethodName)) ∈ lw_all := lw_g (lw_at lw_m4 84 rfl) rfl
theorem q850 : (Jvm.Cond.methodLink "BilletBarsLaw" (156 : Nat) ({ cls := "BilletBars", name := "digest", desc := "()J" } : Jvm.MethodName)) ∈ lw_all := lw_g (lw_at lw_m4 92 rfl) rfl
theorem q860 : (Jvm.Cond.classLink "BilletBarsLaw" (10 : Nat) "BilletBarsModel") ∈ lw_all := lw_g (lw_at lw_m4 102 rfl) rfl
theorem q862 : (Jvm.Cond.methodLink "BilletBarsLaw" (12 : Nat) ({ cls := "BilletBarsModel", name := "<init>", desc := "()V" } : Jvm.MethodName)) ∈ lw_all := lw_g (lw_at lw_m4 104 rfl) rfl
theorem q1026 : (Jvm.Cond.methodLink "BilletBarsLaw" (17 : Nat) ({ cls := "BilletBarsModel", name := "profile", desc := "(IIII)I" } : Jvm.MethodName)) ∈ lw_all := lw_g (lw_at lw_m5 28 rfl) rfl
theorem q1039 : (Jvm.Cond.methodLink "BilletBarsLaw" (22 : Nat) ({ cls := "BilletBarsModel", name := "die", desc := "(II)I" } : Jvm.MethodName)) ∈ lw_all := lw_g (lw_at lw_m5 41 rfl) rfl
theorem q1048 : (Jvm.Cond.methodLink "BilletBarsLaw" (27 : Nat) ({ cls := "BilletBarsModel", name := "warm", desc := "(I)I" } : Jvm.MethodName)) ∈ lw_all := lw_g (lw_at lw_m5 50 rfl) rfl
theorem q1056 : (Jvm.Cond.methodLink "BilletBarsLaw" (31 : Nat) ({ cls := "BilletBarsModel", name := "cool", desc := "(I)I" } : Jvm.MethodName)) ∈ lw_all := lw_g (lw_at lw_m5 58 rfl) rfl
theorem q1060 : (Jvm.Cond.methodLink "BilletBarsLaw" (35 : Nat) ({ cls := "BilletBarsModel", name := "nitride", desc := "(I)I" } : Jvm.MethodName)) ∈ lw_all := lw_g (lw_at lw_m5 62 rfl) rfl
theorem q1064 : (Jvm.Cond.methodLink "BilletBarsLaw" (39 : Nat) ({ cls := "BilletBarsModel", name := "about", desc := "(II)I" } : Jvm.MethodName)) ∈ lw_all := lw_g (lw_at lw_m5 66 rfl) rfl
theorem q1073 : (Jvm.Cond.methodLink "BilletBarsLaw" (43 : Nat) ({ cls := "BilletBarsModel", name := "ready", desc := "(I)I" } : Jvm.MethodName)) ∈ lw_all := lw_g (lw_at lw_m5 75 rfl) rfl
theorem q1077 : (Jvm.Cond.methodLink "BilletBarsLaw" (47 : Nat) ({ cls := "BilletBarsModel", name := "pass", desc := "(I)I" } : Jvm.MethodName)) ∈ lw_all := lw_g (lw_at lw_m5 79 rfl) rfl
theorem q1081 : (Jvm.Cond.methodLink "BilletBarsLaw" (51 : Nat) ({ cls := "BilletBarsModel", name := "law", desc := "(II)I" } : Jvm.MethodName)) ∈ lw_all := lw_g (lw_at lw_m5 83 rfl) rfl
theorem q1087 : (Jvm.Cond.methodLink "BilletBarsLaw" (55 : Nat) ({ cls := "BilletBarsModel", name := "press", desc := "(II)I" } : Jvm.MethodName)) ∈ lw_all := lw_g (lw_at lw_m5 89 rfl) rfl
theorem q1110 : (Jvm.Cond.methodLink "BilletBarsLaw" (59 : Nat) ({ cls := "BilletBarsModel", name := "bar", desc := "(II)I" } : Jvm.MethodName)) ∈ lw_all := lw_g (lw_at lw_m5 112 rfl) rfl
theorem q1118 : (Jvm.Cond.methodLink "BilletBarsLaw" (64 : Nat) ({ cls := "BilletBarsModel", name := "order", desc := "(III)I" } : Jvm.MethodName)) ∈ lw_all := lw_g (lw_at lw_m5 120 rfl) rfl
theorem q1124 : (Jvm.Cond.methodLink "BilletBarsLaw" (68 : Nat) ({ cls := "BilletBarsModel", name := "wanted", desc := "(II)I" } : Jvm.MethodName)) ∈ lw_all := lw_g (lw_at lw_m5 126 rfl) rfl
theorem q1128 : (Jvm.Cond.methodLink "BilletBarsLaw" (72 : Nat) ({ cls := "BilletBarsModel", name := "pattern", desc := "(III)I" } : Jvm.MethodName)) ∈ lw_all := lw_g (lw_at lw_m5 130 rfl) rfl
theorem q1133 : (Jvm.Cond.methodLink "BilletBarsLaw" (76 : Nat) ({ cls := "BilletBarsModel", name := "account", desc := "(I)I" } : Jvm.MethodName)) ∈ lw_all := lw_g (lw_at lw_m5 135 rfl) rfl
theorem q1138 : (Jvm.Cond.methodLink "BilletBarsLaw" (80 : Nat) ({ cls := "BilletBarsModel", name := "stock", desc := "(I)I" } : Jvm.MethodName)) ∈ lw_all := lw_g (lw_at lw_m5 140 rfl) rfl
theorem q1142 : (Jvm.Cond.methodLink "BilletBarsLaw" (85 : Nat) ({ cls := "BilletBarsModel", name := "best", desc := "(IZ)I" } : Jvm.MethodName)) ∈ lw_all := lw_g (lw_at lw_m5 144 rfl) rfl
theorem q1146 : (Jvm.Cond.methodLink "BilletBarsLaw" (89 : Nat) ({ cls := "BilletBarsModel", name := "job", desc := "(III)I" } : Jvm.MethodName)) ∈ lw_all := lw_g (lw_at lw_m5 148 rfl) rfl
theorem q1150 : (Jvm.Cond.methodLink "BilletBarsLaw" (93 : Nat) ({ cls := "BilletBarsModel", name := "change", desc := "(I)I" } : Jvm.MethodName)) ∈ lw_all := lw_g (lw_at lw_m5 152 rfl) rfl
theorem q1154 : (Jvm.Cond.methodLink "BilletBarsLaw" (98 : Nat) ({ cls := "BilletBarsModel", name := "late", desc := "()I" } : Jvm.MethodName)) ∈ lw_all := lw_g (lw_at lw_m5 156 rfl) rfl
theorem q1166 : (Jvm.Cond.methodLink "BilletBarsLaw" (102 : Nat) ({ cls := "BilletBarsModel", name := "planned", desc := "(I)I" } : Jvm.MethodName)) ∈ lw_all := lw_g (lw_at lw_m5 168 rfl) rfl
theorem q1170 : (Jvm.Cond.methodLink "BilletBarsLaw" (106 : Nat) ({ cls := "BilletBarsModel", name := "room", desc := "(I)I" } : Jvm.MethodName)) ∈ lw_all := lw_g (lw_at lw_m5 172 rfl) rfl
theorem q1175 : (Jvm.Cond.methodLink "BilletBarsLaw" (110 : Nat) ({ cls := "BilletBarsModel", name := "age", desc := "()I" } : Jvm.MethodName)) ∈ lw_all := lw_g (lw_at lw_m5 177 rfl) rfl
theorem q1191 : (Jvm.Cond.methodLink "BilletBarsLaw" (114 : Nat) ({ cls := "BilletBarsModel", name := "batches", desc := "()I" } : Jvm.MethodName)) ∈ lw_all := lw_g (lw_at lw_m5 193 rfl) rfl
theorem q1195 : (Jvm.Cond.methodLink "BilletBarsLaw" (118 : Nat) ({ cls := "BilletBarsModel", name := "sample", desc := "(IZ)I" } : Jvm.MethodName)) ∈ lw_all := lw_g (lw_at lw_m5 197 rfl) rfl
theorem q1199 : (Jvm.Cond.methodLink "BilletBarsLaw" (122 : Nat) ({ cls := "BilletBarsModel", name := "suspect", desc := "(I)I" } : Jvm.MethodName)) ∈ lw_all := lw_g (lw_at lw_m5 201 rfl) rfl
theorem q1207 : (Jvm.Cond.methodLink "BilletBarsLaw" (126 : Nat) ({ cls := "BilletBarsModel", name := "held", desc := "()I" } : Jvm.MethodName)) ∈ lw_all := lw_g (lw_at lw_m5 209 rfl) rfl
theorem q1211 : (Jvm.Cond.methodLink "BilletBarsLaw" (130 : Nat) ({ cls := "BilletBarsModel", name := "drift", desc := "(II)I" } : Jvm.MethodName)) ∈ lw_all := lw_g (lw_at lw_m5 213 rfl) rfl
theorem q1218 : (Jvm.Cond.methodLink "BilletBarsLaw" (134 : Nat) ({ cls := "BilletBarsModel", name := "sheet", desc := "(III)I" } : Jvm.MethodName)) ∈ lw_all := lw_g (lw_at lw_m5 220 rfl) rfl
theorem q1229 : (Jvm.Cond.methodLink "BilletBarsLaw" (138 : Nat) ({ cls := "BilletBarsModel", name := "lose", desc := "(I)I" } : Jvm.MethodName)) ∈ lw_all := lw_g (lw_at lw_m5 231 rfl) rfl
theorem q1233 : (Jvm.Cond.methodLink "BilletBarsLaw" (142 : Nat) ({ cls := "BilletBarsModel", name := "put", desc := "(IIII)I" } : Jvm.MethodName)) ∈ lw_all := lw_g (lw_at lw_m5 235 rfl) rfl
theorem q1241 : (Jvm.Cond.methodLink "BilletBarsLaw" (146 : Nat) ({ cls := "BilletBarsModel", name := "get", desc := "(III)I" } : Jvm.MethodName)) ∈ lw_all := lw_g (lw_at lw_m6 3 rfl) rfl
theorem q1246 : (Jvm.Cond.methodLink "BilletBarsLaw" (151 : Nat) ({ cls := "BilletBarsModel", name := "copy", desc := "(IIIII)I" } : Jvm.MethodName)) ∈ lw_all := lw_g (lw_at lw_m6 8 rfl) rfl
theorem q1250 : (Jvm.Cond.methodLink "BilletBarsLaw" (155 : Nat) ({ cls := "BilletBarsModel", name := "count", desc := "(I)I" } : Jvm.MethodName)) ∈ lw_all := lw_g (lw_at lw_m6 12 rfl) rfl
theorem q1258 : (Jvm.Cond.methodLink "BilletBarsLaw" (160 : Nat) ({ cls := "BilletBarsModel", name := "digest", desc := "()J" } : Jvm.MethodName)) ∈ lw_all := lw_g (lw_at lw_m6 20 rfl) rfl
theorem q1296 : (Jvm.Cond.castable "[B" "java/lang/Object") ∈ lw_tbl := lw_at lw_m6 58 rfl
set_option maxRecDepth 100000
theorem q1291 : (Jvm.Cond.castable "[I" "java/lang/Object") ∈ lw_tbl := lw_at lw_m6 53 rfl
set_option maxRecDepth 100000
theorem q1298 : (Jvm.Cond.castable "[J" "java/lang/Object") ∈ lw_tbl := lw_at lw_m6 60 rfl
set_option maxRecDepth 100000
theorem q1292 : (Jvm.Cond.castable "[LBilletBars$Bar;" "java/lang/Object") ∈ lw_tbl := lw_at lw_m6 54 rfl
set_option maxRecDepth 100000
theorem q1290 : (Jvm.Cond.castable "[LBilletBars$Die;" "java/lang/Object") ∈ lw_tbl := lw_at lw_m6 52 rfl
set_option maxRecDepth 100000
theorem q1289 : (Jvm.Cond.castable "[LBilletBars$Profile;" "java/lang/Object") ∈ lw_tbl := lw_at lw_m6 51 rfl
set_option maxRecDepth 100000
theorem q1294 : (Jvm.Cond.castable "[LBilletBars$Sheet;" "java/lang/Object") ∈ lw_tbl := lw_at lw_m6 56 rfl
set_option maxRecDepth 100000
theorem q1286 : (Jvm.Cond.sameMethod "[Ljava/lang/Object;" "java/lang/Object" "getClass" "()Ljava/lang/Class;") ∈ lw_all := lw_g (lw_at lw_m6 48 rfl) rfl
set_option maxRecDepth 100000
theorem q1287 : (Jvm.Cond.selects "[Ljava/lang/Object;" ({ cls := "java/lang/Object", name := "getClass", desc := "()Ljava/lang/Class;" } : Jvm.MethodName) ({ cls := "java/lang/Object", name := "getClass", desc := "()Ljava/lang/Class;" } : Jvm.MethodName)) ∈ lw_all := lw_g (lw_at lw_m6 49 rfl) rfl
theorem q1295 : (Jvm.Cond.castable "[Ljava/lang/Object;" "java/lang/Object") ∈ lw_tbl := lw_at lw_m6 57 rfl
theorem q1297 : (Jvm.Cond.castable "[S" "java/lang/Object") ∈ lw_tbl := lw_at lw_m6 59 rfl
set_option maxRecDepth 100000
theorem q1299 : (Jvm.Cond.castable "[Z" "java/lang/Object") ∈ lw_tbl := lw_at lw_m6 61 rfl
set_option maxRecDepth 100000
theorem q1293 : (Jvm.Cond.castable "[[I" "java/lang/Object") ∈ lw_tbl := lw_at lw_m6 55 rfl
set_option maxRecDepth 100000
theorem q57 : (Jvm.Cond.initialized "java/lang/System") ∈ lw_all := lw_g (lw_at lw_m1 19 rfl) rfl
set_option maxRecDepth 100000
theorem q552 : (Jvm.Cond.static ({ cls := "java/lang/System", name := "arraycopy", desc := "(Ljava/lang/Object;ILjava/lang/Object;II)V" } : Jvm.MethodName)) ∈ lw_all := lw_g (lw_at lw_m3 34 rfl) rfl
theorem q553 : (Jvm.Cond.native ({ cls := "java/lang/System", name := "arraycopy", desc := "(Ljava/lang/Object;ILjava/lang/Object;II)V" } : Jvm.MethodName)) ∈ lw_all := lw_g (lw_at lw_m3 35 rfl) rfl
theorem q76 : (Jvm.Cond.arrayOver (Jvm.ClassFile.FieldType.object "BilletBars$Profile")) ∈ lw_tbl := lw_at lw_m1 38 rfl
set_option maxRecDepth 100000
theorem q78 : (Jvm.Cond.arrayOver (Jvm.ClassFile.FieldType.object "BilletBars$Die")) ∈ lw_tbl := lw_at lw_m1 40 rfl
theorem q105 : (Jvm.Cond.arrayClass Jvm.ClassFile.FieldType.int) ∈ lw_all := lw_g (lw_at lw_m1 67 rfl) rfl
theorem q123 : (Jvm.Cond.arrayOver (Jvm.ClassFile.FieldType.object "BilletBars$Bar")) ∈ lw_tbl := lw_at lw_m1 85 rfl
theorem q125 : (Jvm.Cond.arrayOver (Jvm.ClassFile.FieldType.array Jvm.ClassFile.FieldType.int)) ∈ lw_tbl := lw_at lw_m1 87 rfl
theorem q128 : (Jvm.Cond.arrayOver (Jvm.ClassFile.FieldType.object "BilletBars$Sheet")) ∈ lw_tbl := lw_at lw_m1 90 rfl
theorem q548 : (Jvm.Cond.arrayOver (Jvm.ClassFile.FieldType.object "java/lang/Object")) ∈ lw_tbl := lw_at lw_m3 30 rfl
theorem q654 : (Jvm.Cond.arrayClass Jvm.ClassFile.FieldType.byte) ∈ lw_all := lw_g (lw_at lw_m3 136 rfl) rfl
theorem q780 : (Jvm.Cond.arrayClass Jvm.ClassFile.FieldType.short) ∈ lw_all := lw_g (lw_at lw_m4 22 rfl) rfl
theorem q1024 : (Jvm.Cond.arrayClass Jvm.ClassFile.FieldType.long) ∈ lw_all := lw_g (lw_at lw_m5 26 rfl) rfl
theorem q1025 : (Jvm.Cond.arrayClass Jvm.ClassFile.FieldType.boolean) ∈ lw_all := lw_g (lw_at lw_m5 27 rfl) rfl
/-! BilletBars$Scrap -/
set_option maxRecDepth 100000
def RX1 : String := "BilletBars$Scrap"
abbrev cX1_init : ByteArray := prog_7_method_1_code
def yX1_init : MethodName := ⟨RX1, "<init>", "(LBilletBars;)V"⟩
def dkwX1_init_0 : List UInt8 := [42, 43, 181, 0, 1, 42, 183, 0, 7, 177]
abbrev dktX1_init_0 : List UInt8 := dkwX1_init_0 ++ []
theorem dksX1_init_0 : cX1_init.data.toList.drop 0 = dktX1_init_0 := by decide +kernel
theorem dX1_init_0 : decode cX1_init 0 = .ok (.aload_n 0, 1) := dk_42 (dk_at dksX1_init_0 0 rfl rfl)
theorem dX1_init_1 : decode cX1_init 1 = .ok (.aload_n 1, 1) := dk_43 (dk_at dksX1_init_0 1 rfl rfl)
theorem dX1_init_2 : decode cX1_init 2 = .ok (.putfield 1, 3) := dk_181 0 1 (dk_at dksX1_init_0 2 rfl rfl)
theorem dX1_init_5 : decode cX1_init 5 = .ok (.aload_n 0, 1) := dk_42 (dk_at dksX1_init_0 5 rfl rfl)
theorem dX1_init_6 : decode cX1_init 6 = .ok (.invokespecial 7, 3) := dk_183 0 7 (dk_at dksX1_init_0 6 rfl rfl)
theorem dX1_init_9 : decode cX1_init 9 = .ok (.return_, 1) := dk_177 (dk_at dksX1_init_0 9 rfl rfl)
abbrev cX1_cut : ByteArray := prog_7_method_3_code
def yX1_cut : MethodName := ⟨RX1, "cut", "(IZ)I"⟩
def dkwX1_cut_1 : List UInt8 := [181, 0, 23, 27, 29, 100, 172]
abbrev dktX1_cut_1 : List UInt8 := dkwX1_cut_1 ++ []
def dkwX1_cut_0 : List UInt8 := [27, 42, 182, 0, 13, 184, 0, 17, 62, 42, 89, 180, 0, 23, 28, 153, 0, 7, 29, 167, 0, 4, 3, 96]
abbrev dktX1_cut_0 : List UInt8 := dkwX1_cut_0 ++ dktX1_cut_1
theorem dksX1_cut_0 : cX1_cut.data.toList.drop 0 = dktX1_cut_0 := by decide +kernel
theorem dksX1_cut_1 : cX1_cut.data.toList.drop 24 = dktX1_cut_1 := dk_seg dksX1_cut_0 24 rfl rfl
theorem dX1_cut_0 : decode cX1_cut 0 = .ok (.iload_n 1, 1) := dk_27 (dk_at dksX1_cut_0 0 rfl rfl)
theorem dX1_cut_1 : decode cX1_cut 1 = .ok (.aload_n 0, 1) := dk_42 (dk_at dksX1_cut_0 1 rfl rfl)
theorem dX1_cut_2 : decode cX1_cut 2 = .ok (.invokevirtual 13, 3) := dk_182 0 13 (dk_at dksX1_cut_0 2 rfl rfl)
theorem dX1_cut_5 : decode cX1_cut 5 = .ok (.invokestatic 17, 3) := dk_184 0 17 (dk_at dksX1_cut_0 5 rfl rfl)
theorem dX1_cut_8 : decode cX1_cut 8 = .ok (.istore_n 3, 1) := dk_62 (dk_at dksX1_cut_0 8 rfl rfl)
theorem dX1_cut_9 : decode cX1_cut 9 = .ok (.aload_n 0, 1) := dk_42 (dk_at dksX1_cut_0 9 rfl rfl)
theorem dX1_cut_10 : decode cX1_cut 10 = .ok (.dup, 1) := dk_89 (dk_at dksX1_cut_0 10 rfl rfl)
theorem dX1_cut_11 : decode cX1_cut 11 = .ok (.getfield 23, 3) := dk_180 0 23 (dk_at dksX1_cut_0 11 rfl rfl)
theorem dX1_cut_14 : decode cX1_cut 14 = .ok (.iload_n 2, 1) := dk_28 (dk_at dksX1_cut_0 14 rfl rfl)
theorem dX1_cut_15 : decode cX1_cut 15 = .ok (.ifCond .eq 7, 3) := dk_153 0 7 (dk_at dksX1_cut_0 15 rfl rfl)
theorem dX1_cut_18 : decode cX1_cut 18 = .ok (.iload_n 3, 1) := dk_29 (dk_at dksX1_cut_0 18 rfl rfl)
theorem dX1_cut_19 : decode cX1_cut 19 = .ok (.goto 4, 3) := dk_167 0 4 (dk_at dksX1_cut_0 19 rfl rfl)
theorem dX1_cut_22 : decode cX1_cut 22 = .ok (.iconst 0, 1) := dk_3 (dk_at dksX1_cut_0 22 rfl rfl)
theorem dX1_cut_23 : decode cX1_cut 23 = .ok (.iadd, 1) := dk_96 (dk_at dksX1_cut_0 23 rfl rfl)
theorem dX1_cut_24 : decode cX1_cut 24 = .ok (.putfield 23, 3) := dk_181 0 23 (dk_at dksX1_cut_1 0 rfl rfl)
theorem dX1_cut_27 : decode cX1_cut 27 = .ok (.iload_n 1, 1) := dk_27 (dk_at dksX1_cut_1 3 rfl rfl)
theorem dX1_cut_28 : decode cX1_cut 28 = .ok (.iload_n 3, 1) := dk_29 (dk_at dksX1_cut_1 4 rfl rfl)
theorem dX1_cut_29 : decode cX1_cut 29 = .ok (.isub, 1) := dk_100 (dk_at dksX1_cut_1 5 rfl rfl)
theorem dX1_cut_30 : decode cX1_cut 30 = .ok (.ireturn, 1) := dk_172 (dk_at dksX1_cut_1 6 rfl rfl)
theorem q40 : (Jvm.Cond.initialized "BilletBars$Scrap") ∈ lw_all := lw_g (lw_at lw_m1 2 rfl) rfl
theorem q85 : (Jvm.Cond.instanceMethod ({ cls := "BilletBars$Scrap", name := "<init>", desc := "(LBilletBars;)V" } : Jvm.MethodName)) ∈ lw_all := lw_g (lw_at lw_m1 47 rfl) rfl
theorem q86 : (Jvm.Cond.code ({ cls := "BilletBars$Scrap", name := "<init>", desc := "(LBilletBars;)V" } : Jvm.MethodName) prog_7_method_1_code (2 : Nat) (Option.none : Option Jvm.ClassFile.FieldType)) ∈ lw_all := lw_g (lw_at lw_m1 48 rfl) rfl
theorem q87 : (Jvm.Cond.methodLink "BilletBars$Scrap" (7 : Nat) ({ cls := "java/lang/Object", name := "<init>", desc := "()V" } : Jvm.MethodName)) ∈ lw_all := lw_g (lw_at lw_m1 49 rfl) rfl
theorem q90 : (Jvm.Cond.fieldLink "BilletBars$Scrap" (23 : Nat) "BilletBars$Scrap" "all" "I") ∈ lw_all := lw_g (lw_at lw_m1 52 rfl) rfl
theorem q95 : (Jvm.Cond.fieldLink "BilletBars$Scrap" (1 : Nat) "BilletBars$Scrap" "this$0" "LBilletBars;") ∈ lw_all := lw_g (lw_at lw_m1 57 rfl) rfl
theorem q101 : (Jvm.Cond.soleField "BilletBars$Scrap" "all") ∈ lw_all := lw_g (lw_at lw_m1 63 rfl) rfl
theorem q103 : (Jvm.Cond.soleField "BilletBars$Scrap" "this$0") ∈ lw_all := lw_g (lw_at lw_m1 65 rfl) rfl
theorem q423 : (Jvm.Cond.declares ({ cls := "BilletBars$Scrap", name := "cut", desc := "(IZ)I" } : Jvm.MethodName)) ∈ lw_tbl := lw_at lw_m2 145 rfl
theorem q425 : (Jvm.Cond.instanceMethod ({ cls := "BilletBars$Scrap", name := "cut", desc := "(IZ)I" } : Jvm.MethodName)) ∈ lw_all := lw_g (lw_at lw_m2 147 rfl) rfl
theorem q426 : (Jvm.Cond.code ({ cls := "BilletBars$Scrap", name := "cut", desc := "(IZ)I" } : Jvm.MethodName) prog_7_method_3_code (4 : Nat) (Option.some Jvm.ClassFile.FieldType.int)) ∈ lw_all := lw_g (lw_at lw_m2 148 rfl) rfl
theorem q427 : (Jvm.Cond.methodLink "BilletBars$Scrap" (13 : Nat) ({ cls := "BilletBars$Scrap", name := "wide", desc := "()I" } : Jvm.MethodName)) ∈ lw_all := lw_g (lw_at lw_m2 149 rfl) rfl
theorem q428 : (Jvm.Cond.declares ({ cls := "BilletBars$Scrap", name := "wide", desc := "()I" } : Jvm.MethodName)) ∈ lw_tbl := lw_at lw_m2 150 rfl
theorem q429 : (Jvm.Cond.sameMethod "BilletBars$Scrap" "BilletBars$Scrap" "wide" "()I") ∈ lw_all := lw_g (lw_at lw_m2 151 rfl) rfl
theorem q436 : (Jvm.Cond.methodLink "BilletBars$Scrap" (17 : Nat) ({ cls := "java/lang/Math", name := "min", desc := "(II)I" } : Jvm.MethodName)) ∈ lw_all := lw_g (lw_at lw_m2 158 rfl) rfl
/-! BilletBars$End -/
set_option maxRecDepth 100000
def RX2 : String := "BilletBars$End"
def TX2 : u_T := fun k => match k with
  | 0 => ("BilletBars$Scrap", "all", "I", false)
  | 1 => ("BilletBars$Scrap", "this$0", "LBilletBars;", true)
  | 2 => ("BilletBars$End", "law", "I", true)
  | _ => ("BilletBars$End", "this$0", "LBilletBars;", true)
def tyX2 : Nat → FieldType := fun k => match k with
  | 0 => .int
  | 1 => .object "BilletBars"
  | 2 => .int
  | _ => .object "BilletBars"
abbrev wsX20 : List Cond := u_ws RX2 TX2 4
-- two fields of one name: no nmX2
theorem tyX2_ok : ∀ k, k < 4 → parseFieldDescriptor (TX2 k).2.2.1 = some (tyX2 k) := by decide +kernel
abbrev cX2_init : ByteArray := prog_4_method_1_code
def yX2_init : MethodName := ⟨RX2, "<init>", "(LBilletBars;I)V"⟩
def dkwX2_init_0 : List UInt8 := [42, 43, 181, 0, 1, 42, 43, 183, 0, 7, 42, 28, 181, 0, 13, 177]
abbrev dktX2_init_0 : List UInt8 := dkwX2_init_0 ++ []
theorem dksX2_init_0 : cX2_init.data.toList.drop 0 = dktX2_init_0 := by decide +kernel
theorem dX2_init_0 : decode cX2_init 0 = .ok (.aload_n 0, 1) := dk_42 (dk_at dksX2_init_0 0 rfl rfl)
theorem dX2_init_1 : decode cX2_init 1 = .ok (.aload_n 1, 1) := dk_43 (dk_at dksX2_init_0 1 rfl rfl)
theorem dX2_init_2 : decode cX2_init 2 = .ok (.putfield 1, 3) := dk_181 0 1 (dk_at dksX2_init_0 2 rfl rfl)
theorem dX2_init_5 : decode cX2_init 5 = .ok (.aload_n 0, 1) := dk_42 (dk_at dksX2_init_0 5 rfl rfl)
theorem dX2_init_6 : decode cX2_init 6 = .ok (.aload_n 1, 1) := dk_43 (dk_at dksX2_init_0 6 rfl rfl)
theorem dX2_init_7 : decode cX2_init 7 = .ok (.invokespecial 7, 3) := dk_183 0 7 (dk_at dksX2_init_0 7 rfl rfl)
theorem dX2_init_10 : decode cX2_init 10 = .ok (.aload_n 0, 1) := dk_42 (dk_at dksX2_init_0 10 rfl rfl)
theorem dX2_init_11 : decode cX2_init 11 = .ok (.iload_n 2, 1) := dk_28 (dk_at dksX2_init_0 11 rfl rfl)
theorem dX2_init_12 : decode cX2_init 12 = .ok (.putfield 13, 3) := dk_181 0 13 (dk_at dksX2_init_0 12 rfl rfl)
theorem dX2_init_15 : decode cX2_init 15 = .ok (.return_, 1) := dk_177 (dk_at dksX2_init_0 15 rfl rfl)
abbrev cX2_wide : ByteArray := prog_4_method_2_code
def yX2_wide : MethodName := ⟨RX2, "wide", "()I"⟩
def dkwX2_wide_0 : List UInt8 := [42, 180, 0, 1, 180, 0, 17, 42, 180, 0, 13, 46, 172]
abbrev dktX2_wide_0 : List UInt8 := dkwX2_wide_0 ++ []
theorem dksX2_wide_0 : cX2_wide.data.toList.drop 0 = dktX2_wide_0 := by decide +kernel
theorem dX2_wide_0 : decode cX2_wide 0 = .ok (.aload_n 0, 1) := dk_42 (dk_at dksX2_wide_0 0 rfl rfl)
theorem dX2_wide_1 : decode cX2_wide 1 = .ok (.getfield 1, 3) := dk_180 0 1 (dk_at dksX2_wide_0 1 rfl rfl)
theorem dX2_wide_4 : decode cX2_wide 4 = .ok (.getfield 17, 3) := dk_180 0 17 (dk_at dksX2_wide_0 4 rfl rfl)
theorem dX2_wide_7 : decode cX2_wide 7 = .ok (.aload_n 0, 1) := dk_42 (dk_at dksX2_wide_0 7 rfl rfl)
theorem dX2_wide_8 : decode cX2_wide 8 = .ok (.getfield 13, 3) := dk_180 0 13 (dk_at dksX2_wide_0 8 rfl rfl)
theorem dX2_wide_11 : decode cX2_wide 11 = .ok (.iaload, 1) := dk_46 (dk_at dksX2_wide_0 11 rfl rfl)
theorem dX2_wide_12 : decode cX2_wide 12 = .ok (.ireturn, 1) := dk_172 (dk_at dksX2_wide_0 12 rfl rfl)
theorem q41 : (Jvm.Cond.initialized "BilletBars$End") ∈ lw_all := lw_g (lw_at lw_m1 3 rfl) rfl
theorem q80 : (Jvm.Cond.instantiable "BilletBars$End" (4 : Nat)) ∈ lw_all := lw_g (lw_at lw_m1 42 rfl) rfl
theorem q82 : (Jvm.Cond.instanceMethod ({ cls := "BilletBars$End", name := "<init>", desc := "(LBilletBars;I)V" } : Jvm.MethodName)) ∈ lw_all := lw_g (lw_at lw_m1 44 rfl) rfl
theorem q83 : (Jvm.Cond.code ({ cls := "BilletBars$End", name := "<init>", desc := "(LBilletBars;I)V" } : Jvm.MethodName) prog_4_method_1_code (3 : Nat) (Option.none : Option Jvm.ClassFile.FieldType)) ∈ lw_all := lw_g (lw_at lw_m1 45 rfl) rfl
theorem q84 : (Jvm.Cond.methodLinkNest "BilletBars$End" (7 : Nat) ({ cls := "BilletBars$Scrap", name := "<init>", desc := "(LBilletBars;)V" } : Jvm.MethodName) "BilletBars") ∈ lw_tbl := lw_at lw_m1 46 rfl
theorem q88 : (Jvm.Cond.fieldLink "BilletBars$End" (13 : Nat) "BilletBars$End" "law" "I") ∈ lw_all := lw_g (lw_at lw_m1 50 rfl) rfl
theorem q89 : (Jvm.Cond.fieldLink "BilletBars$End" (1 : Nat) "BilletBars$End" "this$0" "LBilletBars;") ∈ lw_all := lw_g (lw_at lw_m1 51 rfl) rfl
theorem q94 : (Jvm.Cond.sameField "BilletBars$End" "BilletBars$Scrap" "all" "I") ∈ lw_all := lw_g (lw_at lw_m1 56 rfl) rfl
theorem q96 : (Jvm.Cond.laysFinal "BilletBars$End" "BilletBars$End" "law" "I") ∈ lw_all := lw_g (lw_at lw_m1 58 rfl) rfl
theorem q97 : (Jvm.Cond.soleField "BilletBars$End" "law") ∈ lw_all := lw_g (lw_at lw_m1 59 rfl) rfl
theorem q98 : (Jvm.Cond.laysFinal "BilletBars$End" "BilletBars$End" "this$0" "LBilletBars;") ∈ lw_all := lw_g (lw_at lw_m1 60 rfl) rfl
theorem q99 : (Jvm.Cond.soleField "BilletBars$End" "this$0") ∈ lw_all := lw_g (lw_at lw_m1 61 rfl) rfl
theorem q100 : (Jvm.Cond.lays "BilletBars$End" "BilletBars$Scrap" "all" "I") ∈ lw_all := lw_g (lw_at lw_m1 62 rfl) rfl
theorem q102 : (Jvm.Cond.laysFinal "BilletBars$End" "BilletBars$Scrap" "this$0" "LBilletBars;") ∈ lw_all := lw_g (lw_at lw_m1 64 rfl) rfl
theorem q104 : (Jvm.Cond.superclass "BilletBars$End" "BilletBars$Scrap") ∈ lw_all := lw_g (lw_at lw_m1 66 rfl) rfl
theorem q148 : (Jvm.Cond.fieldLinkNest "BilletBars$End" (17 : Nat) "BilletBars" "laws" "[I" "BilletBars") ∈ lw_tbl := lw_at lw_m1 110 rfl
theorem q422 : (Jvm.Cond.sameMethod "BilletBars$End" "BilletBars$Scrap" "cut" "(IZ)I") ∈ lw_all := lw_g (lw_at lw_m2 144 rfl) rfl
theorem q424 : (Jvm.Cond.selects "BilletBars$End" ({ cls := "BilletBars$End", name := "cut", desc := "(IZ)I" } : Jvm.MethodName) ({ cls := "BilletBars$Scrap", name := "cut", desc := "(IZ)I" } : Jvm.MethodName)) ∈ lw_all := lw_g (lw_at lw_m2 146 rfl) rfl
theorem q430 : (Jvm.Cond.selects "BilletBars$End" ({ cls := "BilletBars$Scrap", name := "wide", desc := "()I" } : Jvm.MethodName) ({ cls := "BilletBars$End", name := "wide", desc := "()I" } : Jvm.MethodName)) ∈ lw_all := lw_g (lw_at lw_m2 152 rfl) rfl
theorem q431 : (Jvm.Cond.instanceMethod ({ cls := "BilletBars$End", name := "wide", desc := "()I" } : Jvm.MethodName)) ∈ lw_all := lw_g (lw_at lw_m2 153 rfl) rfl
theorem q432 : (Jvm.Cond.code ({ cls := "BilletBars$End", name := "wide", desc := "()I" } : Jvm.MethodName) prog_4_method_2_code (1 : Nat) (Option.some Jvm.ClassFile.FieldType.int)) ∈ lw_all := lw_g (lw_at lw_m2 154 rfl) rfl
theorem q532 : (Jvm.Cond.selects "BilletBars$End" ({ cls := "java/lang/Object", name := "getClass", desc := "()Ljava/lang/Class;" } : Jvm.MethodName) ({ cls := "java/lang/Object", name := "getClass", desc := "()Ljava/lang/Class;" } : Jvm.MethodName)) ∈ lw_all := lw_g (lw_at lw_m3 14 rfl) rfl
theorem q1275 : (Jvm.Cond.castable "BilletBars$End" "java/lang/Object") ∈ lw_tbl := lw_at lw_m6 37 rfl
theorem in_X2 : ∀ w ∈ wsX20, w ∈ lw_all := lw_in wsX20 [100, 102, 96, 98] (by decide +kernel) (by decide +kernel)
/-! BilletBars$Weld -/
set_option maxRecDepth 100000
def RX3 : String := "BilletBars$Weld"
def TX3 : u_T := fun k => match k with
  | 0 => ("BilletBars$Scrap", "all", "I", false)
  | 1 => ("BilletBars$Scrap", "this$0", "LBilletBars;", true)
  | 2 => ("BilletBars$Weld", "isThere", "Z", false)
  | _ => ("BilletBars$Weld", "this$0", "LBilletBars;", true)
def tyX3 : Nat → FieldType := fun k => match k with
  | 0 => .int
  | 1 => .object "BilletBars"
  | 2 => .boolean
  | _ => .object "BilletBars"
abbrev wsX30 : List Cond := u_ws RX3 TX3 4
-- two fields of one name: no nmX3
theorem tyX3_ok : ∀ k, k < 4 → parseFieldDescriptor (TX3 k).2.2.1 = some (tyX3 k) := by decide +kernel
abbrev cX3_init : ByteArray := prog_9_method_1_code
def yX3_init : MethodName := ⟨RX3, "<init>", "(LBilletBars;)V"⟩
def dkwX3_init_0 : List UInt8 := [42, 43, 181, 0, 3, 42, 43, 183, 0, 9, 177]
abbrev dktX3_init_0 : List UInt8 := dkwX3_init_0 ++ []
theorem dksX3_init_0 : cX3_init.data.toList.drop 0 = dktX3_init_0 := by decide +kernel
theorem dX3_init_0 : decode cX3_init 0 = .ok (.aload_n 0, 1) := dk_42 (dk_at dksX3_init_0 0 rfl rfl)
theorem dX3_init_1 : decode cX3_init 1 = .ok (.aload_n 1, 1) := dk_43 (dk_at dksX3_init_0 1 rfl rfl)
theorem dX3_init_2 : decode cX3_init 2 = .ok (.putfield 3, 3) := dk_181 0 3 (dk_at dksX3_init_0 2 rfl rfl)
theorem dX3_init_5 : decode cX3_init 5 = .ok (.aload_n 0, 1) := dk_42 (dk_at dksX3_init_0 5 rfl rfl)
theorem dX3_init_6 : decode cX3_init 6 = .ok (.aload_n 1, 1) := dk_43 (dk_at dksX3_init_0 6 rfl rfl)
theorem dX3_init_7 : decode cX3_init 7 = .ok (.invokespecial 9, 3) := dk_183 0 9 (dk_at dksX3_init_0 7 rfl rfl)
theorem dX3_init_10 : decode cX3_init 10 = .ok (.return_, 1) := dk_177 (dk_at dksX3_init_0 10 rfl rfl)
abbrev cX3_wide : ByteArray := prog_9_method_2_code
def yX3_wide : MethodName := ⟨RX3, "wide", "()I"⟩
def dkwX3_wide_0 : List UInt8 := [42, 180, 0, 15, 153, 0, 15, 42, 180, 0, 3, 180, 0, 19, 6, 46, 167, 0, 4, 3, 172]
abbrev dktX3_wide_0 : List UInt8 := dkwX3_wide_0 ++ []
theorem dksX3_wide_0 : cX3_wide.data.toList.drop 0 = dktX3_wide_0 := by decide +kernel
theorem dX3_wide_0 : decode cX3_wide 0 = .ok (.aload_n 0, 1) := dk_42 (dk_at dksX3_wide_0 0 rfl rfl)
theorem dX3_wide_1 : decode cX3_wide 1 = .ok (.getfield 15, 3) := dk_180 0 15 (dk_at dksX3_wide_0 1 rfl rfl)
theorem dX3_wide_4 : decode cX3_wide 4 = .ok (.ifCond .eq 15, 3) := dk_153 0 15 (dk_at dksX3_wide_0 4 rfl rfl)
theorem dX3_wide_7 : decode cX3_wide 7 = .ok (.aload_n 0, 1) := dk_42 (dk_at dksX3_wide_0 7 rfl rfl)
theorem dX3_wide_8 : decode cX3_wide 8 = .ok (.getfield 3, 3) := dk_180 0 3 (dk_at dksX3_wide_0 8 rfl rfl)
theorem dX3_wide_11 : decode cX3_wide 11 = .ok (.getfield 19, 3) := dk_180 0 19 (dk_at dksX3_wide_0 11 rfl rfl)
theorem dX3_wide_14 : decode cX3_wide 14 = .ok (.iconst 3, 1) := dk_6 (dk_at dksX3_wide_0 14 rfl rfl)
theorem dX3_wide_15 : decode cX3_wide 15 = .ok (.iaload, 1) := dk_46 (dk_at dksX3_wide_0 15 rfl rfl)
theorem dX3_wide_16 : decode cX3_wide 16 = .ok (.goto 4, 3) := dk_167 0 4 (dk_at dksX3_wide_0 16 rfl rfl)
theorem dX3_wide_19 : decode cX3_wide 19 = .ok (.iconst 0, 1) := dk_3 (dk_at dksX3_wide_0 19 rfl rfl)
theorem dX3_wide_20 : decode cX3_wide 20 = .ok (.ireturn, 1) := dk_172 (dk_at dksX3_wide_0 20 rfl rfl)
theorem q42 : (Jvm.Cond.initialized "BilletBars$Weld") ∈ lw_all := lw_g (lw_at lw_m1 4 rfl) rfl
theorem q92 : (Jvm.Cond.sameField "BilletBars$Weld" "BilletBars$Scrap" "all" "I") ∈ lw_all := lw_g (lw_at lw_m1 54 rfl) rfl
theorem q107 : (Jvm.Cond.instantiable "BilletBars$Weld" (4 : Nat)) ∈ lw_all := lw_g (lw_at lw_m1 69 rfl) rfl
theorem q109 : (Jvm.Cond.instanceMethod ({ cls := "BilletBars$Weld", name := "<init>", desc := "(LBilletBars;)V" } : Jvm.MethodName)) ∈ lw_all := lw_g (lw_at lw_m1 71 rfl) rfl
theorem q110 : (Jvm.Cond.code ({ cls := "BilletBars$Weld", name := "<init>", desc := "(LBilletBars;)V" } : Jvm.MethodName) prog_9_method_1_code (2 : Nat) (Option.none : Option Jvm.ClassFile.FieldType)) ∈ lw_all := lw_g (lw_at lw_m1 72 rfl) rfl
theorem q111 : (Jvm.Cond.methodLinkNest "BilletBars$Weld" (9 : Nat) ({ cls := "BilletBars$Scrap", name := "<init>", desc := "(LBilletBars;)V" } : Jvm.MethodName) "BilletBars") ∈ lw_tbl := lw_at lw_m1 73 rfl
theorem q112 : (Jvm.Cond.fieldLink "BilletBars$Weld" (15 : Nat) "BilletBars$Weld" "isThere" "Z") ∈ lw_all := lw_g (lw_at lw_m1 74 rfl) rfl
theorem q114 : (Jvm.Cond.fieldLink "BilletBars$Weld" (3 : Nat) "BilletBars$Weld" "this$0" "LBilletBars;") ∈ lw_all := lw_g (lw_at lw_m1 76 rfl) rfl
theorem q115 : (Jvm.Cond.lays "BilletBars$Weld" "BilletBars$Weld" "isThere" "Z") ∈ lw_all := lw_g (lw_at lw_m1 77 rfl) rfl
theorem q116 : (Jvm.Cond.soleField "BilletBars$Weld" "isThere") ∈ lw_all := lw_g (lw_at lw_m1 78 rfl) rfl
theorem q117 : (Jvm.Cond.laysFinal "BilletBars$Weld" "BilletBars$Weld" "this$0" "LBilletBars;") ∈ lw_all := lw_g (lw_at lw_m1 79 rfl) rfl
theorem q118 : (Jvm.Cond.soleField "BilletBars$Weld" "this$0") ∈ lw_all := lw_g (lw_at lw_m1 80 rfl) rfl
theorem q119 : (Jvm.Cond.lays "BilletBars$Weld" "BilletBars$Scrap" "all" "I") ∈ lw_all := lw_g (lw_at lw_m1 81 rfl) rfl
theorem q120 : (Jvm.Cond.laysFinal "BilletBars$Weld" "BilletBars$Scrap" "this$0" "LBilletBars;") ∈ lw_all := lw_g (lw_at lw_m1 82 rfl) rfl
theorem q121 : (Jvm.Cond.superclass "BilletBars$Weld" "BilletBars$Scrap") ∈ lw_all := lw_g (lw_at lw_m1 83 rfl) rfl
theorem q149 : (Jvm.Cond.fieldLinkNest "BilletBars$Weld" (19 : Nat) "BilletBars" "laws" "[I" "BilletBars") ∈ lw_tbl := lw_at lw_m1 111 rfl
theorem q433 : (Jvm.Cond.selects "BilletBars$Weld" ({ cls := "BilletBars$Scrap", name := "wide", desc := "()I" } : Jvm.MethodName) ({ cls := "BilletBars$Weld", name := "wide", desc := "()I" } : Jvm.MethodName)) ∈ lw_all := lw_g (lw_at lw_m2 155 rfl) rfl
theorem q434 : (Jvm.Cond.instanceMethod ({ cls := "BilletBars$Weld", name := "wide", desc := "()I" } : Jvm.MethodName)) ∈ lw_all := lw_g (lw_at lw_m2 156 rfl) rfl
theorem q435 : (Jvm.Cond.code ({ cls := "BilletBars$Weld", name := "wide", desc := "()I" } : Jvm.MethodName) prog_9_method_2_code (1 : Nat) (Option.some Jvm.ClassFile.FieldType.int)) ∈ lw_all := lw_g (lw_at lw_m2 157 rfl) rfl
theorem q440 : (Jvm.Cond.sameMethod "BilletBars$Weld" "BilletBars$Scrap" "cut" "(IZ)I") ∈ lw_all := lw_g (lw_at lw_m2 162 rfl) rfl
theorem q441 : (Jvm.Cond.selects "BilletBars$Weld" ({ cls := "BilletBars$Weld", name := "cut", desc := "(IZ)I" } : Jvm.MethodName) ({ cls := "BilletBars$Scrap", name := "cut", desc := "(IZ)I" } : Jvm.MethodName)) ∈ lw_all := lw_g (lw_at lw_m2 163 rfl) rfl
theorem q536 : (Jvm.Cond.selects "BilletBars$Weld" ({ cls := "java/lang/Object", name := "getClass", desc := "()Ljava/lang/Class;" } : Jvm.MethodName) ({ cls := "java/lang/Object", name := "getClass", desc := "()Ljava/lang/Class;" } : Jvm.MethodName)) ∈ lw_all := lw_g (lw_at lw_m3 18 rfl) rfl
theorem q1276 : (Jvm.Cond.castable "BilletBars$Weld" "java/lang/Object") ∈ lw_tbl := lw_at lw_m6 38 rfl
theorem in_X3 : ∀ w ∈ wsX30, w ∈ lw_all := lw_in wsX30 [119, 120, 115, 117] (by decide +kernel) (by decide +kernel)
/-! BilletBars$Sheet -/
set_option maxRecDepth 100000
def RX4 : String := "BilletBars$Sheet"
def TX4 : u_T := fun k => match k with
  | 0 => ("BilletBars$Sheet", "form", "I", false)
  | _ => ("BilletBars$Sheet", "row", "Ljava/lang/Object;", false)
def tyX4 : Nat → FieldType := fun k => match k with
  | 0 => .int
  | _ => .object "java/lang/Object"
abbrev wsX40 : List Cond := u_ws RX4 TX4 2
theorem nmX4 : ∀ a, a < 2 → ∀ b, b < 2 → a ≠ b → (TX4 a).2.1 ≠ (TX4 b).2.1 := by decide +kernel
theorem tyX4_ok : ∀ k, k < 2 → parseFieldDescriptor (TX4 k).2.2.1 = some (tyX4 k) := by decide +kernel
abbrev cX4_init : ByteArray := prog_8_method_1_code
def yX4_init : MethodName := ⟨RX4, "<init>", "()V"⟩
theorem dX4_init_0 : decode cX4_init 0 = .ok (.aload_n 0, 1) := by decide +kernel
theorem dX4_init_1 : decode cX4_init 1 = .ok (.invokespecial 1, 3) := by decide +kernel
theorem dX4_init_4 : decode cX4_init 4 = .ok (.return_, 1) := by decide +kernel
abbrev cX4_size : ByteArray := prog_8_method_2_code
def yX4_size : MethodName := ⟨RX4, "size", "()I"⟩
def dkwX4_size_1 : List UInt8 := [160, 0, 14, 42, 180, 0, 13, 192, 0, 19, 190, 167, 0, 11, 42, 180, 0, 13, 192, 0, 21, 190, 172]
abbrev dktX4_size_1 : List UInt8 := dkwX4_size_1 ++ []
def dkwX4_size_0 : List UInt8 := [42, 180, 0, 7, 154, 0, 14, 42, 180, 0, 13, 192, 0, 17, 190, 167, 0, 30, 42, 180, 0, 7, 4]
abbrev dktX4_size_0 : List UInt8 := dkwX4_size_0 ++ dktX4_size_1
theorem dksX4_size_0 : cX4_size.data.toList.drop 0 = dktX4_size_0 := by decide +kernel
theorem dksX4_size_1 : cX4_size.data.toList.drop 23 = dktX4_size_1 := dk_seg dksX4_size_0 23 rfl rfl
theorem dX4_size_0 : decode cX4_size 0 = .ok (.aload_n 0, 1) := dk_42 (dk_at dksX4_size_0 0 rfl rfl)
theorem dX4_size_1 : decode cX4_size 1 = .ok (.getfield 7, 3) := dk_180 0 7 (dk_at dksX4_size_0 1 rfl rfl)
theorem dX4_size_4 : decode cX4_size 4 = .ok (.ifCond .ne 14, 3) := dk_154 0 14 (dk_at dksX4_size_0 4 rfl rfl)
theorem dX4_size_7 : decode cX4_size 7 = .ok (.aload_n 0, 1) := dk_42 (dk_at dksX4_size_0 7 rfl rfl)
theorem dX4_size_8 : decode cX4_size 8 = .ok (.getfield 13, 3) := dk_180 0 13 (dk_at dksX4_size_0 8 rfl rfl)
theorem dX4_size_11 : decode cX4_size 11 = .ok (.checkcast 17, 3) := dk_192 0 17 (dk_at dksX4_size_0 11 rfl rfl)
theorem dX4_size_14 : decode cX4_size 14 = .ok (.arraylength, 1) := dk_190 (dk_at dksX4_size_0 14 rfl rfl)
theorem dX4_size_15 : decode cX4_size 15 = .ok (.goto 30, 3) := dk_167 0 30 (dk_at dksX4_size_0 15 rfl rfl)
theorem dX4_size_18 : decode cX4_size 18 = .ok (.aload_n 0, 1) := dk_42 (dk_at dksX4_size_0 18 rfl rfl)
theorem dX4_size_19 : decode cX4_size 19 = .ok (.getfield 7, 3) := dk_180 0 7 (dk_at dksX4_size_0 19 rfl rfl)
theorem dX4_size_22 : decode cX4_size 22 = .ok (.iconst 1, 1) := dk_4 (dk_at dksX4_size_0 22 rfl rfl)
theorem dX4_size_23 : decode cX4_size 23 = .ok (.if_icmp .ne 14, 3) := dk_160 0 14 (dk_at dksX4_size_1 0 rfl rfl)
theorem dX4_size_26 : decode cX4_size 26 = .ok (.aload_n 0, 1) := dk_42 (dk_at dksX4_size_1 3 rfl rfl)
theorem dX4_size_27 : decode cX4_size 27 = .ok (.getfield 13, 3) := dk_180 0 13 (dk_at dksX4_size_1 4 rfl rfl)
theorem dX4_size_30 : decode cX4_size 30 = .ok (.checkcast 19, 3) := dk_192 0 19 (dk_at dksX4_size_1 7 rfl rfl)
theorem dX4_size_33 : decode cX4_size 33 = .ok (.arraylength, 1) := dk_190 (dk_at dksX4_size_1 10 rfl rfl)
theorem dX4_size_34 : decode cX4_size 34 = .ok (.goto 11, 3) := dk_167 0 11 (dk_at dksX4_size_1 11 rfl rfl)
theorem dX4_size_37 : decode cX4_size 37 = .ok (.aload_n 0, 1) := dk_42 (dk_at dksX4_size_1 14 rfl rfl)
theorem dX4_size_38 : decode cX4_size 38 = .ok (.getfield 13, 3) := dk_180 0 13 (dk_at dksX4_size_1 15 rfl rfl)
theorem dX4_size_41 : decode cX4_size 41 = .ok (.checkcast 21, 3) := dk_192 0 21 (dk_at dksX4_size_1 18 rfl rfl)
theorem dX4_size_44 : decode cX4_size 44 = .ok (.arraylength, 1) := dk_190 (dk_at dksX4_size_1 21 rfl rfl)
theorem dX4_size_45 : decode cX4_size 45 = .ok (.ireturn, 1) := dk_172 (dk_at dksX4_size_1 22 rfl rfl)
theorem q43 : (Jvm.Cond.initialized "BilletBars$Sheet") ∈ lw_all := lw_g (lw_at lw_m1 5 rfl) rfl
theorem q129 : (Jvm.Cond.instantiable "BilletBars$Sheet" (2 : Nat)) ∈ lw_all := lw_g (lw_at lw_m1 91 rfl) rfl
theorem q131 : (Jvm.Cond.instanceMethod ({ cls := "BilletBars$Sheet", name := "<init>", desc := "()V" } : Jvm.MethodName)) ∈ lw_all := lw_g (lw_at lw_m1 93 rfl) rfl
theorem q132 : (Jvm.Cond.code ({ cls := "BilletBars$Sheet", name := "<init>", desc := "()V" } : Jvm.MethodName) prog_8_method_1_code (1 : Nat) (Option.none : Option Jvm.ClassFile.FieldType)) ∈ lw_all := lw_g (lw_at lw_m1 94 rfl) rfl
theorem q133 : (Jvm.Cond.methodLink "BilletBars$Sheet" (1 : Nat) ({ cls := "java/lang/Object", name := "<init>", desc := "()V" } : Jvm.MethodName)) ∈ lw_all := lw_g (lw_at lw_m1 95 rfl) rfl
theorem q134 : (Jvm.Cond.fieldLink "BilletBars$Sheet" (7 : Nat) "BilletBars$Sheet" "form" "I") ∈ lw_all := lw_g (lw_at lw_m1 96 rfl) rfl
theorem q136 : (Jvm.Cond.fieldLink "BilletBars$Sheet" (13 : Nat) "BilletBars$Sheet" "row" "Ljava/lang/Object;") ∈ lw_all := lw_g (lw_at lw_m1 98 rfl) rfl
theorem q138 : (Jvm.Cond.lays "BilletBars$Sheet" "BilletBars$Sheet" "form" "I") ∈ lw_all := lw_g (lw_at lw_m1 100 rfl) rfl
theorem q139 : (Jvm.Cond.soleField "BilletBars$Sheet" "form") ∈ lw_all := lw_g (lw_at lw_m1 101 rfl) rfl
theorem q140 : (Jvm.Cond.lays "BilletBars$Sheet" "BilletBars$Sheet" "row" "Ljava/lang/Object;") ∈ lw_all := lw_g (lw_at lw_m1 102 rfl) rfl
theorem q141 : (Jvm.Cond.soleField "BilletBars$Sheet" "row") ∈ lw_all := lw_g (lw_at lw_m1 103 rfl) rfl
theorem q142 : (Jvm.Cond.superclass "BilletBars$Sheet" "java/lang/Object") ∈ lw_all := lw_g (lw_at lw_m1 104 rfl) rfl
theorem q535 : (Jvm.Cond.selects "BilletBars$Sheet" ({ cls := "java/lang/Object", name := "getClass", desc := "()Ljava/lang/Class;" } : Jvm.MethodName) ({ cls := "java/lang/Object", name := "getClass", desc := "()Ljava/lang/Class;" } : Jvm.MethodName)) ∈ lw_all := lw_g (lw_at lw_m3 17 rfl) rfl
theorem q739 : (Jvm.Cond.instanceMethod ({ cls := "BilletBars$Sheet", name := "size", desc := "()I" } : Jvm.MethodName)) ∈ lw_all := lw_g (lw_at lw_m3 221 rfl) rfl
theorem q740 : (Jvm.Cond.selects "BilletBars$Sheet" ({ cls := "BilletBars$Sheet", name := "size", desc := "()I" } : Jvm.MethodName) ({ cls := "BilletBars$Sheet", name := "size", desc := "()I" } : Jvm.MethodName)) ∈ lw_all := lw_g (lw_at lw_m3 222 rfl) rfl
theorem q741 : (Jvm.Cond.code ({ cls := "BilletBars$Sheet", name := "size", desc := "()I" } : Jvm.MethodName) prog_8_method_2_code (1 : Nat) (Option.some Jvm.ClassFile.FieldType.int)) ∈ lw_all := lw_g (lw_at lw_m3 223 rfl) rfl
theorem q742 : (Jvm.Cond.classLink "BilletBars$Sheet" (17 : Nat) "[B") ∈ lw_all := lw_g (lw_at lw_m3 224 rfl) rfl
theorem q743 : (Jvm.Cond.classLink "BilletBars$Sheet" (19 : Nat) "[S") ∈ lw_all := lw_g (lw_at lw_m3 225 rfl) rfl
theorem q744 : (Jvm.Cond.classLink "BilletBars$Sheet" (21 : Nat) "[I") ∈ lw_all := lw_g (lw_at lw_m3 226 rfl) rfl
theorem q1273 : (Jvm.Cond.castable "BilletBars$Sheet" "java/lang/Object") ∈ lw_tbl := lw_at lw_m6 35 rfl
theorem in_X4 : ∀ w ∈ wsX40, w ∈ lw_all := lw_in wsX40 [138, 140] (by decide +kernel) (by decide +kernel)
/-! BilletBars$Profile -/
set_option maxRecDepth 100000
def RX6 : String := "BilletBars$Profile"
def TX6 : u_T := fun k => match k with
  | 0 => ("BilletBars$Profile", "alloy", "I", true)
  | 1 => ("BilletBars$Profile", "ratio", "I", true)
  | 2 => ("BilletBars$Profile", "recipe", "I", true)
  | 3 => ("BilletBars$Profile", "grams", "I", true)
  | _ => ("BilletBars$Profile", "orders", "Ljava/util/ArrayList;", true)
def tyX6 : Nat → FieldType := fun k => match k with
  | 0 => .int
  | 1 => .int
  | 2 => .int
  | 3 => .int
  | _ => .object "java/util/ArrayList"
abbrev wsX60 : List Cond := u_ws RX6 TX6 5
theorem nmX6 : ∀ a, a < 5 → ∀ b, b < 5 → a ≠ b → (TX6 a).2.1 ≠ (TX6 b).2.1 := by decide +kernel
theorem tyX6_ok : ∀ k, k < 5 → parseFieldDescriptor (TX6 k).2.2.1 = some (tyX6 k) := by decide +kernel
abbrev cX6_init : ByteArray := prog_6_method_1_code
def yX6_init : MethodName := ⟨RX6, "<init>", "(IIII)V"⟩
def dkwX6_init_1 : List UInt8 := [181, 0, 20, 42, 29, 181, 0, 23, 42, 21, 4, 181, 0, 26, 177]
abbrev dktX6_init_1 : List UInt8 := dkwX6_init_1 ++ []
def dkwX6_init_0 : List UInt8 := [42, 183, 0, 1, 42, 187, 0, 7, 89, 183, 0, 9, 181, 0, 10, 42, 27, 181, 0, 16, 42, 28]
abbrev dktX6_init_0 : List UInt8 := dkwX6_init_0 ++ dktX6_init_1
theorem dksX6_init_0 : cX6_init.data.toList.drop 0 = dktX6_init_0 := by decide +kernel
theorem dksX6_init_1 : cX6_init.data.toList.drop 22 = dktX6_init_1 := dk_seg dksX6_init_0 22 rfl rfl
theorem dX6_init_0 : decode cX6_init 0 = .ok (.aload_n 0, 1) := dk_42 (dk_at dksX6_init_0 0 rfl rfl)
theorem dX6_init_1 : decode cX6_init 1 = .ok (.invokespecial 1, 3) := dk_183 0 1 (dk_at dksX6_init_0 1 rfl rfl)
theorem dX6_init_4 : decode cX6_init 4 = .ok (.aload_n 0, 1) := dk_42 (dk_at dksX6_init_0 4 rfl rfl)
theorem dX6_init_5 : decode cX6_init 5 = .ok (.new 7, 3) := dk_187 0 7 (dk_at dksX6_init_0 5 rfl rfl)
theorem dX6_init_8 : decode cX6_init 8 = .ok (.dup, 1) := dk_89 (dk_at dksX6_init_0 8 rfl rfl)
theorem dX6_init_9 : decode cX6_init 9 = .ok (.invokespecial 9, 3) := dk_183 0 9 (dk_at dksX6_init_0 9 rfl rfl)
theorem dX6_init_12 : decode cX6_init 12 = .ok (.putfield 10, 3) := dk_181 0 10 (dk_at dksX6_init_0 12 rfl rfl)
theorem dX6_init_15 : decode cX6_init 15 = .ok (.aload_n 0, 1) := dk_42 (dk_at dksX6_init_0 15 rfl rfl)
theorem dX6_init_16 : decode cX6_init 16 = .ok (.iload_n 1, 1) := dk_27 (dk_at dksX6_init_0 16 rfl rfl)
theorem dX6_init_17 : decode cX6_init 17 = .ok (.putfield 16, 3) := dk_181 0 16 (dk_at dksX6_init_0 17 rfl rfl)
theorem dX6_init_20 : decode cX6_init 20 = .ok (.aload_n 0, 1) := dk_42 (dk_at dksX6_init_0 20 rfl rfl)
theorem dX6_init_21 : decode cX6_init 21 = .ok (.iload_n 2, 1) := dk_28 (dk_at dksX6_init_0 21 rfl rfl)
theorem dX6_init_22 : decode cX6_init 22 = .ok (.putfield 20, 3) := dk_181 0 20 (dk_at dksX6_init_1 0 rfl rfl)
theorem dX6_init_25 : decode cX6_init 25 = .ok (.aload_n 0, 1) := dk_42 (dk_at dksX6_init_1 3 rfl rfl)
theorem dX6_init_26 : decode cX6_init 26 = .ok (.iload_n 3, 1) := dk_29 (dk_at dksX6_init_1 4 rfl rfl)
theorem dX6_init_27 : decode cX6_init 27 = .ok (.putfield 23, 3) := dk_181 0 23 (dk_at dksX6_init_1 5 rfl rfl)
theorem dX6_init_30 : decode cX6_init 30 = .ok (.aload_n 0, 1) := dk_42 (dk_at dksX6_init_1 8 rfl rfl)
theorem dX6_init_31 : decode cX6_init 31 = .ok (.iload 4, 2) := dk_21 4 (dk_at dksX6_init_1 9 rfl rfl)
theorem dX6_init_33 : decode cX6_init 33 = .ok (.putfield 26, 3) := dk_181 0 26 (dk_at dksX6_init_1 11 rfl rfl)
theorem dX6_init_36 : decode cX6_init 36 = .ok (.return_, 1) := dk_177 (dk_at dksX6_init_1 14 rfl rfl)
theorem q45 : (Jvm.Cond.initialized "BilletBars$Profile") ∈ lw_all := lw_g (lw_at lw_m1 7 rfl) rfl
theorem q237 : (Jvm.Cond.instantiable "BilletBars$Profile" (5 : Nat)) ∈ lw_all := lw_g (lw_at lw_m1 199 rfl) rfl
theorem q239 : (Jvm.Cond.instanceMethod ({ cls := "BilletBars$Profile", name := "<init>", desc := "(IIII)V" } : Jvm.MethodName)) ∈ lw_all := lw_g (lw_at lw_m1 201 rfl) rfl
theorem q240 : (Jvm.Cond.code ({ cls := "BilletBars$Profile", name := "<init>", desc := "(IIII)V" } : Jvm.MethodName) prog_6_method_1_code (5 : Nat) (Option.none : Option Jvm.ClassFile.FieldType)) ∈ lw_all := lw_g (lw_at lw_m1 202 rfl) rfl
theorem q241 : (Jvm.Cond.methodLink "BilletBars$Profile" (1 : Nat) ({ cls := "java/lang/Object", name := "<init>", desc := "()V" } : Jvm.MethodName)) ∈ lw_all := lw_g (lw_at lw_m1 203 rfl) rfl
theorem q242 : (Jvm.Cond.classLink "BilletBars$Profile" (7 : Nat) "java/util/ArrayList") ∈ lw_all := lw_g (lw_at lw_m1 204 rfl) rfl
theorem q244 : (Jvm.Cond.methodLink "BilletBars$Profile" (9 : Nat) ({ cls := "java/util/ArrayList", name := "<init>", desc := "()V" } : Jvm.MethodName)) ∈ lw_all := lw_g (lw_at lw_m1 206 rfl) rfl
theorem q268 : (Jvm.Cond.fieldLink "BilletBars$Profile" (16 : Nat) "BilletBars$Profile" "alloy" "I") ∈ lw_all := lw_g (lw_at lw_m1 230 rfl) rfl
theorem q270 : (Jvm.Cond.fieldLink "BilletBars$Profile" (20 : Nat) "BilletBars$Profile" "ratio" "I") ∈ lw_all := lw_g (lw_at lw_m1 232 rfl) rfl
theorem q272 : (Jvm.Cond.fieldLink "BilletBars$Profile" (23 : Nat) "BilletBars$Profile" "recipe" "I") ∈ lw_all := lw_g (lw_at lw_m1 234 rfl) rfl
theorem q274 : (Jvm.Cond.fieldLink "BilletBars$Profile" (26 : Nat) "BilletBars$Profile" "grams" "I") ∈ lw_all := lw_g (lw_at lw_m1 236 rfl) rfl
theorem q276 : (Jvm.Cond.fieldLink "BilletBars$Profile" (10 : Nat) "BilletBars$Profile" "orders" "Ljava/util/ArrayList;") ∈ lw_all := lw_g (lw_at lw_m1 238 rfl) rfl
theorem q278 : (Jvm.Cond.laysFinal "BilletBars$Profile" "BilletBars$Profile" "alloy" "I") ∈ lw_all := lw_g (lw_at lw_m2 0 rfl) rfl
theorem q279 : (Jvm.Cond.soleField "BilletBars$Profile" "alloy") ∈ lw_all := lw_g (lw_at lw_m2 1 rfl) rfl
theorem q280 : (Jvm.Cond.laysFinal "BilletBars$Profile" "BilletBars$Profile" "ratio" "I") ∈ lw_all := lw_g (lw_at lw_m2 2 rfl) rfl
theorem q281 : (Jvm.Cond.soleField "BilletBars$Profile" "ratio") ∈ lw_all := lw_g (lw_at lw_m2 3 rfl) rfl
theorem q282 : (Jvm.Cond.laysFinal "BilletBars$Profile" "BilletBars$Profile" "recipe" "I") ∈ lw_all := lw_g (lw_at lw_m2 4 rfl) rfl
theorem q283 : (Jvm.Cond.soleField "BilletBars$Profile" "recipe") ∈ lw_all := lw_g (lw_at lw_m2 5 rfl) rfl
theorem q284 : (Jvm.Cond.laysFinal "BilletBars$Profile" "BilletBars$Profile" "grams" "I") ∈ lw_all := lw_g (lw_at lw_m2 6 rfl) rfl
theorem q285 : (Jvm.Cond.soleField "BilletBars$Profile" "grams") ∈ lw_all := lw_g (lw_at lw_m2 7 rfl) rfl
theorem q286 : (Jvm.Cond.laysFinal "BilletBars$Profile" "BilletBars$Profile" "orders" "Ljava/util/ArrayList;") ∈ lw_all := lw_g (lw_at lw_m2 8 rfl) rfl
theorem q287 : (Jvm.Cond.soleField "BilletBars$Profile" "orders") ∈ lw_all := lw_g (lw_at lw_m2 9 rfl) rfl
theorem q288 : (Jvm.Cond.superclass "BilletBars$Profile" "java/lang/Object") ∈ lw_all := lw_g (lw_at lw_m2 10 rfl) rfl
theorem q534 : (Jvm.Cond.selects "BilletBars$Profile" ({ cls := "java/lang/Object", name := "getClass", desc := "()Ljava/lang/Class;" } : Jvm.MethodName) ({ cls := "java/lang/Object", name := "getClass", desc := "()Ljava/lang/Class;" } : Jvm.MethodName)) ∈ lw_all := lw_g (lw_at lw_m3 16 rfl) rfl
theorem q1270 : (Jvm.Cond.castable "BilletBars$Profile" "java/lang/Object") ∈ lw_tbl := lw_at lw_m6 32 rfl
theorem in_X6 : ∀ w ∈ wsX60, w ∈ lw_all := lw_in wsX60 [278, 280, 282, 284, 286] (by decide +kernel) (by decide +kernel)
/-! BilletBars$Die -/
set_option maxRecDepth 100000
def RX7 : String := "BilletBars$Die"
def TX7 : u_T := fun k => match k with
  | 0 => ("BilletBars$Die", "profile", "LBilletBars$Profile;", true)
  | 1 => ("BilletBars$Die", "number", "I", true)
  | 2 => ("BilletBars$Die", "limit", "I", true)
  | 3 => ("BilletBars$Die", "shots", "I", false)
  | 4 => ("BilletBars$Die", "ever", "I", false)
  | 5 => ("BilletBars$Die", "isWarm", "Z", false)
  | _ => ("BilletBars$Die", "since", "I", false)
def tyX7 : Nat → FieldType := fun k => match k with
  | 0 => .object "BilletBars$Profile"
  | 1 => .int
  | 2 => .int
  | 3 => .int
  | 4 => .int
  | 5 => .boolean
  | _ => .int
abbrev wsX70 : List Cond := u_ws RX7 TX7 7
theorem nmX7 : ∀ a, a < 7 → ∀ b, b < 7 → a ≠ b → (TX7 a).2.1 ≠ (TX7 b).2.1 := by decide +kernel
theorem tyX7_ok : ∀ k, k < 7 → parseFieldDescriptor (TX7 k).2.2.1 = some (tyX7 k) := by decide +kernel
abbrev cX7_init : ByteArray := prog_3_method_1_code
def yX7_init : MethodName := ⟨RX7, "<init>", "(ILBilletBars$Profile;I)V"⟩
def dkwX7_init_0 : List UInt8 := [42, 183, 0, 1, 42, 27, 181, 0, 7, 42, 44, 181, 0, 13, 42, 29, 181, 0, 17, 177]
abbrev dktX7_init_0 : List UInt8 := dkwX7_init_0 ++ []
theorem dksX7_init_0 : cX7_init.data.toList.drop 0 = dktX7_init_0 := by decide +kernel
theorem dX7_init_0 : decode cX7_init 0 = .ok (.aload_n 0, 1) := dk_42 (dk_at dksX7_init_0 0 rfl rfl)
theorem dX7_init_1 : decode cX7_init 1 = .ok (.invokespecial 1, 3) := dk_183 0 1 (dk_at dksX7_init_0 1 rfl rfl)
theorem dX7_init_4 : decode cX7_init 4 = .ok (.aload_n 0, 1) := dk_42 (dk_at dksX7_init_0 4 rfl rfl)
theorem dX7_init_5 : decode cX7_init 5 = .ok (.iload_n 1, 1) := dk_27 (dk_at dksX7_init_0 5 rfl rfl)
theorem dX7_init_6 : decode cX7_init 6 = .ok (.putfield 7, 3) := dk_181 0 7 (dk_at dksX7_init_0 6 rfl rfl)
theorem dX7_init_9 : decode cX7_init 9 = .ok (.aload_n 0, 1) := dk_42 (dk_at dksX7_init_0 9 rfl rfl)
theorem dX7_init_10 : decode cX7_init 10 = .ok (.aload_n 2, 1) := dk_44 (dk_at dksX7_init_0 10 rfl rfl)
theorem dX7_init_11 : decode cX7_init 11 = .ok (.putfield 13, 3) := dk_181 0 13 (dk_at dksX7_init_0 11 rfl rfl)
theorem dX7_init_14 : decode cX7_init 14 = .ok (.aload_n 0, 1) := dk_42 (dk_at dksX7_init_0 14 rfl rfl)
theorem dX7_init_15 : decode cX7_init 15 = .ok (.iload_n 3, 1) := dk_29 (dk_at dksX7_init_0 15 rfl rfl)
theorem dX7_init_16 : decode cX7_init 16 = .ok (.putfield 17, 3) := dk_181 0 17 (dk_at dksX7_init_0 16 rfl rfl)
theorem dX7_init_19 : decode cX7_init 19 = .ok (.return_, 1) := dk_177 (dk_at dksX7_init_0 19 rfl rfl)
abbrev cX7_may : ByteArray := prog_3_method_2_code
def yX7_may : MethodName := ⟨RX7, "may", "(I)Z"⟩
def dkwX7_may_1 : List UInt8 := [180, 0, 33, 42, 180, 0, 17, 162, 0, 7, 4, 167, 0, 4, 3, 172]
abbrev dktX7_may_1 : List UInt8 := dkwX7_may_1 ++ []
def dkwX7_may_0 : List UInt8 := [42, 180, 0, 20, 153, 0, 33, 27, 42, 180, 0, 24, 100, 6, 16, 12, 184, 0, 27, 153, 0, 18, 42]
abbrev dktX7_may_0 : List UInt8 := dkwX7_may_0 ++ dktX7_may_1
theorem dksX7_may_0 : cX7_may.data.toList.drop 0 = dktX7_may_0 := by decide +kernel
theorem dksX7_may_1 : cX7_may.data.toList.drop 23 = dktX7_may_1 := dk_seg dksX7_may_0 23 rfl rfl
theorem dX7_may_0 : decode cX7_may 0 = .ok (.aload_n 0, 1) := dk_42 (dk_at dksX7_may_0 0 rfl rfl)
theorem dX7_may_1 : decode cX7_may 1 = .ok (.getfield 20, 3) := dk_180 0 20 (dk_at dksX7_may_0 1 rfl rfl)
theorem dX7_may_4 : decode cX7_may 4 = .ok (.ifCond .eq 33, 3) := dk_153 0 33 (dk_at dksX7_may_0 4 rfl rfl)
theorem dX7_may_7 : decode cX7_may 7 = .ok (.iload_n 1, 1) := dk_27 (dk_at dksX7_may_0 7 rfl rfl)
theorem dX7_may_8 : decode cX7_may 8 = .ok (.aload_n 0, 1) := dk_42 (dk_at dksX7_may_0 8 rfl rfl)
theorem dX7_may_9 : decode cX7_may 9 = .ok (.getfield 24, 3) := dk_180 0 24 (dk_at dksX7_may_0 9 rfl rfl)
theorem dX7_may_12 : decode cX7_may 12 = .ok (.isub, 1) := dk_100 (dk_at dksX7_may_0 12 rfl rfl)
theorem dX7_may_13 : decode cX7_may 13 = .ok (.iconst 3, 1) := dk_6 (dk_at dksX7_may_0 13 rfl rfl)
theorem dX7_may_14 : decode cX7_may 14 = .ok (.bipush 12, 2) := dk_16 12 (dk_at dksX7_may_0 14 rfl rfl)
theorem dX7_may_16 : decode cX7_may 16 = .ok (.invokestatic 27, 3) := dk_184 0 27 (dk_at dksX7_may_0 16 rfl rfl)
theorem dX7_may_19 : decode cX7_may 19 = .ok (.ifCond .eq 18, 3) := dk_153 0 18 (dk_at dksX7_may_0 19 rfl rfl)
theorem dX7_may_22 : decode cX7_may 22 = .ok (.aload_n 0, 1) := dk_42 (dk_at dksX7_may_0 22 rfl rfl)
theorem dX7_may_23 : decode cX7_may 23 = .ok (.getfield 33, 3) := dk_180 0 33 (dk_at dksX7_may_1 0 rfl rfl)
theorem dX7_may_26 : decode cX7_may 26 = .ok (.aload_n 0, 1) := dk_42 (dk_at dksX7_may_1 3 rfl rfl)
theorem dX7_may_27 : decode cX7_may 27 = .ok (.getfield 17, 3) := dk_180 0 17 (dk_at dksX7_may_1 4 rfl rfl)
theorem dX7_may_30 : decode cX7_may 30 = .ok (.if_icmp .ge 7, 3) := dk_162 0 7 (dk_at dksX7_may_1 7 rfl rfl)
theorem dX7_may_33 : decode cX7_may 33 = .ok (.iconst 1, 1) := dk_4 (dk_at dksX7_may_1 10 rfl rfl)
theorem dX7_may_34 : decode cX7_may 34 = .ok (.goto 4, 3) := dk_167 0 4 (dk_at dksX7_may_1 11 rfl rfl)
theorem dX7_may_37 : decode cX7_may 37 = .ok (.iconst 0, 1) := dk_3 (dk_at dksX7_may_1 14 rfl rfl)
theorem dX7_may_38 : decode cX7_may 38 = .ok (.ireturn, 1) := dk_172 (dk_at dksX7_may_1 15 rfl rfl)
theorem q49 : (Jvm.Cond.initialized "BilletBars$Die") ∈ lw_all := lw_g (lw_at lw_m1 11 rfl) rfl
theorem q297 : (Jvm.Cond.instantiable "BilletBars$Die" (7 : Nat)) ∈ lw_all := lw_g (lw_at lw_m2 19 rfl) rfl
theorem q299 : (Jvm.Cond.instanceMethod ({ cls := "BilletBars$Die", name := "<init>", desc := "(ILBilletBars$Profile;I)V" } : Jvm.MethodName)) ∈ lw_all := lw_g (lw_at lw_m2 21 rfl) rfl
theorem q300 : (Jvm.Cond.code ({ cls := "BilletBars$Die", name := "<init>", desc := "(ILBilletBars$Profile;I)V" } : Jvm.MethodName) prog_3_method_1_code (4 : Nat) (Option.none : Option Jvm.ClassFile.FieldType)) ∈ lw_all := lw_g (lw_at lw_m2 22 rfl) rfl
theorem q301 : (Jvm.Cond.methodLink "BilletBars$Die" (1 : Nat) ({ cls := "java/lang/Object", name := "<init>", desc := "()V" } : Jvm.MethodName)) ∈ lw_all := lw_g (lw_at lw_m2 23 rfl) rfl
theorem q302 : (Jvm.Cond.fieldLink "BilletBars$Die" (13 : Nat) "BilletBars$Die" "profile" "LBilletBars$Profile;") ∈ lw_all := lw_g (lw_at lw_m2 24 rfl) rfl
theorem q304 : (Jvm.Cond.fieldLink "BilletBars$Die" (7 : Nat) "BilletBars$Die" "number" "I") ∈ lw_all := lw_g (lw_at lw_m2 26 rfl) rfl
theorem q306 : (Jvm.Cond.fieldLink "BilletBars$Die" (17 : Nat) "BilletBars$Die" "limit" "I") ∈ lw_all := lw_g (lw_at lw_m2 28 rfl) rfl
theorem q308 : (Jvm.Cond.fieldLink "BilletBars$Die" (33 : Nat) "BilletBars$Die" "shots" "I") ∈ lw_all := lw_g (lw_at lw_m2 30 rfl) rfl
theorem q311 : (Jvm.Cond.fieldLink "BilletBars$Die" (20 : Nat) "BilletBars$Die" "isWarm" "Z") ∈ lw_all := lw_g (lw_at lw_m2 33 rfl) rfl
theorem q313 : (Jvm.Cond.fieldLink "BilletBars$Die" (24 : Nat) "BilletBars$Die" "since" "I") ∈ lw_all := lw_g (lw_at lw_m2 35 rfl) rfl
theorem q315 : (Jvm.Cond.laysFinal "BilletBars$Die" "BilletBars$Die" "profile" "LBilletBars$Profile;") ∈ lw_all := lw_g (lw_at lw_m2 37 rfl) rfl
theorem q316 : (Jvm.Cond.soleField "BilletBars$Die" "profile") ∈ lw_all := lw_g (lw_at lw_m2 38 rfl) rfl
theorem q317 : (Jvm.Cond.laysFinal "BilletBars$Die" "BilletBars$Die" "number" "I") ∈ lw_all := lw_g (lw_at lw_m2 39 rfl) rfl
theorem q318 : (Jvm.Cond.soleField "BilletBars$Die" "number") ∈ lw_all := lw_g (lw_at lw_m2 40 rfl) rfl
theorem q319 : (Jvm.Cond.laysFinal "BilletBars$Die" "BilletBars$Die" "limit" "I") ∈ lw_all := lw_g (lw_at lw_m2 41 rfl) rfl
theorem q320 : (Jvm.Cond.soleField "BilletBars$Die" "limit") ∈ lw_all := lw_g (lw_at lw_m2 42 rfl) rfl
theorem q321 : (Jvm.Cond.lays "BilletBars$Die" "BilletBars$Die" "shots" "I") ∈ lw_all := lw_g (lw_at lw_m2 43 rfl) rfl
theorem q322 : (Jvm.Cond.soleField "BilletBars$Die" "shots") ∈ lw_all := lw_g (lw_at lw_m2 44 rfl) rfl
theorem q323 : (Jvm.Cond.lays "BilletBars$Die" "BilletBars$Die" "ever" "I") ∈ lw_all := lw_g (lw_at lw_m2 45 rfl) rfl
theorem q324 : (Jvm.Cond.soleField "BilletBars$Die" "ever") ∈ lw_all := lw_g (lw_at lw_m2 46 rfl) rfl
theorem q325 : (Jvm.Cond.lays "BilletBars$Die" "BilletBars$Die" "isWarm" "Z") ∈ lw_all := lw_g (lw_at lw_m2 47 rfl) rfl
theorem q326 : (Jvm.Cond.soleField "BilletBars$Die" "isWarm") ∈ lw_all := lw_g (lw_at lw_m2 48 rfl) rfl
theorem q327 : (Jvm.Cond.lays "BilletBars$Die" "BilletBars$Die" "since" "I") ∈ lw_all := lw_g (lw_at lw_m2 49 rfl) rfl
theorem q328 : (Jvm.Cond.soleField "BilletBars$Die" "since") ∈ lw_all := lw_g (lw_at lw_m2 50 rfl) rfl
theorem q329 : (Jvm.Cond.superclass "BilletBars$Die" "java/lang/Object") ∈ lw_all := lw_g (lw_at lw_m2 51 rfl) rfl
theorem q355 : (Jvm.Cond.instanceMethod ({ cls := "BilletBars$Die", name := "may", desc := "(I)Z" } : Jvm.MethodName)) ∈ lw_all := lw_g (lw_at lw_m2 77 rfl) rfl
theorem q356 : (Jvm.Cond.selects "BilletBars$Die" ({ cls := "BilletBars$Die", name := "may", desc := "(I)Z" } : Jvm.MethodName) ({ cls := "BilletBars$Die", name := "may", desc := "(I)Z" } : Jvm.MethodName)) ∈ lw_all := lw_g (lw_at lw_m2 78 rfl) rfl
theorem q357 : (Jvm.Cond.code ({ cls := "BilletBars$Die", name := "may", desc := "(I)Z" } : Jvm.MethodName) prog_3_method_2_code (2 : Nat) (Option.some Jvm.ClassFile.FieldType.boolean)) ∈ lw_all := lw_g (lw_at lw_m2 79 rfl) rfl
theorem q358 : (Jvm.Cond.methodLinkNest "BilletBars$Die" (27 : Nat) ({ cls := "BilletBars", name := "in", desc := "(III)Z" } : Jvm.MethodName) "BilletBars") ∈ lw_tbl := lw_at lw_m2 80 rfl
theorem q531 : (Jvm.Cond.selects "BilletBars$Die" ({ cls := "java/lang/Object", name := "getClass", desc := "()Ljava/lang/Class;" } : Jvm.MethodName) ({ cls := "java/lang/Object", name := "getClass", desc := "()Ljava/lang/Class;" } : Jvm.MethodName)) ∈ lw_all := lw_g (lw_at lw_m3 13 rfl) rfl
theorem q1271 : (Jvm.Cond.castable "BilletBars$Die" "java/lang/Object") ∈ lw_tbl := lw_at lw_m6 33 rfl
theorem in_X7 : ∀ w ∈ wsX70, w ∈ lw_all := lw_in wsX70 [315, 317, 319, 321, 323, 325, 327] (by decide +kernel) (by decide +kernel)
/-! BilletBars$Bar -/
set_option maxRecDepth 100000
def RX8 : String := "BilletBars$Bar"
def TX8 : u_T := fun k => match k with
  | 0 => ("BilletBars$Bar", "die", "LBilletBars$Die;", true)
  | 1 => ("BilletBars$Bar", "billet", "I", true)
  | 2 => ("BilletBars$Bar", "all", "I", false)
  | 3 => ("BilletBars$Bar", "goods", "I", false)
  | 4 => ("BilletBars$Bar", "cutOff", "I", false)
  | 5 => ("BilletBars$Bar", "welded", "I", false)
  | 6 => ("BilletBars$Bar", "batch", "I", false)
  | _ => ("BilletBars$Bar", "looked", "I", false)
def tyX8 : Nat → FieldType := fun k => match k with
  | 0 => .object "BilletBars$Die"
  | 1 => .int
  | 2 => .int
  | 3 => .int
  | 4 => .int
  | 5 => .int
  | 6 => .int
  | _ => .int
abbrev wsX80 : List Cond := u_ws RX8 TX8 8
theorem nmX8 : ∀ a, a < 8 → ∀ b, b < 8 → a ≠ b → (TX8 a).2.1 ≠ (TX8 b).2.1 := by decide +kernel
theorem tyX8_ok : ∀ k, k < 8 → parseFieldDescriptor (TX8 k).2.2.1 = some (tyX8 k) := by decide +kernel
abbrev cX8_init : ByteArray := prog_2_method_1_code
def yX8_init : MethodName := ⟨RX8, "<init>", "(LBilletBars$Die;I)V"⟩
def dkwX8_init_0 : List UInt8 := [42, 183, 0, 3, 42, 2, 181, 0, 9, 42, 43, 181, 0, 15, 42, 28, 181, 0, 19, 177]
abbrev dktX8_init_0 : List UInt8 := dkwX8_init_0 ++ []
theorem dksX8_init_0 : cX8_init.data.toList.drop 0 = dktX8_init_0 := by decide +kernel
theorem dX8_init_0 : decode cX8_init 0 = .ok (.aload_n 0, 1) := dk_42 (dk_at dksX8_init_0 0 rfl rfl)
theorem dX8_init_1 : decode cX8_init 1 = .ok (.invokespecial 3, 3) := dk_183 0 3 (dk_at dksX8_init_0 1 rfl rfl)
theorem dX8_init_4 : decode cX8_init 4 = .ok (.aload_n 0, 1) := dk_42 (dk_at dksX8_init_0 4 rfl rfl)
theorem dX8_init_5 : decode cX8_init 5 = .ok (.iconst (-1), 1) := dk_2 (dk_at dksX8_init_0 5 rfl rfl)
theorem dX8_init_6 : decode cX8_init 6 = .ok (.putfield 9, 3) := dk_181 0 9 (dk_at dksX8_init_0 6 rfl rfl)
theorem dX8_init_9 : decode cX8_init 9 = .ok (.aload_n 0, 1) := dk_42 (dk_at dksX8_init_0 9 rfl rfl)
theorem dX8_init_10 : decode cX8_init 10 = .ok (.aload_n 1, 1) := dk_43 (dk_at dksX8_init_0 10 rfl rfl)
theorem dX8_init_11 : decode cX8_init 11 = .ok (.putfield 15, 3) := dk_181 0 15 (dk_at dksX8_init_0 11 rfl rfl)
theorem dX8_init_14 : decode cX8_init 14 = .ok (.aload_n 0, 1) := dk_42 (dk_at dksX8_init_0 14 rfl rfl)
theorem dX8_init_15 : decode cX8_init 15 = .ok (.iload_n 2, 1) := dk_28 (dk_at dksX8_init_0 15 rfl rfl)
theorem dX8_init_16 : decode cX8_init 16 = .ok (.putfield 19, 3) := dk_181 0 19 (dk_at dksX8_init_0 16 rfl rfl)
theorem dX8_init_19 : decode cX8_init 19 = .ok (.return_, 1) := dk_177 (dk_at dksX8_init_0 19 rfl rfl)
theorem q50 : (Jvm.Cond.initialized "BilletBars$Bar") ∈ lw_all := lw_g (lw_at lw_m1 12 rfl) rfl
theorem q377 : (Jvm.Cond.instantiable "BilletBars$Bar" (8 : Nat)) ∈ lw_all := lw_g (lw_at lw_m2 99 rfl) rfl
theorem q379 : (Jvm.Cond.instanceMethod ({ cls := "BilletBars$Bar", name := "<init>", desc := "(LBilletBars$Die;I)V" } : Jvm.MethodName)) ∈ lw_all := lw_g (lw_at lw_m2 101 rfl) rfl
theorem q380 : (Jvm.Cond.code ({ cls := "BilletBars$Bar", name := "<init>", desc := "(LBilletBars$Die;I)V" } : Jvm.MethodName) prog_2_method_1_code (3 : Nat) (Option.none : Option Jvm.ClassFile.FieldType)) ∈ lw_all := lw_g (lw_at lw_m2 102 rfl) rfl
theorem q381 : (Jvm.Cond.methodLink "BilletBars$Bar" (3 : Nat) ({ cls := "java/lang/Object", name := "<init>", desc := "()V" } : Jvm.MethodName)) ∈ lw_all := lw_g (lw_at lw_m2 103 rfl) rfl
theorem q382 : (Jvm.Cond.fieldLink "BilletBars$Bar" (15 : Nat) "BilletBars$Bar" "die" "LBilletBars$Die;") ∈ lw_all := lw_g (lw_at lw_m2 104 rfl) rfl
theorem q384 : (Jvm.Cond.fieldLink "BilletBars$Bar" (19 : Nat) "BilletBars$Bar" "billet" "I") ∈ lw_all := lw_g (lw_at lw_m2 106 rfl) rfl
theorem q390 : (Jvm.Cond.fieldLink "BilletBars$Bar" (9 : Nat) "BilletBars$Bar" "batch" "I") ∈ lw_all := lw_g (lw_at lw_m2 112 rfl) rfl
theorem q393 : (Jvm.Cond.laysFinal "BilletBars$Bar" "BilletBars$Bar" "die" "LBilletBars$Die;") ∈ lw_all := lw_g (lw_at lw_m2 115 rfl) rfl
theorem q394 : (Jvm.Cond.soleField "BilletBars$Bar" "die") ∈ lw_all := lw_g (lw_at lw_m2 116 rfl) rfl
theorem q395 : (Jvm.Cond.laysFinal "BilletBars$Bar" "BilletBars$Bar" "billet" "I") ∈ lw_all := lw_g (lw_at lw_m2 117 rfl) rfl
theorem q396 : (Jvm.Cond.soleField "BilletBars$Bar" "billet") ∈ lw_all := lw_g (lw_at lw_m2 118 rfl) rfl
theorem q397 : (Jvm.Cond.lays "BilletBars$Bar" "BilletBars$Bar" "all" "I") ∈ lw_all := lw_g (lw_at lw_m2 119 rfl) rfl
theorem q398 : (Jvm.Cond.soleField "BilletBars$Bar" "all") ∈ lw_all := lw_g (lw_at lw_m2 120 rfl) rfl
theorem q399 : (Jvm.Cond.lays "BilletBars$Bar" "BilletBars$Bar" "goods" "I") ∈ lw_all := lw_g (lw_at lw_m2 121 rfl) rfl
theorem q400 : (Jvm.Cond.soleField "BilletBars$Bar" "goods") ∈ lw_all := lw_g (lw_at lw_m2 122 rfl) rfl
theorem q401 : (Jvm.Cond.lays "BilletBars$Bar" "BilletBars$Bar" "cutOff" "I") ∈ lw_all := lw_g (lw_at lw_m2 123 rfl) rfl
theorem q402 : (Jvm.Cond.soleField "BilletBars$Bar" "cutOff") ∈ lw_all := lw_g (lw_at lw_m2 124 rfl) rfl
theorem q403 : (Jvm.Cond.lays "BilletBars$Bar" "BilletBars$Bar" "welded" "I") ∈ lw_all := lw_g (lw_at lw_m2 125 rfl) rfl
theorem q404 : (Jvm.Cond.soleField "BilletBars$Bar" "welded") ∈ lw_all := lw_g (lw_at lw_m2 126 rfl) rfl
theorem q405 : (Jvm.Cond.lays "BilletBars$Bar" "BilletBars$Bar" "batch" "I") ∈ lw_all := lw_g (lw_at lw_m2 127 rfl) rfl
theorem q406 : (Jvm.Cond.soleField "BilletBars$Bar" "batch") ∈ lw_all := lw_g (lw_at lw_m2 128 rfl) rfl
theorem q407 : (Jvm.Cond.lays "BilletBars$Bar" "BilletBars$Bar" "looked" "I") ∈ lw_all := lw_g (lw_at lw_m2 129 rfl) rfl
theorem q408 : (Jvm.Cond.soleField "BilletBars$Bar" "looked") ∈ lw_all := lw_g (lw_at lw_m2 130 rfl) rfl
theorem q409 : (Jvm.Cond.superclass "BilletBars$Bar" "java/lang/Object") ∈ lw_all := lw_g (lw_at lw_m2 131 rfl) rfl
theorem q530 : (Jvm.Cond.selects "BilletBars$Bar" ({ cls := "java/lang/Object", name := "getClass", desc := "()Ljava/lang/Class;" } : Jvm.MethodName) ({ cls := "java/lang/Object", name := "getClass", desc := "()Ljava/lang/Class;" } : Jvm.MethodName)) ∈ lw_all := lw_g (lw_at lw_m3 12 rfl) rfl
theorem q1272 : (Jvm.Cond.castable "BilletBars$Bar" "java/lang/Object") ∈ lw_tbl := lw_at lw_m6 34 rfl
theorem in_X8 : ∀ w ∈ wsX80, w ∈ lw_all := lw_in wsX80 [393, 395, 397, 399, 401, 403, 405, 407] (by decide +kernel) (by decide +kernel)
/-! BilletBars$Order -/
set_option maxRecDepth 100000
def RX9 : String := "BilletBars$Order"
def TX9 : u_T := fun k => match k with
  | 0 => ("BilletBars$Order", "length", "I", true)
  | _ => ("BilletBars$Order", "wanted", "I", false)
def tyX9 : Nat → FieldType := fun k => match k with
  | 0 => .int
  | _ => .int
abbrev wsX90 : List Cond := u_ws RX9 TX9 2
theorem nmX9 : ∀ a, a < 2 → ∀ b, b < 2 → a ≠ b → (TX9 a).2.1 ≠ (TX9 b).2.1 := by decide +kernel
theorem tyX9_ok : ∀ k, k < 2 → parseFieldDescriptor (TX9 k).2.2.1 = some (tyX9 k) := by decide +kernel
abbrev cX9_init : ByteArray := prog_5_method_1_code
def yX9_init : MethodName := ⟨RX9, "<init>", "(II)V"⟩
def dkwX9_init_0 : List UInt8 := [42, 183, 0, 1, 42, 27, 181, 0, 7, 42, 28, 181, 0, 13, 177]
abbrev dktX9_init_0 : List UInt8 := dkwX9_init_0 ++ []
theorem dksX9_init_0 : cX9_init.data.toList.drop 0 = dktX9_init_0 := by decide +kernel
theorem dX9_init_0 : decode cX9_init 0 = .ok (.aload_n 0, 1) := dk_42 (dk_at dksX9_init_0 0 rfl rfl)
theorem dX9_init_1 : decode cX9_init 1 = .ok (.invokespecial 1, 3) := dk_183 0 1 (dk_at dksX9_init_0 1 rfl rfl)
theorem dX9_init_4 : decode cX9_init 4 = .ok (.aload_n 0, 1) := dk_42 (dk_at dksX9_init_0 4 rfl rfl)
theorem dX9_init_5 : decode cX9_init 5 = .ok (.iload_n 1, 1) := dk_27 (dk_at dksX9_init_0 5 rfl rfl)
theorem dX9_init_6 : decode cX9_init 6 = .ok (.putfield 7, 3) := dk_181 0 7 (dk_at dksX9_init_0 6 rfl rfl)
theorem dX9_init_9 : decode cX9_init 9 = .ok (.aload_n 0, 1) := dk_42 (dk_at dksX9_init_0 9 rfl rfl)
theorem dX9_init_10 : decode cX9_init 10 = .ok (.iload_n 2, 1) := dk_28 (dk_at dksX9_init_0 10 rfl rfl)
theorem dX9_init_11 : decode cX9_init 11 = .ok (.putfield 13, 3) := dk_181 0 13 (dk_at dksX9_init_0 11 rfl rfl)
theorem dX9_init_14 : decode cX9_init 14 = .ok (.return_, 1) := dk_177 (dk_at dksX9_init_0 14 rfl rfl)
theorem q54 : (Jvm.Cond.initialized "BilletBars$Order") ∈ lw_all := lw_g (lw_at lw_m1 16 rfl) rfl
theorem q485 : (Jvm.Cond.instantiable "BilletBars$Order" (2 : Nat)) ∈ lw_all := lw_g (lw_at lw_m2 207 rfl) rfl
theorem q487 : (Jvm.Cond.instanceMethod ({ cls := "BilletBars$Order", name := "<init>", desc := "(II)V" } : Jvm.MethodName)) ∈ lw_all := lw_g (lw_at lw_m2 209 rfl) rfl
theorem q488 : (Jvm.Cond.code ({ cls := "BilletBars$Order", name := "<init>", desc := "(II)V" } : Jvm.MethodName) prog_5_method_1_code (3 : Nat) (Option.none : Option Jvm.ClassFile.FieldType)) ∈ lw_all := lw_g (lw_at lw_m2 210 rfl) rfl
theorem q489 : (Jvm.Cond.methodLink "BilletBars$Order" (1 : Nat) ({ cls := "java/lang/Object", name := "<init>", desc := "()V" } : Jvm.MethodName)) ∈ lw_all := lw_g (lw_at lw_m2 211 rfl) rfl
theorem q490 : (Jvm.Cond.fieldLink "BilletBars$Order" (7 : Nat) "BilletBars$Order" "length" "I") ∈ lw_all := lw_g (lw_at lw_m2 212 rfl) rfl
theorem q492 : (Jvm.Cond.fieldLink "BilletBars$Order" (13 : Nat) "BilletBars$Order" "wanted" "I") ∈ lw_all := lw_g (lw_at lw_m2 214 rfl) rfl
theorem q494 : (Jvm.Cond.laysFinal "BilletBars$Order" "BilletBars$Order" "length" "I") ∈ lw_all := lw_g (lw_at lw_m2 216 rfl) rfl
theorem q495 : (Jvm.Cond.soleField "BilletBars$Order" "length") ∈ lw_all := lw_g (lw_at lw_m2 217 rfl) rfl
theorem q496 : (Jvm.Cond.lays "BilletBars$Order" "BilletBars$Order" "wanted" "I") ∈ lw_all := lw_g (lw_at lw_m2 218 rfl) rfl
theorem q497 : (Jvm.Cond.soleField "BilletBars$Order" "wanted") ∈ lw_all := lw_g (lw_at lw_m2 219 rfl) rfl
theorem q498 : (Jvm.Cond.superclass "BilletBars$Order" "java/lang/Object") ∈ lw_all := lw_g (lw_at lw_m2 220 rfl) rfl
theorem q533 : (Jvm.Cond.selects "BilletBars$Order" ({ cls := "java/lang/Object", name := "getClass", desc := "()Ljava/lang/Class;" } : Jvm.MethodName) ({ cls := "java/lang/Object", name := "getClass", desc := "()Ljava/lang/Class;" } : Jvm.MethodName)) ∈ lw_all := lw_g (lw_at lw_m3 15 rfl) rfl
theorem q1279 : (Jvm.Cond.castable "BilletBars$Order" "java/lang/Object") ∈ lw_tbl := lw_at lw_m6 41 rfl
theorem in_X9 : ∀ w ∈ wsX90, w ∈ lw_all := lw_in wsX90 [494, 496] (by decide +kernel) (by decide +kernel)
