/-! VibrationDesk$Bad -/
set_option maxRecDepth 100000
def RX1 : String := "VibrationDesk$Bad"
def TX1 : u_T := fun k => match k with
  | 0 => ("java/lang/Throwable", "cause", "Ljava/lang/Throwable;", false)
  | 1 => ("java/lang/Throwable", "stackTrace", "[Ljava/lang/StackTraceElement;", false)
  | 2 => ("java/lang/Throwable", "suppressedExceptions", "Ljava/util/List;", false)
  | 3 => ("java/lang/Throwable", "detailMessage", "Ljava/lang/String;", false)
  | 4 => ("java/lang/Throwable", "backtrace", "Ljava/lang/Object;", false)
  | 5 => ("java/lang/Throwable", "depth", "I", false)
  | 6 => ("VibrationDesk$Bad", "kind", "I", false)
  | _ => ("VibrationDesk$Bad", "place", "I", false)
def tyX1 : Nat → FieldType := fun k => match k with
  | 0 => .object "java/lang/Throwable"
  | 1 => .array (.object "java/lang/StackTraceElement")
  | 2 => .object "java/util/List"
  | 3 => .object "java/lang/String"
  | 4 => .object "java/lang/Object"
  | 5 => .int
  | 6 => .int
  | _ => .int
abbrev wsX10 : List Cond := u_ws RX1 TX1 8
theorem nmX1 : ∀ a, a < 8 → ∀ b, b < 8 → a ≠ b → (TX1 a).2.1 ≠ (TX1 b).2.1 := by decide +kernel
theorem tyX1_ok : ∀ k, k < 8 → parseFieldDescriptor (TX1 k).2.2.1 = some (tyX1 k) := by decide +kernel
abbrev cX1_init : ByteArray := prog_2_method_1_code
def yX1_init : MethodName := ⟨RX1, "<init>", "()V"⟩
def dkwX1_init_0 : List UInt8 := [42, 1, 1, 3, 3, 183, 0, 1, 177]
abbrev dktX1_init_0 : List UInt8 := dkwX1_init_0 ++ []
theorem dksX1_init_0 : cX1_init.data.toList.drop 0 = dktX1_init_0 := by decide +kernel
theorem dX1_init_0 : decode cX1_init 0 = .ok (.aload_n 0, 1) := dk_42 (dk_at dksX1_init_0 0 rfl rfl)
theorem dX1_init_1 : decode cX1_init 1 = .ok (.aconst_null, 1) := dk_1 (dk_at dksX1_init_0 1 rfl rfl)
theorem dX1_init_2 : decode cX1_init 2 = .ok (.aconst_null, 1) := dk_1 (dk_at dksX1_init_0 2 rfl rfl)
theorem dX1_init_3 : decode cX1_init 3 = .ok (.iconst 0, 1) := dk_3 (dk_at dksX1_init_0 3 rfl rfl)
theorem dX1_init_4 : decode cX1_init 4 = .ok (.iconst 0, 1) := dk_3 (dk_at dksX1_init_0 4 rfl rfl)
theorem dX1_init_5 : decode cX1_init 5 = .ok (.invokespecial 1, 3) := dk_183 0 1 (dk_at dksX1_init_0 5 rfl rfl)
theorem dX1_init_8 : decode cX1_init 8 = .ok (.return_, 1) := dk_177 (dk_at dksX1_init_0 8 rfl rfl)
abbrev cX1_at : ByteArray := prog_2_method_2_code
def yX1_at : MethodName := ⟨RX1, "at", "(II)LVibrationDesk$Bad;"⟩
def dkwX1_at_0 : List UInt8 := [42, 27, 181, 0, 7, 42, 28, 181, 0, 13, 42, 176]
abbrev dktX1_at_0 : List UInt8 := dkwX1_at_0 ++ []
theorem dksX1_at_0 : cX1_at.data.toList.drop 0 = dktX1_at_0 := by decide +kernel
theorem dX1_at_0 : decode cX1_at 0 = .ok (.aload_n 0, 1) := dk_42 (dk_at dksX1_at_0 0 rfl rfl)
theorem dX1_at_1 : decode cX1_at 1 = .ok (.iload_n 1, 1) := dk_27 (dk_at dksX1_at_0 1 rfl rfl)
theorem dX1_at_2 : decode cX1_at 2 = .ok (.putfield 7, 3) := dk_181 0 7 (dk_at dksX1_at_0 2 rfl rfl)
theorem dX1_at_5 : decode cX1_at 5 = .ok (.aload_n 0, 1) := dk_42 (dk_at dksX1_at_0 5 rfl rfl)
theorem dX1_at_6 : decode cX1_at 6 = .ok (.iload_n 2, 1) := dk_28 (dk_at dksX1_at_0 6 rfl rfl)
theorem dX1_at_7 : decode cX1_at 7 = .ok (.putfield 13, 3) := dk_181 0 13 (dk_at dksX1_at_0 7 rfl rfl)
theorem dX1_at_10 : decode cX1_at 10 = .ok (.aload_n 0, 1) := dk_42 (dk_at dksX1_at_0 10 rfl rfl)
theorem dX1_at_11 : decode cX1_at 11 = .ok (.areturn, 1) := dk_176 (dk_at dksX1_at_0 11 rfl rfl)
theorem q151 : (Jvm.Cond.initialized "VibrationDesk$Bad") ∈ lw_all := lw_g (lw_at lw_m1 4 rfl) rfl
theorem q188 : (Jvm.Cond.instantiable "VibrationDesk$Bad" (8 : Nat)) ∈ lw_all := lw_g (lw_at lw_m1 41 rfl) rfl
theorem q189 : (Jvm.Cond.castable "VibrationDesk$Bad" "VibrationDesk$Bad") ∈ lw_tbl := lw_at lw_m1 42 rfl
theorem q194 : (Jvm.Cond.selects "VibrationDesk$Bad" ({ cls := "java/lang/Throwable", name := "fillInStackTrace", desc := "(I)Ljava/lang/Throwable;" } : Jvm.MethodName) ({ cls := "java/lang/Throwable", name := "fillInStackTrace", desc := "(I)Ljava/lang/Throwable;" } : Jvm.MethodName)) ∈ lw_all := lw_g (lw_at lw_m1 47 rfl) rfl
theorem q195 : (Jvm.Cond.selects "VibrationDesk$Bad" ({ cls := "java/lang/Throwable", name := "fillInStackTrace", desc := "()Ljava/lang/Throwable;" } : Jvm.MethodName) ({ cls := "java/lang/Throwable", name := "fillInStackTrace", desc := "()Ljava/lang/Throwable;" } : Jvm.MethodName)) ∈ lw_all := lw_g (lw_at lw_m1 48 rfl) rfl
theorem q196 : (Jvm.Cond.lays "VibrationDesk$Bad" "java/lang/Throwable" "cause" "Ljava/lang/Throwable;") ∈ lw_all := lw_g (lw_at lw_m1 49 rfl) rfl
theorem q198 : (Jvm.Cond.lays "VibrationDesk$Bad" "java/lang/Throwable" "stackTrace" "[Ljava/lang/StackTraceElement;") ∈ lw_all := lw_g (lw_at lw_m1 51 rfl) rfl
theorem q200 : (Jvm.Cond.lays "VibrationDesk$Bad" "java/lang/Throwable" "suppressedExceptions" "Ljava/util/List;") ∈ lw_all := lw_g (lw_at lw_m1 53 rfl) rfl
theorem q202 : (Jvm.Cond.lays "VibrationDesk$Bad" "java/lang/Throwable" "detailMessage" "Ljava/lang/String;") ∈ lw_all := lw_g (lw_at lw_m1 55 rfl) rfl
theorem q204 : (Jvm.Cond.lays "VibrationDesk$Bad" "java/lang/Throwable" "backtrace" "Ljava/lang/Object;") ∈ lw_all := lw_g (lw_at lw_m1 57 rfl) rfl
theorem q240 : (Jvm.Cond.instanceMethod ({ cls := "VibrationDesk$Bad", name := "<init>", desc := "()V" } : Jvm.MethodName)) ∈ lw_all := lw_g (lw_at lw_m1 93 rfl) rfl
theorem q241 : (Jvm.Cond.code ({ cls := "VibrationDesk$Bad", name := "<init>", desc := "()V" } : Jvm.MethodName) prog_2_method_1_code (1 : Nat) (Option.none : Option Jvm.ClassFile.FieldType)) ∈ lw_all := lw_g (lw_at lw_m1 94 rfl) rfl
theorem q242 : (Jvm.Cond.methodLink "VibrationDesk$Bad" (1 : Nat) ({ cls := "java/lang/Exception", name := "<init>", desc := "(Ljava/lang/String;Ljava/lang/Throwable;ZZ)V" } : Jvm.MethodName)) ∈ lw_all := lw_g (lw_at lw_m1 95 rfl) rfl
theorem q248 : (Jvm.Cond.fieldLink "VibrationDesk$Bad" (7 : Nat) "VibrationDesk$Bad" "kind" "I") ∈ lw_all := lw_g (lw_at lw_m1 101 rfl) rfl
theorem q250 : (Jvm.Cond.fieldLink "VibrationDesk$Bad" (13 : Nat) "VibrationDesk$Bad" "place" "I") ∈ lw_all := lw_g (lw_at lw_m1 103 rfl) rfl
theorem q257 : (Jvm.Cond.lays "VibrationDesk$Bad" "VibrationDesk$Bad" "kind" "I") ∈ lw_all := lw_g (lw_at lw_m1 110 rfl) rfl
theorem q258 : (Jvm.Cond.soleField "VibrationDesk$Bad" "kind") ∈ lw_all := lw_g (lw_at lw_m1 111 rfl) rfl
theorem q259 : (Jvm.Cond.lays "VibrationDesk$Bad" "VibrationDesk$Bad" "place" "I") ∈ lw_all := lw_g (lw_at lw_m1 112 rfl) rfl
theorem q260 : (Jvm.Cond.soleField "VibrationDesk$Bad" "place") ∈ lw_all := lw_g (lw_at lw_m1 113 rfl) rfl
theorem q265 : (Jvm.Cond.lays "VibrationDesk$Bad" "java/lang/Throwable" "depth" "I") ∈ lw_all := lw_g (lw_at lw_m1 118 rfl) rfl
theorem q268 : (Jvm.Cond.superclass "VibrationDesk$Bad" "java/lang/Exception") ∈ lw_all := lw_g (lw_at lw_m1 121 rfl) rfl
theorem q1028 : (Jvm.Cond.instanceMethod ({ cls := "VibrationDesk$Bad", name := "at", desc := "(II)LVibrationDesk$Bad;" } : Jvm.MethodName)) ∈ lw_all := lw_g (lw_at lw_m4 161 rfl) rfl
theorem q1029 : (Jvm.Cond.selects "VibrationDesk$Bad" ({ cls := "VibrationDesk$Bad", name := "at", desc := "(II)LVibrationDesk$Bad;" } : Jvm.MethodName) ({ cls := "VibrationDesk$Bad", name := "at", desc := "(II)LVibrationDesk$Bad;" } : Jvm.MethodName)) ∈ lw_all := lw_g (lw_at lw_m4 162 rfl) rfl
theorem q1030 : (Jvm.Cond.code ({ cls := "VibrationDesk$Bad", name := "at", desc := "(II)LVibrationDesk$Bad;" } : Jvm.MethodName) prog_2_method_2_code (3 : Nat) (Option.some (Jvm.ClassFile.FieldType.object "VibrationDesk$Bad"))) ∈ lw_all := lw_g (lw_at lw_m4 163 rfl) rfl
theorem in_X1 : ∀ w ∈ wsX10, w ∈ lw_all := lw_in wsX10 [196, 198, 200, 202, 204, 265, 257, 259] (by decide +kernel) (by decide +kernel)
