/-! VibrationDesk$Seat -/
set_option maxRecDepth 100000
def RX4 : String := "VibrationDesk$Seat"
def TX4 : u_T := fun k => match k with
  | 0 => ("VibrationDesk$Seat", "atom", "I", true)
  | 1 => ("VibrationDesk$Seat", "next", "LVibrationDesk$Seat;", true)
  | _ => ("VibrationDesk$Seat", "taken", "I", false)
def tyX4 : Nat → FieldType := fun k => match k with
  | 0 => .int
  | 1 => .object "VibrationDesk$Seat"
  | _ => .int
abbrev wsX40 : List Cond := u_ws RX4 TX4 3
theorem nmX4 : ∀ a, a < 3 → ∀ b, b < 3 → a ≠ b → (TX4 a).2.1 ≠ (TX4 b).2.1 := by decide +kernel
theorem tyX4_ok : ∀ k, k < 3 → parseFieldDescriptor (TX4 k).2.2.1 = some (tyX4 k) := by decide +kernel
abbrev cX4_init : ByteArray := prog_12_method_1_code
def yX4_init : MethodName := ⟨RX4, "<init>", "(I)V"⟩
def dkwX4_init_1 : List UInt8 := [96, 183, 0, 15, 167, 0, 4, 1, 181, 0, 18, 177]
abbrev dktX4_init_1 : List UInt8 := dkwX4_init_1 ++ []
def dkwX4_init_0 : List UInt8 := [42, 183, 0, 3, 42, 27, 181, 0, 9, 42, 27, 4, 96, 16, 12, 162, 0, 16, 187, 0, 10, 89, 27, 4]
abbrev dktX4_init_0 : List UInt8 := dkwX4_init_0 ++ dktX4_init_1
theorem dksX4_init_0 : cX4_init.data.toList.drop 0 = dktX4_init_0 := by decide +kernel
theorem dksX4_init_1 : cX4_init.data.toList.drop 24 = dktX4_init_1 := dk_seg dksX4_init_0 24 rfl rfl
theorem dX4_init_0 : decode cX4_init 0 = .ok (.aload_n 0, 1) := dk_42 (dk_at dksX4_init_0 0 rfl rfl)
theorem dX4_init_1 : decode cX4_init 1 = .ok (.invokespecial 3, 3) := dk_183 0 3 (dk_at dksX4_init_0 1 rfl rfl)
theorem dX4_init_4 : decode cX4_init 4 = .ok (.aload_n 0, 1) := dk_42 (dk_at dksX4_init_0 4 rfl rfl)
theorem dX4_init_5 : decode cX4_init 5 = .ok (.iload_n 1, 1) := dk_27 (dk_at dksX4_init_0 5 rfl rfl)
theorem dX4_init_6 : decode cX4_init 6 = .ok (.putfield 9, 3) := dk_181 0 9 (dk_at dksX4_init_0 6 rfl rfl)
theorem dX4_init_9 : decode cX4_init 9 = .ok (.aload_n 0, 1) := dk_42 (dk_at dksX4_init_0 9 rfl rfl)
theorem dX4_init_10 : decode cX4_init 10 = .ok (.iload_n 1, 1) := dk_27 (dk_at dksX4_init_0 10 rfl rfl)
theorem dX4_init_11 : decode cX4_init 11 = .ok (.iconst 1, 1) := dk_4 (dk_at dksX4_init_0 11 rfl rfl)
theorem dX4_init_12 : decode cX4_init 12 = .ok (.iadd, 1) := dk_96 (dk_at dksX4_init_0 12 rfl rfl)
theorem dX4_init_13 : decode cX4_init 13 = .ok (.bipush 12, 2) := dk_16 12 (dk_at dksX4_init_0 13 rfl rfl)
theorem dX4_init_15 : decode cX4_init 15 = .ok (.if_icmp .ge 16, 3) := dk_162 0 16 (dk_at dksX4_init_0 15 rfl rfl)
theorem dX4_init_18 : decode cX4_init 18 = .ok (.new 10, 3) := dk_187 0 10 (dk_at dksX4_init_0 18 rfl rfl)
theorem dX4_init_21 : decode cX4_init 21 = .ok (.dup, 1) := dk_89 (dk_at dksX4_init_0 21 rfl rfl)
theorem dX4_init_22 : decode cX4_init 22 = .ok (.iload_n 1, 1) := dk_27 (dk_at dksX4_init_0 22 rfl rfl)
theorem dX4_init_23 : decode cX4_init 23 = .ok (.iconst 1, 1) := dk_4 (dk_at dksX4_init_0 23 rfl rfl)
theorem dX4_init_24 : decode cX4_init 24 = .ok (.iadd, 1) := dk_96 (dk_at dksX4_init_1 0 rfl rfl)
theorem dX4_init_25 : decode cX4_init 25 = .ok (.invokespecial 15, 3) := dk_183 0 15 (dk_at dksX4_init_1 1 rfl rfl)
theorem dX4_init_28 : decode cX4_init 28 = .ok (.goto 4, 3) := dk_167 0 4 (dk_at dksX4_init_1 4 rfl rfl)
theorem dX4_init_31 : decode cX4_init 31 = .ok (.aconst_null, 1) := dk_1 (dk_at dksX4_init_1 7 rfl rfl)
theorem dX4_init_32 : decode cX4_init 32 = .ok (.putfield 18, 3) := dk_181 0 18 (dk_at dksX4_init_1 8 rfl rfl)
theorem dX4_init_35 : decode cX4_init 35 = .ok (.return_, 1) := dk_177 (dk_at dksX4_init_1 11 rfl rfl)
theorem q158 : (Jvm.Cond.initialized "VibrationDesk$Seat") ∈ lw_all := lw_g (lw_at lw_m1 11 rfl) rfl
theorem q365 : (Jvm.Cond.instantiable "VibrationDesk$Seat" (3 : Nat)) ∈ lw_all := lw_g (lw_at lw_m1 218 rfl) rfl
theorem q367 : (Jvm.Cond.instanceMethod ({ cls := "VibrationDesk$Seat", name := "<init>", desc := "(I)V" } : Jvm.MethodName)) ∈ lw_all := lw_g (lw_at lw_m1 220 rfl) rfl
theorem q368 : (Jvm.Cond.code ({ cls := "VibrationDesk$Seat", name := "<init>", desc := "(I)V" } : Jvm.MethodName) prog_12_method_1_code (2 : Nat) (Option.none : Option Jvm.ClassFile.FieldType)) ∈ lw_all := lw_g (lw_at lw_m1 221 rfl) rfl
theorem q369 : (Jvm.Cond.methodLink "VibrationDesk$Seat" (3 : Nat) ({ cls := "java/lang/Object", name := "<init>", desc := "()V" } : Jvm.MethodName)) ∈ lw_all := lw_g (lw_at lw_m1 222 rfl) rfl
theorem q370 : (Jvm.Cond.classLink "VibrationDesk$Seat" (10 : Nat) "VibrationDesk$Seat") ∈ lw_all := lw_g (lw_at lw_m1 223 rfl) rfl
theorem q371 : (Jvm.Cond.methodLink "VibrationDesk$Seat" (15 : Nat) ({ cls := "VibrationDesk$Seat", name := "<init>", desc := "(I)V" } : Jvm.MethodName)) ∈ lw_all := lw_g (lw_at lw_m1 224 rfl) rfl
theorem q372 : (Jvm.Cond.fieldLink "VibrationDesk$Seat" (9 : Nat) "VibrationDesk$Seat" "atom" "I") ∈ lw_all := lw_g (lw_at lw_m1 225 rfl) rfl
theorem q374 : (Jvm.Cond.fieldLink "VibrationDesk$Seat" (18 : Nat) "VibrationDesk$Seat" "next" "LVibrationDesk$Seat;") ∈ lw_all := lw_g (lw_at lw_m1 227 rfl) rfl
theorem q377 : (Jvm.Cond.laysFinal "VibrationDesk$Seat" "VibrationDesk$Seat" "atom" "I") ∈ lw_all := lw_g (lw_at lw_m1 230 rfl) rfl
theorem q378 : (Jvm.Cond.soleField "VibrationDesk$Seat" "atom") ∈ lw_all := lw_g (lw_at lw_m1 231 rfl) rfl
theorem q379 : (Jvm.Cond.laysFinal "VibrationDesk$Seat" "VibrationDesk$Seat" "next" "LVibrationDesk$Seat;") ∈ lw_all := lw_g (lw_at lw_m1 232 rfl) rfl
theorem q380 : (Jvm.Cond.soleField "VibrationDesk$Seat" "next") ∈ lw_all := lw_g (lw_at lw_m1 233 rfl) rfl
theorem q381 : (Jvm.Cond.lays "VibrationDesk$Seat" "VibrationDesk$Seat" "taken" "I") ∈ lw_all := lw_g (lw_at lw_m1 234 rfl) rfl
theorem q382 : (Jvm.Cond.soleField "VibrationDesk$Seat" "taken") ∈ lw_all := lw_g (lw_at lw_m1 235 rfl) rfl
theorem q383 : (Jvm.Cond.superclass "VibrationDesk$Seat" "java/lang/Object") ∈ lw_all := lw_g (lw_at lw_m1 236 rfl) rfl
theorem in_X4 : ∀ w ∈ wsX40, w ∈ lw_all := lw_in wsX40 [377, 379, 381] (by decide +kernel) (by decide +kernel)
