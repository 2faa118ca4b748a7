/-! VibrationDesk$Layer -/
set_option maxRecDepth 100000
def RX9 : String := "VibrationDesk$Layer"
def TX9 : u_T := fun k => match k with
  | 0 => ("VibrationDesk$Layer", "rows", "[[I", true)
  | 1 => ("VibrationDesk$Layer", "image", "[[I", true)
  | 2 => ("VibrationDesk$Layer", "with", "[[I", true)
  | 3 => ("VibrationDesk$Layer", "many", "I", false)
  | _ => ("VibrationDesk$Layer", "below", "LVibrationDesk$Layer;", true)
def tyX9 : Nat → FieldType := fun k => match k with
  | 0 => .array (.array .int)
  | 1 => .array (.array .int)
  | 2 => .array (.array .int)
  | 3 => .int
  | _ => .object "VibrationDesk$Layer"
abbrev wsX90 : List Cond := u_ws RX9 TX9 5
theorem nmX9 : ∀ a, a < 5 → ∀ b, b < 5 → a ≠ b → (TX9 a).2.1 ≠ (TX9 b).2.1 := by decide +kernel
theorem tyX9_ok : ∀ k, k < 5 → parseFieldDescriptor (TX9 k).2.2.1 = some (tyX9 k) := by decide +kernel
abbrev cX9_init : ByteArray := prog_8_method_1_code
def yX9_init : MethodName := ⟨RX9, "<init>", "(I)V"⟩
def dkwX9_init_2 : List UInt8 := [162, 0, 16, 187, 0, 12, 89, 27, 4, 96, 183, 0, 22, 167, 0, 4, 1, 181, 0, 25, 177]
abbrev dktX9_init_2 : List UInt8 := dkwX9_init_2 ++ []
def dkwX9_init_1 : List UInt8 := [197, 0, 9, 2, 181, 0, 16, 42, 16, 12, 16, 12, 197, 0, 9, 2, 181, 0, 19, 42, 27, 16, 12]
abbrev dktX9_init_1 : List UInt8 := dkwX9_init_1 ++ dktX9_init_2
def dkwX9_init_0 : List UInt8 := [42, 183, 0, 3, 42, 16, 12, 16, 12, 197, 0, 9, 2, 181, 0, 11, 42, 16, 12, 16, 12]
abbrev dktX9_init_0 : List UInt8 := dkwX9_init_0 ++ dktX9_init_1
theorem dksX9_init_0 : cX9_init.data.toList.drop 0 = dktX9_init_0 := by decide +kernel
theorem dksX9_init_1 : cX9_init.data.toList.drop 21 = dktX9_init_1 := dk_seg dksX9_init_0 21 rfl rfl
theorem dksX9_init_2 : cX9_init.data.toList.drop 44 = dktX9_init_2 := dk_seg dksX9_init_1 23 rfl rfl
theorem dX9_init_0 : decode cX9_init 0 = .ok (.aload_n 0, 1) := dk_42 (dk_at dksX9_init_0 0 rfl rfl)
theorem dX9_init_1 : decode cX9_init 1 = .ok (.invokespecial 3, 3) := dk_183 0 3 (dk_at dksX9_init_0 1 rfl rfl)
theorem dX9_init_4 : decode cX9_init 4 = .ok (.aload_n 0, 1) := dk_42 (dk_at dksX9_init_0 4 rfl rfl)
theorem dX9_init_5 : decode cX9_init 5 = .ok (.bipush 12, 2) := dk_16 12 (dk_at dksX9_init_0 5 rfl rfl)
theorem dX9_init_7 : decode cX9_init 7 = .ok (.bipush 12, 2) := dk_16 12 (dk_at dksX9_init_0 7 rfl rfl)
theorem dX9_init_9 : decode cX9_init 9 = .ok (.multianewarray 9 2, 4) := by decide +kernel
theorem dX9_init_13 : decode cX9_init 13 = .ok (.putfield 11, 3) := dk_181 0 11 (dk_at dksX9_init_0 13 rfl rfl)
theorem dX9_init_16 : decode cX9_init 16 = .ok (.aload_n 0, 1) := dk_42 (dk_at dksX9_init_0 16 rfl rfl)
theorem dX9_init_17 : decode cX9_init 17 = .ok (.bipush 12, 2) := dk_16 12 (dk_at dksX9_init_0 17 rfl rfl)
theorem dX9_init_19 : decode cX9_init 19 = .ok (.bipush 12, 2) := dk_16 12 (dk_at dksX9_init_0 19 rfl rfl)
theorem dX9_init_21 : decode cX9_init 21 = .ok (.multianewarray 9 2, 4) := by decide +kernel
theorem dX9_init_25 : decode cX9_init 25 = .ok (.putfield 16, 3) := dk_181 0 16 (dk_at dksX9_init_1 4 rfl rfl)
theorem dX9_init_28 : decode cX9_init 28 = .ok (.aload_n 0, 1) := dk_42 (dk_at dksX9_init_1 7 rfl rfl)
theorem dX9_init_29 : decode cX9_init 29 = .ok (.bipush 12, 2) := dk_16 12 (dk_at dksX9_init_1 8 rfl rfl)
theorem dX9_init_31 : decode cX9_init 31 = .ok (.bipush 12, 2) := dk_16 12 (dk_at dksX9_init_1 10 rfl rfl)
theorem dX9_init_33 : decode cX9_init 33 = .ok (.multianewarray 9 2, 4) := by decide +kernel
theorem dX9_init_37 : decode cX9_init 37 = .ok (.putfield 19, 3) := dk_181 0 19 (dk_at dksX9_init_1 16 rfl rfl)
theorem dX9_init_40 : decode cX9_init 40 = .ok (.aload_n 0, 1) := dk_42 (dk_at dksX9_init_1 19 rfl rfl)
theorem dX9_init_41 : decode cX9_init 41 = .ok (.iload_n 1, 1) := dk_27 (dk_at dksX9_init_1 20 rfl rfl)
theorem dX9_init_42 : decode cX9_init 42 = .ok (.bipush 12, 2) := dk_16 12 (dk_at dksX9_init_1 21 rfl rfl)
theorem dX9_init_44 : decode cX9_init 44 = .ok (.if_icmp .ge 16, 3) := dk_162 0 16 (dk_at dksX9_init_2 0 rfl rfl)
theorem dX9_init_47 : decode cX9_init 47 = .ok (.new 12, 3) := dk_187 0 12 (dk_at dksX9_init_2 3 rfl rfl)
theorem dX9_init_50 : decode cX9_init 50 = .ok (.dup, 1) := dk_89 (dk_at dksX9_init_2 6 rfl rfl)
theorem dX9_init_51 : decode cX9_init 51 = .ok (.iload_n 1, 1) := dk_27 (dk_at dksX9_init_2 7 rfl rfl)
theorem dX9_init_52 : decode cX9_init 52 = .ok (.iconst 1, 1) := dk_4 (dk_at dksX9_init_2 8 rfl rfl)
theorem dX9_init_53 : decode cX9_init 53 = .ok (.iadd, 1) := dk_96 (dk_at dksX9_init_2 9 rfl rfl)
theorem dX9_init_54 : decode cX9_init 54 = .ok (.invokespecial 22, 3) := dk_183 0 22 (dk_at dksX9_init_2 10 rfl rfl)
theorem dX9_init_57 : decode cX9_init 57 = .ok (.goto 4, 3) := dk_167 0 4 (dk_at dksX9_init_2 13 rfl rfl)
theorem dX9_init_60 : decode cX9_init 60 = .ok (.aconst_null, 1) := dk_1 (dk_at dksX9_init_2 16 rfl rfl)
theorem dX9_init_61 : decode cX9_init 61 = .ok (.putfield 25, 3) := dk_181 0 25 (dk_at dksX9_init_2 17 rfl rfl)
theorem dX9_init_64 : decode cX9_init 64 = .ok (.return_, 1) := dk_177 (dk_at dksX9_init_2 20 rfl rfl)
theorem q163 : (Jvm.Cond.initialized "VibrationDesk$Layer") ∈ lw_all := lw_g (lw_at lw_m1 16 rfl) rfl
theorem q540 : (Jvm.Cond.instantiable "VibrationDesk$Layer" (5 : Nat)) ∈ lw_all := lw_g (lw_at lw_m2 153 rfl) rfl
theorem q542 : (Jvm.Cond.instanceMethod ({ cls := "VibrationDesk$Layer", name := "<init>", desc := "(I)V" } : Jvm.MethodName)) ∈ lw_all := lw_g (lw_at lw_m2 155 rfl) rfl
theorem q543 : (Jvm.Cond.code ({ cls := "VibrationDesk$Layer", name := "<init>", desc := "(I)V" } : Jvm.MethodName) prog_8_method_1_code (2 : Nat) (Option.none : Option Jvm.ClassFile.FieldType)) ∈ lw_all := lw_g (lw_at lw_m2 156 rfl) rfl
theorem q544 : (Jvm.Cond.methodLink "VibrationDesk$Layer" (3 : Nat) ({ cls := "java/lang/Object", name := "<init>", desc := "()V" } : Jvm.MethodName)) ∈ lw_all := lw_g (lw_at lw_m2 157 rfl) rfl
theorem q545 : (Jvm.Cond.classLink "VibrationDesk$Layer" (9 : Nat) "[[I") ∈ lw_all := lw_g (lw_at lw_m2 158 rfl) rfl
theorem q546 : (Jvm.Cond.classLink "VibrationDesk$Layer" (12 : Nat) "VibrationDesk$Layer") ∈ lw_all := lw_g (lw_at lw_m2 159 rfl) rfl
theorem q547 : (Jvm.Cond.methodLink "VibrationDesk$Layer" (22 : Nat) ({ cls := "VibrationDesk$Layer", name := "<init>", desc := "(I)V" } : Jvm.MethodName)) ∈ lw_all := lw_g (lw_at lw_m2 160 rfl) rfl
theorem q548 : (Jvm.Cond.fieldLink "VibrationDesk$Layer" (11 : Nat) "VibrationDesk$Layer" "rows" "[[I") ∈ lw_all := lw_g (lw_at lw_m2 161 rfl) rfl
theorem q550 : (Jvm.Cond.fieldLink "VibrationDesk$Layer" (16 : Nat) "VibrationDesk$Layer" "image" "[[I") ∈ lw_all := lw_g (lw_at lw_m2 163 rfl) rfl
theorem q552 : (Jvm.Cond.fieldLink "VibrationDesk$Layer" (19 : Nat) "VibrationDesk$Layer" "with" "[[I") ∈ lw_all := lw_g (lw_at lw_m2 165 rfl) rfl
theorem q555 : (Jvm.Cond.fieldLink "VibrationDesk$Layer" (25 : Nat) "VibrationDesk$Layer" "below" "LVibrationDesk$Layer;") ∈ lw_all := lw_g (lw_at lw_m2 168 rfl) rfl
theorem q557 : (Jvm.Cond.laysFinal "VibrationDesk$Layer" "VibrationDesk$Layer" "rows" "[[I") ∈ lw_all := lw_g (lw_at lw_m2 170 rfl) rfl
theorem q558 : (Jvm.Cond.soleField "VibrationDesk$Layer" "rows") ∈ lw_all := lw_g (lw_at lw_m2 171 rfl) rfl
theorem q559 : (Jvm.Cond.laysFinal "VibrationDesk$Layer" "VibrationDesk$Layer" "image" "[[I") ∈ lw_all := lw_g (lw_at lw_m2 172 rfl) rfl
theorem q560 : (Jvm.Cond.soleField "VibrationDesk$Layer" "image") ∈ lw_all := lw_g (lw_at lw_m2 173 rfl) rfl
theorem q561 : (Jvm.Cond.laysFinal "VibrationDesk$Layer" "VibrationDesk$Layer" "with" "[[I") ∈ lw_all := lw_g (lw_at lw_m2 174 rfl) rfl
theorem q562 : (Jvm.Cond.soleField "VibrationDesk$Layer" "with") ∈ lw_all := lw_g (lw_at lw_m2 175 rfl) rfl
theorem q563 : (Jvm.Cond.lays "VibrationDesk$Layer" "VibrationDesk$Layer" "many" "I") ∈ lw_all := lw_g (lw_at lw_m2 176 rfl) rfl
theorem q564 : (Jvm.Cond.soleField "VibrationDesk$Layer" "many") ∈ lw_all := lw_g (lw_at lw_m2 177 rfl) rfl
theorem q565 : (Jvm.Cond.laysFinal "VibrationDesk$Layer" "VibrationDesk$Layer" "below" "LVibrationDesk$Layer;") ∈ lw_all := lw_g (lw_at lw_m2 178 rfl) rfl
theorem q566 : (Jvm.Cond.soleField "VibrationDesk$Layer" "below") ∈ lw_all := lw_g (lw_at lw_m2 179 rfl) rfl
theorem q567 : (Jvm.Cond.superclass "VibrationDesk$Layer" "java/lang/Object") ∈ lw_all := lw_g (lw_at lw_m2 180 rfl) rfl
theorem in_X9 : ∀ w ∈ wsX90, w ∈ lw_all := lw_in wsX90 [557, 559, 561, 563, 565] (by decide +kernel) (by decide +kernel)
