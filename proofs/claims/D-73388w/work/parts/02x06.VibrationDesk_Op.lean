/-! VibrationDesk$Op -/
set_option maxRecDepth 100000
def RX6 : String := "VibrationDesk$Op"
def TX6 : u_T := fun k => match k with
  | 0 => ("VibrationDesk$Op", "row", "[I", true)
  | 1 => ("VibrationDesk$Op", "many", "I", false)
  | 2 => ("VibrationDesk$Op", "hand", "I", false)
  | _ => ("VibrationDesk$Op", "trace", "I", false)
def tyX6 : Nat → FieldType := fun k => match k with
  | 0 => .array .int
  | 1 => .int
  | 2 => .int
  | _ => .int
abbrev wsX60 : List Cond := u_ws RX6 TX6 4
theorem nmX6 : ∀ a, a < 4 → ∀ b, b < 4 → a ≠ b → (TX6 a).2.1 ≠ (TX6 b).2.1 := by decide +kernel
theorem tyX6_ok : ∀ k, k < 4 → parseFieldDescriptor (TX6 k).2.2.1 = some (tyX6 k) := by decide +kernel
abbrev cX6_init : ByteArray := prog_10_method_1_code
def yX6_init : MethodName := ⟨RX6, "<init>", "()V"⟩
def dkwX6_init_0 : List UInt8 := [42, 183, 0, 3, 42, 16, 12, 188, 10, 181, 0, 9, 177]
abbrev dktX6_init_0 : List UInt8 := dkwX6_init_0 ++ []
theorem dksX6_init_0 : cX6_init.data.toList.drop 0 = dktX6_init_0 := by decide +kernel
theorem dX6_init_0 : decode cX6_init 0 = .ok (.aload_n 0, 1) := dk_42 (dk_at dksX6_init_0 0 rfl rfl)
theorem dX6_init_1 : decode cX6_init 1 = .ok (.invokespecial 3, 3) := dk_183 0 3 (dk_at dksX6_init_0 1 rfl rfl)
theorem dX6_init_4 : decode cX6_init 4 = .ok (.aload_n 0, 1) := dk_42 (dk_at dksX6_init_0 4 rfl rfl)
theorem dX6_init_5 : decode cX6_init 5 = .ok (.bipush 12, 2) := dk_16 12 (dk_at dksX6_init_0 5 rfl rfl)
theorem dX6_init_7 : decode cX6_init 7 = .ok (.newarray .int, 2) := dk_188_10 (dk_at dksX6_init_0 7 rfl rfl)
theorem dX6_init_9 : decode cX6_init 9 = .ok (.putfield 9, 3) := dk_181 0 9 (dk_at dksX6_init_0 9 rfl rfl)
theorem dX6_init_12 : decode cX6_init 12 = .ok (.return_, 1) := dk_177 (dk_at dksX6_init_0 12 rfl rfl)
abbrev cX6_to : ByteArray := prog_10_method_2_code
def yX6_to : MethodName := ⟨RX6, "to", "(I)I"⟩
def dkwX6_to_0 : List UInt8 := [42, 180, 0, 9, 27, 46, 172]
abbrev dktX6_to_0 : List UInt8 := dkwX6_to_0 ++ []
theorem dksX6_to_0 : cX6_to.data.toList.drop 0 = dktX6_to_0 := by decide +kernel
theorem dX6_to_0 : decode cX6_to 0 = .ok (.aload_n 0, 1) := dk_42 (dk_at dksX6_to_0 0 rfl rfl)
theorem dX6_to_1 : decode cX6_to 1 = .ok (.getfield 9, 3) := dk_180 0 9 (dk_at dksX6_to_0 1 rfl rfl)
theorem dX6_to_4 : decode cX6_to 4 = .ok (.iload_n 1, 1) := dk_27 (dk_at dksX6_to_0 4 rfl rfl)
theorem dX6_to_5 : decode cX6_to 5 = .ok (.iaload, 1) := dk_46 (dk_at dksX6_to_0 5 rfl rfl)
theorem dX6_to_6 : decode cX6_to 6 = .ok (.ireturn, 1) := dk_172 (dk_at dksX6_to_0 6 rfl rfl)
abbrev cX6_hand : ByteArray := prog_10_method_3_code
def yX6_hand : MethodName := ⟨RX6, "hand", "()I"⟩
theorem dX6_hand_0 : decode cX6_hand 0 = .ok (.aload_n 0, 1) := by decide +kernel
theorem dX6_hand_1 : decode cX6_hand 1 = .ok (.getfield 15, 3) := by decide +kernel
theorem dX6_hand_4 : decode cX6_hand 4 = .ok (.ireturn, 1) := by decide +kernel
abbrev cX6_many : ByteArray := prog_10_method_4_code
def yX6_many : MethodName := ⟨RX6, "many", "()I"⟩
theorem dX6_many_0 : decode cX6_many 0 = .ok (.aload_n 0, 1) := by decide +kernel
theorem dX6_many_1 : decode cX6_many 1 = .ok (.getfield 19, 3) := by decide +kernel
theorem dX6_many_4 : decode cX6_many 4 = .ok (.ireturn, 1) := by decide +kernel
theorem q160 : (Jvm.Cond.initialized "VibrationDesk$Op") ∈ lw_all := lw_g (lw_at lw_m1 13 rfl) rfl
theorem q418 : (Jvm.Cond.instantiable "VibrationDesk$Op" (4 : Nat)) ∈ lw_all := lw_g (lw_at lw_m2 31 rfl) rfl
theorem q420 : (Jvm.Cond.instanceMethod ({ cls := "VibrationDesk$Op", name := "<init>", desc := "()V" } : Jvm.MethodName)) ∈ lw_all := lw_g (lw_at lw_m2 33 rfl) rfl
theorem q421 : (Jvm.Cond.code ({ cls := "VibrationDesk$Op", name := "<init>", desc := "()V" } : Jvm.MethodName) prog_10_method_1_code (1 : Nat) (Option.none : Option Jvm.ClassFile.FieldType)) ∈ lw_all := lw_g (lw_at lw_m2 34 rfl) rfl
theorem q422 : (Jvm.Cond.methodLink "VibrationDesk$Op" (3 : Nat) ({ cls := "java/lang/Object", name := "<init>", desc := "()V" } : Jvm.MethodName)) ∈ lw_all := lw_g (lw_at lw_m2 35 rfl) rfl
theorem q423 : (Jvm.Cond.fieldLink "VibrationDesk$Op" (9 : Nat) "VibrationDesk$Op" "row" "[I") ∈ lw_all := lw_g (lw_at lw_m2 36 rfl) rfl
theorem q426 : (Jvm.Cond.fieldLink "VibrationDesk$Op" (19 : Nat) "VibrationDesk$Op" "many" "I") ∈ lw_all := lw_g (lw_at lw_m2 39 rfl) rfl
theorem q427 : (Jvm.Cond.fieldLink "VibrationDesk$Op" (15 : Nat) "VibrationDesk$Op" "hand" "I") ∈ lw_all := lw_g (lw_at lw_m2 40 rfl) rfl
theorem q432 : (Jvm.Cond.laysFinal "VibrationDesk$Op" "VibrationDesk$Op" "row" "[I") ∈ lw_all := lw_g (lw_at lw_m2 45 rfl) rfl
theorem q433 : (Jvm.Cond.soleField "VibrationDesk$Op" "row") ∈ lw_all := lw_g (lw_at lw_m2 46 rfl) rfl
theorem q434 : (Jvm.Cond.lays "VibrationDesk$Op" "VibrationDesk$Op" "many" "I") ∈ lw_all := lw_g (lw_at lw_m2 47 rfl) rfl
theorem q435 : (Jvm.Cond.soleField "VibrationDesk$Op" "many") ∈ lw_all := lw_g (lw_at lw_m2 48 rfl) rfl
theorem q436 : (Jvm.Cond.lays "VibrationDesk$Op" "VibrationDesk$Op" "hand" "I") ∈ lw_all := lw_g (lw_at lw_m2 49 rfl) rfl
theorem q437 : (Jvm.Cond.soleField "VibrationDesk$Op" "hand") ∈ lw_all := lw_g (lw_at lw_m2 50 rfl) rfl
theorem q438 : (Jvm.Cond.lays "VibrationDesk$Op" "VibrationDesk$Op" "trace" "I") ∈ lw_all := lw_g (lw_at lw_m2 51 rfl) rfl
theorem q439 : (Jvm.Cond.soleField "VibrationDesk$Op" "trace") ∈ lw_all := lw_g (lw_at lw_m2 52 rfl) rfl
theorem q440 : (Jvm.Cond.superclass "VibrationDesk$Op" "java/lang/Object") ∈ lw_all := lw_g (lw_at lw_m2 53 rfl) rfl
theorem q1381 : (Jvm.Cond.castable "VibrationDesk$Op" "VibrationDesk$Move") ∈ lw_tbl := lw_at lw_m6 34 rfl
theorem q1382 : (Jvm.Cond.selects "VibrationDesk$Op" ({ cls := "VibrationDesk$Move", name := "to", desc := "(I)I" } : Jvm.MethodName) ({ cls := "VibrationDesk$Op", name := "to", desc := "(I)I" } : Jvm.MethodName)) ∈ lw_all := lw_g (lw_at lw_m6 35 rfl) rfl
theorem q1383 : (Jvm.Cond.unhidden "VibrationDesk$Op" "to" "(I)I") ∈ lw_tbl := lw_at lw_m6 36 rfl
theorem q1384 : (Jvm.Cond.instanceMethod ({ cls := "VibrationDesk$Op", name := "to", desc := "(I)I" } : Jvm.MethodName)) ∈ lw_all := lw_g (lw_at lw_m6 37 rfl) rfl
theorem q1385 : (Jvm.Cond.publicMethod ({ cls := "VibrationDesk$Op", name := "to", desc := "(I)I" } : Jvm.MethodName)) ∈ lw_tbl := lw_at lw_m6 38 rfl
theorem q1386 : (Jvm.Cond.code ({ cls := "VibrationDesk$Op", name := "to", desc := "(I)I" } : Jvm.MethodName) prog_10_method_2_code (2 : Nat) (Option.some Jvm.ClassFile.FieldType.int)) ∈ lw_all := lw_g (lw_at lw_m6 39 rfl) rfl
theorem q1399 : (Jvm.Cond.selects "VibrationDesk$Op" ({ cls := "VibrationDesk$Move", name := "hand", desc := "()I" } : Jvm.MethodName) ({ cls := "VibrationDesk$Op", name := "hand", desc := "()I" } : Jvm.MethodName)) ∈ lw_all := lw_g (lw_at lw_m6 52 rfl) rfl
theorem q1400 : (Jvm.Cond.unhidden "VibrationDesk$Op" "hand" "()I") ∈ lw_tbl := lw_at lw_m6 53 rfl
theorem q1401 : (Jvm.Cond.instanceMethod ({ cls := "VibrationDesk$Op", name := "hand", desc := "()I" } : Jvm.MethodName)) ∈ lw_all := lw_g (lw_at lw_m6 54 rfl) rfl
theorem q1402 : (Jvm.Cond.publicMethod ({ cls := "VibrationDesk$Op", name := "hand", desc := "()I" } : Jvm.MethodName)) ∈ lw_tbl := lw_at lw_m6 55 rfl
theorem q1403 : (Jvm.Cond.code ({ cls := "VibrationDesk$Op", name := "hand", desc := "()I" } : Jvm.MethodName) prog_10_method_3_code (1 : Nat) (Option.some Jvm.ClassFile.FieldType.int)) ∈ lw_all := lw_g (lw_at lw_m6 56 rfl) rfl
theorem q1441 : (Jvm.Cond.selects "VibrationDesk$Op" ({ cls := "VibrationDesk$Move", name := "many", desc := "()I" } : Jvm.MethodName) ({ cls := "VibrationDesk$Op", name := "many", desc := "()I" } : Jvm.MethodName)) ∈ lw_all := lw_g (lw_at lw_m6 94 rfl) rfl
theorem q1442 : (Jvm.Cond.unhidden "VibrationDesk$Op" "many" "()I") ∈ lw_tbl := lw_at lw_m6 95 rfl
theorem q1443 : (Jvm.Cond.instanceMethod ({ cls := "VibrationDesk$Op", name := "many", desc := "()I" } : Jvm.MethodName)) ∈ lw_all := lw_g (lw_at lw_m6 96 rfl) rfl
theorem q1444 : (Jvm.Cond.publicMethod ({ cls := "VibrationDesk$Op", name := "many", desc := "()I" } : Jvm.MethodName)) ∈ lw_tbl := lw_at lw_m6 97 rfl
theorem q1445 : (Jvm.Cond.code ({ cls := "VibrationDesk$Op", name := "many", desc := "()I" } : Jvm.MethodName) prog_10_method_4_code (1 : Nat) (Option.some Jvm.ClassFile.FieldType.int)) ∈ lw_all := lw_g (lw_at lw_m6 98 rfl) rfl
theorem q1601 : (Jvm.Cond.unhidden "VibrationDesk$Op" "staying" "()I") ∈ lw_tbl := lw_at lw_m7 14 rfl
theorem q1613 : (Jvm.Cond.unhidden "VibrationDesk$Op" "leaves" "(I)Z") ∈ lw_tbl := lw_at lw_m7 26 rfl
theorem q1619 : (Jvm.Cond.unhidden "VibrationDesk$Op" "rounds" "([I)I") ∈ lw_tbl := lw_at lw_m7 32 rfl
theorem q1631 : (Jvm.Cond.unhidden "VibrationDesk$Op" "lengthFrom" "(I)I") ∈ lw_tbl := lw_at lw_m7 44 rfl
theorem q2938 : (Jvm.Cond.selects "VibrationDesk$Op" ({ cls := "VibrationDesk$Op", name := "to", desc := "(I)I" } : Jvm.MethodName) ({ cls := "VibrationDesk$Op", name := "to", desc := "(I)I" } : Jvm.MethodName)) ∈ lw_all := lw_g (lw_at lw_m12 151 rfl) rfl
theorem q2939 : (Jvm.Cond.selects "VibrationDesk$Op" ({ cls := "VibrationDesk$Op", name := "hand", desc := "()I" } : Jvm.MethodName) ({ cls := "VibrationDesk$Op", name := "hand", desc := "()I" } : Jvm.MethodName)) ∈ lw_all := lw_g (lw_at lw_m12 152 rfl) rfl
theorem in_X6 : ∀ w ∈ wsX60, w ∈ lw_all := lw_in wsX60 [432, 434, 436, 438] (by decide +kernel) (by decide +kernel)
