/-! VibrationDesk$Both -/
set_option maxRecDepth 100000
def RX7 : String := "VibrationDesk$Both"
def TX7 : u_T := fun k => match k with
  | 0 => ("VibrationDesk$Both", "first", "LVibrationDesk$Move;", false)
  | _ => ("VibrationDesk$Both", "second", "LVibrationDesk$Move;", false)
def tyX7 : Nat → FieldType := fun k => match k with
  | 0 => .object "VibrationDesk$Move"
  | _ => .object "VibrationDesk$Move"
abbrev wsX70 : List Cond := u_ws RX7 TX7 2
theorem nmX7 : ∀ a, a < 2 → ∀ b, b < 2 → a ≠ b → (TX7 a).2.1 ≠ (TX7 b).2.1 := by decide +kernel
theorem tyX7_ok : ∀ k, k < 2 → parseFieldDescriptor (TX7 k).2.2.1 = some (tyX7 k) := by decide +kernel
abbrev cX7_init : ByteArray := prog_4_method_1_code
def yX7_init : MethodName := ⟨RX7, "<init>", "()V"⟩
theorem dX7_init_0 : decode cX7_init 0 = .ok (.aload_n 0, 1) := by decide +kernel
theorem dX7_init_1 : decode cX7_init 1 = .ok (.invokespecial 1, 3) := by decide +kernel
theorem dX7_init_4 : decode cX7_init 4 = .ok (.return_, 1) := by decide +kernel
abbrev cX7_to : ByteArray := prog_4_method_3_code
def yX7_to : MethodName := ⟨RX7, "to", "(I)I"⟩
def dkwX7_to_0 : List UInt8 := [42, 180, 0, 13, 42, 180, 0, 7, 27, 185, 0, 16, 2, 0, 185, 0, 16, 2, 0, 172]
abbrev dktX7_to_0 : List UInt8 := dkwX7_to_0 ++ []
theorem dksX7_to_0 : cX7_to.data.toList.drop 0 = dktX7_to_0 := by decide +kernel
theorem dX7_to_0 : decode cX7_to 0 = .ok (.aload_n 0, 1) := dk_42 (dk_at dksX7_to_0 0 rfl rfl)
theorem dX7_to_1 : decode cX7_to 1 = .ok (.getfield 13, 3) := dk_180 0 13 (dk_at dksX7_to_0 1 rfl rfl)
theorem dX7_to_4 : decode cX7_to 4 = .ok (.aload_n 0, 1) := dk_42 (dk_at dksX7_to_0 4 rfl rfl)
theorem dX7_to_5 : decode cX7_to 5 = .ok (.getfield 7, 3) := dk_180 0 7 (dk_at dksX7_to_0 5 rfl rfl)
theorem dX7_to_8 : decode cX7_to 8 = .ok (.iload_n 1, 1) := dk_27 (dk_at dksX7_to_0 8 rfl rfl)
theorem dX7_to_9 : decode cX7_to 9 = .ok (.invokeinterface 16 2, 5) := by decide +kernel
theorem dX7_to_14 : decode cX7_to 14 = .ok (.invokeinterface 16 2, 5) := by decide +kernel
theorem dX7_to_19 : decode cX7_to 19 = .ok (.ireturn, 1) := dk_172 (dk_at dksX7_to_0 19 rfl rfl)
abbrev cX7_hand : ByteArray := prog_4_method_4_code
def yX7_hand : MethodName := ⟨RX7, "hand", "()I"⟩
def dkwX7_hand_0 : List UInt8 := [42, 180, 0, 7, 185, 0, 22, 1, 0, 42, 180, 0, 13, 185, 0, 22, 1, 0, 104, 172]
abbrev dktX7_hand_0 : List UInt8 := dkwX7_hand_0 ++ []
theorem dksX7_hand_0 : cX7_hand.data.toList.drop 0 = dktX7_hand_0 := by decide +kernel
theorem dX7_hand_0 : decode cX7_hand 0 = .ok (.aload_n 0, 1) := dk_42 (dk_at dksX7_hand_0 0 rfl rfl)
theorem dX7_hand_1 : decode cX7_hand 1 = .ok (.getfield 7, 3) := dk_180 0 7 (dk_at dksX7_hand_0 1 rfl rfl)
theorem dX7_hand_4 : decode cX7_hand 4 = .ok (.invokeinterface 22 1, 5) := by decide +kernel
theorem dX7_hand_9 : decode cX7_hand 9 = .ok (.aload_n 0, 1) := dk_42 (dk_at dksX7_hand_0 9 rfl rfl)
theorem dX7_hand_10 : decode cX7_hand 10 = .ok (.getfield 13, 3) := dk_180 0 13 (dk_at dksX7_hand_0 10 rfl rfl)
theorem dX7_hand_13 : decode cX7_hand 13 = .ok (.invokeinterface 22 1, 5) := by decide +kernel
theorem dX7_hand_18 : decode cX7_hand 18 = .ok (.imul, 1) := dk_104 (dk_at dksX7_hand_0 18 rfl rfl)
theorem dX7_hand_19 : decode cX7_hand 19 = .ok (.ireturn, 1) := dk_172 (dk_at dksX7_hand_0 19 rfl rfl)
abbrev cX7_be : ByteArray := prog_4_method_2_code
def yX7_be : MethodName := ⟨RX7, "be", "(LVibrationDesk$Move;LVibrationDesk$Move;)LVibrationDesk$Both;"⟩
def dkwX7_be_0 : List UInt8 := [42, 43, 181, 0, 7, 42, 44, 181, 0, 13, 42, 176]
abbrev dktX7_be_0 : List UInt8 := dkwX7_be_0 ++ []
theorem dksX7_be_0 : cX7_be.data.toList.drop 0 = dktX7_be_0 := by decide +kernel
theorem dX7_be_0 : decode cX7_be 0 = .ok (.aload_n 0, 1) := dk_42 (dk_at dksX7_be_0 0 rfl rfl)
theorem dX7_be_1 : decode cX7_be 1 = .ok (.aload_n 1, 1) := dk_43 (dk_at dksX7_be_0 1 rfl rfl)
theorem dX7_be_2 : decode cX7_be 2 = .ok (.putfield 7, 3) := dk_181 0 7 (dk_at dksX7_be_0 2 rfl rfl)
theorem dX7_be_5 : decode cX7_be 5 = .ok (.aload_n 0, 1) := dk_42 (dk_at dksX7_be_0 5 rfl rfl)
theorem dX7_be_6 : decode cX7_be 6 = .ok (.aload_n 2, 1) := dk_44 (dk_at dksX7_be_0 6 rfl rfl)
theorem dX7_be_7 : decode cX7_be 7 = .ok (.putfield 13, 3) := dk_181 0 13 (dk_at dksX7_be_0 7 rfl rfl)
theorem dX7_be_10 : decode cX7_be 10 = .ok (.aload_n 0, 1) := dk_42 (dk_at dksX7_be_0 10 rfl rfl)
theorem dX7_be_11 : decode cX7_be 11 = .ok (.areturn, 1) := dk_176 (dk_at dksX7_be_0 11 rfl rfl)
abbrev cX7_many : ByteArray := prog_4_method_5_code
def yX7_many : MethodName := ⟨RX7, "many", "()I"⟩
def dkwX7_many_0 : List UInt8 := [42, 180, 0, 7, 185, 0, 26, 1, 0, 172]
abbrev dktX7_many_0 : List UInt8 := dkwX7_many_0 ++ []
theorem dksX7_many_0 : cX7_many.data.toList.drop 0 = dktX7_many_0 := by decide +kernel
theorem dX7_many_0 : decode cX7_many 0 = .ok (.aload_n 0, 1) := dk_42 (dk_at dksX7_many_0 0 rfl rfl)
theorem dX7_many_1 : decode cX7_many 1 = .ok (.getfield 7, 3) := dk_180 0 7 (dk_at dksX7_many_0 1 rfl rfl)
theorem dX7_many_4 : decode cX7_many 4 = .ok (.invokeinterface 26 1, 5) := by decide +kernel
theorem dX7_many_9 : decode cX7_many 9 = .ok (.ireturn, 1) := dk_172 (dk_at dksX7_many_0 9 rfl rfl)
theorem q161 : (Jvm.Cond.initialized "VibrationDesk$Both") ∈ lw_all := lw_g (lw_at lw_m1 14 rfl) rfl
theorem q444 : (Jvm.Cond.instantiable "VibrationDesk$Both" (2 : Nat)) ∈ lw_all := lw_g (lw_at lw_m2 57 rfl) rfl
theorem q446 : (Jvm.Cond.instanceMethod ({ cls := "VibrationDesk$Both", name := "<init>", desc := "()V" } : Jvm.MethodName)) ∈ lw_all := lw_g (lw_at lw_m2 59 rfl) rfl
theorem q447 : (Jvm.Cond.code ({ cls := "VibrationDesk$Both", name := "<init>", desc := "()V" } : Jvm.MethodName) prog_4_method_1_code (1 : Nat) (Option.none : Option Jvm.ClassFile.FieldType)) ∈ lw_all := lw_g (lw_at lw_m2 60 rfl) rfl
theorem q448 : (Jvm.Cond.methodLink "VibrationDesk$Both" (1 : Nat) ({ cls := "java/lang/Object", name := "<init>", desc := "()V" } : Jvm.MethodName)) ∈ lw_all := lw_g (lw_at lw_m2 61 rfl) rfl
theorem q449 : (Jvm.Cond.fieldLink "VibrationDesk$Both" (7 : Nat) "VibrationDesk$Both" "first" "LVibrationDesk$Move;") ∈ lw_all := lw_g (lw_at lw_m2 62 rfl) rfl
theorem q450 : (Jvm.Cond.fieldLink "VibrationDesk$Both" (13 : Nat) "VibrationDesk$Both" "second" "LVibrationDesk$Move;") ∈ lw_all := lw_g (lw_at lw_m2 63 rfl) rfl
theorem q451 : (Jvm.Cond.lays "VibrationDesk$Both" "VibrationDesk$Both" "first" "LVibrationDesk$Move;") ∈ lw_all := lw_g (lw_at lw_m2 64 rfl) rfl
theorem q452 : (Jvm.Cond.soleField "VibrationDesk$Both" "first") ∈ lw_all := lw_g (lw_at lw_m2 65 rfl) rfl
theorem q453 : (Jvm.Cond.lays "VibrationDesk$Both" "VibrationDesk$Both" "second" "LVibrationDesk$Move;") ∈ lw_all := lw_g (lw_at lw_m2 66 rfl) rfl
theorem q454 : (Jvm.Cond.soleField "VibrationDesk$Both" "second") ∈ lw_all := lw_g (lw_at lw_m2 67 rfl) rfl
theorem q455 : (Jvm.Cond.superclass "VibrationDesk$Both" "java/lang/Object") ∈ lw_all := lw_g (lw_at lw_m2 68 rfl) rfl
theorem q1373 : (Jvm.Cond.castable "VibrationDesk$Both" "VibrationDesk$Move") ∈ lw_tbl := lw_at lw_m6 26 rfl
theorem q1374 : (Jvm.Cond.selects "VibrationDesk$Both" ({ cls := "VibrationDesk$Move", name := "to", desc := "(I)I" } : Jvm.MethodName) ({ cls := "VibrationDesk$Both", name := "to", desc := "(I)I" } : Jvm.MethodName)) ∈ lw_all := lw_g (lw_at lw_m6 27 rfl) rfl
theorem q1375 : (Jvm.Cond.unhidden "VibrationDesk$Both" "to" "(I)I") ∈ lw_tbl := lw_at lw_m6 28 rfl
theorem q1376 : (Jvm.Cond.instanceMethod ({ cls := "VibrationDesk$Both", name := "to", desc := "(I)I" } : Jvm.MethodName)) ∈ lw_all := lw_g (lw_at lw_m6 29 rfl) rfl
theorem q1377 : (Jvm.Cond.publicMethod ({ cls := "VibrationDesk$Both", name := "to", desc := "(I)I" } : Jvm.MethodName)) ∈ lw_tbl := lw_at lw_m6 30 rfl
theorem q1378 : (Jvm.Cond.code ({ cls := "VibrationDesk$Both", name := "to", desc := "(I)I" } : Jvm.MethodName) prog_4_method_3_code (2 : Nat) (Option.some Jvm.ClassFile.FieldType.int)) ∈ lw_all := lw_g (lw_at lw_m6 31 rfl) rfl
theorem q1379 : (Jvm.Cond.interfaceEntry "VibrationDesk$Both" (16 : Nat)) ∈ lw_tbl := lw_at lw_m6 32 rfl
theorem q1380 : (Jvm.Cond.methodLink "VibrationDesk$Both" (16 : Nat) ({ cls := "VibrationDesk$Move", name := "to", desc := "(I)I" } : Jvm.MethodName)) ∈ lw_all := lw_g (lw_at lw_m6 33 rfl) rfl
theorem q1392 : (Jvm.Cond.selects "VibrationDesk$Both" ({ cls := "VibrationDesk$Move", name := "hand", desc := "()I" } : Jvm.MethodName) ({ cls := "VibrationDesk$Both", name := "hand", desc := "()I" } : Jvm.MethodName)) ∈ lw_all := lw_g (lw_at lw_m6 45 rfl) rfl
theorem q1393 : (Jvm.Cond.unhidden "VibrationDesk$Both" "hand" "()I") ∈ lw_tbl := lw_at lw_m6 46 rfl
theorem q1394 : (Jvm.Cond.instanceMethod ({ cls := "VibrationDesk$Both", name := "hand", desc := "()I" } : Jvm.MethodName)) ∈ lw_all := lw_g (lw_at lw_m6 47 rfl) rfl
theorem q1395 : (Jvm.Cond.publicMethod ({ cls := "VibrationDesk$Both", name := "hand", desc := "()I" } : Jvm.MethodName)) ∈ lw_tbl := lw_at lw_m6 48 rfl
theorem q1396 : (Jvm.Cond.code ({ cls := "VibrationDesk$Both", name := "hand", desc := "()I" } : Jvm.MethodName) prog_4_method_4_code (1 : Nat) (Option.some Jvm.ClassFile.FieldType.int)) ∈ lw_all := lw_g (lw_at lw_m6 49 rfl) rfl
theorem q1397 : (Jvm.Cond.interfaceEntry "VibrationDesk$Both" (22 : Nat)) ∈ lw_tbl := lw_at lw_m6 50 rfl
theorem q1398 : (Jvm.Cond.methodLink "VibrationDesk$Both" (22 : Nat) ({ cls := "VibrationDesk$Move", name := "hand", desc := "()I" } : Jvm.MethodName)) ∈ lw_all := lw_g (lw_at lw_m6 51 rfl) rfl
theorem q1418 : (Jvm.Cond.instanceMethod ({ cls := "VibrationDesk$Both", name := "be", desc := "(LVibrationDesk$Move;LVibrationDesk$Move;)LVibrationDesk$Both;" } : Jvm.MethodName)) ∈ lw_all := lw_g (lw_at lw_m6 71 rfl) rfl
theorem q1419 : (Jvm.Cond.selects "VibrationDesk$Both" ({ cls := "VibrationDesk$Both", name := "be", desc := "(LVibrationDesk$Move;LVibrationDesk$Move;)LVibrationDesk$Both;" } : Jvm.MethodName) ({ cls := "VibrationDesk$Both", name := "be", desc := "(LVibrationDesk$Move;LVibrationDesk$Move;)LVibrationDesk$Both;" } : Jvm.MethodName)) ∈ lw_all := lw_g (lw_at lw_m6 72 rfl) rfl
theorem q1420 : (Jvm.Cond.code ({ cls := "VibrationDesk$Both", name := "be", desc := "(LVibrationDesk$Move;LVibrationDesk$Move;)LVibrationDesk$Both;" } : Jvm.MethodName) prog_4_method_2_code (3 : Nat) (Option.some (Jvm.ClassFile.FieldType.object "VibrationDesk$Both"))) ∈ lw_all := lw_g (lw_at lw_m6 73 rfl) rfl
theorem q1434 : (Jvm.Cond.selects "VibrationDesk$Both" ({ cls := "VibrationDesk$Move", name := "many", desc := "()I" } : Jvm.MethodName) ({ cls := "VibrationDesk$Both", name := "many", desc := "()I" } : Jvm.MethodName)) ∈ lw_all := lw_g (lw_at lw_m6 87 rfl) rfl
theorem q1435 : (Jvm.Cond.unhidden "VibrationDesk$Both" "many" "()I") ∈ lw_tbl := lw_at lw_m6 88 rfl
theorem q1436 : (Jvm.Cond.instanceMethod ({ cls := "VibrationDesk$Both", name := "many", desc := "()I" } : Jvm.MethodName)) ∈ lw_all := lw_g (lw_at lw_m6 89 rfl) rfl
theorem q1437 : (Jvm.Cond.publicMethod ({ cls := "VibrationDesk$Both", name := "many", desc := "()I" } : Jvm.MethodName)) ∈ lw_tbl := lw_at lw_m6 90 rfl
theorem q1438 : (Jvm.Cond.code ({ cls := "VibrationDesk$Both", name := "many", desc := "()I" } : Jvm.MethodName) prog_4_method_5_code (1 : Nat) (Option.some Jvm.ClassFile.FieldType.int)) ∈ lw_all := lw_g (lw_at lw_m6 91 rfl) rfl
theorem q1439 : (Jvm.Cond.interfaceEntry "VibrationDesk$Both" (26 : Nat)) ∈ lw_tbl := lw_at lw_m6 92 rfl
theorem q1440 : (Jvm.Cond.methodLink "VibrationDesk$Both" (26 : Nat) ({ cls := "VibrationDesk$Move", name := "many", desc := "()I" } : Jvm.MethodName)) ∈ lw_all := lw_g (lw_at lw_m6 93 rfl) rfl
theorem q1609 : (Jvm.Cond.unhidden "VibrationDesk$Both" "leaves" "(I)Z") ∈ lw_tbl := lw_at lw_m7 22 rfl
theorem q1627 : (Jvm.Cond.unhidden "VibrationDesk$Both" "lengthFrom" "(I)I") ∈ lw_tbl := lw_at lw_m7 40 rfl
theorem in_X7 : ∀ w ∈ wsX70, w ∈ lw_all := lw_in wsX70 [451, 453] (by decide +kernel) (by decide +kernel)
