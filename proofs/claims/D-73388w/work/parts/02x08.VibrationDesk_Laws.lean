/-! VibrationDesk$Laws -/
set_option maxRecDepth 100000
def RX8 : String := "VibrationDesk$Laws"
def TX8 : u_T := fun k => match k with
  | 0 => ("VibrationDesk$Laws", "group", "LVibrationDesk$Group;", true)
  | 1 => ("VibrationDesk$Laws", "first", "LVibrationDesk$Layer;", true)
  | 2 => ("VibrationDesk$Laws", "rows", "[[I", true)
  | 3 => ("VibrationDesk$Laws", "characters", "[[I", true)
  | 4 => ("VibrationDesk$Laws", "degrees", "[I", true)
  | _ => ("VibrationDesk$Laws", "many", "I", false)
def tyX8 : Nat → FieldType := fun k => match k with
  | 0 => .object "VibrationDesk$Group"
  | 1 => .object "VibrationDesk$Layer"
  | 2 => .array (.array .int)
  | 3 => .array (.array .int)
  | 4 => .array .int
  | _ => .int
abbrev wsX80 : List Cond := u_ws RX8 TX8 6
theorem nmX8 : ∀ a, a < 6 → ∀ b, b < 6 → a ≠ b → (TX8 a).2.1 ≠ (TX8 b).2.1 := by decide +kernel
theorem tyX8_ok : ∀ k, k < 6 → parseFieldDescriptor (TX8 k).2.2.1 = some (tyX8 k) := by decide +kernel
abbrev cX8_init : ByteArray := prog_7_method_1_code
def yX8_init : MethodName := ⟨RX8, "<init>", "(LVibrationDesk$Group;)V"⟩
def dkwX8_init_2 : List UInt8 := [181, 0, 28, 42, 43, 181, 0, 32, 177]
abbrev dktX8_init_2 : List UInt8 := dkwX8_init_2 ++ []
def dkwX8_init_1 : List UInt8 := [197, 0, 20, 2, 181, 0, 22, 42, 16, 12, 16, 12, 197, 0, 20, 2, 181, 0, 25, 42, 16, 12, 188, 10]
abbrev dktX8_init_1 : List UInt8 := dkwX8_init_1 ++ dktX8_init_2
def dkwX8_init_0 : List UInt8 := [42, 183, 0, 3, 42, 187, 0, 9, 89, 3, 183, 0, 11, 181, 0, 14, 42, 16, 12, 16, 12]
abbrev dktX8_init_0 : List UInt8 := dkwX8_init_0 ++ dktX8_init_1
theorem dksX8_init_0 : cX8_init.data.toList.drop 0 = dktX8_init_0 := by decide +kernel
theorem dksX8_init_1 : cX8_init.data.toList.drop 21 = dktX8_init_1 := dk_seg dksX8_init_0 21 rfl rfl
theorem dksX8_init_2 : cX8_init.data.toList.drop 45 = dktX8_init_2 := dk_seg dksX8_init_1 24 rfl rfl
theorem dX8_init_0 : decode cX8_init 0 = .ok (.aload_n 0, 1) := dk_42 (dk_at dksX8_init_0 0 rfl rfl)
theorem dX8_init_1 : decode cX8_init 1 = .ok (.invokespecial 3, 3) := dk_183 0 3 (dk_at dksX8_init_0 1 rfl rfl)
theorem dX8_init_4 : decode cX8_init 4 = .ok (.aload_n 0, 1) := dk_42 (dk_at dksX8_init_0 4 rfl rfl)
theorem dX8_init_5 : decode cX8_init 5 = .ok (.new 9, 3) := dk_187 0 9 (dk_at dksX8_init_0 5 rfl rfl)
theorem dX8_init_8 : decode cX8_init 8 = .ok (.dup, 1) := dk_89 (dk_at dksX8_init_0 8 rfl rfl)
theorem dX8_init_9 : decode cX8_init 9 = .ok (.iconst 0, 1) := dk_3 (dk_at dksX8_init_0 9 rfl rfl)
theorem dX8_init_10 : decode cX8_init 10 = .ok (.invokespecial 11, 3) := dk_183 0 11 (dk_at dksX8_init_0 10 rfl rfl)
theorem dX8_init_13 : decode cX8_init 13 = .ok (.putfield 14, 3) := dk_181 0 14 (dk_at dksX8_init_0 13 rfl rfl)
theorem dX8_init_16 : decode cX8_init 16 = .ok (.aload_n 0, 1) := dk_42 (dk_at dksX8_init_0 16 rfl rfl)
theorem dX8_init_17 : decode cX8_init 17 = .ok (.bipush 12, 2) := dk_16 12 (dk_at dksX8_init_0 17 rfl rfl)
theorem dX8_init_19 : decode cX8_init 19 = .ok (.bipush 12, 2) := dk_16 12 (dk_at dksX8_init_0 19 rfl rfl)
theorem dX8_init_21 : decode cX8_init 21 = .ok (.multianewarray 20 2, 4) := by decide +kernel
theorem dX8_init_25 : decode cX8_init 25 = .ok (.putfield 22, 3) := dk_181 0 22 (dk_at dksX8_init_1 4 rfl rfl)
theorem dX8_init_28 : decode cX8_init 28 = .ok (.aload_n 0, 1) := dk_42 (dk_at dksX8_init_1 7 rfl rfl)
theorem dX8_init_29 : decode cX8_init 29 = .ok (.bipush 12, 2) := dk_16 12 (dk_at dksX8_init_1 8 rfl rfl)
theorem dX8_init_31 : decode cX8_init 31 = .ok (.bipush 12, 2) := dk_16 12 (dk_at dksX8_init_1 10 rfl rfl)
theorem dX8_init_33 : decode cX8_init 33 = .ok (.multianewarray 20 2, 4) := by decide +kernel
theorem dX8_init_37 : decode cX8_init 37 = .ok (.putfield 25, 3) := dk_181 0 25 (dk_at dksX8_init_1 16 rfl rfl)
theorem dX8_init_40 : decode cX8_init 40 = .ok (.aload_n 0, 1) := dk_42 (dk_at dksX8_init_1 19 rfl rfl)
theorem dX8_init_41 : decode cX8_init 41 = .ok (.bipush 12, 2) := dk_16 12 (dk_at dksX8_init_1 20 rfl rfl)
theorem dX8_init_43 : decode cX8_init 43 = .ok (.newarray .int, 2) := dk_188_10 (dk_at dksX8_init_1 22 rfl rfl)
theorem dX8_init_45 : decode cX8_init 45 = .ok (.putfield 28, 3) := dk_181 0 28 (dk_at dksX8_init_2 0 rfl rfl)
theorem dX8_init_48 : decode cX8_init 48 = .ok (.aload_n 0, 1) := dk_42 (dk_at dksX8_init_2 3 rfl rfl)
theorem dX8_init_49 : decode cX8_init 49 = .ok (.aload_n 1, 1) := dk_43 (dk_at dksX8_init_2 4 rfl rfl)
theorem dX8_init_50 : decode cX8_init 50 = .ok (.putfield 32, 3) := dk_181 0 32 (dk_at dksX8_init_2 5 rfl rfl)
theorem dX8_init_53 : decode cX8_init 53 = .ok (.return_, 1) := dk_177 (dk_at dksX8_init_2 8 rfl rfl)
abbrev cX8_lays : ByteArray := prog_7_method_2_code
def yX8_lays : MethodName := ⟨RX8, "lays", "()V"⟩
def dkwX8_lays_4 : List UInt8 := [132, 2, 1, 167, 255, 240, 177]
abbrev dktX8_lays_4 : List UInt8 := dkwX8_lays_4 ++ []
def dkwX8_lays_3 : List UInt8 := [180, 0, 14, 3, 182, 0, 47, 3, 61, 28, 42, 180, 0, 42, 162, 0, 14, 42, 28, 182, 0, 51]
abbrev dktX8_lays_3 : List UInt8 := dkwX8_lays_3 ++ dktX8_lays_4
def dkwX8_lays_2 : List UInt8 := [160, 0, 7, 4, 167, 0, 4, 3, 79, 132, 3, 1, 167, 255, 227, 132, 2, 1, 167, 255, 214, 42, 42]
abbrev dktX8_lays_2 : List UInt8 := dkwX8_lays_2 ++ dktX8_lays_3
def dkwX8_lays_1 : List UInt8 := [27, 162, 0, 43, 3, 62, 29, 27, 162, 0, 30, 42, 180, 0, 14, 180, 0, 46, 28, 50, 29, 28, 29]
abbrev dktX8_lays_1 : List UInt8 := dkwX8_lays_1 ++ dktX8_lays_2
def dkwX8_lays_0 : List UInt8 := [42, 180, 0, 32, 180, 0, 36, 60, 42, 3, 181, 0, 42, 42, 180, 0, 14, 27, 181, 0, 45, 3, 61, 28]
abbrev dktX8_lays_0 : List UInt8 := dkwX8_lays_0 ++ dktX8_lays_1
theorem dksX8_lays_0 : cX8_lays.data.toList.drop 0 = dktX8_lays_0 := by decide +kernel
theorem dksX8_lays_1 : cX8_lays.data.toList.drop 24 = dktX8_lays_1 := dk_seg dksX8_lays_0 24 rfl rfl
theorem dksX8_lays_2 : cX8_lays.data.toList.drop 47 = dktX8_lays_2 := dk_seg dksX8_lays_1 23 rfl rfl
theorem dksX8_lays_3 : cX8_lays.data.toList.drop 70 = dktX8_lays_3 := dk_seg dksX8_lays_2 23 rfl rfl
theorem dksX8_lays_4 : cX8_lays.data.toList.drop 92 = dktX8_lays_4 := dk_seg dksX8_lays_3 22 rfl rfl
theorem dX8_lays_0 : decode cX8_lays 0 = .ok (.aload_n 0, 1) := dk_42 (dk_at dksX8_lays_0 0 rfl rfl)
theorem dX8_lays_1 : decode cX8_lays 1 = .ok (.getfield 32, 3) := dk_180 0 32 (dk_at dksX8_lays_0 1 rfl rfl)
theorem dX8_lays_4 : decode cX8_lays 4 = .ok (.getfield 36, 3) := dk_180 0 36 (dk_at dksX8_lays_0 4 rfl rfl)
theorem dX8_lays_7 : decode cX8_lays 7 = .ok (.istore_n 1, 1) := dk_60 (dk_at dksX8_lays_0 7 rfl rfl)
theorem dX8_lays_8 : decode cX8_lays 8 = .ok (.aload_n 0, 1) := dk_42 (dk_at dksX8_lays_0 8 rfl rfl)
theorem dX8_lays_9 : decode cX8_lays 9 = .ok (.iconst 0, 1) := dk_3 (dk_at dksX8_lays_0 9 rfl rfl)
theorem dX8_lays_10 : decode cX8_lays 10 = .ok (.putfield 42, 3) := dk_181 0 42 (dk_at dksX8_lays_0 10 rfl rfl)
theorem dX8_lays_13 : decode cX8_lays 13 = .ok (.aload_n 0, 1) := dk_42 (dk_at dksX8_lays_0 13 rfl rfl)
theorem dX8_lays_14 : decode cX8_lays 14 = .ok (.getfield 14, 3) := dk_180 0 14 (dk_at dksX8_lays_0 14 rfl rfl)
theorem dX8_lays_17 : decode cX8_lays 17 = .ok (.iload_n 1, 1) := dk_27 (dk_at dksX8_lays_0 17 rfl rfl)
theorem dX8_lays_18 : decode cX8_lays 18 = .ok (.putfield 45, 3) := dk_181 0 45 (dk_at dksX8_lays_0 18 rfl rfl)
theorem dX8_lays_21 : decode cX8_lays 21 = .ok (.iconst 0, 1) := dk_3 (dk_at dksX8_lays_0 21 rfl rfl)
theorem dX8_lays_22 : decode cX8_lays 22 = .ok (.istore_n 2, 1) := dk_61 (dk_at dksX8_lays_0 22 rfl rfl)
theorem dX8_lays_23 : decode cX8_lays 23 = .ok (.iload_n 2, 1) := dk_28 (dk_at dksX8_lays_0 23 rfl rfl)
theorem dX8_lays_24 : decode cX8_lays 24 = .ok (.iload_n 1, 1) := dk_27 (dk_at dksX8_lays_1 0 rfl rfl)
theorem dX8_lays_25 : decode cX8_lays 25 = .ok (.if_icmp .ge 43, 3) := dk_162 0 43 (dk_at dksX8_lays_1 1 rfl rfl)
theorem dX8_lays_28 : decode cX8_lays 28 = .ok (.iconst 0, 1) := dk_3 (dk_at dksX8_lays_1 4 rfl rfl)
theorem dX8_lays_29 : decode cX8_lays 29 = .ok (.istore_n 3, 1) := dk_62 (dk_at dksX8_lays_1 5 rfl rfl)
theorem dX8_lays_30 : decode cX8_lays 30 = .ok (.iload_n 3, 1) := dk_29 (dk_at dksX8_lays_1 6 rfl rfl)
theorem dX8_lays_31 : decode cX8_lays 31 = .ok (.iload_n 1, 1) := dk_27 (dk_at dksX8_lays_1 7 rfl rfl)
theorem dX8_lays_32 : decode cX8_lays 32 = .ok (.if_icmp .ge 30, 3) := dk_162 0 30 (dk_at dksX8_lays_1 8 rfl rfl)
theorem dX8_lays_35 : decode cX8_lays 35 = .ok (.aload_n 0, 1) := dk_42 (dk_at dksX8_lays_1 11 rfl rfl)
theorem dX8_lays_36 : decode cX8_lays 36 = .ok (.getfield 14, 3) := dk_180 0 14 (dk_at dksX8_lays_1 12 rfl rfl)
theorem dX8_lays_39 : decode cX8_lays 39 = .ok (.getfield 46, 3) := dk_180 0 46 (dk_at dksX8_lays_1 15 rfl rfl)
theorem dX8_lays_42 : decode cX8_lays 42 = .ok (.iload_n 2, 1) := dk_28 (dk_at dksX8_lays_1 18 rfl rfl)
theorem dX8_lays_43 : decode cX8_lays 43 = .ok (.aaload, 1) := dk_50 (dk_at dksX8_lays_1 19 rfl rfl)
theorem dX8_lays_44 : decode cX8_lays 44 = .ok (.iload_n 3, 1) := dk_29 (dk_at dksX8_lays_1 20 rfl rfl)
theorem dX8_lays_45 : decode cX8_lays 45 = .ok (.iload_n 2, 1) := dk_28 (dk_at dksX8_lays_1 21 rfl rfl)
theorem dX8_lays_46 : decode cX8_lays 46 = .ok (.iload_n 3, 1) := dk_29 (dk_at dksX8_lays_1 22 rfl rfl)
theorem dX8_lays_47 : decode cX8_lays 47 = .ok (.if_icmp .ne 7, 3) := dk_160 0 7 (dk_at dksX8_lays_2 0 rfl rfl)
theorem dX8_lays_50 : decode cX8_lays 50 = .ok (.iconst 1, 1) := dk_4 (dk_at dksX8_lays_2 3 rfl rfl)
theorem dX8_lays_51 : decode cX8_lays 51 = .ok (.goto 4, 3) := dk_167 0 4 (dk_at dksX8_lays_2 4 rfl rfl)
theorem dX8_lays_54 : decode cX8_lays 54 = .ok (.iconst 0, 1) := dk_3 (dk_at dksX8_lays_2 7 rfl rfl)
theorem dX8_lays_55 : decode cX8_lays 55 = .ok (.iastore, 1) := dk_79 (dk_at dksX8_lays_2 8 rfl rfl)
theorem dX8_lays_56 : decode cX8_lays 56 = .ok (.iinc 3 1, 3) := dk_132 3 1 (dk_at dksX8_lays_2 9 rfl rfl)
theorem dX8_lays_59 : decode cX8_lays 59 = .ok (.goto (-29), 3) := dk_167 255 227 (dk_at dksX8_lays_2 12 rfl rfl)
theorem dX8_lays_62 : decode cX8_lays 62 = .ok (.iinc 2 1, 3) := dk_132 2 1 (dk_at dksX8_lays_2 15 rfl rfl)
theorem dX8_lays_65 : decode cX8_lays 65 = .ok (.goto (-42), 3) := dk_167 255 214 (dk_at dksX8_lays_2 18 rfl rfl)
theorem dX8_lays_68 : decode cX8_lays 68 = .ok (.aload_n 0, 1) := dk_42 (dk_at dksX8_lays_2 21 rfl rfl)
theorem dX8_lays_69 : decode cX8_lays 69 = .ok (.aload_n 0, 1) := dk_42 (dk_at dksX8_lays_2 22 rfl rfl)
theorem dX8_lays_70 : decode cX8_lays 70 = .ok (.getfield 14, 3) := dk_180 0 14 (dk_at dksX8_lays_3 0 rfl rfl)
theorem dX8_lays_73 : decode cX8_lays 73 = .ok (.iconst 0, 1) := dk_3 (dk_at dksX8_lays_3 3 rfl rfl)
theorem dX8_lays_74 : decode cX8_lays 74 = .ok (.invokevirtual 47, 3) := dk_182 0 47 (dk_at dksX8_lays_3 4 rfl rfl)
theorem dX8_lays_77 : decode cX8_lays 77 = .ok (.iconst 0, 1) := dk_3 (dk_at dksX8_lays_3 7 rfl rfl)
theorem dX8_lays_78 : decode cX8_lays 78 = .ok (.istore_n 2, 1) := dk_61 (dk_at dksX8_lays_3 8 rfl rfl)
theorem dX8_lays_79 : decode cX8_lays 79 = .ok (.iload_n 2, 1) := dk_28 (dk_at dksX8_lays_3 9 rfl rfl)
theorem dX8_lays_80 : decode cX8_lays 80 = .ok (.aload_n 0, 1) := dk_42 (dk_at dksX8_lays_3 10 rfl rfl)
theorem dX8_lays_81 : decode cX8_lays 81 = .ok (.getfield 42, 3) := dk_180 0 42 (dk_at dksX8_lays_3 11 rfl rfl)
theorem dX8_lays_84 : decode cX8_lays 84 = .ok (.if_icmp .ge 14, 3) := dk_162 0 14 (dk_at dksX8_lays_3 14 rfl rfl)
theorem dX8_lays_87 : decode cX8_lays 87 = .ok (.aload_n 0, 1) := dk_42 (dk_at dksX8_lays_3 17 rfl rfl)
theorem dX8_lays_88 : decode cX8_lays 88 = .ok (.iload_n 2, 1) := dk_28 (dk_at dksX8_lays_3 18 rfl rfl)
theorem dX8_lays_89 : decode cX8_lays 89 = .ok (.invokevirtual 51, 3) := dk_182 0 51 (dk_at dksX8_lays_3 19 rfl rfl)
theorem dX8_lays_92 : decode cX8_lays 92 = .ok (.iinc 2 1, 3) := dk_132 2 1 (dk_at dksX8_lays_4 0 rfl rfl)
theorem dX8_lays_95 : decode cX8_lays 95 = .ok (.goto (-16), 3) := dk_167 255 240 (dk_at dksX8_lays_4 3 rfl rfl)
theorem dX8_lays_98 : decode cX8_lays 98 = .ok (.return_, 1) := dk_177 (dk_at dksX8_lays_4 6 rfl rfl)
abbrev cX8_splits : ByteArray := prog_7_method_3_code
def yX8_splits : MethodName := ⟨RX8, "splits", "(LVibrationDesk$Layer;I)V"⟩
def dkwX8_splits_3 : List UInt8 := [132, 3, 1, 167, 255, 214, 177]
abbrev dktX8_splits_3 : List UInt8 := dkwX8_splits_3 ++ []
def dkwX8_splits_2 : List UInt8 := [182, 0, 62, 43, 180, 0, 66, 180, 0, 45, 158, 0, 14, 42, 43, 180, 0, 66, 28, 4, 96, 182, 0, 47]
abbrev dktX8_splits_2 : List UInt8 := dkwX8_splits_2 ++ dktX8_splits_3
def dkwX8_splits_1 : List UInt8 := [180, 0, 36, 160, 0, 4, 177, 3, 62, 29, 16, 97, 162, 0, 42, 42, 43, 28, 29, 182, 0, 58, 42, 43]
abbrev dktX8_splits_1 : List UInt8 := dkwX8_splits_1 ++ dktX8_splits_2
def dkwX8_splits_0 : List UInt8 := [43, 180, 0, 45, 4, 160, 0, 14, 42, 43, 180, 0, 46, 3, 50, 182, 0, 54, 177, 28, 42, 180, 0, 32]
abbrev dktX8_splits_0 : List UInt8 := dkwX8_splits_0 ++ dktX8_splits_1
theorem dksX8_splits_0 : cX8_splits.data.toList.drop 0 = dktX8_splits_0 := by decide +kernel
theorem dksX8_splits_1 : cX8_splits.data.toList.drop 24 = dktX8_splits_1 := dk_seg dksX8_splits_0 24 rfl rfl
theorem dksX8_splits_2 : cX8_splits.data.toList.drop 48 = dktX8_splits_2 := dk_seg dksX8_splits_1 24 rfl rfl
theorem dksX8_splits_3 : cX8_splits.data.toList.drop 72 = dktX8_splits_3 := dk_seg dksX8_splits_2 24 rfl rfl
theorem dX8_splits_0 : decode cX8_splits 0 = .ok (.aload_n 1, 1) := dk_43 (dk_at dksX8_splits_0 0 rfl rfl)
theorem dX8_splits_1 : decode cX8_splits 1 = .ok (.getfield 45, 3) := dk_180 0 45 (dk_at dksX8_splits_0 1 rfl rfl)
theorem dX8_splits_4 : decode cX8_splits 4 = .ok (.iconst 1, 1) := dk_4 (dk_at dksX8_splits_0 4 rfl rfl)
theorem dX8_splits_5 : decode cX8_splits 5 = .ok (.if_icmp .ne 14, 3) := dk_160 0 14 (dk_at dksX8_splits_0 5 rfl rfl)
theorem dX8_splits_8 : decode cX8_splits 8 = .ok (.aload_n 0, 1) := dk_42 (dk_at dksX8_splits_0 8 rfl rfl)
theorem dX8_splits_9 : decode cX8_splits 9 = .ok (.aload_n 1, 1) := dk_43 (dk_at dksX8_splits_0 9 rfl rfl)
theorem dX8_splits_10 : decode cX8_splits 10 = .ok (.getfield 46, 3) := dk_180 0 46 (dk_at dksX8_splits_0 10 rfl rfl)
theorem dX8_splits_13 : decode cX8_splits 13 = .ok (.iconst 0, 1) := dk_3 (dk_at dksX8_splits_0 13 rfl rfl)
theorem dX8_splits_14 : decode cX8_splits 14 = .ok (.aaload, 1) := dk_50 (dk_at dksX8_splits_0 14 rfl rfl)
theorem dX8_splits_15 : decode cX8_splits 15 = .ok (.invokevirtual 54, 3) := dk_182 0 54 (dk_at dksX8_splits_0 15 rfl rfl)
theorem dX8_splits_18 : decode cX8_splits 18 = .ok (.return_, 1) := dk_177 (dk_at dksX8_splits_0 18 rfl rfl)
theorem dX8_splits_19 : decode cX8_splits 19 = .ok (.iload_n 2, 1) := dk_28 (dk_at dksX8_splits_0 19 rfl rfl)
theorem dX8_splits_20 : decode cX8_splits 20 = .ok (.aload_n 0, 1) := dk_42 (dk_at dksX8_splits_0 20 rfl rfl)
theorem dX8_splits_21 : decode cX8_splits 21 = .ok (.getfield 32, 3) := dk_180 0 32 (dk_at dksX8_splits_0 21 rfl rfl)
theorem dX8_splits_24 : decode cX8_splits 24 = .ok (.getfield 36, 3) := dk_180 0 36 (dk_at dksX8_splits_1 0 rfl rfl)
theorem dX8_splits_27 : decode cX8_splits 27 = .ok (.if_icmp .ne 4, 3) := dk_160 0 4 (dk_at dksX8_splits_1 3 rfl rfl)
theorem dX8_splits_30 : decode cX8_splits 30 = .ok (.return_, 1) := dk_177 (dk_at dksX8_splits_1 6 rfl rfl)
theorem dX8_splits_31 : decode cX8_splits 31 = .ok (.iconst 0, 1) := dk_3 (dk_at dksX8_splits_1 7 rfl rfl)
theorem dX8_splits_32 : decode cX8_splits 32 = .ok (.istore_n 3, 1) := dk_62 (dk_at dksX8_splits_1 8 rfl rfl)
theorem dX8_splits_33 : decode cX8_splits 33 = .ok (.iload_n 3, 1) := dk_29 (dk_at dksX8_splits_1 9 rfl rfl)
theorem dX8_splits_34 : decode cX8_splits 34 = .ok (.bipush 97, 2) := dk_16 97 (dk_at dksX8_splits_1 10 rfl rfl)
theorem dX8_splits_36 : decode cX8_splits 36 = .ok (.if_icmp .ge 42, 3) := dk_162 0 42 (dk_at dksX8_splits_1 12 rfl rfl)
theorem dX8_splits_39 : decode cX8_splits 39 = .ok (.aload_n 0, 1) := dk_42 (dk_at dksX8_splits_1 15 rfl rfl)
theorem dX8_splits_40 : decode cX8_splits 40 = .ok (.aload_n 1, 1) := dk_43 (dk_at dksX8_splits_1 16 rfl rfl)
theorem dX8_splits_41 : decode cX8_splits 41 = .ok (.iload_n 2, 1) := dk_28 (dk_at dksX8_splits_1 17 rfl rfl)
theorem dX8_splits_42 : decode cX8_splits 42 = .ok (.iload_n 3, 1) := dk_29 (dk_at dksX8_splits_1 18 rfl rfl)
theorem dX8_splits_43 : decode cX8_splits 43 = .ok (.invokevirtual 58, 3) := dk_182 0 58 (dk_at dksX8_splits_1 19 rfl rfl)
theorem dX8_splits_46 : decode cX8_splits 46 = .ok (.aload_n 0, 1) := dk_42 (dk_at dksX8_splits_1 22 rfl rfl)
theorem dX8_splits_47 : decode cX8_splits 47 = .ok (.aload_n 1, 1) := dk_43 (dk_at dksX8_splits_1 23 rfl rfl)
theorem dX8_splits_48 : decode cX8_splits 48 = .ok (.invokevirtual 62, 3) := dk_182 0 62 (dk_at dksX8_splits_2 0 rfl rfl)
theorem dX8_splits_51 : decode cX8_splits 51 = .ok (.aload_n 1, 1) := dk_43 (dk_at dksX8_splits_2 3 rfl rfl)
theorem dX8_splits_52 : decode cX8_splits 52 = .ok (.getfield 66, 3) := dk_180 0 66 (dk_at dksX8_splits_2 4 rfl rfl)
theorem dX8_splits_55 : decode cX8_splits 55 = .ok (.getfield 45, 3) := dk_180 0 45 (dk_at dksX8_splits_2 7 rfl rfl)
theorem dX8_splits_58 : decode cX8_splits 58 = .ok (.ifCond .le 14, 3) := dk_158 0 14 (dk_at dksX8_splits_2 10 rfl rfl)
theorem dX8_splits_61 : decode cX8_splits 61 = .ok (.aload_n 0, 1) := dk_42 (dk_at dksX8_splits_2 13 rfl rfl)
theorem dX8_splits_62 : decode cX8_splits 62 = .ok (.aload_n 1, 1) := dk_43 (dk_at dksX8_splits_2 14 rfl rfl)
theorem dX8_splits_63 : decode cX8_splits 63 = .ok (.getfield 66, 3) := dk_180 0 66 (dk_at dksX8_splits_2 15 rfl rfl)
theorem dX8_splits_66 : decode cX8_splits 66 = .ok (.iload_n 2, 1) := dk_28 (dk_at dksX8_splits_2 18 rfl rfl)
theorem dX8_splits_67 : decode cX8_splits 67 = .ok (.iconst 1, 1) := dk_4 (dk_at dksX8_splits_2 19 rfl rfl)
theorem dX8_splits_68 : decode cX8_splits 68 = .ok (.iadd, 1) := dk_96 (dk_at dksX8_splits_2 20 rfl rfl)
theorem dX8_splits_69 : decode cX8_splits 69 = .ok (.invokevirtual 47, 3) := dk_182 0 47 (dk_at dksX8_splits_2 21 rfl rfl)
theorem dX8_splits_72 : decode cX8_splits 72 = .ok (.iinc 3 1, 3) := dk_132 3 1 (dk_at dksX8_splits_3 0 rfl rfl)
theorem dX8_splits_75 : decode cX8_splits 75 = .ok (.goto (-42), 3) := dk_167 255 214 (dk_at dksX8_splits_3 3 rfl rfl)
theorem dX8_splits_78 : decode cX8_splits 78 = .ok (.return_, 1) := dk_177 (dk_at dksX8_splits_3 6 rfl rfl)
abbrev cX8_adds : ByteArray := prog_7_method_9_code
def yX8_adds : MethodName := ⟨RX8, "adds", "([I)V"⟩
def dkwX8_adds_5 : List UInt8 := [167, 255, 214, 42, 180, 0, 22, 21, 5, 25, 4, 83, 42, 89, 180, 0, 42, 4, 96, 181, 0, 42, 177]
abbrev dktX8_adds_5 : List UInt8 := dkwX8_adds_5 ++ []
def dkwX8_adds_4 : List UInt8 := [153, 0, 25, 42, 180, 0, 22, 21, 5, 42, 180, 0, 22, 21, 5, 4, 100, 50, 83, 132, 5, 255]
abbrev dktX8_adds_4 : List UInt8 := dkwX8_adds_4 ++ dktX8_adds_5
def dkwX8_adds_3 : List UInt8 := [54, 5, 21, 5, 158, 0, 43, 25, 4, 42, 180, 0, 22, 21, 5, 4, 100, 50, 28, 184, 0, 104]
abbrev dktX8_adds_3 : List UInt8 := dkwX8_adds_3 ++ dktX8_adds_4
def dkwX8_adds_2 : List UInt8 := [21, 5, 43, 21, 5, 46, 133, 29, 133, 105, 184, 0, 79, 79, 132, 5, 1, 167, 255, 231, 42, 180, 0, 42]
abbrev dktX8_adds_2 : List UInt8 := dkwX8_adds_2 ++ dktX8_adds_3
def dkwX8_adds_1 : List UInt8 := [62, 42, 180, 0, 22, 42, 180, 0, 42, 50, 58, 4, 3, 54, 5, 21, 5, 28, 162, 0, 25, 25, 4]
abbrev dktX8_adds_1 : List UInt8 := dkwX8_adds_1 ++ dktX8_adds_2
def dkwX8_adds_0 : List UInt8 := [42, 180, 0, 42, 16, 12, 160, 0, 4, 177, 42, 180, 0, 32, 180, 0, 36, 61, 43, 3, 46, 184, 0, 90]
abbrev dktX8_adds_0 : List UInt8 := dkwX8_adds_0 ++ dktX8_adds_1
theorem dksX8_adds_0 : cX8_adds.data.toList.drop 0 = dktX8_adds_0 := by decide +kernel
theorem dksX8_adds_1 : cX8_adds.data.toList.drop 24 = dktX8_adds_1 := dk_seg dksX8_adds_0 24 rfl rfl
theorem dksX8_adds_2 : cX8_adds.data.toList.drop 47 = dktX8_adds_2 := dk_seg dksX8_adds_1 23 rfl rfl
theorem dksX8_adds_3 : cX8_adds.data.toList.drop 71 = dktX8_adds_3 := dk_seg dksX8_adds_2 24 rfl rfl
theorem dksX8_adds_4 : cX8_adds.data.toList.drop 93 = dktX8_adds_4 := dk_seg dksX8_adds_3 22 rfl rfl
theorem dksX8_adds_5 : cX8_adds.data.toList.drop 115 = dktX8_adds_5 := dk_seg dksX8_adds_4 22 rfl rfl
theorem dX8_adds_0 : decode cX8_adds 0 = .ok (.aload_n 0, 1) := dk_42 (dk_at dksX8_adds_0 0 rfl rfl)
theorem dX8_adds_1 : decode cX8_adds 1 = .ok (.getfield 42, 3) := dk_180 0 42 (dk_at dksX8_adds_0 1 rfl rfl)
theorem dX8_adds_4 : decode cX8_adds 4 = .ok (.bipush 12, 2) := dk_16 12 (dk_at dksX8_adds_0 4 rfl rfl)
theorem dX8_adds_6 : decode cX8_adds 6 = .ok (.if_icmp .ne 4, 3) := dk_160 0 4 (dk_at dksX8_adds_0 6 rfl rfl)
theorem dX8_adds_9 : decode cX8_adds 9 = .ok (.return_, 1) := dk_177 (dk_at dksX8_adds_0 9 rfl rfl)
theorem dX8_adds_10 : decode cX8_adds 10 = .ok (.aload_n 0, 1) := dk_42 (dk_at dksX8_adds_0 10 rfl rfl)
theorem dX8_adds_11 : decode cX8_adds 11 = .ok (.getfield 32, 3) := dk_180 0 32 (dk_at dksX8_adds_0 11 rfl rfl)
theorem dX8_adds_14 : decode cX8_adds 14 = .ok (.getfield 36, 3) := dk_180 0 36 (dk_at dksX8_adds_0 14 rfl rfl)
theorem dX8_adds_17 : decode cX8_adds 17 = .ok (.istore_n 2, 1) := dk_61 (dk_at dksX8_adds_0 17 rfl rfl)
theorem dX8_adds_18 : decode cX8_adds 18 = .ok (.aload_n 1, 1) := dk_43 (dk_at dksX8_adds_0 18 rfl rfl)
theorem dX8_adds_19 : decode cX8_adds 19 = .ok (.iconst 0, 1) := dk_3 (dk_at dksX8_adds_0 19 rfl rfl)
theorem dX8_adds_20 : decode cX8_adds 20 = .ok (.iaload, 1) := dk_46 (dk_at dksX8_adds_0 20 rfl rfl)
theorem dX8_adds_21 : decode cX8_adds 21 = .ok (.invokestatic 90, 3) := dk_184 0 90 (dk_at dksX8_adds_0 21 rfl rfl)
theorem dX8_adds_24 : decode cX8_adds 24 = .ok (.istore_n 3, 1) := dk_62 (dk_at dksX8_adds_1 0 rfl rfl)
theorem dX8_adds_25 : decode cX8_adds 25 = .ok (.aload_n 0, 1) := dk_42 (dk_at dksX8_adds_1 1 rfl rfl)
theorem dX8_adds_26 : decode cX8_adds 26 = .ok (.getfield 22, 3) := dk_180 0 22 (dk_at dksX8_adds_1 2 rfl rfl)
theorem dX8_adds_29 : decode cX8_adds 29 = .ok (.aload_n 0, 1) := dk_42 (dk_at dksX8_adds_1 5 rfl rfl)
theorem dX8_adds_30 : decode cX8_adds 30 = .ok (.getfield 42, 3) := dk_180 0 42 (dk_at dksX8_adds_1 6 rfl rfl)
theorem dX8_adds_33 : decode cX8_adds 33 = .ok (.aaload, 1) := dk_50 (dk_at dksX8_adds_1 9 rfl rfl)
theorem dX8_adds_34 : decode cX8_adds 34 = .ok (.astore 4, 2) := dk_58 4 (dk_at dksX8_adds_1 10 rfl rfl)
theorem dX8_adds_36 : decode cX8_adds 36 = .ok (.iconst 0, 1) := dk_3 (dk_at dksX8_adds_1 12 rfl rfl)
theorem dX8_adds_37 : decode cX8_adds 37 = .ok (.istore 5, 2) := dk_54 5 (dk_at dksX8_adds_1 13 rfl rfl)
theorem dX8_adds_39 : decode cX8_adds 39 = .ok (.iload 5, 2) := dk_21 5 (dk_at dksX8_adds_1 15 rfl rfl)
theorem dX8_adds_41 : decode cX8_adds 41 = .ok (.iload_n 2, 1) := dk_28 (dk_at dksX8_adds_1 17 rfl rfl)
theorem dX8_adds_42 : decode cX8_adds 42 = .ok (.if_icmp .ge 25, 3) := dk_162 0 25 (dk_at dksX8_adds_1 18 rfl rfl)
theorem dX8_adds_45 : decode cX8_adds 45 = .ok (.aload 4, 2) := dk_25 4 (dk_at dksX8_adds_1 21 rfl rfl)
theorem dX8_adds_47 : decode cX8_adds 47 = .ok (.iload 5, 2) := dk_21 5 (dk_at dksX8_adds_2 0 rfl rfl)
theorem dX8_adds_49 : decode cX8_adds 49 = .ok (.aload_n 1, 1) := dk_43 (dk_at dksX8_adds_2 2 rfl rfl)
theorem dX8_adds_50 : decode cX8_adds 50 = .ok (.iload 5, 2) := dk_21 5 (dk_at dksX8_adds_2 3 rfl rfl)
theorem dX8_adds_52 : decode cX8_adds 52 = .ok (.iaload, 1) := dk_46 (dk_at dksX8_adds_2 5 rfl rfl)
theorem dX8_adds_53 : decode cX8_adds 53 = .ok (.i2l, 1) := dk_133 (dk_at dksX8_adds_2 6 rfl rfl)
theorem dX8_adds_54 : decode cX8_adds 54 = .ok (.iload_n 3, 1) := dk_29 (dk_at dksX8_adds_2 7 rfl rfl)
theorem dX8_adds_55 : decode cX8_adds 55 = .ok (.i2l, 1) := dk_133 (dk_at dksX8_adds_2 8 rfl rfl)
theorem dX8_adds_56 : decode cX8_adds 56 = .ok (.lmul, 1) := dk_105 (dk_at dksX8_adds_2 9 rfl rfl)
theorem dX8_adds_57 : decode cX8_adds 57 = .ok (.invokestatic 79, 3) := dk_184 0 79 (dk_at dksX8_adds_2 10 rfl rfl)
theorem dX8_adds_60 : decode cX8_adds 60 = .ok (.iastore, 1) := dk_79 (dk_at dksX8_adds_2 13 rfl rfl)
theorem dX8_adds_61 : decode cX8_adds 61 = .ok (.iinc 5 1, 3) := dk_132 5 1 (dk_at dksX8_adds_2 14 rfl rfl)
theorem dX8_adds_64 : decode cX8_adds 64 = .ok (.goto (-25), 3) := dk_167 255 231 (dk_at dksX8_adds_2 17 rfl rfl)
theorem dX8_adds_67 : decode cX8_adds 67 = .ok (.aload_n 0, 1) := dk_42 (dk_at dksX8_adds_2 20 rfl rfl)
theorem dX8_adds_68 : decode cX8_adds 68 = .ok (.getfield 42, 3) := dk_180 0 42 (dk_at dksX8_adds_2 21 rfl rfl)
theorem dX8_adds_71 : decode cX8_adds 71 = .ok (.istore 5, 2) := dk_54 5 (dk_at dksX8_adds_3 0 rfl rfl)
theorem dX8_adds_73 : decode cX8_adds 73 = .ok (.iload 5, 2) := dk_21 5 (dk_at dksX8_adds_3 2 rfl rfl)
theorem dX8_adds_75 : decode cX8_adds 75 = .ok (.ifCond .le 43, 3) := dk_158 0 43 (dk_at dksX8_adds_3 4 rfl rfl)
theorem dX8_adds_78 : decode cX8_adds 78 = .ok (.aload 4, 2) := dk_25 4 (dk_at dksX8_adds_3 7 rfl rfl)
theorem dX8_adds_80 : decode cX8_adds 80 = .ok (.aload_n 0, 1) := dk_42 (dk_at dksX8_adds_3 9 rfl rfl)
theorem dX8_adds_81 : decode cX8_adds 81 = .ok (.getfield 22, 3) := dk_180 0 22 (dk_at dksX8_adds_3 10 rfl rfl)
theorem dX8_adds_84 : decode cX8_adds 84 = .ok (.iload 5, 2) := dk_21 5 (dk_at dksX8_adds_3 13 rfl rfl)
theorem dX8_adds_86 : decode cX8_adds 86 = .ok (.iconst 1, 1) := dk_4 (dk_at dksX8_adds_3 15 rfl rfl)
theorem dX8_adds_87 : decode cX8_adds 87 = .ok (.isub, 1) := dk_100 (dk_at dksX8_adds_3 16 rfl rfl)
theorem dX8_adds_88 : decode cX8_adds 88 = .ok (.aaload, 1) := dk_50 (dk_at dksX8_adds_3 17 rfl rfl)
theorem dX8_adds_89 : decode cX8_adds 89 = .ok (.iload_n 2, 1) := dk_28 (dk_at dksX8_adds_3 18 rfl rfl)
theorem dX8_adds_90 : decode cX8_adds 90 = .ok (.invokestatic 104, 3) := dk_184 0 104 (dk_at dksX8_adds_3 19 rfl rfl)
theorem dX8_adds_93 : decode cX8_adds 93 = .ok (.ifCond .eq 25, 3) := dk_153 0 25 (dk_at dksX8_adds_4 0 rfl rfl)
theorem dX8_adds_96 : decode cX8_adds 96 = .ok (.aload_n 0, 1) := dk_42 (dk_at dksX8_adds_4 3 rfl rfl)
theorem dX8_adds_97 : decode cX8_adds 97 = .ok (.getfield 22, 3) := dk_180 0 22 (dk_at dksX8_adds_4 4 rfl rfl)
theorem dX8_adds_100 : decode cX8_adds 100 = .ok (.iload 5, 2) := dk_21 5 (dk_at dksX8_adds_4 7 rfl rfl)
theorem dX8_adds_102 : decode cX8_adds 102 = .ok (.aload_n 0, 1) := dk_42 (dk_at dksX8_adds_4 9 rfl rfl)
theorem dX8_adds_103 : decode cX8_adds 103 = .ok (.getfield 22, 3) := dk_180 0 22 (dk_at dksX8_adds_4 10 rfl rfl)
theorem dX8_adds_106 : decode cX8_adds 106 = .ok (.iload 5, 2) := dk_21 5 (dk_at dksX8_adds_4 13 rfl rfl)
theorem dX8_adds_108 : decode cX8_adds 108 = .ok (.iconst 1, 1) := dk_4 (dk_at dksX8_adds_4 15 rfl rfl)
theorem dX8_adds_109 : decode cX8_adds 109 = .ok (.isub, 1) := dk_100 (dk_at dksX8_adds_4 16 rfl rfl)
theorem dX8_adds_110 : decode cX8_adds 110 = .ok (.aaload, 1) := dk_50 (dk_at dksX8_adds_4 17 rfl rfl)
theorem dX8_adds_111 : decode cX8_adds 111 = .ok (.aastore, 1) := dk_83 (dk_at dksX8_adds_4 18 rfl rfl)
theorem dX8_adds_112 : decode cX8_adds 112 = .ok (.iinc 5 (-1), 3) := dk_132 5 255 (dk_at dksX8_adds_4 19 rfl rfl)
theorem dX8_adds_115 : decode cX8_adds 115 = .ok (.goto (-42), 3) := dk_167 255 214 (dk_at dksX8_adds_5 0 rfl rfl)
theorem dX8_adds_118 : decode cX8_adds 118 = .ok (.aload_n 0, 1) := dk_42 (dk_at dksX8_adds_5 3 rfl rfl)
theorem dX8_adds_119 : decode cX8_adds 119 = .ok (.getfield 22, 3) := dk_180 0 22 (dk_at dksX8_adds_5 4 rfl rfl)
theorem dX8_adds_122 : decode cX8_adds 122 = .ok (.iload 5, 2) := dk_21 5 (dk_at dksX8_adds_5 7 rfl rfl)
theorem dX8_adds_124 : decode cX8_adds 124 = .ok (.aload 4, 2) := dk_25 4 (dk_at dksX8_adds_5 9 rfl rfl)
theorem dX8_adds_126 : decode cX8_adds 126 = .ok (.aastore, 1) := dk_83 (dk_at dksX8_adds_5 11 rfl rfl)
theorem dX8_adds_127 : decode cX8_adds 127 = .ok (.aload_n 0, 1) := dk_42 (dk_at dksX8_adds_5 12 rfl rfl)
theorem dX8_adds_128 : decode cX8_adds 128 = .ok (.dup, 1) := dk_89 (dk_at dksX8_adds_5 13 rfl rfl)
theorem dX8_adds_129 : decode cX8_adds 129 = .ok (.getfield 42, 3) := dk_180 0 42 (dk_at dksX8_adds_5 14 rfl rfl)
theorem dX8_adds_132 : decode cX8_adds 132 = .ok (.iconst 1, 1) := dk_4 (dk_at dksX8_adds_5 17 rfl rfl)
theorem dX8_adds_133 : decode cX8_adds 133 = .ok (.iadd, 1) := dk_96 (dk_at dksX8_adds_5 18 rfl rfl)
theorem dX8_adds_134 : decode cX8_adds 134 = .ok (.putfield 42, 3) := dk_181 0 42 (dk_at dksX8_adds_5 19 rfl rfl)
theorem dX8_adds_137 : decode cX8_adds 137 = .ok (.return_, 1) := dk_177 (dk_at dksX8_adds_5 22 rfl rfl)
abbrev cX8_isAhead : ByteArray := prog_7_method_8_code
def yX8_isAhead : MethodName := ⟨RX8, "isAhead", "([I[II)Z"⟩
def dkwX8_isAhead_1 : List UInt8 := [162, 0, 16, 42, 29, 46, 43, 29, 46, 162, 0, 7, 4, 167, 0, 4, 3, 172]
abbrev dktX8_isAhead_1 : List UInt8 := dkwX8_isAhead_1 ++ []
def dkwX8_isAhead_0 : List UInt8 := [3, 62, 29, 28, 162, 0, 18, 42, 29, 46, 43, 29, 46, 160, 0, 9, 132, 3, 1, 167, 255, 239, 29, 28]
abbrev dktX8_isAhead_0 : List UInt8 := dkwX8_isAhead_0 ++ dktX8_isAhead_1
theorem dksX8_isAhead_0 : cX8_isAhead.data.toList.drop 0 = dktX8_isAhead_0 := by decide +kernel
theorem dksX8_isAhead_1 : cX8_isAhead.data.toList.drop 24 = dktX8_isAhead_1 := dk_seg dksX8_isAhead_0 24 rfl rfl
theorem dX8_isAhead_0 : decode cX8_isAhead 0 = .ok (.iconst 0, 1) := dk_3 (dk_at dksX8_isAhead_0 0 rfl rfl)
theorem dX8_isAhead_1 : decode cX8_isAhead 1 = .ok (.istore_n 3, 1) := dk_62 (dk_at dksX8_isAhead_0 1 rfl rfl)
theorem dX8_isAhead_2 : decode cX8_isAhead 2 = .ok (.iload_n 3, 1) := dk_29 (dk_at dksX8_isAhead_0 2 rfl rfl)
theorem dX8_isAhead_3 : decode cX8_isAhead 3 = .ok (.iload_n 2, 1) := dk_28 (dk_at dksX8_isAhead_0 3 rfl rfl)
theorem dX8_isAhead_4 : decode cX8_isAhead 4 = .ok (.if_icmp .ge 18, 3) := dk_162 0 18 (dk_at dksX8_isAhead_0 4 rfl rfl)
theorem dX8_isAhead_7 : decode cX8_isAhead 7 = .ok (.aload_n 0, 1) := dk_42 (dk_at dksX8_isAhead_0 7 rfl rfl)
theorem dX8_isAhead_8 : decode cX8_isAhead 8 = .ok (.iload_n 3, 1) := dk_29 (dk_at dksX8_isAhead_0 8 rfl rfl)
theorem dX8_isAhead_9 : decode cX8_isAhead 9 = .ok (.iaload, 1) := dk_46 (dk_at dksX8_isAhead_0 9 rfl rfl)
theorem dX8_isAhead_10 : decode cX8_isAhead 10 = .ok (.aload_n 1, 1) := dk_43 (dk_at dksX8_isAhead_0 10 rfl rfl)
theorem dX8_isAhead_11 : decode cX8_isAhead 11 = .ok (.iload_n 3, 1) := dk_29 (dk_at dksX8_isAhead_0 11 rfl rfl)
theorem dX8_isAhead_12 : decode cX8_isAhead 12 = .ok (.iaload, 1) := dk_46 (dk_at dksX8_isAhead_0 12 rfl rfl)
theorem dX8_isAhead_13 : decode cX8_isAhead 13 = .ok (.if_icmp .ne 9, 3) := dk_160 0 9 (dk_at dksX8_isAhead_0 13 rfl rfl)
theorem dX8_isAhead_16 : decode cX8_isAhead 16 = .ok (.iinc 3 1, 3) := dk_132 3 1 (dk_at dksX8_isAhead_0 16 rfl rfl)
theorem dX8_isAhead_19 : decode cX8_isAhead 19 = .ok (.goto (-17), 3) := dk_167 255 239 (dk_at dksX8_isAhead_0 19 rfl rfl)
theorem dX8_isAhead_22 : decode cX8_isAhead 22 = .ok (.iload_n 3, 1) := dk_29 (dk_at dksX8_isAhead_0 22 rfl rfl)
theorem dX8_isAhead_23 : decode cX8_isAhead 23 = .ok (.iload_n 2, 1) := dk_28 (dk_at dksX8_isAhead_0 23 rfl rfl)
theorem dX8_isAhead_24 : decode cX8_isAhead 24 = .ok (.if_icmp .ge 16, 3) := dk_162 0 16 (dk_at dksX8_isAhead_1 0 rfl rfl)
theorem dX8_isAhead_27 : decode cX8_isAhead 27 = .ok (.aload_n 0, 1) := dk_42 (dk_at dksX8_isAhead_1 3 rfl rfl)
theorem dX8_isAhead_28 : decode cX8_isAhead 28 = .ok (.iload_n 3, 1) := dk_29 (dk_at dksX8_isAhead_1 4 rfl rfl)
theorem dX8_isAhead_29 : decode cX8_isAhead 29 = .ok (.iaload, 1) := dk_46 (dk_at dksX8_isAhead_1 5 rfl rfl)
theorem dX8_isAhead_30 : decode cX8_isAhead 30 = .ok (.aload_n 1, 1) := dk_43 (dk_at dksX8_isAhead_1 6 rfl rfl)
theorem dX8_isAhead_31 : decode cX8_isAhead 31 = .ok (.iload_n 3, 1) := dk_29 (dk_at dksX8_isAhead_1 7 rfl rfl)
theorem dX8_isAhead_32 : decode cX8_isAhead 32 = .ok (.iaload, 1) := dk_46 (dk_at dksX8_isAhead_1 8 rfl rfl)
theorem dX8_isAhead_33 : decode cX8_isAhead 33 = .ok (.if_icmp .ge 7, 3) := dk_162 0 7 (dk_at dksX8_isAhead_1 9 rfl rfl)
theorem dX8_isAhead_36 : decode cX8_isAhead 36 = .ok (.iconst 1, 1) := dk_4 (dk_at dksX8_isAhead_1 12 rfl rfl)
theorem dX8_isAhead_37 : decode cX8_isAhead 37 = .ok (.goto 4, 3) := dk_167 0 4 (dk_at dksX8_isAhead_1 13 rfl rfl)
theorem dX8_isAhead_40 : decode cX8_isAhead 40 = .ok (.iconst 0, 1) := dk_3 (dk_at dksX8_isAhead_1 16 rfl rfl)
theorem dX8_isAhead_41 : decode cX8_isAhead 41 = .ok (.ireturn, 1) := dk_172 (dk_at dksX8_isAhead_1 17 rfl rfl)
abbrev cX8_laysImages : ByteArray := prog_7_method_4_code
def yX8_laysImages : MethodName := ⟨RX8, "laysImages", "(LVibrationDesk$Layer;II)V"⟩
def dkwX8_laysImages_6 : List UInt8 := [167, 255, 131, 132, 4, 1, 167, 255, 113, 177]
abbrev dktX8_laysImages_6 : List UInt8 := dkwX8_laysImages_6 ++ []
def dkwX8_laysImages_5 : List UInt8 := [43, 180, 0, 83, 21, 4, 50, 21, 5, 43, 180, 0, 46, 21, 4, 50, 21, 5, 46, 79, 132, 5, 1]
abbrev dktX8_laysImages_5 : List UInt8 := dkwX8_laysImages_5 ++ dktX8_laysImages_6
def dkwX8_laysImages_4 : List UInt8 := [97, 55, 6, 132, 8, 1, 167, 255, 204, 43, 180, 0, 76, 21, 4, 50, 21, 5, 22, 6, 184, 0, 79, 79]
abbrev dktX8_laysImages_4 : List UInt8 := dkwX8_laysImages_4 ++ dktX8_laysImages_5
def dkwX8_laysImages_3 : List UInt8 := [180, 0, 32, 28, 21, 5, 21, 8, 182, 0, 72, 46, 43, 180, 0, 46, 21, 4, 50, 21, 8, 46, 104, 133]
abbrev dktX8_laysImages_3 : List UInt8 := dkwX8_laysImages_3 ++ dktX8_laysImages_4
def dkwX8_laysImages_2 : List UInt8 := [21, 8, 42, 180, 0, 32, 180, 0, 36, 162, 0, 46, 22, 6, 42, 180, 0, 32, 180, 0, 69, 42]
abbrev dktX8_laysImages_2 : List UInt8 := dkwX8_laysImages_2 ++ dktX8_laysImages_3
def dkwX8_laysImages_1 : List UInt8 := [162, 0, 119, 29, 133, 117, 43, 180, 0, 46, 21, 4, 50, 21, 5, 46, 133, 105, 55, 6, 3, 54, 8]
abbrev dktX8_laysImages_1 : List UInt8 := dkwX8_laysImages_1 ++ dktX8_laysImages_2
def dkwX8_laysImages_0 : List UInt8 := [3, 54, 4, 21, 4, 43, 180, 0, 45, 162, 0, 140, 3, 54, 5, 21, 5, 42, 180, 0, 32, 180, 0, 36]
abbrev dktX8_laysImages_0 : List UInt8 := dkwX8_laysImages_0 ++ dktX8_laysImages_1
theorem dksX8_laysImages_0 : cX8_laysImages.data.toList.drop 0 = dktX8_laysImages_0 := by decide +kernel
theorem dksX8_laysImages_1 : cX8_laysImages.data.toList.drop 24 = dktX8_laysImages_1 := dk_seg dksX8_laysImages_0 24 rfl rfl
theorem dksX8_laysImages_2 : cX8_laysImages.data.toList.drop 47 = dktX8_laysImages_2 := dk_seg dksX8_laysImages_1 23 rfl rfl
theorem dksX8_laysImages_3 : cX8_laysImages.data.toList.drop 69 = dktX8_laysImages_3 := dk_seg dksX8_laysImages_2 22 rfl rfl
theorem dksX8_laysImages_4 : cX8_laysImages.data.toList.drop 93 = dktX8_laysImages_4 := dk_seg dksX8_laysImages_3 24 rfl rfl
theorem dksX8_laysImages_5 : cX8_laysImages.data.toList.drop 117 = dktX8_laysImages_5 := dk_seg dksX8_laysImages_4 24 rfl rfl
theorem dksX8_laysImages_6 : cX8_laysImages.data.toList.drop 140 = dktX8_laysImages_6 := dk_seg dksX8_laysImages_5 23 rfl rfl
theorem dX8_laysImages_0 : decode cX8_laysImages 0 = .ok (.iconst 0, 1) := dk_3 (dk_at dksX8_laysImages_0 0 rfl rfl)
theorem dX8_laysImages_1 : decode cX8_laysImages 1 = .ok (.istore 4, 2) := dk_54 4 (dk_at dksX8_laysImages_0 1 rfl rfl)
theorem dX8_laysImages_3 : decode cX8_laysImages 3 = .ok (.iload 4, 2) := dk_21 4 (dk_at dksX8_laysImages_0 3 rfl rfl)
theorem dX8_laysImages_5 : decode cX8_laysImages 5 = .ok (.aload_n 1, 1) := dk_43 (dk_at dksX8_laysImages_0 5 rfl rfl)
theorem dX8_laysImages_6 : decode cX8_laysImages 6 = .ok (.getfield 45, 3) := dk_180 0 45 (dk_at dksX8_laysImages_0 6 rfl rfl)
theorem dX8_laysImages_9 : decode cX8_laysImages 9 = .ok (.if_icmp .ge 140, 3) := dk_162 0 140 (dk_at dksX8_laysImages_0 9 rfl rfl)
theorem dX8_laysImages_12 : decode cX8_laysImages 12 = .ok (.iconst 0, 1) := dk_3 (dk_at dksX8_laysImages_0 12 rfl rfl)
theorem dX8_laysImages_13 : decode cX8_laysImages 13 = .ok (.istore 5, 2) := dk_54 5 (dk_at dksX8_laysImages_0 13 rfl rfl)
theorem dX8_laysImages_15 : decode cX8_laysImages 15 = .ok (.iload 5, 2) := dk_21 5 (dk_at dksX8_laysImages_0 15 rfl rfl)
theorem dX8_laysImages_17 : decode cX8_laysImages 17 = .ok (.aload_n 0, 1) := dk_42 (dk_at dksX8_laysImages_0 17 rfl rfl)
theorem dX8_laysImages_18 : decode cX8_laysImages 18 = .ok (.getfield 32, 3) := dk_180 0 32 (dk_at dksX8_laysImages_0 18 rfl rfl)
theorem dX8_laysImages_21 : decode cX8_laysImages 21 = .ok (.getfield 36, 3) := dk_180 0 36 (dk_at dksX8_laysImages_0 21 rfl rfl)
theorem dX8_laysImages_24 : decode cX8_laysImages 24 = .ok (.if_icmp .ge 119, 3) := dk_162 0 119 (dk_at dksX8_laysImages_1 0 rfl rfl)
theorem dX8_laysImages_27 : decode cX8_laysImages 27 = .ok (.iload_n 3, 1) := dk_29 (dk_at dksX8_laysImages_1 3 rfl rfl)
theorem dX8_laysImages_28 : decode cX8_laysImages 28 = .ok (.i2l, 1) := dk_133 (dk_at dksX8_laysImages_1 4 rfl rfl)
theorem dX8_laysImages_29 : decode cX8_laysImages 29 = .ok (.lneg, 1) := dk_117 (dk_at dksX8_laysImages_1 5 rfl rfl)
theorem dX8_laysImages_30 : decode cX8_laysImages 30 = .ok (.aload_n 1, 1) := dk_43 (dk_at dksX8_laysImages_1 6 rfl rfl)
theorem dX8_laysImages_31 : decode cX8_laysImages 31 = .ok (.getfield 46, 3) := dk_180 0 46 (dk_at dksX8_laysImages_1 7 rfl rfl)
theorem dX8_laysImages_34 : decode cX8_laysImages 34 = .ok (.iload 4, 2) := dk_21 4 (dk_at dksX8_laysImages_1 10 rfl rfl)
theorem dX8_laysImages_36 : decode cX8_laysImages 36 = .ok (.aaload, 1) := dk_50 (dk_at dksX8_laysImages_1 12 rfl rfl)
theorem dX8_laysImages_37 : decode cX8_laysImages 37 = .ok (.iload 5, 2) := dk_21 5 (dk_at dksX8_laysImages_1 13 rfl rfl)
theorem dX8_laysImages_39 : decode cX8_laysImages 39 = .ok (.iaload, 1) := dk_46 (dk_at dksX8_laysImages_1 15 rfl rfl)
theorem dX8_laysImages_40 : decode cX8_laysImages 40 = .ok (.i2l, 1) := dk_133 (dk_at dksX8_laysImages_1 16 rfl rfl)
theorem dX8_laysImages_41 : decode cX8_laysImages 41 = .ok (.lmul, 1) := dk_105 (dk_at dksX8_laysImages_1 17 rfl rfl)
theorem dX8_laysImages_42 : decode cX8_laysImages 42 = .ok (.lstore 6, 2) := dk_55 6 (dk_at dksX8_laysImages_1 18 rfl rfl)
theorem dX8_laysImages_44 : decode cX8_laysImages 44 = .ok (.iconst 0, 1) := dk_3 (dk_at dksX8_laysImages_1 20 rfl rfl)
theorem dX8_laysImages_45 : decode cX8_laysImages 45 = .ok (.istore 8, 2) := dk_54 8 (dk_at dksX8_laysImages_1 21 rfl rfl)
theorem dX8_laysImages_47 : decode cX8_laysImages 47 = .ok (.iload 8, 2) := dk_21 8 (dk_at dksX8_laysImages_2 0 rfl rfl)
theorem dX8_laysImages_49 : decode cX8_laysImages 49 = .ok (.aload_n 0, 1) := dk_42 (dk_at dksX8_laysImages_2 2 rfl rfl)
theorem dX8_laysImages_50 : decode cX8_laysImages 50 = .ok (.getfield 32, 3) := dk_180 0 32 (dk_at dksX8_laysImages_2 3 rfl rfl)
theorem dX8_laysImages_53 : decode cX8_laysImages 53 = .ok (.getfield 36, 3) := dk_180 0 36 (dk_at dksX8_laysImages_2 6 rfl rfl)
theorem dX8_laysImages_56 : decode cX8_laysImages 56 = .ok (.if_icmp .ge 46, 3) := dk_162 0 46 (dk_at dksX8_laysImages_2 9 rfl rfl)
theorem dX8_laysImages_59 : decode cX8_laysImages 59 = .ok (.lload 6, 2) := dk_22 6 (dk_at dksX8_laysImages_2 12 rfl rfl)
theorem dX8_laysImages_61 : decode cX8_laysImages 61 = .ok (.aload_n 0, 1) := dk_42 (dk_at dksX8_laysImages_2 14 rfl rfl)
theorem dX8_laysImages_62 : decode cX8_laysImages 62 = .ok (.getfield 32, 3) := dk_180 0 32 (dk_at dksX8_laysImages_2 15 rfl rfl)
theorem dX8_laysImages_65 : decode cX8_laysImages 65 = .ok (.getfield 69, 3) := dk_180 0 69 (dk_at dksX8_laysImages_2 18 rfl rfl)
theorem dX8_laysImages_68 : decode cX8_laysImages 68 = .ok (.aload_n 0, 1) := dk_42 (dk_at dksX8_laysImages_2 21 rfl rfl)
theorem dX8_laysImages_69 : decode cX8_laysImages 69 = .ok (.getfield 32, 3) := dk_180 0 32 (dk_at dksX8_laysImages_3 0 rfl rfl)
theorem dX8_laysImages_72 : decode cX8_laysImages 72 = .ok (.iload_n 2, 1) := dk_28 (dk_at dksX8_laysImages_3 3 rfl rfl)
theorem dX8_laysImages_73 : decode cX8_laysImages 73 = .ok (.iload 5, 2) := dk_21 5 (dk_at dksX8_laysImages_3 4 rfl rfl)
theorem dX8_laysImages_75 : decode cX8_laysImages 75 = .ok (.iload 8, 2) := dk_21 8 (dk_at dksX8_laysImages_3 6 rfl rfl)
theorem dX8_laysImages_77 : decode cX8_laysImages 77 = .ok (.invokevirtual 72, 3) := dk_182 0 72 (dk_at dksX8_laysImages_3 8 rfl rfl)
theorem dX8_laysImages_80 : decode cX8_laysImages 80 = .ok (.iaload, 1) := dk_46 (dk_at dksX8_laysImages_3 11 rfl rfl)
theorem dX8_laysImages_81 : decode cX8_laysImages 81 = .ok (.aload_n 1, 1) := dk_43 (dk_at dksX8_laysImages_3 12 rfl rfl)
theorem dX8_laysImages_82 : decode cX8_laysImages 82 = .ok (.getfield 46, 3) := dk_180 0 46 (dk_at dksX8_laysImages_3 13 rfl rfl)
theorem dX8_laysImages_85 : decode cX8_laysImages 85 = .ok (.iload 4, 2) := dk_21 4 (dk_at dksX8_laysImages_3 16 rfl rfl)
theorem dX8_laysImages_87 : decode cX8_laysImages 87 = .ok (.aaload, 1) := dk_50 (dk_at dksX8_laysImages_3 18 rfl rfl)
theorem dX8_laysImages_88 : decode cX8_laysImages 88 = .ok (.iload 8, 2) := dk_21 8 (dk_at dksX8_laysImages_3 19 rfl rfl)
theorem dX8_laysImages_90 : decode cX8_laysImages 90 = .ok (.iaload, 1) := dk_46 (dk_at dksX8_laysImages_3 21 rfl rfl)
theorem dX8_laysImages_91 : decode cX8_laysImages 91 = .ok (.imul, 1) := dk_104 (dk_at dksX8_laysImages_3 22 rfl rfl)
theorem dX8_laysImages_92 : decode cX8_laysImages 92 = .ok (.i2l, 1) := dk_133 (dk_at dksX8_laysImages_3 23 rfl rfl)
theorem dX8_laysImages_93 : decode cX8_laysImages 93 = .ok (.ladd, 1) := dk_97 (dk_at dksX8_laysImages_4 0 rfl rfl)
theorem dX8_laysImages_94 : decode cX8_laysImages 94 = .ok (.lstore 6, 2) := dk_55 6 (dk_at dksX8_laysImages_4 1 rfl rfl)
theorem dX8_laysImages_96 : decode cX8_laysImages 96 = .ok (.iinc 8 1, 3) := dk_132 8 1 (dk_at dksX8_laysImages_4 3 rfl rfl)
theorem dX8_laysImages_99 : decode cX8_laysImages 99 = .ok (.goto (-52), 3) := dk_167 255 204 (dk_at dksX8_laysImages_4 6 rfl rfl)
theorem dX8_laysImages_102 : decode cX8_laysImages 102 = .ok (.aload_n 1, 1) := dk_43 (dk_at dksX8_laysImages_4 9 rfl rfl)
theorem dX8_laysImages_103 : decode cX8_laysImages 103 = .ok (.getfield 76, 3) := dk_180 0 76 (dk_at dksX8_laysImages_4 10 rfl rfl)
theorem dX8_laysImages_106 : decode cX8_laysImages 106 = .ok (.iload 4, 2) := dk_21 4 (dk_at dksX8_laysImages_4 13 rfl rfl)
theorem dX8_laysImages_108 : decode cX8_laysImages 108 = .ok (.aaload, 1) := dk_50 (dk_at dksX8_laysImages_4 15 rfl rfl)
theorem dX8_laysImages_109 : decode cX8_laysImages 109 = .ok (.iload 5, 2) := dk_21 5 (dk_at dksX8_laysImages_4 16 rfl rfl)
theorem dX8_laysImages_111 : decode cX8_laysImages 111 = .ok (.lload 6, 2) := dk_22 6 (dk_at dksX8_laysImages_4 18 rfl rfl)
theorem dX8_laysImages_113 : decode cX8_laysImages 113 = .ok (.invokestatic 79, 3) := dk_184 0 79 (dk_at dksX8_laysImages_4 20 rfl rfl)
theorem dX8_laysImages_116 : decode cX8_laysImages 116 = .ok (.iastore, 1) := dk_79 (dk_at dksX8_laysImages_4 23 rfl rfl)
theorem dX8_laysImages_117 : decode cX8_laysImages 117 = .ok (.aload_n 1, 1) := dk_43 (dk_at dksX8_laysImages_5 0 rfl rfl)
theorem dX8_laysImages_118 : decode cX8_laysImages 118 = .ok (.getfield 83, 3) := dk_180 0 83 (dk_at dksX8_laysImages_5 1 rfl rfl)
theorem dX8_laysImages_121 : decode cX8_laysImages 121 = .ok (.iload 4, 2) := dk_21 4 (dk_at dksX8_laysImages_5 4 rfl rfl)
theorem dX8_laysImages_123 : decode cX8_laysImages 123 = .ok (.aaload, 1) := dk_50 (dk_at dksX8_laysImages_5 6 rfl rfl)
theorem dX8_laysImages_124 : decode cX8_laysImages 124 = .ok (.iload 5, 2) := dk_21 5 (dk_at dksX8_laysImages_5 7 rfl rfl)
theorem dX8_laysImages_126 : decode cX8_laysImages 126 = .ok (.aload_n 1, 1) := dk_43 (dk_at dksX8_laysImages_5 9 rfl rfl)
theorem dX8_laysImages_127 : decode cX8_laysImages 127 = .ok (.getfield 46, 3) := dk_180 0 46 (dk_at dksX8_laysImages_5 10 rfl rfl)
theorem dX8_laysImages_130 : decode cX8_laysImages 130 = .ok (.iload 4, 2) := dk_21 4 (dk_at dksX8_laysImages_5 13 rfl rfl)
theorem dX8_laysImages_132 : decode cX8_laysImages 132 = .ok (.aaload, 1) := dk_50 (dk_at dksX8_laysImages_5 15 rfl rfl)
theorem dX8_laysImages_133 : decode cX8_laysImages 133 = .ok (.iload 5, 2) := dk_21 5 (dk_at dksX8_laysImages_5 16 rfl rfl)
theorem dX8_laysImages_135 : decode cX8_laysImages 135 = .ok (.iaload, 1) := dk_46 (dk_at dksX8_laysImages_5 18 rfl rfl)
theorem dX8_laysImages_136 : decode cX8_laysImages 136 = .ok (.iastore, 1) := dk_79 (dk_at dksX8_laysImages_5 19 rfl rfl)
theorem dX8_laysImages_137 : decode cX8_laysImages 137 = .ok (.iinc 5 1, 3) := dk_132 5 1 (dk_at dksX8_laysImages_5 20 rfl rfl)
theorem dX8_laysImages_140 : decode cX8_laysImages 140 = .ok (.goto (-125), 3) := dk_167 255 131 (dk_at dksX8_laysImages_6 0 rfl rfl)
theorem dX8_laysImages_143 : decode cX8_laysImages 143 = .ok (.iinc 4 1, 3) := dk_132 4 1 (dk_at dksX8_laysImages_6 3 rfl rfl)
theorem dX8_laysImages_146 : decode cX8_laysImages 146 = .ok (.goto (-143), 3) := dk_167 255 113 (dk_at dksX8_laysImages_6 6 rfl rfl)
theorem dX8_laysImages_149 : decode cX8_laysImages 149 = .ok (.return_, 1) := dk_177 (dk_at dksX8_laysImages_6 9 rfl rfl)
abbrev cX8_kernels : ByteArray := prog_7_method_5_code
def yX8_kernels : MethodName := ⟨RX8, "kernels", "(LVibrationDesk$Layer;)V"⟩
def dkwX8_kernels_8 : List UInt8 := [180, 0, 46, 29, 28, 100, 50, 3, 16, 12, 184, 0, 98, 132, 3, 1, 167, 255, 221, 177]
abbrev dktX8_kernels_8 : List UInt8 := dkwX8_kernels_8 ++ []
def dkwX8_kernels_7 : List UInt8 := [181, 0, 45, 28, 62, 29, 43, 180, 0, 45, 162, 0, 33, 43, 180, 0, 83, 29, 50, 3, 43, 180, 0, 66]
abbrev dktX8_kernels_7 : List UInt8 := dkwX8_kernels_7 ++ dktX8_kernels_8
def dkwX8_kernels_6 : List UInt8 := [167, 255, 219, 132, 2, 1, 132, 3, 1, 167, 255, 111, 43, 180, 0, 66, 43, 180, 0, 45, 28, 100]
abbrev dktX8_kernels_6 : List UInt8 := dkwX8_kernels_6 ++ dktX8_kernels_7
def dkwX8_kernels_5 : List UInt8 := [43, 180, 0, 76, 21, 6, 50, 29, 46, 133, 21, 5, 133, 105, 184, 0, 79, 182, 0, 94, 132, 6, 1]
abbrev dktX8_kernels_5 : List UInt8 := dkwX8_kernels_5 ++ dktX8_kernels_6
def dkwX8_kernels_4 : List UInt8 := [184, 0, 90, 54, 5, 28, 4, 96, 54, 6, 21, 6, 43, 180, 0, 45, 162, 0, 34, 42, 43, 21, 6, 28]
abbrev dktX8_kernels_4 : List UInt8 := dkwX8_kernels_4 ++ dktX8_kernels_5
def dkwX8_kernels_3 : List UInt8 := [28, 184, 0, 86, 43, 180, 0, 83, 21, 4, 28, 184, 0, 86, 43, 180, 0, 76, 28, 50, 29, 46]
abbrev dktX8_kernels_3 : List UInt8 := dkwX8_kernels_3 ++ dktX8_kernels_4
def dkwX8_kernels_2 : List UInt8 := [132, 4, 1, 167, 255, 232, 21, 4, 43, 180, 0, 45, 160, 0, 6, 167, 0, 84, 43, 180, 0, 76, 21, 4]
abbrev dktX8_kernels_2 : List UInt8 := dkwX8_kernels_2 ++ dktX8_kernels_3
def dkwX8_kernels_1 : List UInt8 := [54, 4, 21, 4, 43, 180, 0, 45, 162, 0, 21, 43, 180, 0, 76, 21, 4, 50, 29, 46, 154, 0, 9]
abbrev dktX8_kernels_1 : List UInt8 := dkwX8_kernels_1 ++ dktX8_kernels_2
def dkwX8_kernels_0 : List UInt8 := [3, 61, 3, 62, 29, 42, 180, 0, 32, 180, 0, 36, 162, 0, 140, 28, 43, 180, 0, 45, 162, 0, 132, 28]
abbrev dktX8_kernels_0 : List UInt8 := dkwX8_kernels_0 ++ dktX8_kernels_1
theorem dksX8_kernels_0 : cX8_kernels.data.toList.drop 0 = dktX8_kernels_0 := by decide +kernel
theorem dksX8_kernels_1 : cX8_kernels.data.toList.drop 24 = dktX8_kernels_1 := dk_seg dksX8_kernels_0 24 rfl rfl
theorem dksX8_kernels_2 : cX8_kernels.data.toList.drop 47 = dktX8_kernels_2 := dk_seg dksX8_kernels_1 23 rfl rfl
theorem dksX8_kernels_3 : cX8_kernels.data.toList.drop 71 = dktX8_kernels_3 := dk_seg dksX8_kernels_2 24 rfl rfl
theorem dksX8_kernels_4 : cX8_kernels.data.toList.drop 93 = dktX8_kernels_4 := dk_seg dksX8_kernels_3 22 rfl rfl
theorem dksX8_kernels_5 : cX8_kernels.data.toList.drop 117 = dktX8_kernels_5 := dk_seg dksX8_kernels_4 24 rfl rfl
theorem dksX8_kernels_6 : cX8_kernels.data.toList.drop 140 = dktX8_kernels_6 := dk_seg dksX8_kernels_5 23 rfl rfl
theorem dksX8_kernels_7 : cX8_kernels.data.toList.drop 162 = dktX8_kernels_7 := dk_seg dksX8_kernels_6 22 rfl rfl
theorem dksX8_kernels_8 : cX8_kernels.data.toList.drop 186 = dktX8_kernels_8 := dk_seg dksX8_kernels_7 24 rfl rfl
theorem dX8_kernels_0 : decode cX8_kernels 0 = .ok (.iconst 0, 1) := dk_3 (dk_at dksX8_kernels_0 0 rfl rfl)
theorem dX8_kernels_1 : decode cX8_kernels 1 = .ok (.istore_n 2, 1) := dk_61 (dk_at dksX8_kernels_0 1 rfl rfl)
theorem dX8_kernels_2 : decode cX8_kernels 2 = .ok (.iconst 0, 1) := dk_3 (dk_at dksX8_kernels_0 2 rfl rfl)
theorem dX8_kernels_3 : decode cX8_kernels 3 = .ok (.istore_n 3, 1) := dk_62 (dk_at dksX8_kernels_0 3 rfl rfl)
theorem dX8_kernels_4 : decode cX8_kernels 4 = .ok (.iload_n 3, 1) := dk_29 (dk_at dksX8_kernels_0 4 rfl rfl)
theorem dX8_kernels_5 : decode cX8_kernels 5 = .ok (.aload_n 0, 1) := dk_42 (dk_at dksX8_kernels_0 5 rfl rfl)
theorem dX8_kernels_6 : decode cX8_kernels 6 = .ok (.getfield 32, 3) := dk_180 0 32 (dk_at dksX8_kernels_0 6 rfl rfl)
theorem dX8_kernels_9 : decode cX8_kernels 9 = .ok (.getfield 36, 3) := dk_180 0 36 (dk_at dksX8_kernels_0 9 rfl rfl)
theorem dX8_kernels_12 : decode cX8_kernels 12 = .ok (.if_icmp .ge 140, 3) := dk_162 0 140 (dk_at dksX8_kernels_0 12 rfl rfl)
theorem dX8_kernels_15 : decode cX8_kernels 15 = .ok (.iload_n 2, 1) := dk_28 (dk_at dksX8_kernels_0 15 rfl rfl)
theorem dX8_kernels_16 : decode cX8_kernels 16 = .ok (.aload_n 1, 1) := dk_43 (dk_at dksX8_kernels_0 16 rfl rfl)
theorem dX8_kernels_17 : decode cX8_kernels 17 = .ok (.getfield 45, 3) := dk_180 0 45 (dk_at dksX8_kernels_0 17 rfl rfl)
theorem dX8_kernels_20 : decode cX8_kernels 20 = .ok (.if_icmp .ge 132, 3) := dk_162 0 132 (dk_at dksX8_kernels_0 20 rfl rfl)
theorem dX8_kernels_23 : decode cX8_kernels 23 = .ok (.iload_n 2, 1) := dk_28 (dk_at dksX8_kernels_0 23 rfl rfl)
theorem dX8_kernels_24 : decode cX8_kernels 24 = .ok (.istore 4, 2) := dk_54 4 (dk_at dksX8_kernels_1 0 rfl rfl)
theorem dX8_kernels_26 : decode cX8_kernels 26 = .ok (.iload 4, 2) := dk_21 4 (dk_at dksX8_kernels_1 2 rfl rfl)
theorem dX8_kernels_28 : decode cX8_kernels 28 = .ok (.aload_n 1, 1) := dk_43 (dk_at dksX8_kernels_1 4 rfl rfl)
theorem dX8_kernels_29 : decode cX8_kernels 29 = .ok (.getfield 45, 3) := dk_180 0 45 (dk_at dksX8_kernels_1 5 rfl rfl)
theorem dX8_kernels_32 : decode cX8_kernels 32 = .ok (.if_icmp .ge 21, 3) := dk_162 0 21 (dk_at dksX8_kernels_1 8 rfl rfl)
theorem dX8_kernels_35 : decode cX8_kernels 35 = .ok (.aload_n 1, 1) := dk_43 (dk_at dksX8_kernels_1 11 rfl rfl)
theorem dX8_kernels_36 : decode cX8_kernels 36 = .ok (.getfield 76, 3) := dk_180 0 76 (dk_at dksX8_kernels_1 12 rfl rfl)
theorem dX8_kernels_39 : decode cX8_kernels 39 = .ok (.iload 4, 2) := dk_21 4 (dk_at dksX8_kernels_1 15 rfl rfl)
theorem dX8_kernels_41 : decode cX8_kernels 41 = .ok (.aaload, 1) := dk_50 (dk_at dksX8_kernels_1 17 rfl rfl)
theorem dX8_kernels_42 : decode cX8_kernels 42 = .ok (.iload_n 3, 1) := dk_29 (dk_at dksX8_kernels_1 18 rfl rfl)
theorem dX8_kernels_43 : decode cX8_kernels 43 = .ok (.iaload, 1) := dk_46 (dk_at dksX8_kernels_1 19 rfl rfl)
theorem dX8_kernels_44 : decode cX8_kernels 44 = .ok (.ifCond .ne 9, 3) := dk_154 0 9 (dk_at dksX8_kernels_1 20 rfl rfl)
theorem dX8_kernels_47 : decode cX8_kernels 47 = .ok (.iinc 4 1, 3) := dk_132 4 1 (dk_at dksX8_kernels_2 0 rfl rfl)
theorem dX8_kernels_50 : decode cX8_kernels 50 = .ok (.goto (-24), 3) := dk_167 255 232 (dk_at dksX8_kernels_2 3 rfl rfl)
theorem dX8_kernels_53 : decode cX8_kernels 53 = .ok (.iload 4, 2) := dk_21 4 (dk_at dksX8_kernels_2 6 rfl rfl)
theorem dX8_kernels_55 : decode cX8_kernels 55 = .ok (.aload_n 1, 1) := dk_43 (dk_at dksX8_kernels_2 8 rfl rfl)
theorem dX8_kernels_56 : decode cX8_kernels 56 = .ok (.getfield 45, 3) := dk_180 0 45 (dk_at dksX8_kernels_2 9 rfl rfl)
theorem dX8_kernels_59 : decode cX8_kernels 59 = .ok (.if_icmp .ne 6, 3) := dk_160 0 6 (dk_at dksX8_kernels_2 12 rfl rfl)
theorem dX8_kernels_62 : decode cX8_kernels 62 = .ok (.goto 84, 3) := dk_167 0 84 (dk_at dksX8_kernels_2 15 rfl rfl)
theorem dX8_kernels_65 : decode cX8_kernels 65 = .ok (.aload_n 1, 1) := dk_43 (dk_at dksX8_kernels_2 18 rfl rfl)
theorem dX8_kernels_66 : decode cX8_kernels 66 = .ok (.getfield 76, 3) := dk_180 0 76 (dk_at dksX8_kernels_2 19 rfl rfl)
theorem dX8_kernels_69 : decode cX8_kernels 69 = .ok (.iload 4, 2) := dk_21 4 (dk_at dksX8_kernels_2 22 rfl rfl)
theorem dX8_kernels_71 : decode cX8_kernels 71 = .ok (.iload_n 2, 1) := dk_28 (dk_at dksX8_kernels_3 0 rfl rfl)
theorem dX8_kernels_72 : decode cX8_kernels 72 = .ok (.invokestatic 86, 3) := dk_184 0 86 (dk_at dksX8_kernels_3 1 rfl rfl)
theorem dX8_kernels_75 : decode cX8_kernels 75 = .ok (.aload_n 1, 1) := dk_43 (dk_at dksX8_kernels_3 4 rfl rfl)
theorem dX8_kernels_76 : decode cX8_kernels 76 = .ok (.getfield 83, 3) := dk_180 0 83 (dk_at dksX8_kernels_3 5 rfl rfl)
theorem dX8_kernels_79 : decode cX8_kernels 79 = .ok (.iload 4, 2) := dk_21 4 (dk_at dksX8_kernels_3 8 rfl rfl)
theorem dX8_kernels_81 : decode cX8_kernels 81 = .ok (.iload_n 2, 1) := dk_28 (dk_at dksX8_kernels_3 10 rfl rfl)
theorem dX8_kernels_82 : decode cX8_kernels 82 = .ok (.invokestatic 86, 3) := dk_184 0 86 (dk_at dksX8_kernels_3 11 rfl rfl)
theorem dX8_kernels_85 : decode cX8_kernels 85 = .ok (.aload_n 1, 1) := dk_43 (dk_at dksX8_kernels_3 14 rfl rfl)
theorem dX8_kernels_86 : decode cX8_kernels 86 = .ok (.getfield 76, 3) := dk_180 0 76 (dk_at dksX8_kernels_3 15 rfl rfl)
theorem dX8_kernels_89 : decode cX8_kernels 89 = .ok (.iload_n 2, 1) := dk_28 (dk_at dksX8_kernels_3 18 rfl rfl)
theorem dX8_kernels_90 : decode cX8_kernels 90 = .ok (.aaload, 1) := dk_50 (dk_at dksX8_kernels_3 19 rfl rfl)
theorem dX8_kernels_91 : decode cX8_kernels 91 = .ok (.iload_n 3, 1) := dk_29 (dk_at dksX8_kernels_3 20 rfl rfl)
theorem dX8_kernels_92 : decode cX8_kernels 92 = .ok (.iaload, 1) := dk_46 (dk_at dksX8_kernels_3 21 rfl rfl)
theorem dX8_kernels_93 : decode cX8_kernels 93 = .ok (.invokestatic 90, 3) := dk_184 0 90 (dk_at dksX8_kernels_4 0 rfl rfl)
theorem dX8_kernels_96 : decode cX8_kernels 96 = .ok (.istore 5, 2) := dk_54 5 (dk_at dksX8_kernels_4 3 rfl rfl)
theorem dX8_kernels_98 : decode cX8_kernels 98 = .ok (.iload_n 2, 1) := dk_28 (dk_at dksX8_kernels_4 5 rfl rfl)
theorem dX8_kernels_99 : decode cX8_kernels 99 = .ok (.iconst 1, 1) := dk_4 (dk_at dksX8_kernels_4 6 rfl rfl)
theorem dX8_kernels_100 : decode cX8_kernels 100 = .ok (.iadd, 1) := dk_96 (dk_at dksX8_kernels_4 7 rfl rfl)
theorem dX8_kernels_101 : decode cX8_kernels 101 = .ok (.istore 6, 2) := dk_54 6 (dk_at dksX8_kernels_4 8 rfl rfl)
theorem dX8_kernels_103 : decode cX8_kernels 103 = .ok (.iload 6, 2) := dk_21 6 (dk_at dksX8_kernels_4 10 rfl rfl)
theorem dX8_kernels_105 : decode cX8_kernels 105 = .ok (.aload_n 1, 1) := dk_43 (dk_at dksX8_kernels_4 12 rfl rfl)
theorem dX8_kernels_106 : decode cX8_kernels 106 = .ok (.getfield 45, 3) := dk_180 0 45 (dk_at dksX8_kernels_4 13 rfl rfl)
theorem dX8_kernels_109 : decode cX8_kernels 109 = .ok (.if_icmp .ge 34, 3) := dk_162 0 34 (dk_at dksX8_kernels_4 16 rfl rfl)
theorem dX8_kernels_112 : decode cX8_kernels 112 = .ok (.aload_n 0, 1) := dk_42 (dk_at dksX8_kernels_4 19 rfl rfl)
theorem dX8_kernels_113 : decode cX8_kernels 113 = .ok (.aload_n 1, 1) := dk_43 (dk_at dksX8_kernels_4 20 rfl rfl)
theorem dX8_kernels_114 : decode cX8_kernels 114 = .ok (.iload 6, 2) := dk_21 6 (dk_at dksX8_kernels_4 21 rfl rfl)
theorem dX8_kernels_116 : decode cX8_kernels 116 = .ok (.iload_n 2, 1) := dk_28 (dk_at dksX8_kernels_4 23 rfl rfl)
theorem dX8_kernels_117 : decode cX8_kernels 117 = .ok (.aload_n 1, 1) := dk_43 (dk_at dksX8_kernels_5 0 rfl rfl)
theorem dX8_kernels_118 : decode cX8_kernels 118 = .ok (.getfield 76, 3) := dk_180 0 76 (dk_at dksX8_kernels_5 1 rfl rfl)
theorem dX8_kernels_121 : decode cX8_kernels 121 = .ok (.iload 6, 2) := dk_21 6 (dk_at dksX8_kernels_5 4 rfl rfl)
theorem dX8_kernels_123 : decode cX8_kernels 123 = .ok (.aaload, 1) := dk_50 (dk_at dksX8_kernels_5 6 rfl rfl)
theorem dX8_kernels_124 : decode cX8_kernels 124 = .ok (.iload_n 3, 1) := dk_29 (dk_at dksX8_kernels_5 7 rfl rfl)
theorem dX8_kernels_125 : decode cX8_kernels 125 = .ok (.iaload, 1) := dk_46 (dk_at dksX8_kernels_5 8 rfl rfl)
theorem dX8_kernels_126 : decode cX8_kernels 126 = .ok (.i2l, 1) := dk_133 (dk_at dksX8_kernels_5 9 rfl rfl)
theorem dX8_kernels_127 : decode cX8_kernels 127 = .ok (.iload 5, 2) := dk_21 5 (dk_at dksX8_kernels_5 10 rfl rfl)
theorem dX8_kernels_129 : decode cX8_kernels 129 = .ok (.i2l, 1) := dk_133 (dk_at dksX8_kernels_5 12 rfl rfl)
theorem dX8_kernels_130 : decode cX8_kernels 130 = .ok (.lmul, 1) := dk_105 (dk_at dksX8_kernels_5 13 rfl rfl)
theorem dX8_kernels_131 : decode cX8_kernels 131 = .ok (.invokestatic 79, 3) := dk_184 0 79 (dk_at dksX8_kernels_5 14 rfl rfl)
theorem dX8_kernels_134 : decode cX8_kernels 134 = .ok (.invokevirtual 94, 3) := dk_182 0 94 (dk_at dksX8_kernels_5 17 rfl rfl)
theorem dX8_kernels_137 : decode cX8_kernels 137 = .ok (.iinc 6 1, 3) := dk_132 6 1 (dk_at dksX8_kernels_5 20 rfl rfl)
theorem dX8_kernels_140 : decode cX8_kernels 140 = .ok (.goto (-37), 3) := dk_167 255 219 (dk_at dksX8_kernels_6 0 rfl rfl)
theorem dX8_kernels_143 : decode cX8_kernels 143 = .ok (.iinc 2 1, 3) := dk_132 2 1 (dk_at dksX8_kernels_6 3 rfl rfl)
theorem dX8_kernels_146 : decode cX8_kernels 146 = .ok (.iinc 3 1, 3) := dk_132 3 1 (dk_at dksX8_kernels_6 6 rfl rfl)
theorem dX8_kernels_149 : decode cX8_kernels 149 = .ok (.goto (-145), 3) := dk_167 255 111 (dk_at dksX8_kernels_6 9 rfl rfl)
theorem dX8_kernels_152 : decode cX8_kernels 152 = .ok (.aload_n 1, 1) := dk_43 (dk_at dksX8_kernels_6 12 rfl rfl)
theorem dX8_kernels_153 : decode cX8_kernels 153 = .ok (.getfield 66, 3) := dk_180 0 66 (dk_at dksX8_kernels_6 13 rfl rfl)
theorem dX8_kernels_156 : decode cX8_kernels 156 = .ok (.aload_n 1, 1) := dk_43 (dk_at dksX8_kernels_6 16 rfl rfl)
theorem dX8_kernels_157 : decode cX8_kernels 157 = .ok (.getfield 45, 3) := dk_180 0 45 (dk_at dksX8_kernels_6 17 rfl rfl)
theorem dX8_kernels_160 : decode cX8_kernels 160 = .ok (.iload_n 2, 1) := dk_28 (dk_at dksX8_kernels_6 20 rfl rfl)
theorem dX8_kernels_161 : decode cX8_kernels 161 = .ok (.isub, 1) := dk_100 (dk_at dksX8_kernels_6 21 rfl rfl)
theorem dX8_kernels_162 : decode cX8_kernels 162 = .ok (.putfield 45, 3) := dk_181 0 45 (dk_at dksX8_kernels_7 0 rfl rfl)
theorem dX8_kernels_165 : decode cX8_kernels 165 = .ok (.iload_n 2, 1) := dk_28 (dk_at dksX8_kernels_7 3 rfl rfl)
theorem dX8_kernels_166 : decode cX8_kernels 166 = .ok (.istore_n 3, 1) := dk_62 (dk_at dksX8_kernels_7 4 rfl rfl)
theorem dX8_kernels_167 : decode cX8_kernels 167 = .ok (.iload_n 3, 1) := dk_29 (dk_at dksX8_kernels_7 5 rfl rfl)
theorem dX8_kernels_168 : decode cX8_kernels 168 = .ok (.aload_n 1, 1) := dk_43 (dk_at dksX8_kernels_7 6 rfl rfl)
theorem dX8_kernels_169 : decode cX8_kernels 169 = .ok (.getfield 45, 3) := dk_180 0 45 (dk_at dksX8_kernels_7 7 rfl rfl)
theorem dX8_kernels_172 : decode cX8_kernels 172 = .ok (.if_icmp .ge 33, 3) := dk_162 0 33 (dk_at dksX8_kernels_7 10 rfl rfl)
theorem dX8_kernels_175 : decode cX8_kernels 175 = .ok (.aload_n 1, 1) := dk_43 (dk_at dksX8_kernels_7 13 rfl rfl)
theorem dX8_kernels_176 : decode cX8_kernels 176 = .ok (.getfield 83, 3) := dk_180 0 83 (dk_at dksX8_kernels_7 14 rfl rfl)
theorem dX8_kernels_179 : decode cX8_kernels 179 = .ok (.iload_n 3, 1) := dk_29 (dk_at dksX8_kernels_7 17 rfl rfl)
theorem dX8_kernels_180 : decode cX8_kernels 180 = .ok (.aaload, 1) := dk_50 (dk_at dksX8_kernels_7 18 rfl rfl)
theorem dX8_kernels_181 : decode cX8_kernels 181 = .ok (.iconst 0, 1) := dk_3 (dk_at dksX8_kernels_7 19 rfl rfl)
theorem dX8_kernels_182 : decode cX8_kernels 182 = .ok (.aload_n 1, 1) := dk_43 (dk_at dksX8_kernels_7 20 rfl rfl)
theorem dX8_kernels_183 : decode cX8_kernels 183 = .ok (.getfield 66, 3) := dk_180 0 66 (dk_at dksX8_kernels_7 21 rfl rfl)
theorem dX8_kernels_186 : decode cX8_kernels 186 = .ok (.getfield 46, 3) := dk_180 0 46 (dk_at dksX8_kernels_8 0 rfl rfl)
theorem dX8_kernels_189 : decode cX8_kernels 189 = .ok (.iload_n 3, 1) := dk_29 (dk_at dksX8_kernels_8 3 rfl rfl)
theorem dX8_kernels_190 : decode cX8_kernels 190 = .ok (.iload_n 2, 1) := dk_28 (dk_at dksX8_kernels_8 4 rfl rfl)
theorem dX8_kernels_191 : decode cX8_kernels 191 = .ok (.isub, 1) := dk_100 (dk_at dksX8_kernels_8 5 rfl rfl)
theorem dX8_kernels_192 : decode cX8_kernels 192 = .ok (.aaload, 1) := dk_50 (dk_at dksX8_kernels_8 6 rfl rfl)
theorem dX8_kernels_193 : decode cX8_kernels 193 = .ok (.iconst 0, 1) := dk_3 (dk_at dksX8_kernels_8 7 rfl rfl)
theorem dX8_kernels_194 : decode cX8_kernels 194 = .ok (.bipush 12, 2) := dk_16 12 (dk_at dksX8_kernels_8 8 rfl rfl)
theorem dX8_kernels_196 : decode cX8_kernels 196 = .ok (.invokestatic 98, 3) := dk_184 0 98 (dk_at dksX8_kernels_8 10 rfl rfl)
theorem dX8_kernels_199 : decode cX8_kernels 199 = .ok (.iinc 3 1, 3) := dk_132 3 1 (dk_at dksX8_kernels_8 13 rfl rfl)
theorem dX8_kernels_202 : decode cX8_kernels 202 = .ok (.goto (-35), 3) := dk_167 255 221 (dk_at dksX8_kernels_8 16 rfl rfl)
theorem dX8_kernels_205 : decode cX8_kernels 205 = .ok (.return_, 1) := dk_177 (dk_at dksX8_kernels_8 19 rfl rfl)
abbrev cX8_changesAbout : ByteArray := prog_7_method_6_code
def yX8_changesAbout : MethodName := ⟨RX8, "changesAbout", "([[III)V"⟩
def dkwX8_changesAbout_0 : List UInt8 := [42, 27, 50, 78, 42, 27, 42, 28, 50, 83, 42, 28, 45, 83, 177]
abbrev dktX8_changesAbout_0 : List UInt8 := dkwX8_changesAbout_0 ++ []
theorem dksX8_changesAbout_0 : cX8_changesAbout.data.toList.drop 0 = dktX8_changesAbout_0 := by decide +kernel
theorem dX8_changesAbout_0 : decode cX8_changesAbout 0 = .ok (.aload_n 0, 1) := dk_42 (dk_at dksX8_changesAbout_0 0 rfl rfl)
theorem dX8_changesAbout_1 : decode cX8_changesAbout 1 = .ok (.iload_n 1, 1) := dk_27 (dk_at dksX8_changesAbout_0 1 rfl rfl)
theorem dX8_changesAbout_2 : decode cX8_changesAbout 2 = .ok (.aaload, 1) := dk_50 (dk_at dksX8_changesAbout_0 2 rfl rfl)
theorem dX8_changesAbout_3 : decode cX8_changesAbout 3 = .ok (.astore_n 3, 1) := dk_78 (dk_at dksX8_changesAbout_0 3 rfl rfl)
theorem dX8_changesAbout_4 : decode cX8_changesAbout 4 = .ok (.aload_n 0, 1) := dk_42 (dk_at dksX8_changesAbout_0 4 rfl rfl)
theorem dX8_changesAbout_5 : decode cX8_changesAbout 5 = .ok (.iload_n 1, 1) := dk_27 (dk_at dksX8_changesAbout_0 5 rfl rfl)
theorem dX8_changesAbout_6 : decode cX8_changesAbout 6 = .ok (.aload_n 0, 1) := dk_42 (dk_at dksX8_changesAbout_0 6 rfl rfl)
theorem dX8_changesAbout_7 : decode cX8_changesAbout 7 = .ok (.iload_n 2, 1) := dk_28 (dk_at dksX8_changesAbout_0 7 rfl rfl)
theorem dX8_changesAbout_8 : decode cX8_changesAbout 8 = .ok (.aaload, 1) := dk_50 (dk_at dksX8_changesAbout_0 8 rfl rfl)
theorem dX8_changesAbout_9 : decode cX8_changesAbout 9 = .ok (.aastore, 1) := dk_83 (dk_at dksX8_changesAbout_0 9 rfl rfl)
theorem dX8_changesAbout_10 : decode cX8_changesAbout 10 = .ok (.aload_n 0, 1) := dk_42 (dk_at dksX8_changesAbout_0 10 rfl rfl)
theorem dX8_changesAbout_11 : decode cX8_changesAbout 11 = .ok (.iload_n 2, 1) := dk_28 (dk_at dksX8_changesAbout_0 11 rfl rfl)
theorem dX8_changesAbout_12 : decode cX8_changesAbout 12 = .ok (.aload_n 3, 1) := dk_45 (dk_at dksX8_changesAbout_0 12 rfl rfl)
theorem dX8_changesAbout_13 : decode cX8_changesAbout 13 = .ok (.aastore, 1) := dk_83 (dk_at dksX8_changesAbout_0 13 rfl rfl)
theorem dX8_changesAbout_14 : decode cX8_changesAbout 14 = .ok (.return_, 1) := dk_177 (dk_at dksX8_changesAbout_0 14 rfl rfl)
abbrev cX8_takes : ByteArray := prog_7_method_7_code
def yX8_takes : MethodName := ⟨RX8, "takes", "(LVibrationDesk$Layer;III)V"⟩
def dkwX8_takes_3 : List UInt8 := [133, 43, 180, 0, 83, 29, 50, 21, 5, 46, 133, 105, 101, 184, 0, 79, 79, 132, 5, 1, 167, 255, 167, 177]
abbrev dktX8_takes_3 : List UInt8 := dkwX8_takes_3 ++ []
def dkwX8_takes_2 : List UInt8 := [184, 0, 79, 79, 43, 180, 0, 83, 28, 50, 21, 5, 43, 180, 0, 83, 28, 50, 21, 5, 46, 133, 21, 4]
abbrev dktX8_takes_2 : List UInt8 := dkwX8_takes_2 ++ dktX8_takes_3
def dkwX8_takes_1 : List UInt8 := [180, 0, 76, 28, 50, 21, 5, 46, 133, 21, 4, 133, 43, 180, 0, 76, 29, 50, 21, 5, 46, 133, 105, 101]
abbrev dktX8_takes_1 : List UInt8 := dkwX8_takes_1 ++ dktX8_takes_2
def dkwX8_takes_0 : List UInt8 := [3, 54, 5, 21, 5, 42, 180, 0, 32, 180, 0, 36, 162, 0, 83, 43, 180, 0, 76, 28, 50, 21, 5, 43]
abbrev dktX8_takes_0 : List UInt8 := dkwX8_takes_0 ++ dktX8_takes_1
theorem dksX8_takes_0 : cX8_takes.data.toList.drop 0 = dktX8_takes_0 := by decide +kernel
theorem dksX8_takes_1 : cX8_takes.data.toList.drop 24 = dktX8_takes_1 := dk_seg dksX8_takes_0 24 rfl rfl
theorem dksX8_takes_2 : cX8_takes.data.toList.drop 48 = dktX8_takes_2 := dk_seg dksX8_takes_1 24 rfl rfl
theorem dksX8_takes_3 : cX8_takes.data.toList.drop 72 = dktX8_takes_3 := dk_seg dksX8_takes_2 24 rfl rfl
theorem dX8_takes_0 : decode cX8_takes 0 = .ok (.iconst 0, 1) := dk_3 (dk_at dksX8_takes_0 0 rfl rfl)
theorem dX8_takes_1 : decode cX8_takes 1 = .ok (.istore 5, 2) := dk_54 5 (dk_at dksX8_takes_0 1 rfl rfl)
theorem dX8_takes_3 : decode cX8_takes 3 = .ok (.iload 5, 2) := dk_21 5 (dk_at dksX8_takes_0 3 rfl rfl)
theorem dX8_takes_5 : decode cX8_takes 5 = .ok (.aload_n 0, 1) := dk_42 (dk_at dksX8_takes_0 5 rfl rfl)
theorem dX8_takes_6 : decode cX8_takes 6 = .ok (.getfield 32, 3) := dk_180 0 32 (dk_at dksX8_takes_0 6 rfl rfl)
theorem dX8_takes_9 : decode cX8_takes 9 = .ok (.getfield 36, 3) := dk_180 0 36 (dk_at dksX8_takes_0 9 rfl rfl)
theorem dX8_takes_12 : decode cX8_takes 12 = .ok (.if_icmp .ge 83, 3) := dk_162 0 83 (dk_at dksX8_takes_0 12 rfl rfl)
theorem dX8_takes_15 : decode cX8_takes 15 = .ok (.aload_n 1, 1) := dk_43 (dk_at dksX8_takes_0 15 rfl rfl)
theorem dX8_takes_16 : decode cX8_takes 16 = .ok (.getfield 76, 3) := dk_180 0 76 (dk_at dksX8_takes_0 16 rfl rfl)
theorem dX8_takes_19 : decode cX8_takes 19 = .ok (.iload_n 2, 1) := dk_28 (dk_at dksX8_takes_0 19 rfl rfl)
theorem dX8_takes_20 : decode cX8_takes 20 = .ok (.aaload, 1) := dk_50 (dk_at dksX8_takes_0 20 rfl rfl)
theorem dX8_takes_21 : decode cX8_takes 21 = .ok (.iload 5, 2) := dk_21 5 (dk_at dksX8_takes_0 21 rfl rfl)
theorem dX8_takes_23 : decode cX8_takes 23 = .ok (.aload_n 1, 1) := dk_43 (dk_at dksX8_takes_0 23 rfl rfl)
theorem dX8_takes_24 : decode cX8_takes 24 = .ok (.getfield 76, 3) := dk_180 0 76 (dk_at dksX8_takes_1 0 rfl rfl)
theorem dX8_takes_27 : decode cX8_takes 27 = .ok (.iload_n 2, 1) := dk_28 (dk_at dksX8_takes_1 3 rfl rfl)
theorem dX8_takes_28 : decode cX8_takes 28 = .ok (.aaload, 1) := dk_50 (dk_at dksX8_takes_1 4 rfl rfl)
theorem dX8_takes_29 : decode cX8_takes 29 = .ok (.iload 5, 2) := dk_21 5 (dk_at dksX8_takes_1 5 rfl rfl)
theorem dX8_takes_31 : decode cX8_takes 31 = .ok (.iaload, 1) := dk_46 (dk_at dksX8_takes_1 7 rfl rfl)
theorem dX8_takes_32 : decode cX8_takes 32 = .ok (.i2l, 1) := dk_133 (dk_at dksX8_takes_1 8 rfl rfl)
theorem dX8_takes_33 : decode cX8_takes 33 = .ok (.iload 4, 2) := dk_21 4 (dk_at dksX8_takes_1 9 rfl rfl)
theorem dX8_takes_35 : decode cX8_takes 35 = .ok (.i2l, 1) := dk_133 (dk_at dksX8_takes_1 11 rfl rfl)
theorem dX8_takes_36 : decode cX8_takes 36 = .ok (.aload_n 1, 1) := dk_43 (dk_at dksX8_takes_1 12 rfl rfl)
theorem dX8_takes_37 : decode cX8_takes 37 = .ok (.getfield 76, 3) := dk_180 0 76 (dk_at dksX8_takes_1 13 rfl rfl)
theorem dX8_takes_40 : decode cX8_takes 40 = .ok (.iload_n 3, 1) := dk_29 (dk_at dksX8_takes_1 16 rfl rfl)
theorem dX8_takes_41 : decode cX8_takes 41 = .ok (.aaload, 1) := dk_50 (dk_at dksX8_takes_1 17 rfl rfl)
theorem dX8_takes_42 : decode cX8_takes 42 = .ok (.iload 5, 2) := dk_21 5 (dk_at dksX8_takes_1 18 rfl rfl)
theorem dX8_takes_44 : decode cX8_takes 44 = .ok (.iaload, 1) := dk_46 (dk_at dksX8_takes_1 20 rfl rfl)
theorem dX8_takes_45 : decode cX8_takes 45 = .ok (.i2l, 1) := dk_133 (dk_at dksX8_takes_1 21 rfl rfl)
theorem dX8_takes_46 : decode cX8_takes 46 = .ok (.lmul, 1) := dk_105 (dk_at dksX8_takes_1 22 rfl rfl)
theorem dX8_takes_47 : decode cX8_takes 47 = .ok (.lsub, 1) := dk_101 (dk_at dksX8_takes_1 23 rfl rfl)
theorem dX8_takes_48 : decode cX8_takes 48 = .ok (.invokestatic 79, 3) := dk_184 0 79 (dk_at dksX8_takes_2 0 rfl rfl)
theorem dX8_takes_51 : decode cX8_takes 51 = .ok (.iastore, 1) := dk_79 (dk_at dksX8_takes_2 3 rfl rfl)
theorem dX8_takes_52 : decode cX8_takes 52 = .ok (.aload_n 1, 1) := dk_43 (dk_at dksX8_takes_2 4 rfl rfl)
theorem dX8_takes_53 : decode cX8_takes 53 = .ok (.getfield 83, 3) := dk_180 0 83 (dk_at dksX8_takes_2 5 rfl rfl)
theorem dX8_takes_56 : decode cX8_takes 56 = .ok (.iload_n 2, 1) := dk_28 (dk_at dksX8_takes_2 8 rfl rfl)
theorem dX8_takes_57 : decode cX8_takes 57 = .ok (.aaload, 1) := dk_50 (dk_at dksX8_takes_2 9 rfl rfl)
theorem dX8_takes_58 : decode cX8_takes 58 = .ok (.iload 5, 2) := dk_21 5 (dk_at dksX8_takes_2 10 rfl rfl)
theorem dX8_takes_60 : decode cX8_takes 60 = .ok (.aload_n 1, 1) := dk_43 (dk_at dksX8_takes_2 12 rfl rfl)
theorem dX8_takes_61 : decode cX8_takes 61 = .ok (.getfield 83, 3) := dk_180 0 83 (dk_at dksX8_takes_2 13 rfl rfl)
theorem dX8_takes_64 : decode cX8_takes 64 = .ok (.iload_n 2, 1) := dk_28 (dk_at dksX8_takes_2 16 rfl rfl)
theorem dX8_takes_65 : decode cX8_takes 65 = .ok (.aaload, 1) := dk_50 (dk_at dksX8_takes_2 17 rfl rfl)
theorem dX8_takes_66 : decode cX8_takes 66 = .ok (.iload 5, 2) := dk_21 5 (dk_at dksX8_takes_2 18 rfl rfl)
theorem dX8_takes_68 : decode cX8_takes 68 = .ok (.iaload, 1) := dk_46 (dk_at dksX8_takes_2 20 rfl rfl)
theorem dX8_takes_69 : decode cX8_takes 69 = .ok (.i2l, 1) := dk_133 (dk_at dksX8_takes_2 21 rfl rfl)
theorem dX8_takes_70 : decode cX8_takes 70 = .ok (.iload 4, 2) := dk_21 4 (dk_at dksX8_takes_2 22 rfl rfl)
theorem dX8_takes_72 : decode cX8_takes 72 = .ok (.i2l, 1) := dk_133 (dk_at dksX8_takes_3 0 rfl rfl)
theorem dX8_takes_73 : decode cX8_takes 73 = .ok (.aload_n 1, 1) := dk_43 (dk_at dksX8_takes_3 1 rfl rfl)
theorem dX8_takes_74 : decode cX8_takes 74 = .ok (.getfield 83, 3) := dk_180 0 83 (dk_at dksX8_takes_3 2 rfl rfl)
theorem dX8_takes_77 : decode cX8_takes 77 = .ok (.iload_n 3, 1) := dk_29 (dk_at dksX8_takes_3 5 rfl rfl)
theorem dX8_takes_78 : decode cX8_takes 78 = .ok (.aaload, 1) := dk_50 (dk_at dksX8_takes_3 6 rfl rfl)
theorem dX8_takes_79 : decode cX8_takes 79 = .ok (.iload 5, 2) := dk_21 5 (dk_at dksX8_takes_3 7 rfl rfl)
theorem dX8_takes_81 : decode cX8_takes 81 = .ok (.iaload, 1) := dk_46 (dk_at dksX8_takes_3 9 rfl rfl)
theorem dX8_takes_82 : decode cX8_takes 82 = .ok (.i2l, 1) := dk_133 (dk_at dksX8_takes_3 10 rfl rfl)
theorem dX8_takes_83 : decode cX8_takes 83 = .ok (.lmul, 1) := dk_105 (dk_at dksX8_takes_3 11 rfl rfl)
theorem dX8_takes_84 : decode cX8_takes 84 = .ok (.lsub, 1) := dk_101 (dk_at dksX8_takes_3 12 rfl rfl)
theorem dX8_takes_85 : decode cX8_takes 85 = .ok (.invokestatic 79, 3) := dk_184 0 79 (dk_at dksX8_takes_3 13 rfl rfl)
theorem dX8_takes_88 : decode cX8_takes 88 = .ok (.iastore, 1) := dk_79 (dk_at dksX8_takes_3 16 rfl rfl)
theorem dX8_takes_89 : decode cX8_takes 89 = .ok (.iinc 5 1, 3) := dk_132 5 1 (dk_at dksX8_takes_3 17 rfl rfl)
theorem dX8_takes_92 : decode cX8_takes 92 = .ok (.goto (-89), 3) := dk_167 255 167 (dk_at dksX8_takes_3 20 rfl rfl)
theorem dX8_takes_95 : decode cX8_takes 95 = .ok (.return_, 1) := dk_177 (dk_at dksX8_takes_3 23 rfl rfl)
abbrev cX8_laysOne : ByteArray := prog_7_method_10_code
def yX8_laysOne : MethodName := ⟨RX8, "laysOne", "(I)V"⟩
def dkwX8_laysOne_8 : List UInt8 := [184, 0, 79, 79, 132, 5, 1, 167, 255, 200, 177]
abbrev dktX8_laysOne_8 : List UInt8 := dkwX8_laysOne_8 ++ []
def dkwX8_laysOne_7 : List UInt8 := [27, 50, 21, 5, 46, 133, 105, 42, 180, 0, 32, 180, 0, 112, 21, 5, 46, 184, 0, 90, 133, 105]
abbrev dktX8_laysOne_7 : List UInt8 := dkwX8_laysOne_7 ++ dktX8_laysOne_8
def dkwX8_laysOne_6 : List UInt8 := [180, 0, 32, 180, 0, 36, 162, 0, 50, 42, 180, 0, 25, 27, 50, 21, 5, 21, 4, 133, 42, 180, 0, 22]
abbrev dktX8_laysOne_6 : List UInt8 := dkwX8_laysOne_6 ++ dktX8_laysOne_7
def dkwX8_laysOne_5 : List UInt8 := [159, 0, 9, 132, 4, 1, 167, 255, 208, 42, 180, 0, 28, 27, 21, 4, 79, 3, 54, 5, 21, 5, 42]
abbrev dktX8_laysOne_5 : List UInt8 := dkwX8_laysOne_5 ++ dktX8_laysOne_6
def dkwX8_laysOne_4 : List UInt8 := [105, 184, 0, 79, 42, 180, 0, 32, 180, 0, 111, 133, 42, 180, 0, 32, 180, 0, 111, 133, 105, 184, 0, 79]
abbrev dktX8_laysOne_4 : List UInt8 := dkwX8_laysOne_4 ++ dktX8_laysOne_5
def dkwX8_laysOne_3 : List UInt8 := [167, 255, 189, 4, 54, 4, 21, 4, 16, 97, 162, 0, 47, 21, 4, 21, 4, 104, 133, 32, 184, 0, 79, 133]
abbrev dktX8_laysOne_3 : List UInt8 := dkwX8_laysOne_3 ++ dktX8_laysOne_4
def dkwX8_laysOne_2 : List UInt8 := [180, 0, 32, 180, 0, 111, 42, 180, 0, 32, 180, 0, 112, 21, 4, 46, 108, 133, 105, 97, 65, 132, 4, 1]
abbrev dktX8_laysOne_2 : List UInt8 := dkwX8_laysOne_2 ++ dktX8_laysOne_3
def dkwX8_laysOne_1 : List UInt8 := [21, 4, 46, 133, 42, 180, 0, 22, 27, 50, 42, 180, 0, 32, 180, 0, 108, 21, 4, 46, 46, 133, 105, 42]
abbrev dktX8_laysOne_1 : List UInt8 := dkwX8_laysOne_1 ++ dktX8_laysOne_2
def dkwX8_laysOne_0 : List UInt8 := [9, 65, 3, 54, 4, 21, 4, 42, 180, 0, 32, 180, 0, 36, 162, 0, 61, 32, 42, 180, 0, 22, 27, 50]
abbrev dktX8_laysOne_0 : List UInt8 := dkwX8_laysOne_0 ++ dktX8_laysOne_1
theorem dksX8_laysOne_0 : cX8_laysOne.data.toList.drop 0 = dktX8_laysOne_0 := by decide +kernel
theorem dksX8_laysOne_1 : cX8_laysOne.data.toList.drop 24 = dktX8_laysOne_1 := dk_seg dksX8_laysOne_0 24 rfl rfl
theorem dksX8_laysOne_2 : cX8_laysOne.data.toList.drop 48 = dktX8_laysOne_2 := dk_seg dksX8_laysOne_1 24 rfl rfl
theorem dksX8_laysOne_3 : cX8_laysOne.data.toList.drop 72 = dktX8_laysOne_3 := dk_seg dksX8_laysOne_2 24 rfl rfl
theorem dksX8_laysOne_4 : cX8_laysOne.data.toList.drop 96 = dktX8_laysOne_4 := dk_seg dksX8_laysOne_3 24 rfl rfl
theorem dksX8_laysOne_5 : cX8_laysOne.data.toList.drop 120 = dktX8_laysOne_5 := dk_seg dksX8_laysOne_4 24 rfl rfl
theorem dksX8_laysOne_6 : cX8_laysOne.data.toList.drop 143 = dktX8_laysOne_6 := dk_seg dksX8_laysOne_5 23 rfl rfl
theorem dksX8_laysOne_7 : cX8_laysOne.data.toList.drop 167 = dktX8_laysOne_7 := dk_seg dksX8_laysOne_6 24 rfl rfl
theorem dksX8_laysOne_8 : cX8_laysOne.data.toList.drop 189 = dktX8_laysOne_8 := dk_seg dksX8_laysOne_7 22 rfl rfl
theorem dX8_laysOne_0 : decode cX8_laysOne 0 = .ok (.lconst 0, 1) := dk_9 (dk_at dksX8_laysOne_0 0 rfl rfl)
theorem dX8_laysOne_1 : decode cX8_laysOne 1 = .ok (.lstore_n 2, 1) := dk_65 (dk_at dksX8_laysOne_0 1 rfl rfl)
theorem dX8_laysOne_2 : decode cX8_laysOne 2 = .ok (.iconst 0, 1) := dk_3 (dk_at dksX8_laysOne_0 2 rfl rfl)
theorem dX8_laysOne_3 : decode cX8_laysOne 3 = .ok (.istore 4, 2) := dk_54 4 (dk_at dksX8_laysOne_0 3 rfl rfl)
theorem dX8_laysOne_5 : decode cX8_laysOne 5 = .ok (.iload 4, 2) := dk_21 4 (dk_at dksX8_laysOne_0 5 rfl rfl)
theorem dX8_laysOne_7 : decode cX8_laysOne 7 = .ok (.aload_n 0, 1) := dk_42 (dk_at dksX8_laysOne_0 7 rfl rfl)
theorem dX8_laysOne_8 : decode cX8_laysOne 8 = .ok (.getfield 32, 3) := dk_180 0 32 (dk_at dksX8_laysOne_0 8 rfl rfl)
theorem dX8_laysOne_11 : decode cX8_laysOne 11 = .ok (.getfield 36, 3) := dk_180 0 36 (dk_at dksX8_laysOne_0 11 rfl rfl)
theorem dX8_laysOne_14 : decode cX8_laysOne 14 = .ok (.if_icmp .ge 61, 3) := dk_162 0 61 (dk_at dksX8_laysOne_0 14 rfl rfl)
theorem dX8_laysOne_17 : decode cX8_laysOne 17 = .ok (.lload_n 2, 1) := dk_32 (dk_at dksX8_laysOne_0 17 rfl rfl)
theorem dX8_laysOne_18 : decode cX8_laysOne 18 = .ok (.aload_n 0, 1) := dk_42 (dk_at dksX8_laysOne_0 18 rfl rfl)
theorem dX8_laysOne_19 : decode cX8_laysOne 19 = .ok (.getfield 22, 3) := dk_180 0 22 (dk_at dksX8_laysOne_0 19 rfl rfl)
theorem dX8_laysOne_22 : decode cX8_laysOne 22 = .ok (.iload_n 1, 1) := dk_27 (dk_at dksX8_laysOne_0 22 rfl rfl)
theorem dX8_laysOne_23 : decode cX8_laysOne 23 = .ok (.aaload, 1) := dk_50 (dk_at dksX8_laysOne_0 23 rfl rfl)
theorem dX8_laysOne_24 : decode cX8_laysOne 24 = .ok (.iload 4, 2) := dk_21 4 (dk_at dksX8_laysOne_1 0 rfl rfl)
theorem dX8_laysOne_26 : decode cX8_laysOne 26 = .ok (.iaload, 1) := dk_46 (dk_at dksX8_laysOne_1 2 rfl rfl)
theorem dX8_laysOne_27 : decode cX8_laysOne 27 = .ok (.i2l, 1) := dk_133 (dk_at dksX8_laysOne_1 3 rfl rfl)
theorem dX8_laysOne_28 : decode cX8_laysOne 28 = .ok (.aload_n 0, 1) := dk_42 (dk_at dksX8_laysOne_1 4 rfl rfl)
theorem dX8_laysOne_29 : decode cX8_laysOne 29 = .ok (.getfield 22, 3) := dk_180 0 22 (dk_at dksX8_laysOne_1 5 rfl rfl)
theorem dX8_laysOne_32 : decode cX8_laysOne 32 = .ok (.iload_n 1, 1) := dk_27 (dk_at dksX8_laysOne_1 8 rfl rfl)
theorem dX8_laysOne_33 : decode cX8_laysOne 33 = .ok (.aaload, 1) := dk_50 (dk_at dksX8_laysOne_1 9 rfl rfl)
theorem dX8_laysOne_34 : decode cX8_laysOne 34 = .ok (.aload_n 0, 1) := dk_42 (dk_at dksX8_laysOne_1 10 rfl rfl)
theorem dX8_laysOne_35 : decode cX8_laysOne 35 = .ok (.getfield 32, 3) := dk_180 0 32 (dk_at dksX8_laysOne_1 11 rfl rfl)
theorem dX8_laysOne_38 : decode cX8_laysOne 38 = .ok (.getfield 108, 3) := dk_180 0 108 (dk_at dksX8_laysOne_1 14 rfl rfl)
theorem dX8_laysOne_41 : decode cX8_laysOne 41 = .ok (.iload 4, 2) := dk_21 4 (dk_at dksX8_laysOne_1 17 rfl rfl)
theorem dX8_laysOne_43 : decode cX8_laysOne 43 = .ok (.iaload, 1) := dk_46 (dk_at dksX8_laysOne_1 19 rfl rfl)
theorem dX8_laysOne_44 : decode cX8_laysOne 44 = .ok (.iaload, 1) := dk_46 (dk_at dksX8_laysOne_1 20 rfl rfl)
theorem dX8_laysOne_45 : decode cX8_laysOne 45 = .ok (.i2l, 1) := dk_133 (dk_at dksX8_laysOne_1 21 rfl rfl)
theorem dX8_laysOne_46 : decode cX8_laysOne 46 = .ok (.lmul, 1) := dk_105 (dk_at dksX8_laysOne_1 22 rfl rfl)
theorem dX8_laysOne_47 : decode cX8_laysOne 47 = .ok (.aload_n 0, 1) := dk_42 (dk_at dksX8_laysOne_1 23 rfl rfl)
theorem dX8_laysOne_48 : decode cX8_laysOne 48 = .ok (.getfield 32, 3) := dk_180 0 32 (dk_at dksX8_laysOne_2 0 rfl rfl)
theorem dX8_laysOne_51 : decode cX8_laysOne 51 = .ok (.getfield 111, 3) := dk_180 0 111 (dk_at dksX8_laysOne_2 3 rfl rfl)
theorem dX8_laysOne_54 : decode cX8_laysOne 54 = .ok (.aload_n 0, 1) := dk_42 (dk_at dksX8_laysOne_2 6 rfl rfl)
theorem dX8_laysOne_55 : decode cX8_laysOne 55 = .ok (.getfield 32, 3) := dk_180 0 32 (dk_at dksX8_laysOne_2 7 rfl rfl)
theorem dX8_laysOne_58 : decode cX8_laysOne 58 = .ok (.getfield 112, 3) := dk_180 0 112 (dk_at dksX8_laysOne_2 10 rfl rfl)
theorem dX8_laysOne_61 : decode cX8_laysOne 61 = .ok (.iload 4, 2) := dk_21 4 (dk_at dksX8_laysOne_2 13 rfl rfl)
theorem dX8_laysOne_63 : decode cX8_laysOne 63 = .ok (.iaload, 1) := dk_46 (dk_at dksX8_laysOne_2 15 rfl rfl)
theorem dX8_laysOne_64 : decode cX8_laysOne 64 = .ok (.idiv, 1) := dk_108 (dk_at dksX8_laysOne_2 16 rfl rfl)
theorem dX8_laysOne_65 : decode cX8_laysOne 65 = .ok (.i2l, 1) := dk_133 (dk_at dksX8_laysOne_2 17 rfl rfl)
theorem dX8_laysOne_66 : decode cX8_laysOne 66 = .ok (.lmul, 1) := dk_105 (dk_at dksX8_laysOne_2 18 rfl rfl)
theorem dX8_laysOne_67 : decode cX8_laysOne 67 = .ok (.ladd, 1) := dk_97 (dk_at dksX8_laysOne_2 19 rfl rfl)
theorem dX8_laysOne_68 : decode cX8_laysOne 68 = .ok (.lstore_n 2, 1) := dk_65 (dk_at dksX8_laysOne_2 20 rfl rfl)
theorem dX8_laysOne_69 : decode cX8_laysOne 69 = .ok (.iinc 4 1, 3) := dk_132 4 1 (dk_at dksX8_laysOne_2 21 rfl rfl)
theorem dX8_laysOne_72 : decode cX8_laysOne 72 = .ok (.goto (-67), 3) := dk_167 255 189 (dk_at dksX8_laysOne_3 0 rfl rfl)
theorem dX8_laysOne_75 : decode cX8_laysOne 75 = .ok (.iconst 1, 1) := dk_4 (dk_at dksX8_laysOne_3 3 rfl rfl)
theorem dX8_laysOne_76 : decode cX8_laysOne 76 = .ok (.istore 4, 2) := dk_54 4 (dk_at dksX8_laysOne_3 4 rfl rfl)
theorem dX8_laysOne_78 : decode cX8_laysOne 78 = .ok (.iload 4, 2) := dk_21 4 (dk_at dksX8_laysOne_3 6 rfl rfl)
theorem dX8_laysOne_80 : decode cX8_laysOne 80 = .ok (.bipush 97, 2) := dk_16 97 (dk_at dksX8_laysOne_3 8 rfl rfl)
theorem dX8_laysOne_82 : decode cX8_laysOne 82 = .ok (.if_icmp .ge 47, 3) := dk_162 0 47 (dk_at dksX8_laysOne_3 10 rfl rfl)
theorem dX8_laysOne_85 : decode cX8_laysOne 85 = .ok (.iload 4, 2) := dk_21 4 (dk_at dksX8_laysOne_3 13 rfl rfl)
theorem dX8_laysOne_87 : decode cX8_laysOne 87 = .ok (.iload 4, 2) := dk_21 4 (dk_at dksX8_laysOne_3 15 rfl rfl)
theorem dX8_laysOne_89 : decode cX8_laysOne 89 = .ok (.imul, 1) := dk_104 (dk_at dksX8_laysOne_3 17 rfl rfl)
theorem dX8_laysOne_90 : decode cX8_laysOne 90 = .ok (.i2l, 1) := dk_133 (dk_at dksX8_laysOne_3 18 rfl rfl)
theorem dX8_laysOne_91 : decode cX8_laysOne 91 = .ok (.lload_n 2, 1) := dk_32 (dk_at dksX8_laysOne_3 19 rfl rfl)
theorem dX8_laysOne_92 : decode cX8_laysOne 92 = .ok (.invokestatic 79, 3) := dk_184 0 79 (dk_at dksX8_laysOne_3 20 rfl rfl)
theorem dX8_laysOne_95 : decode cX8_laysOne 95 = .ok (.i2l, 1) := dk_133 (dk_at dksX8_laysOne_3 23 rfl rfl)
theorem dX8_laysOne_96 : decode cX8_laysOne 96 = .ok (.lmul, 1) := dk_105 (dk_at dksX8_laysOne_4 0 rfl rfl)
theorem dX8_laysOne_97 : decode cX8_laysOne 97 = .ok (.invokestatic 79, 3) := dk_184 0 79 (dk_at dksX8_laysOne_4 1 rfl rfl)
theorem dX8_laysOne_100 : decode cX8_laysOne 100 = .ok (.aload_n 0, 1) := dk_42 (dk_at dksX8_laysOne_4 4 rfl rfl)
theorem dX8_laysOne_101 : decode cX8_laysOne 101 = .ok (.getfield 32, 3) := dk_180 0 32 (dk_at dksX8_laysOne_4 5 rfl rfl)
theorem dX8_laysOne_104 : decode cX8_laysOne 104 = .ok (.getfield 111, 3) := dk_180 0 111 (dk_at dksX8_laysOne_4 8 rfl rfl)
theorem dX8_laysOne_107 : decode cX8_laysOne 107 = .ok (.i2l, 1) := dk_133 (dk_at dksX8_laysOne_4 11 rfl rfl)
theorem dX8_laysOne_108 : decode cX8_laysOne 108 = .ok (.aload_n 0, 1) := dk_42 (dk_at dksX8_laysOne_4 12 rfl rfl)
theorem dX8_laysOne_109 : decode cX8_laysOne 109 = .ok (.getfield 32, 3) := dk_180 0 32 (dk_at dksX8_laysOne_4 13 rfl rfl)
theorem dX8_laysOne_112 : decode cX8_laysOne 112 = .ok (.getfield 111, 3) := dk_180 0 111 (dk_at dksX8_laysOne_4 16 rfl rfl)
theorem dX8_laysOne_115 : decode cX8_laysOne 115 = .ok (.i2l, 1) := dk_133 (dk_at dksX8_laysOne_4 19 rfl rfl)
theorem dX8_laysOne_116 : decode cX8_laysOne 116 = .ok (.lmul, 1) := dk_105 (dk_at dksX8_laysOne_4 20 rfl rfl)
theorem dX8_laysOne_117 : decode cX8_laysOne 117 = .ok (.invokestatic 79, 3) := dk_184 0 79 (dk_at dksX8_laysOne_4 21 rfl rfl)
theorem dX8_laysOne_120 : decode cX8_laysOne 120 = .ok (.if_icmp .eq 9, 3) := dk_159 0 9 (dk_at dksX8_laysOne_5 0 rfl rfl)
theorem dX8_laysOne_123 : decode cX8_laysOne 123 = .ok (.iinc 4 1, 3) := dk_132 4 1 (dk_at dksX8_laysOne_5 3 rfl rfl)
theorem dX8_laysOne_126 : decode cX8_laysOne 126 = .ok (.goto (-48), 3) := dk_167 255 208 (dk_at dksX8_laysOne_5 6 rfl rfl)
theorem dX8_laysOne_129 : decode cX8_laysOne 129 = .ok (.aload_n 0, 1) := dk_42 (dk_at dksX8_laysOne_5 9 rfl rfl)
theorem dX8_laysOne_130 : decode cX8_laysOne 130 = .ok (.getfield 28, 3) := dk_180 0 28 (dk_at dksX8_laysOne_5 10 rfl rfl)
theorem dX8_laysOne_133 : decode cX8_laysOne 133 = .ok (.iload_n 1, 1) := dk_27 (dk_at dksX8_laysOne_5 13 rfl rfl)
theorem dX8_laysOne_134 : decode cX8_laysOne 134 = .ok (.iload 4, 2) := dk_21 4 (dk_at dksX8_laysOne_5 14 rfl rfl)
theorem dX8_laysOne_136 : decode cX8_laysOne 136 = .ok (.iastore, 1) := dk_79 (dk_at dksX8_laysOne_5 16 rfl rfl)
theorem dX8_laysOne_137 : decode cX8_laysOne 137 = .ok (.iconst 0, 1) := dk_3 (dk_at dksX8_laysOne_5 17 rfl rfl)
theorem dX8_laysOne_138 : decode cX8_laysOne 138 = .ok (.istore 5, 2) := dk_54 5 (dk_at dksX8_laysOne_5 18 rfl rfl)
theorem dX8_laysOne_140 : decode cX8_laysOne 140 = .ok (.iload 5, 2) := dk_21 5 (dk_at dksX8_laysOne_5 20 rfl rfl)
theorem dX8_laysOne_142 : decode cX8_laysOne 142 = .ok (.aload_n 0, 1) := dk_42 (dk_at dksX8_laysOne_5 22 rfl rfl)
theorem dX8_laysOne_143 : decode cX8_laysOne 143 = .ok (.getfield 32, 3) := dk_180 0 32 (dk_at dksX8_laysOne_6 0 rfl rfl)
theorem dX8_laysOne_146 : decode cX8_laysOne 146 = .ok (.getfield 36, 3) := dk_180 0 36 (dk_at dksX8_laysOne_6 3 rfl rfl)
theorem dX8_laysOne_149 : decode cX8_laysOne 149 = .ok (.if_icmp .ge 50, 3) := dk_162 0 50 (dk_at dksX8_laysOne_6 6 rfl rfl)
theorem dX8_laysOne_152 : decode cX8_laysOne 152 = .ok (.aload_n 0, 1) := dk_42 (dk_at dksX8_laysOne_6 9 rfl rfl)
theorem dX8_laysOne_153 : decode cX8_laysOne 153 = .ok (.getfield 25, 3) := dk_180 0 25 (dk_at dksX8_laysOne_6 10 rfl rfl)
theorem dX8_laysOne_156 : decode cX8_laysOne 156 = .ok (.iload_n 1, 1) := dk_27 (dk_at dksX8_laysOne_6 13 rfl rfl)
theorem dX8_laysOne_157 : decode cX8_laysOne 157 = .ok (.aaload, 1) := dk_50 (dk_at dksX8_laysOne_6 14 rfl rfl)
theorem dX8_laysOne_158 : decode cX8_laysOne 158 = .ok (.iload 5, 2) := dk_21 5 (dk_at dksX8_laysOne_6 15 rfl rfl)
theorem dX8_laysOne_160 : decode cX8_laysOne 160 = .ok (.iload 4, 2) := dk_21 4 (dk_at dksX8_laysOne_6 17 rfl rfl)
theorem dX8_laysOne_162 : decode cX8_laysOne 162 = .ok (.i2l, 1) := dk_133 (dk_at dksX8_laysOne_6 19 rfl rfl)
theorem dX8_laysOne_163 : decode cX8_laysOne 163 = .ok (.aload_n 0, 1) := dk_42 (dk_at dksX8_laysOne_6 20 rfl rfl)
theorem dX8_laysOne_164 : decode cX8_laysOne 164 = .ok (.getfield 22, 3) := dk_180 0 22 (dk_at dksX8_laysOne_6 21 rfl rfl)
theorem dX8_laysOne_167 : decode cX8_laysOne 167 = .ok (.iload_n 1, 1) := dk_27 (dk_at dksX8_laysOne_7 0 rfl rfl)
theorem dX8_laysOne_168 : decode cX8_laysOne 168 = .ok (.aaload, 1) := dk_50 (dk_at dksX8_laysOne_7 1 rfl rfl)
theorem dX8_laysOne_169 : decode cX8_laysOne 169 = .ok (.iload 5, 2) := dk_21 5 (dk_at dksX8_laysOne_7 2 rfl rfl)
theorem dX8_laysOne_171 : decode cX8_laysOne 171 = .ok (.iaload, 1) := dk_46 (dk_at dksX8_laysOne_7 4 rfl rfl)
theorem dX8_laysOne_172 : decode cX8_laysOne 172 = .ok (.i2l, 1) := dk_133 (dk_at dksX8_laysOne_7 5 rfl rfl)
theorem dX8_laysOne_173 : decode cX8_laysOne 173 = .ok (.lmul, 1) := dk_105 (dk_at dksX8_laysOne_7 6 rfl rfl)
theorem dX8_laysOne_174 : decode cX8_laysOne 174 = .ok (.aload_n 0, 1) := dk_42 (dk_at dksX8_laysOne_7 7 rfl rfl)
theorem dX8_laysOne_175 : decode cX8_laysOne 175 = .ok (.getfield 32, 3) := dk_180 0 32 (dk_at dksX8_laysOne_7 8 rfl rfl)
theorem dX8_laysOne_178 : decode cX8_laysOne 178 = .ok (.getfield 112, 3) := dk_180 0 112 (dk_at dksX8_laysOne_7 11 rfl rfl)
theorem dX8_laysOne_181 : decode cX8_laysOne 181 = .ok (.iload 5, 2) := dk_21 5 (dk_at dksX8_laysOne_7 14 rfl rfl)
theorem dX8_laysOne_183 : decode cX8_laysOne 183 = .ok (.iaload, 1) := dk_46 (dk_at dksX8_laysOne_7 16 rfl rfl)
theorem dX8_laysOne_184 : decode cX8_laysOne 184 = .ok (.invokestatic 90, 3) := dk_184 0 90 (dk_at dksX8_laysOne_7 17 rfl rfl)
theorem dX8_laysOne_187 : decode cX8_laysOne 187 = .ok (.i2l, 1) := dk_133 (dk_at dksX8_laysOne_7 20 rfl rfl)
theorem dX8_laysOne_188 : decode cX8_laysOne 188 = .ok (.lmul, 1) := dk_105 (dk_at dksX8_laysOne_7 21 rfl rfl)
theorem dX8_laysOne_189 : decode cX8_laysOne 189 = .ok (.invokestatic 79, 3) := dk_184 0 79 (dk_at dksX8_laysOne_8 0 rfl rfl)
theorem dX8_laysOne_192 : decode cX8_laysOne 192 = .ok (.iastore, 1) := dk_79 (dk_at dksX8_laysOne_8 3 rfl rfl)
theorem dX8_laysOne_193 : decode cX8_laysOne 193 = .ok (.iinc 5 1, 3) := dk_132 5 1 (dk_at dksX8_laysOne_8 4 rfl rfl)
theorem dX8_laysOne_196 : decode cX8_laysOne 196 = .ok (.goto (-56), 3) := dk_167 255 200 (dk_at dksX8_laysOne_8 7 rfl rfl)
theorem dX8_laysOne_199 : decode cX8_laysOne 199 = .ok (.return_, 1) := dk_177 (dk_at dksX8_laysOne_8 10 rfl rfl)
abbrev cX8_shareIn : ByteArray := prog_7_method_12_code
def yX8_shareIn : MethodName := ⟨RX8, "shareIn", "(II)I"⟩
def dkwX8_shareIn_3 : List UInt8 := [97, 66, 132, 5, 1, 167, 255, 188, 42, 33, 182, 0, 122, 172]
abbrev dktX8_shareIn_3 : List UInt8 := dkwX8_shareIn_3 ++ []
def dkwX8_shareIn_2 : List UInt8 := [182, 0, 118, 133, 105, 42, 180, 0, 25, 27, 50, 42, 180, 0, 32, 180, 0, 108, 21, 5, 46, 46, 133, 105]
abbrev dktX8_shareIn_2 : List UInt8 := dkwX8_shareIn_2 ++ dktX8_shareIn_3
def dkwX8_shareIn_1 : List UInt8 := [180, 0, 112, 21, 5, 46, 133, 42, 180, 0, 32, 28, 42, 180, 0, 32, 180, 0, 115, 21, 5, 46]
abbrev dktX8_shareIn_1 : List UInt8 := dkwX8_shareIn_1 ++ dktX8_shareIn_2
def dkwX8_shareIn_0 : List UInt8 := [9, 66, 3, 54, 5, 21, 5, 42, 180, 0, 32, 180, 0, 36, 162, 0, 62, 33, 42, 180, 0, 32]
abbrev dktX8_shareIn_0 : List UInt8 := dkwX8_shareIn_0 ++ dktX8_shareIn_1
theorem dksX8_shareIn_0 : cX8_shareIn.data.toList.drop 0 = dktX8_shareIn_0 := by decide +kernel
theorem dksX8_shareIn_1 : cX8_shareIn.data.toList.drop 22 = dktX8_shareIn_1 := dk_seg dksX8_shareIn_0 22 rfl rfl
theorem dksX8_shareIn_2 : cX8_shareIn.data.toList.drop 44 = dktX8_shareIn_2 := dk_seg dksX8_shareIn_1 22 rfl rfl
theorem dksX8_shareIn_3 : cX8_shareIn.data.toList.drop 68 = dktX8_shareIn_3 := dk_seg dksX8_shareIn_2 24 rfl rfl
theorem dX8_shareIn_0 : decode cX8_shareIn 0 = .ok (.lconst 0, 1) := dk_9 (dk_at dksX8_shareIn_0 0 rfl rfl)
theorem dX8_shareIn_1 : decode cX8_shareIn 1 = .ok (.lstore_n 3, 1) := dk_66 (dk_at dksX8_shareIn_0 1 rfl rfl)
theorem dX8_shareIn_2 : decode cX8_shareIn 2 = .ok (.iconst 0, 1) := dk_3 (dk_at dksX8_shareIn_0 2 rfl rfl)
theorem dX8_shareIn_3 : decode cX8_shareIn 3 = .ok (.istore 5, 2) := dk_54 5 (dk_at dksX8_shareIn_0 3 rfl rfl)
theorem dX8_shareIn_5 : decode cX8_shareIn 5 = .ok (.iload 5, 2) := dk_21 5 (dk_at dksX8_shareIn_0 5 rfl rfl)
theorem dX8_shareIn_7 : decode cX8_shareIn 7 = .ok (.aload_n 0, 1) := dk_42 (dk_at dksX8_shareIn_0 7 rfl rfl)
theorem dX8_shareIn_8 : decode cX8_shareIn 8 = .ok (.getfield 32, 3) := dk_180 0 32 (dk_at dksX8_shareIn_0 8 rfl rfl)
theorem dX8_shareIn_11 : decode cX8_shareIn 11 = .ok (.getfield 36, 3) := dk_180 0 36 (dk_at dksX8_shareIn_0 11 rfl rfl)
theorem dX8_shareIn_14 : decode cX8_shareIn 14 = .ok (.if_icmp .ge 62, 3) := dk_162 0 62 (dk_at dksX8_shareIn_0 14 rfl rfl)
theorem dX8_shareIn_17 : decode cX8_shareIn 17 = .ok (.lload_n 3, 1) := dk_33 (dk_at dksX8_shareIn_0 17 rfl rfl)
theorem dX8_shareIn_18 : decode cX8_shareIn 18 = .ok (.aload_n 0, 1) := dk_42 (dk_at dksX8_shareIn_0 18 rfl rfl)
theorem dX8_shareIn_19 : decode cX8_shareIn 19 = .ok (.getfield 32, 3) := dk_180 0 32 (dk_at dksX8_shareIn_0 19 rfl rfl)
theorem dX8_shareIn_22 : decode cX8_shareIn 22 = .ok (.getfield 112, 3) := dk_180 0 112 (dk_at dksX8_shareIn_1 0 rfl rfl)
theorem dX8_shareIn_25 : decode cX8_shareIn 25 = .ok (.iload 5, 2) := dk_21 5 (dk_at dksX8_shareIn_1 3 rfl rfl)
theorem dX8_shareIn_27 : decode cX8_shareIn 27 = .ok (.iaload, 1) := dk_46 (dk_at dksX8_shareIn_1 5 rfl rfl)
theorem dX8_shareIn_28 : decode cX8_shareIn 28 = .ok (.i2l, 1) := dk_133 (dk_at dksX8_shareIn_1 6 rfl rfl)
theorem dX8_shareIn_29 : decode cX8_shareIn 29 = .ok (.aload_n 0, 1) := dk_42 (dk_at dksX8_shareIn_1 7 rfl rfl)
theorem dX8_shareIn_30 : decode cX8_shareIn 30 = .ok (.getfield 32, 3) := dk_180 0 32 (dk_at dksX8_shareIn_1 8 rfl rfl)
theorem dX8_shareIn_33 : decode cX8_shareIn 33 = .ok (.iload_n 2, 1) := dk_28 (dk_at dksX8_shareIn_1 11 rfl rfl)
theorem dX8_shareIn_34 : decode cX8_shareIn 34 = .ok (.aload_n 0, 1) := dk_42 (dk_at dksX8_shareIn_1 12 rfl rfl)
theorem dX8_shareIn_35 : decode cX8_shareIn 35 = .ok (.getfield 32, 3) := dk_180 0 32 (dk_at dksX8_shareIn_1 13 rfl rfl)
theorem dX8_shareIn_38 : decode cX8_shareIn 38 = .ok (.getfield 115, 3) := dk_180 0 115 (dk_at dksX8_shareIn_1 16 rfl rfl)
theorem dX8_shareIn_41 : decode cX8_shareIn 41 = .ok (.iload 5, 2) := dk_21 5 (dk_at dksX8_shareIn_1 19 rfl rfl)
theorem dX8_shareIn_43 : decode cX8_shareIn 43 = .ok (.iaload, 1) := dk_46 (dk_at dksX8_shareIn_1 21 rfl rfl)
theorem dX8_shareIn_44 : decode cX8_shareIn 44 = .ok (.invokevirtual 118, 3) := dk_182 0 118 (dk_at dksX8_shareIn_2 0 rfl rfl)
theorem dX8_shareIn_47 : decode cX8_shareIn 47 = .ok (.i2l, 1) := dk_133 (dk_at dksX8_shareIn_2 3 rfl rfl)
theorem dX8_shareIn_48 : decode cX8_shareIn 48 = .ok (.lmul, 1) := dk_105 (dk_at dksX8_shareIn_2 4 rfl rfl)
theorem dX8_shareIn_49 : decode cX8_shareIn 49 = .ok (.aload_n 0, 1) := dk_42 (dk_at dksX8_shareIn_2 5 rfl rfl)
theorem dX8_shareIn_50 : decode cX8_shareIn 50 = .ok (.getfield 25, 3) := dk_180 0 25 (dk_at dksX8_shareIn_2 6 rfl rfl)
theorem dX8_shareIn_53 : decode cX8_shareIn 53 = .ok (.iload_n 1, 1) := dk_27 (dk_at dksX8_shareIn_2 9 rfl rfl)
theorem dX8_shareIn_54 : decode cX8_shareIn 54 = .ok (.aaload, 1) := dk_50 (dk_at dksX8_shareIn_2 10 rfl rfl)
theorem dX8_shareIn_55 : decode cX8_shareIn 55 = .ok (.aload_n 0, 1) := dk_42 (dk_at dksX8_shareIn_2 11 rfl rfl)
theorem dX8_shareIn_56 : decode cX8_shareIn 56 = .ok (.getfield 32, 3) := dk_180 0 32 (dk_at dksX8_shareIn_2 12 rfl rfl)
theorem dX8_shareIn_59 : decode cX8_shareIn 59 = .ok (.getfield 108, 3) := dk_180 0 108 (dk_at dksX8_shareIn_2 15 rfl rfl)
theorem dX8_shareIn_62 : decode cX8_shareIn 62 = .ok (.iload 5, 2) := dk_21 5 (dk_at dksX8_shareIn_2 18 rfl rfl)
theorem dX8_shareIn_64 : decode cX8_shareIn 64 = .ok (.iaload, 1) := dk_46 (dk_at dksX8_shareIn_2 20 rfl rfl)
theorem dX8_shareIn_65 : decode cX8_shareIn 65 = .ok (.iaload, 1) := dk_46 (dk_at dksX8_shareIn_2 21 rfl rfl)
theorem dX8_shareIn_66 : decode cX8_shareIn 66 = .ok (.i2l, 1) := dk_133 (dk_at dksX8_shareIn_2 22 rfl rfl)
theorem dX8_shareIn_67 : decode cX8_shareIn 67 = .ok (.lmul, 1) := dk_105 (dk_at dksX8_shareIn_2 23 rfl rfl)
theorem dX8_shareIn_68 : decode cX8_shareIn 68 = .ok (.ladd, 1) := dk_97 (dk_at dksX8_shareIn_3 0 rfl rfl)
theorem dX8_shareIn_69 : decode cX8_shareIn 69 = .ok (.lstore_n 3, 1) := dk_66 (dk_at dksX8_shareIn_3 1 rfl rfl)
theorem dX8_shareIn_70 : decode cX8_shareIn 70 = .ok (.iinc 5 1, 3) := dk_132 5 1 (dk_at dksX8_shareIn_3 2 rfl rfl)
theorem dX8_shareIn_73 : decode cX8_shareIn 73 = .ok (.goto (-68), 3) := dk_167 255 188 (dk_at dksX8_shareIn_3 5 rfl rfl)
theorem dX8_shareIn_76 : decode cX8_shareIn 76 = .ok (.aload_n 0, 1) := dk_42 (dk_at dksX8_shareIn_3 8 rfl rfl)
theorem dX8_shareIn_77 : decode cX8_shareIn 77 = .ok (.lload_n 3, 1) := dk_33 (dk_at dksX8_shareIn_3 9 rfl rfl)
theorem dX8_shareIn_78 : decode cX8_shareIn 78 = .ok (.invokevirtual 122, 3) := dk_182 0 122 (dk_at dksX8_shareIn_3 10 rfl rfl)
theorem dX8_shareIn_81 : decode cX8_shareIn 81 = .ok (.ireturn, 1) := dk_172 (dk_at dksX8_shareIn_3 13 rfl rfl)
abbrev cX8_by : ByteArray := prog_7_method_11_code
def yX8_by : MethodName := ⟨RX8, "by", "(J)I"⟩
def dkwX8_by_1 : List UInt8 := [172]
abbrev dktX8_by_1 : List UInt8 := dkwX8_by_1 ++ []
def dkwX8_by_0 : List UInt8 := [31, 184, 0, 79, 133, 42, 180, 0, 32, 180, 0, 111, 133, 184, 0, 79, 184, 0, 90, 133, 105, 184, 0, 79]
abbrev dktX8_by_0 : List UInt8 := dkwX8_by_0 ++ dktX8_by_1
theorem dksX8_by_0 : cX8_by.data.toList.drop 0 = dktX8_by_0 := by decide +kernel
theorem dksX8_by_1 : cX8_by.data.toList.drop 24 = dktX8_by_1 := dk_seg dksX8_by_0 24 rfl rfl
theorem dX8_by_0 : decode cX8_by 0 = .ok (.lload_n 1, 1) := dk_31 (dk_at dksX8_by_0 0 rfl rfl)
theorem dX8_by_1 : decode cX8_by 1 = .ok (.invokestatic 79, 3) := dk_184 0 79 (dk_at dksX8_by_0 1 rfl rfl)
theorem dX8_by_4 : decode cX8_by 4 = .ok (.i2l, 1) := dk_133 (dk_at dksX8_by_0 4 rfl rfl)
theorem dX8_by_5 : decode cX8_by 5 = .ok (.aload_n 0, 1) := dk_42 (dk_at dksX8_by_0 5 rfl rfl)
theorem dX8_by_6 : decode cX8_by 6 = .ok (.getfield 32, 3) := dk_180 0 32 (dk_at dksX8_by_0 6 rfl rfl)
theorem dX8_by_9 : decode cX8_by 9 = .ok (.getfield 111, 3) := dk_180 0 111 (dk_at dksX8_by_0 9 rfl rfl)
theorem dX8_by_12 : decode cX8_by 12 = .ok (.i2l, 1) := dk_133 (dk_at dksX8_by_0 12 rfl rfl)
theorem dX8_by_13 : decode cX8_by 13 = .ok (.invokestatic 79, 3) := dk_184 0 79 (dk_at dksX8_by_0 13 rfl rfl)
theorem dX8_by_16 : decode cX8_by 16 = .ok (.invokestatic 90, 3) := dk_184 0 90 (dk_at dksX8_by_0 16 rfl rfl)
theorem dX8_by_19 : decode cX8_by 19 = .ok (.i2l, 1) := dk_133 (dk_at dksX8_by_0 19 rfl rfl)
theorem dX8_by_20 : decode cX8_by 20 = .ok (.lmul, 1) := dk_105 (dk_at dksX8_by_0 20 rfl rfl)
theorem dX8_by_21 : decode cX8_by 21 = .ok (.invokestatic 79, 3) := dk_184 0 79 (dk_at dksX8_by_0 21 rfl rfl)
theorem dX8_by_24 : decode cX8_by 24 = .ok (.ireturn, 1) := dk_172 (dk_at dksX8_by_1 0 rfl rfl)
abbrev cX8_inProduct : ByteArray := prog_7_method_13_code
def yX8_inProduct : MethodName := ⟨RX8, "inProduct", "(III)I"⟩
def dkwX8_inProduct_3 : List UInt8 := [97, 55, 4, 132, 6, 1, 167, 255, 184, 42, 22, 4, 182, 0, 122, 172]
abbrev dktX8_inProduct_3 : List UInt8 := dkwX8_inProduct_3 ++ []
def dkwX8_inProduct_2 : List UInt8 := [21, 6, 46, 133, 105, 42, 180, 0, 25, 29, 50, 42, 180, 0, 32, 180, 0, 108, 21, 6, 46, 46, 133, 105]
abbrev dktX8_inProduct_2 : List UInt8 := dkwX8_inProduct_2 ++ dktX8_inProduct_3
def dkwX8_inProduct_1 : List UInt8 := [180, 0, 112, 21, 6, 46, 133, 42, 180, 0, 25, 27, 50, 21, 6, 46, 133, 105, 42, 180, 0, 25, 28, 50]
abbrev dktX8_inProduct_1 : List UInt8 := dkwX8_inProduct_1 ++ dktX8_inProduct_2
def dkwX8_inProduct_0 : List UInt8 := [9, 55, 4, 3, 54, 6, 21, 6, 42, 180, 0, 32, 180, 0, 36, 162, 0, 66, 22, 4, 42, 180, 0, 32]
abbrev dktX8_inProduct_0 : List UInt8 := dkwX8_inProduct_0 ++ dktX8_inProduct_1
theorem dksX8_inProduct_0 : cX8_inProduct.data.toList.drop 0 = dktX8_inProduct_0 := by decide +kernel
theorem dksX8_inProduct_1 : cX8_inProduct.data.toList.drop 24 = dktX8_inProduct_1 := dk_seg dksX8_inProduct_0 24 rfl rfl
theorem dksX8_inProduct_2 : cX8_inProduct.data.toList.drop 48 = dktX8_inProduct_2 := dk_seg dksX8_inProduct_1 24 rfl rfl
theorem dksX8_inProduct_3 : cX8_inProduct.data.toList.drop 72 = dktX8_inProduct_3 := dk_seg dksX8_inProduct_2 24 rfl rfl
theorem dX8_inProduct_0 : decode cX8_inProduct 0 = .ok (.lconst 0, 1) := dk_9 (dk_at dksX8_inProduct_0 0 rfl rfl)
theorem dX8_inProduct_1 : decode cX8_inProduct 1 = .ok (.lstore 4, 2) := dk_55 4 (dk_at dksX8_inProduct_0 1 rfl rfl)
theorem dX8_inProduct_3 : decode cX8_inProduct 3 = .ok (.iconst 0, 1) := dk_3 (dk_at dksX8_inProduct_0 3 rfl rfl)
theorem dX8_inProduct_4 : decode cX8_inProduct 4 = .ok (.istore 6, 2) := dk_54 6 (dk_at dksX8_inProduct_0 4 rfl rfl)
theorem dX8_inProduct_6 : decode cX8_inProduct 6 = .ok (.iload 6, 2) := dk_21 6 (dk_at dksX8_inProduct_0 6 rfl rfl)
theorem dX8_inProduct_8 : decode cX8_inProduct 8 = .ok (.aload_n 0, 1) := dk_42 (dk_at dksX8_inProduct_0 8 rfl rfl)
theorem dX8_inProduct_9 : decode cX8_inProduct 9 = .ok (.getfield 32, 3) := dk_180 0 32 (dk_at dksX8_inProduct_0 9 rfl rfl)
theorem dX8_inProduct_12 : decode cX8_inProduct 12 = .ok (.getfield 36, 3) := dk_180 0 36 (dk_at dksX8_inProduct_0 12 rfl rfl)
theorem dX8_inProduct_15 : decode cX8_inProduct 15 = .ok (.if_icmp .ge 66, 3) := dk_162 0 66 (dk_at dksX8_inProduct_0 15 rfl rfl)
theorem dX8_inProduct_18 : decode cX8_inProduct 18 = .ok (.lload 4, 2) := dk_22 4 (dk_at dksX8_inProduct_0 18 rfl rfl)
theorem dX8_inProduct_20 : decode cX8_inProduct 20 = .ok (.aload_n 0, 1) := dk_42 (dk_at dksX8_inProduct_0 20 rfl rfl)
theorem dX8_inProduct_21 : decode cX8_inProduct 21 = .ok (.getfield 32, 3) := dk_180 0 32 (dk_at dksX8_inProduct_0 21 rfl rfl)
theorem dX8_inProduct_24 : decode cX8_inProduct 24 = .ok (.getfield 112, 3) := dk_180 0 112 (dk_at dksX8_inProduct_1 0 rfl rfl)
theorem dX8_inProduct_27 : decode cX8_inProduct 27 = .ok (.iload 6, 2) := dk_21 6 (dk_at dksX8_inProduct_1 3 rfl rfl)
theorem dX8_inProduct_29 : decode cX8_inProduct 29 = .ok (.iaload, 1) := dk_46 (dk_at dksX8_inProduct_1 5 rfl rfl)
theorem dX8_inProduct_30 : decode cX8_inProduct 30 = .ok (.i2l, 1) := dk_133 (dk_at dksX8_inProduct_1 6 rfl rfl)
theorem dX8_inProduct_31 : decode cX8_inProduct 31 = .ok (.aload_n 0, 1) := dk_42 (dk_at dksX8_inProduct_1 7 rfl rfl)
theorem dX8_inProduct_32 : decode cX8_inProduct 32 = .ok (.getfield 25, 3) := dk_180 0 25 (dk_at dksX8_inProduct_1 8 rfl rfl)
theorem dX8_inProduct_35 : decode cX8_inProduct 35 = .ok (.iload_n 1, 1) := dk_27 (dk_at dksX8_inProduct_1 11 rfl rfl)
theorem dX8_inProduct_36 : decode cX8_inProduct 36 = .ok (.aaload, 1) := dk_50 (dk_at dksX8_inProduct_1 12 rfl rfl)
theorem dX8_inProduct_37 : decode cX8_inProduct 37 = .ok (.iload 6, 2) := dk_21 6 (dk_at dksX8_inProduct_1 13 rfl rfl)
theorem dX8_inProduct_39 : decode cX8_inProduct 39 = .ok (.iaload, 1) := dk_46 (dk_at dksX8_inProduct_1 15 rfl rfl)
theorem dX8_inProduct_40 : decode cX8_inProduct 40 = .ok (.i2l, 1) := dk_133 (dk_at dksX8_inProduct_1 16 rfl rfl)
theorem dX8_inProduct_41 : decode cX8_inProduct 41 = .ok (.lmul, 1) := dk_105 (dk_at dksX8_inProduct_1 17 rfl rfl)
theorem dX8_inProduct_42 : decode cX8_inProduct 42 = .ok (.aload_n 0, 1) := dk_42 (dk_at dksX8_inProduct_1 18 rfl rfl)
theorem dX8_inProduct_43 : decode cX8_inProduct 43 = .ok (.getfield 25, 3) := dk_180 0 25 (dk_at dksX8_inProduct_1 19 rfl rfl)
theorem dX8_inProduct_46 : decode cX8_inProduct 46 = .ok (.iload_n 2, 1) := dk_28 (dk_at dksX8_inProduct_1 22 rfl rfl)
theorem dX8_inProduct_47 : decode cX8_inProduct 47 = .ok (.aaload, 1) := dk_50 (dk_at dksX8_inProduct_1 23 rfl rfl)
theorem dX8_inProduct_48 : decode cX8_inProduct 48 = .ok (.iload 6, 2) := dk_21 6 (dk_at dksX8_inProduct_2 0 rfl rfl)
theorem dX8_inProduct_50 : decode cX8_inProduct 50 = .ok (.iaload, 1) := dk_46 (dk_at dksX8_inProduct_2 2 rfl rfl)
theorem dX8_inProduct_51 : decode cX8_inProduct 51 = .ok (.i2l, 1) := dk_133 (dk_at dksX8_inProduct_2 3 rfl rfl)
theorem dX8_inProduct_52 : decode cX8_inProduct 52 = .ok (.lmul, 1) := dk_105 (dk_at dksX8_inProduct_2 4 rfl rfl)
theorem dX8_inProduct_53 : decode cX8_inProduct 53 = .ok (.aload_n 0, 1) := dk_42 (dk_at dksX8_inProduct_2 5 rfl rfl)
theorem dX8_inProduct_54 : decode cX8_inProduct 54 = .ok (.getfield 25, 3) := dk_180 0 25 (dk_at dksX8_inProduct_2 6 rfl rfl)
theorem dX8_inProduct_57 : decode cX8_inProduct 57 = .ok (.iload_n 3, 1) := dk_29 (dk_at dksX8_inProduct_2 9 rfl rfl)
theorem dX8_inProduct_58 : decode cX8_inProduct 58 = .ok (.aaload, 1) := dk_50 (dk_at dksX8_inProduct_2 10 rfl rfl)
theorem dX8_inProduct_59 : decode cX8_inProduct 59 = .ok (.aload_n 0, 1) := dk_42 (dk_at dksX8_inProduct_2 11 rfl rfl)
theorem dX8_inProduct_60 : decode cX8_inProduct 60 = .ok (.getfield 32, 3) := dk_180 0 32 (dk_at dksX8_inProduct_2 12 rfl rfl)
theorem dX8_inProduct_63 : decode cX8_inProduct 63 = .ok (.getfield 108, 3) := dk_180 0 108 (dk_at dksX8_inProduct_2 15 rfl rfl)
theorem dX8_inProduct_66 : decode cX8_inProduct 66 = .ok (.iload 6, 2) := dk_21 6 (dk_at dksX8_inProduct_2 18 rfl rfl)
theorem dX8_inProduct_68 : decode cX8_inProduct 68 = .ok (.iaload, 1) := dk_46 (dk_at dksX8_inProduct_2 20 rfl rfl)
theorem dX8_inProduct_69 : decode cX8_inProduct 69 = .ok (.iaload, 1) := dk_46 (dk_at dksX8_inProduct_2 21 rfl rfl)
theorem dX8_inProduct_70 : decode cX8_inProduct 70 = .ok (.i2l, 1) := dk_133 (dk_at dksX8_inProduct_2 22 rfl rfl)
theorem dX8_inProduct_71 : decode cX8_inProduct 71 = .ok (.lmul, 1) := dk_105 (dk_at dksX8_inProduct_2 23 rfl rfl)
theorem dX8_inProduct_72 : decode cX8_inProduct 72 = .ok (.ladd, 1) := dk_97 (dk_at dksX8_inProduct_3 0 rfl rfl)
theorem dX8_inProduct_73 : decode cX8_inProduct 73 = .ok (.lstore 4, 2) := dk_55 4 (dk_at dksX8_inProduct_3 1 rfl rfl)
theorem dX8_inProduct_75 : decode cX8_inProduct 75 = .ok (.iinc 6 1, 3) := dk_132 6 1 (dk_at dksX8_inProduct_3 3 rfl rfl)
theorem dX8_inProduct_78 : decode cX8_inProduct 78 = .ok (.goto (-72), 3) := dk_167 255 184 (dk_at dksX8_inProduct_3 6 rfl rfl)
theorem dX8_inProduct_81 : decode cX8_inProduct 81 = .ok (.aload_n 0, 1) := dk_42 (dk_at dksX8_inProduct_3 9 rfl rfl)
theorem dX8_inProduct_82 : decode cX8_inProduct 82 = .ok (.lload 4, 2) := dk_22 4 (dk_at dksX8_inProduct_3 10 rfl rfl)
theorem dX8_inProduct_84 : decode cX8_inProduct 84 = .ok (.invokevirtual 122, 3) := dk_182 0 122 (dk_at dksX8_inProduct_3 12 rfl rfl)
theorem dX8_inProduct_87 : decode cX8_inProduct 87 = .ok (.ireturn, 1) := dk_172 (dk_at dksX8_inProduct_3 15 rfl rfl)
abbrev cX8_partnerOf : ByteArray := prog_7_method_14_code
def yX8_partnerOf : MethodName := ⟨RX8, "partnerOf", "(I)I"⟩
def dkwX8_partnerOf_1 : List UInt8 := [167, 255, 236, 28, 172]
abbrev dktX8_partnerOf_1 : List UInt8 := dkwX8_partnerOf_1 ++ []
def dkwX8_partnerOf_0 : List UInt8 := [3, 61, 28, 42, 180, 0, 42, 162, 0, 18, 42, 27, 28, 182, 0, 125, 154, 0, 9, 132, 2, 1]
abbrev dktX8_partnerOf_0 : List UInt8 := dkwX8_partnerOf_0 ++ dktX8_partnerOf_1
theorem dksX8_partnerOf_0 : cX8_partnerOf.data.toList.drop 0 = dktX8_partnerOf_0 := by decide +kernel
theorem dksX8_partnerOf_1 : cX8_partnerOf.data.toList.drop 22 = dktX8_partnerOf_1 := dk_seg dksX8_partnerOf_0 22 rfl rfl
theorem dX8_partnerOf_0 : decode cX8_partnerOf 0 = .ok (.iconst 0, 1) := dk_3 (dk_at dksX8_partnerOf_0 0 rfl rfl)
theorem dX8_partnerOf_1 : decode cX8_partnerOf 1 = .ok (.istore_n 2, 1) := dk_61 (dk_at dksX8_partnerOf_0 1 rfl rfl)
theorem dX8_partnerOf_2 : decode cX8_partnerOf 2 = .ok (.iload_n 2, 1) := dk_28 (dk_at dksX8_partnerOf_0 2 rfl rfl)
theorem dX8_partnerOf_3 : decode cX8_partnerOf 3 = .ok (.aload_n 0, 1) := dk_42 (dk_at dksX8_partnerOf_0 3 rfl rfl)
theorem dX8_partnerOf_4 : decode cX8_partnerOf 4 = .ok (.getfield 42, 3) := dk_180 0 42 (dk_at dksX8_partnerOf_0 4 rfl rfl)
theorem dX8_partnerOf_7 : decode cX8_partnerOf 7 = .ok (.if_icmp .ge 18, 3) := dk_162 0 18 (dk_at dksX8_partnerOf_0 7 rfl rfl)
theorem dX8_partnerOf_10 : decode cX8_partnerOf 10 = .ok (.aload_n 0, 1) := dk_42 (dk_at dksX8_partnerOf_0 10 rfl rfl)
theorem dX8_partnerOf_11 : decode cX8_partnerOf 11 = .ok (.iload_n 1, 1) := dk_27 (dk_at dksX8_partnerOf_0 11 rfl rfl)
theorem dX8_partnerOf_12 : decode cX8_partnerOf 12 = .ok (.iload_n 2, 1) := dk_28 (dk_at dksX8_partnerOf_0 12 rfl rfl)
theorem dX8_partnerOf_13 : decode cX8_partnerOf 13 = .ok (.invokevirtual 125, 3) := dk_182 0 125 (dk_at dksX8_partnerOf_0 13 rfl rfl)
theorem dX8_partnerOf_16 : decode cX8_partnerOf 16 = .ok (.ifCond .ne 9, 3) := dk_154 0 9 (dk_at dksX8_partnerOf_0 16 rfl rfl)
theorem dX8_partnerOf_19 : decode cX8_partnerOf 19 = .ok (.iinc 2 1, 3) := dk_132 2 1 (dk_at dksX8_partnerOf_0 19 rfl rfl)
theorem dX8_partnerOf_22 : decode cX8_partnerOf 22 = .ok (.goto (-20), 3) := dk_167 255 236 (dk_at dksX8_partnerOf_1 0 rfl rfl)
theorem dX8_partnerOf_25 : decode cX8_partnerOf 25 = .ok (.iload_n 2, 1) := dk_28 (dk_at dksX8_partnerOf_1 3 rfl rfl)
theorem dX8_partnerOf_26 : decode cX8_partnerOf 26 = .ok (.ireturn, 1) := dk_172 (dk_at dksX8_partnerOf_1 4 rfl rfl)
abbrev cX8_isPartner : ByteArray := prog_7_method_15_code
def yX8_isPartner : MethodName := ⟨RX8, "isPartner", "(II)Z"⟩
def dkwX8_isPartner_2 : List UInt8 := [167, 255, 213, 4, 172]
abbrev dktX8_isPartner_2 : List UInt8 := dkwX8_isPartner_2 ++ []
def dkwX8_isPartner_1 : List UInt8 := [180, 0, 22, 27, 50, 42, 180, 0, 32, 180, 0, 108, 29, 46, 46, 159, 0, 5, 3, 172, 132, 3, 1]
abbrev dktX8_isPartner_1 : List UInt8 := dkwX8_isPartner_1 ++ dktX8_isPartner_2
def dkwX8_isPartner_0 : List UInt8 := [3, 62, 29, 42, 180, 0, 32, 180, 0, 36, 162, 0, 38, 42, 180, 0, 22, 28, 50, 29, 46, 42]
abbrev dktX8_isPartner_0 : List UInt8 := dkwX8_isPartner_0 ++ dktX8_isPartner_1
theorem dksX8_isPartner_0 : cX8_isPartner.data.toList.drop 0 = dktX8_isPartner_0 := by decide +kernel
theorem dksX8_isPartner_1 : cX8_isPartner.data.toList.drop 22 = dktX8_isPartner_1 := dk_seg dksX8_isPartner_0 22 rfl rfl
theorem dksX8_isPartner_2 : cX8_isPartner.data.toList.drop 45 = dktX8_isPartner_2 := dk_seg dksX8_isPartner_1 23 rfl rfl
theorem dX8_isPartner_0 : decode cX8_isPartner 0 = .ok (.iconst 0, 1) := dk_3 (dk_at dksX8_isPartner_0 0 rfl rfl)
theorem dX8_isPartner_1 : decode cX8_isPartner 1 = .ok (.istore_n 3, 1) := dk_62 (dk_at dksX8_isPartner_0 1 rfl rfl)
theorem dX8_isPartner_2 : decode cX8_isPartner 2 = .ok (.iload_n 3, 1) := dk_29 (dk_at dksX8_isPartner_0 2 rfl rfl)
theorem dX8_isPartner_3 : decode cX8_isPartner 3 = .ok (.aload_n 0, 1) := dk_42 (dk_at dksX8_isPartner_0 3 rfl rfl)
theorem dX8_isPartner_4 : decode cX8_isPartner 4 = .ok (.getfield 32, 3) := dk_180 0 32 (dk_at dksX8_isPartner_0 4 rfl rfl)
theorem dX8_isPartner_7 : decode cX8_isPartner 7 = .ok (.getfield 36, 3) := dk_180 0 36 (dk_at dksX8_isPartner_0 7 rfl rfl)
theorem dX8_isPartner_10 : decode cX8_isPartner 10 = .ok (.if_icmp .ge 38, 3) := dk_162 0 38 (dk_at dksX8_isPartner_0 10 rfl rfl)
theorem dX8_isPartner_13 : decode cX8_isPartner 13 = .ok (.aload_n 0, 1) := dk_42 (dk_at dksX8_isPartner_0 13 rfl rfl)
theorem dX8_isPartner_14 : decode cX8_isPartner 14 = .ok (.getfield 22, 3) := dk_180 0 22 (dk_at dksX8_isPartner_0 14 rfl rfl)
theorem dX8_isPartner_17 : decode cX8_isPartner 17 = .ok (.iload_n 2, 1) := dk_28 (dk_at dksX8_isPartner_0 17 rfl rfl)
theorem dX8_isPartner_18 : decode cX8_isPartner 18 = .ok (.aaload, 1) := dk_50 (dk_at dksX8_isPartner_0 18 rfl rfl)
theorem dX8_isPartner_19 : decode cX8_isPartner 19 = .ok (.iload_n 3, 1) := dk_29 (dk_at dksX8_isPartner_0 19 rfl rfl)
theorem dX8_isPartner_20 : decode cX8_isPartner 20 = .ok (.iaload, 1) := dk_46 (dk_at dksX8_isPartner_0 20 rfl rfl)
theorem dX8_isPartner_21 : decode cX8_isPartner 21 = .ok (.aload_n 0, 1) := dk_42 (dk_at dksX8_isPartner_0 21 rfl rfl)
theorem dX8_isPartner_22 : decode cX8_isPartner 22 = .ok (.getfield 22, 3) := dk_180 0 22 (dk_at dksX8_isPartner_1 0 rfl rfl)
theorem dX8_isPartner_25 : decode cX8_isPartner 25 = .ok (.iload_n 1, 1) := dk_27 (dk_at dksX8_isPartner_1 3 rfl rfl)
theorem dX8_isPartner_26 : decode cX8_isPartner 26 = .ok (.aaload, 1) := dk_50 (dk_at dksX8_isPartner_1 4 rfl rfl)
theorem dX8_isPartner_27 : decode cX8_isPartner 27 = .ok (.aload_n 0, 1) := dk_42 (dk_at dksX8_isPartner_1 5 rfl rfl)
theorem dX8_isPartner_28 : decode cX8_isPartner 28 = .ok (.getfield 32, 3) := dk_180 0 32 (dk_at dksX8_isPartner_1 6 rfl rfl)
theorem dX8_isPartner_31 : decode cX8_isPartner 31 = .ok (.getfield 108, 3) := dk_180 0 108 (dk_at dksX8_isPartner_1 9 rfl rfl)
theorem dX8_isPartner_34 : decode cX8_isPartner 34 = .ok (.iload_n 3, 1) := dk_29 (dk_at dksX8_isPartner_1 12 rfl rfl)
theorem dX8_isPartner_35 : decode cX8_isPartner 35 = .ok (.iaload, 1) := dk_46 (dk_at dksX8_isPartner_1 13 rfl rfl)
theorem dX8_isPartner_36 : decode cX8_isPartner 36 = .ok (.iaload, 1) := dk_46 (dk_at dksX8_isPartner_1 14 rfl rfl)
theorem dX8_isPartner_37 : decode cX8_isPartner 37 = .ok (.if_icmp .eq 5, 3) := dk_159 0 5 (dk_at dksX8_isPartner_1 15 rfl rfl)
theorem dX8_isPartner_40 : decode cX8_isPartner 40 = .ok (.iconst 0, 1) := dk_3 (dk_at dksX8_isPartner_1 18 rfl rfl)
theorem dX8_isPartner_41 : decode cX8_isPartner 41 = .ok (.ireturn, 1) := dk_172 (dk_at dksX8_isPartner_1 19 rfl rfl)
theorem dX8_isPartner_42 : decode cX8_isPartner 42 = .ok (.iinc 3 1, 3) := dk_132 3 1 (dk_at dksX8_isPartner_1 20 rfl rfl)
theorem dX8_isPartner_45 : decode cX8_isPartner 45 = .ok (.goto (-43), 3) := dk_167 255 213 (dk_at dksX8_isPartner_2 0 rfl rfl)
theorem dX8_isPartner_48 : decode cX8_isPartner 48 = .ok (.iconst 1, 1) := dk_4 (dk_at dksX8_isPartner_2 3 rfl rfl)
theorem dX8_isPartner_49 : decode cX8_isPartner 49 = .ok (.ireturn, 1) := dk_172 (dk_at dksX8_isPartner_2 4 rfl rfl)
abbrev cX8_kernelOf : ByteArray := prog_7_method_16_code
def yX8_kernelOf : MethodName := ⟨RX8, "kernelOf", "(I)I"⟩
def dkwX8_kernelOf_2 : List UInt8 := [132, 3, 1, 167, 255, 209, 28, 172]
abbrev dktX8_kernelOf_2 : List UInt8 := dkwX8_kernelOf_2 ++ []
def dkwX8_kernelOf_1 : List UInt8 := [42, 180, 0, 28, 27, 46, 160, 0, 15, 42, 180, 0, 32, 180, 0, 112, 29, 46, 167, 0, 4, 3, 96, 61]
abbrev dktX8_kernelOf_1 : List UInt8 := dkwX8_kernelOf_1 ++ dktX8_kernelOf_2
def dkwX8_kernelOf_0 : List UInt8 := [3, 61, 3, 62, 29, 42, 180, 0, 32, 180, 0, 36, 162, 0, 42, 28, 42, 180, 0, 25, 27, 50, 29, 46]
abbrev dktX8_kernelOf_0 : List UInt8 := dkwX8_kernelOf_0 ++ dktX8_kernelOf_1
theorem dksX8_kernelOf_0 : cX8_kernelOf.data.toList.drop 0 = dktX8_kernelOf_0 := by decide +kernel
theorem dksX8_kernelOf_1 : cX8_kernelOf.data.toList.drop 24 = dktX8_kernelOf_1 := dk_seg dksX8_kernelOf_0 24 rfl rfl
theorem dksX8_kernelOf_2 : cX8_kernelOf.data.toList.drop 48 = dktX8_kernelOf_2 := dk_seg dksX8_kernelOf_1 24 rfl rfl
theorem dX8_kernelOf_0 : decode cX8_kernelOf 0 = .ok (.iconst 0, 1) := dk_3 (dk_at dksX8_kernelOf_0 0 rfl rfl)
theorem dX8_kernelOf_1 : decode cX8_kernelOf 1 = .ok (.istore_n 2, 1) := dk_61 (dk_at dksX8_kernelOf_0 1 rfl rfl)
theorem dX8_kernelOf_2 : decode cX8_kernelOf 2 = .ok (.iconst 0, 1) := dk_3 (dk_at dksX8_kernelOf_0 2 rfl rfl)
theorem dX8_kernelOf_3 : decode cX8_kernelOf 3 = .ok (.istore_n 3, 1) := dk_62 (dk_at dksX8_kernelOf_0 3 rfl rfl)
theorem dX8_kernelOf_4 : decode cX8_kernelOf 4 = .ok (.iload_n 3, 1) := dk_29 (dk_at dksX8_kernelOf_0 4 rfl rfl)
theorem dX8_kernelOf_5 : decode cX8_kernelOf 5 = .ok (.aload_n 0, 1) := dk_42 (dk_at dksX8_kernelOf_0 5 rfl rfl)
theorem dX8_kernelOf_6 : decode cX8_kernelOf 6 = .ok (.getfield 32, 3) := dk_180 0 32 (dk_at dksX8_kernelOf_0 6 rfl rfl)
theorem dX8_kernelOf_9 : decode cX8_kernelOf 9 = .ok (.getfield 36, 3) := dk_180 0 36 (dk_at dksX8_kernelOf_0 9 rfl rfl)
theorem dX8_kernelOf_12 : decode cX8_kernelOf 12 = .ok (.if_icmp .ge 42, 3) := dk_162 0 42 (dk_at dksX8_kernelOf_0 12 rfl rfl)
theorem dX8_kernelOf_15 : decode cX8_kernelOf 15 = .ok (.iload_n 2, 1) := dk_28 (dk_at dksX8_kernelOf_0 15 rfl rfl)
theorem dX8_kernelOf_16 : decode cX8_kernelOf 16 = .ok (.aload_n 0, 1) := dk_42 (dk_at dksX8_kernelOf_0 16 rfl rfl)
theorem dX8_kernelOf_17 : decode cX8_kernelOf 17 = .ok (.getfield 25, 3) := dk_180 0 25 (dk_at dksX8_kernelOf_0 17 rfl rfl)
theorem dX8_kernelOf_20 : decode cX8_kernelOf 20 = .ok (.iload_n 1, 1) := dk_27 (dk_at dksX8_kernelOf_0 20 rfl rfl)
theorem dX8_kernelOf_21 : decode cX8_kernelOf 21 = .ok (.aaload, 1) := dk_50 (dk_at dksX8_kernelOf_0 21 rfl rfl)
theorem dX8_kernelOf_22 : decode cX8_kernelOf 22 = .ok (.iload_n 3, 1) := dk_29 (dk_at dksX8_kernelOf_0 22 rfl rfl)
theorem dX8_kernelOf_23 : decode cX8_kernelOf 23 = .ok (.iaload, 1) := dk_46 (dk_at dksX8_kernelOf_0 23 rfl rfl)
theorem dX8_kernelOf_24 : decode cX8_kernelOf 24 = .ok (.aload_n 0, 1) := dk_42 (dk_at dksX8_kernelOf_1 0 rfl rfl)
theorem dX8_kernelOf_25 : decode cX8_kernelOf 25 = .ok (.getfield 28, 3) := dk_180 0 28 (dk_at dksX8_kernelOf_1 1 rfl rfl)
theorem dX8_kernelOf_28 : decode cX8_kernelOf 28 = .ok (.iload_n 1, 1) := dk_27 (dk_at dksX8_kernelOf_1 4 rfl rfl)
theorem dX8_kernelOf_29 : decode cX8_kernelOf 29 = .ok (.iaload, 1) := dk_46 (dk_at dksX8_kernelOf_1 5 rfl rfl)
theorem dX8_kernelOf_30 : decode cX8_kernelOf 30 = .ok (.if_icmp .ne 15, 3) := dk_160 0 15 (dk_at dksX8_kernelOf_1 6 rfl rfl)
theorem dX8_kernelOf_33 : decode cX8_kernelOf 33 = .ok (.aload_n 0, 1) := dk_42 (dk_at dksX8_kernelOf_1 9 rfl rfl)
theorem dX8_kernelOf_34 : decode cX8_kernelOf 34 = .ok (.getfield 32, 3) := dk_180 0 32 (dk_at dksX8_kernelOf_1 10 rfl rfl)
theorem dX8_kernelOf_37 : decode cX8_kernelOf 37 = .ok (.getfield 112, 3) := dk_180 0 112 (dk_at dksX8_kernelOf_1 13 rfl rfl)
theorem dX8_kernelOf_40 : decode cX8_kernelOf 40 = .ok (.iload_n 3, 1) := dk_29 (dk_at dksX8_kernelOf_1 16 rfl rfl)
theorem dX8_kernelOf_41 : decode cX8_kernelOf 41 = .ok (.iaload, 1) := dk_46 (dk_at dksX8_kernelOf_1 17 rfl rfl)
theorem dX8_kernelOf_42 : decode cX8_kernelOf 42 = .ok (.goto 4, 3) := dk_167 0 4 (dk_at dksX8_kernelOf_1 18 rfl rfl)
theorem dX8_kernelOf_45 : decode cX8_kernelOf 45 = .ok (.iconst 0, 1) := dk_3 (dk_at dksX8_kernelOf_1 21 rfl rfl)
theorem dX8_kernelOf_46 : decode cX8_kernelOf 46 = .ok (.iadd, 1) := dk_96 (dk_at dksX8_kernelOf_1 22 rfl rfl)
theorem dX8_kernelOf_47 : decode cX8_kernelOf 47 = .ok (.istore_n 2, 1) := dk_61 (dk_at dksX8_kernelOf_1 23 rfl rfl)
theorem dX8_kernelOf_48 : decode cX8_kernelOf 48 = .ok (.iinc 3 1, 3) := dk_132 3 1 (dk_at dksX8_kernelOf_2 0 rfl rfl)
theorem dX8_kernelOf_51 : decode cX8_kernelOf 51 = .ok (.goto (-47), 3) := dk_167 255 209 (dk_at dksX8_kernelOf_2 3 rfl rfl)
theorem dX8_kernelOf_54 : decode cX8_kernelOf 54 = .ok (.iload_n 2, 1) := dk_28 (dk_at dksX8_kernelOf_2 6 rfl rfl)
theorem dX8_kernelOf_55 : decode cX8_kernelOf 55 = .ok (.ireturn, 1) := dk_172 (dk_at dksX8_kernelOf_2 7 rfl rfl)
theorem q162 : (Jvm.Cond.initialized "VibrationDesk$Laws") ∈ lw_all := lw_g (lw_at lw_m1 15 rfl) rfl
theorem q460 : (Jvm.Cond.fieldLinkNest "VibrationDesk$Laws" (111 : Nat) "VibrationDesk$Group" "many" "I" "VibrationDesk") ∈ lw_tbl := lw_at lw_m2 73 rfl
theorem q474 : (Jvm.Cond.fieldLinkNest "VibrationDesk$Laws" (115 : Nat) "VibrationDesk$Group" "leastOf" "[I" "VibrationDesk") ∈ lw_tbl := lw_at lw_m2 87 rfl
theorem q477 : (Jvm.Cond.fieldLinkNest "VibrationDesk$Laws" (112 : Nat) "VibrationDesk$Group" "sizeOf" "[I" "VibrationDesk") ∈ lw_tbl := lw_at lw_m2 90 rfl
theorem q480 : (Jvm.Cond.fieldLinkNest "VibrationDesk$Laws" (108 : Nat) "VibrationDesk$Group" "backOf" "[I" "VibrationDesk") ∈ lw_tbl := lw_at lw_m2 93 rfl
theorem q483 : (Jvm.Cond.fieldLinkNest "VibrationDesk$Laws" (69 : Nat) "VibrationDesk$Group" "joins" "[I" "VibrationDesk") ∈ lw_tbl := lw_at lw_m2 96 rfl
theorem q485 : (Jvm.Cond.fieldLinkNest "VibrationDesk$Laws" (36 : Nat) "VibrationDesk$Group" "sorts" "I" "VibrationDesk") ∈ lw_tbl := lw_at lw_m2 98 rfl
theorem q534 : (Jvm.Cond.instantiable "VibrationDesk$Laws" (6 : Nat)) ∈ lw_all := lw_g (lw_at lw_m2 147 rfl) rfl
theorem q536 : (Jvm.Cond.instanceMethod ({ cls := "VibrationDesk$Laws", name := "<init>", desc := "(LVibrationDesk$Group;)V" } : Jvm.MethodName)) ∈ lw_all := lw_g (lw_at lw_m2 149 rfl) rfl
theorem q537 : (Jvm.Cond.code ({ cls := "VibrationDesk$Laws", name := "<init>", desc := "(LVibrationDesk$Group;)V" } : Jvm.MethodName) prog_7_method_1_code (2 : Nat) (Option.none : Option Jvm.ClassFile.FieldType)) ∈ lw_all := lw_g (lw_at lw_m2 150 rfl) rfl
theorem q538 : (Jvm.Cond.methodLink "VibrationDesk$Laws" (3 : Nat) ({ cls := "java/lang/Object", name := "<init>", desc := "()V" } : Jvm.MethodName)) ∈ lw_all := lw_g (lw_at lw_m2 151 rfl) rfl
theorem q539 : (Jvm.Cond.classLink "VibrationDesk$Laws" (9 : Nat) "VibrationDesk$Layer") ∈ lw_all := lw_g (lw_at lw_m2 152 rfl) rfl
theorem q541 : (Jvm.Cond.methodLink "VibrationDesk$Laws" (11 : Nat) ({ cls := "VibrationDesk$Layer", name := "<init>", desc := "(I)V" } : Jvm.MethodName)) ∈ lw_all := lw_g (lw_at lw_m2 154 rfl) rfl
theorem q549 : (Jvm.Cond.fieldLinkNest "VibrationDesk$Laws" (46 : Nat) "VibrationDesk$Layer" "rows" "[[I" "VibrationDesk") ∈ lw_tbl := lw_at lw_m2 162 rfl
theorem q551 : (Jvm.Cond.fieldLinkNest "VibrationDesk$Laws" (76 : Nat) "VibrationDesk$Layer" "image" "[[I" "VibrationDesk") ∈ lw_tbl := lw_at lw_m2 164 rfl
theorem q553 : (Jvm.Cond.fieldLinkNest "VibrationDesk$Laws" (83 : Nat) "VibrationDesk$Layer" "with" "[[I" "VibrationDesk") ∈ lw_tbl := lw_at lw_m2 166 rfl
theorem q554 : (Jvm.Cond.fieldLinkNest "VibrationDesk$Laws" (45 : Nat) "VibrationDesk$Layer" "many" "I" "VibrationDesk") ∈ lw_tbl := lw_at lw_m2 167 rfl
theorem q556 : (Jvm.Cond.fieldLinkNest "VibrationDesk$Laws" (66 : Nat) "VibrationDesk$Layer" "below" "LVibrationDesk$Layer;" "VibrationDesk") ∈ lw_tbl := lw_at lw_m2 169 rfl
theorem q568 : (Jvm.Cond.classLink "VibrationDesk$Laws" (20 : Nat) "[[I") ∈ lw_all := lw_g (lw_at lw_m2 181 rfl) rfl
theorem q569 : (Jvm.Cond.fieldLink "VibrationDesk$Laws" (32 : Nat) "VibrationDesk$Laws" "group" "LVibrationDesk$Group;") ∈ lw_all := lw_g (lw_at lw_m2 182 rfl) rfl
theorem q570 : (Jvm.Cond.fieldLink "VibrationDesk$Laws" (14 : Nat) "VibrationDesk$Laws" "first" "LVibrationDesk$Layer;") ∈ lw_all := lw_g (lw_at lw_m2 183 rfl) rfl
theorem q571 : (Jvm.Cond.fieldLink "VibrationDesk$Laws" (22 : Nat) "VibrationDesk$Laws" "rows" "[[I") ∈ lw_all := lw_g (lw_at lw_m2 184 rfl) rfl
theorem q573 : (Jvm.Cond.fieldLink "VibrationDesk$Laws" (25 : Nat) "VibrationDesk$Laws" "characters" "[[I") ∈ lw_all := lw_g (lw_at lw_m2 186 rfl) rfl
theorem q575 : (Jvm.Cond.fieldLink "VibrationDesk$Laws" (28 : Nat) "VibrationDesk$Laws" "degrees" "[I") ∈ lw_all := lw_g (lw_at lw_m2 188 rfl) rfl
theorem q577 : (Jvm.Cond.fieldLink "VibrationDesk$Laws" (42 : Nat) "VibrationDesk$Laws" "many" "I") ∈ lw_all := lw_g (lw_at lw_m2 190 rfl) rfl
theorem q579 : (Jvm.Cond.laysFinal "VibrationDesk$Laws" "VibrationDesk$Laws" "group" "LVibrationDesk$Group;") ∈ lw_all := lw_g (lw_at lw_m2 192 rfl) rfl
theorem q580 : (Jvm.Cond.soleField "VibrationDesk$Laws" "group") ∈ lw_all := lw_g (lw_at lw_m2 193 rfl) rfl
theorem q581 : (Jvm.Cond.laysFinal "VibrationDesk$Laws" "VibrationDesk$Laws" "first" "LVibrationDesk$Layer;") ∈ lw_all := lw_g (lw_at lw_m2 194 rfl) rfl
theorem q582 : (Jvm.Cond.soleField "VibrationDesk$Laws" "first") ∈ lw_all := lw_g (lw_at lw_m2 195 rfl) rfl
theorem q583 : (Jvm.Cond.laysFinal "VibrationDesk$Laws" "VibrationDesk$Laws" "rows" "[[I") ∈ lw_all := lw_g (lw_at lw_m2 196 rfl) rfl
theorem q584 : (Jvm.Cond.soleField "VibrationDesk$Laws" "rows") ∈ lw_all := lw_g (lw_at lw_m2 197 rfl) rfl
theorem q585 : (Jvm.Cond.laysFinal "VibrationDesk$Laws" "VibrationDesk$Laws" "characters" "[[I") ∈ lw_all := lw_g (lw_at lw_m2 198 rfl) rfl
theorem q586 : (Jvm.Cond.soleField "VibrationDesk$Laws" "characters") ∈ lw_all := lw_g (lw_at lw_m2 199 rfl) rfl
theorem q587 : (Jvm.Cond.laysFinal "VibrationDesk$Laws" "VibrationDesk$Laws" "degrees" "[I") ∈ lw_all := lw_g (lw_at lw_m2 200 rfl) rfl
theorem q588 : (Jvm.Cond.soleField "VibrationDesk$Laws" "degrees") ∈ lw_all := lw_g (lw_at lw_m2 201 rfl) rfl
theorem q589 : (Jvm.Cond.lays "VibrationDesk$Laws" "VibrationDesk$Laws" "many" "I") ∈ lw_all := lw_g (lw_at lw_m2 202 rfl) rfl
theorem q590 : (Jvm.Cond.soleField "VibrationDesk$Laws" "many") ∈ lw_all := lw_g (lw_at lw_m2 203 rfl) rfl
theorem q591 : (Jvm.Cond.superclass "VibrationDesk$Laws" "java/lang/Object") ∈ lw_all := lw_g (lw_at lw_m2 204 rfl) rfl
theorem q1934 : (Jvm.Cond.instanceMethod ({ cls := "VibrationDesk$Laws", name := "lays", desc := "()V" } : Jvm.MethodName)) ∈ lw_all := lw_g (lw_at lw_m8 107 rfl) rfl
theorem q1935 : (Jvm.Cond.selects "VibrationDesk$Laws" ({ cls := "VibrationDesk$Laws", name := "lays", desc := "()V" } : Jvm.MethodName) ({ cls := "VibrationDesk$Laws", name := "lays", desc := "()V" } : Jvm.MethodName)) ∈ lw_all := lw_g (lw_at lw_m8 108 rfl) rfl
theorem q1936 : (Jvm.Cond.code ({ cls := "VibrationDesk$Laws", name := "lays", desc := "()V" } : Jvm.MethodName) prog_7_method_2_code (4 : Nat) (Option.none : Option Jvm.ClassFile.FieldType)) ∈ lw_all := lw_g (lw_at lw_m8 109 rfl) rfl
theorem q1937 : (Jvm.Cond.methodLink "VibrationDesk$Laws" (47 : Nat) ({ cls := "VibrationDesk$Laws", name := "splits", desc := "(LVibrationDesk$Layer;I)V" } : Jvm.MethodName)) ∈ lw_all := lw_g (lw_at lw_m8 110 rfl) rfl
theorem q1938 : (Jvm.Cond.privateMethod ({ cls := "VibrationDesk$Laws", name := "splits", desc := "(LVibrationDesk$Layer;I)V" } : Jvm.MethodName)) ∈ lw_tbl := lw_at lw_m8 111 rfl
theorem q1939 : (Jvm.Cond.instanceMethod ({ cls := "VibrationDesk$Laws", name := "splits", desc := "(LVibrationDesk$Layer;I)V" } : Jvm.MethodName)) ∈ lw_all := lw_g (lw_at lw_m8 112 rfl) rfl
theorem q1940 : (Jvm.Cond.code ({ cls := "VibrationDesk$Laws", name := "splits", desc := "(LVibrationDesk$Layer;I)V" } : Jvm.MethodName) prog_7_method_3_code (4 : Nat) (Option.none : Option Jvm.ClassFile.FieldType)) ∈ lw_all := lw_g (lw_at lw_m8 113 rfl) rfl
theorem q1941 : (Jvm.Cond.methodLink "VibrationDesk$Laws" (54 : Nat) ({ cls := "VibrationDesk$Laws", name := "adds", desc := "([I)V" } : Jvm.MethodName)) ∈ lw_all := lw_g (lw_at lw_m8 114 rfl) rfl
theorem q1942 : (Jvm.Cond.privateMethod ({ cls := "VibrationDesk$Laws", name := "adds", desc := "([I)V" } : Jvm.MethodName)) ∈ lw_tbl := lw_at lw_m8 115 rfl
theorem q1943 : (Jvm.Cond.instanceMethod ({ cls := "VibrationDesk$Laws", name := "adds", desc := "([I)V" } : Jvm.MethodName)) ∈ lw_all := lw_g (lw_at lw_m8 116 rfl) rfl
theorem q1944 : (Jvm.Cond.code ({ cls := "VibrationDesk$Laws", name := "adds", desc := "([I)V" } : Jvm.MethodName) prog_7_method_9_code (6 : Nat) (Option.none : Option Jvm.ClassFile.FieldType)) ∈ lw_all := lw_g (lw_at lw_m8 117 rfl) rfl
theorem q1945 : (Jvm.Cond.methodLinkNest "VibrationDesk$Laws" (90 : Nat) ({ cls := "VibrationDesk", name := "backBy", desc := "(I)I" } : Jvm.MethodName) "VibrationDesk") ∈ lw_tbl := lw_at lw_m8 118 rfl
theorem q1949 : (Jvm.Cond.methodLinkNest "VibrationDesk$Laws" (79 : Nat) ({ cls := "VibrationDesk", name := "left", desc := "(J)I" } : Jvm.MethodName) "VibrationDesk") ∈ lw_tbl := lw_at lw_m8 122 rfl
theorem q1955 : (Jvm.Cond.methodLink "VibrationDesk$Laws" (104 : Nat) ({ cls := "VibrationDesk$Laws", name := "isAhead", desc := "([I[II)Z" } : Jvm.MethodName)) ∈ lw_all := lw_g (lw_at lw_m8 128 rfl) rfl
theorem q1956 : (Jvm.Cond.static ({ cls := "VibrationDesk$Laws", name := "isAhead", desc := "([I[II)Z" } : Jvm.MethodName)) ∈ lw_all := lw_g (lw_at lw_m8 129 rfl) rfl
theorem q1957 : (Jvm.Cond.code ({ cls := "VibrationDesk$Laws", name := "isAhead", desc := "([I[II)Z" } : Jvm.MethodName) prog_7_method_8_code (4 : Nat) (Option.some Jvm.ClassFile.FieldType.boolean)) ∈ lw_all := lw_g (lw_at lw_m8 130 rfl) rfl
theorem q1958 : (Jvm.Cond.methodLink "VibrationDesk$Laws" (58 : Nat) ({ cls := "VibrationDesk$Laws", name := "laysImages", desc := "(LVibrationDesk$Layer;II)V" } : Jvm.MethodName)) ∈ lw_all := lw_g (lw_at lw_m8 131 rfl) rfl
theorem q1959 : (Jvm.Cond.privateMethod ({ cls := "VibrationDesk$Laws", name := "laysImages", desc := "(LVibrationDesk$Layer;II)V" } : Jvm.MethodName)) ∈ lw_tbl := lw_at lw_m8 132 rfl
theorem q1960 : (Jvm.Cond.instanceMethod ({ cls := "VibrationDesk$Laws", name := "laysImages", desc := "(LVibrationDesk$Layer;II)V" } : Jvm.MethodName)) ∈ lw_all := lw_g (lw_at lw_m8 133 rfl) rfl
theorem q1961 : (Jvm.Cond.code ({ cls := "VibrationDesk$Laws", name := "laysImages", desc := "(LVibrationDesk$Layer;II)V" } : Jvm.MethodName) prog_7_method_4_code (9 : Nat) (Option.none : Option Jvm.ClassFile.FieldType)) ∈ lw_all := lw_g (lw_at lw_m8 134 rfl) rfl
theorem q1962 : (Jvm.Cond.methodLinkNest "VibrationDesk$Laws" (72 : Nat) ({ cls := "VibrationDesk$Group", name := "place", desc := "(III)I" } : Jvm.MethodName) "VibrationDesk") ∈ lw_tbl := lw_at lw_m8 135 rfl
theorem q1963 : (Jvm.Cond.methodLink "VibrationDesk$Laws" (62 : Nat) ({ cls := "VibrationDesk$Laws", name := "kernels", desc := "(LVibrationDesk$Layer;)V" } : Jvm.MethodName)) ∈ lw_all := lw_g (lw_at lw_m8 136 rfl) rfl
theorem q1964 : (Jvm.Cond.privateMethod ({ cls := "VibrationDesk$Laws", name := "kernels", desc := "(LVibrationDesk$Layer;)V" } : Jvm.MethodName)) ∈ lw_tbl := lw_at lw_m8 137 rfl
theorem q1965 : (Jvm.Cond.instanceMethod ({ cls := "VibrationDesk$Laws", name := "kernels", desc := "(LVibrationDesk$Layer;)V" } : Jvm.MethodName)) ∈ lw_all := lw_g (lw_at lw_m8 138 rfl) rfl
theorem q1966 : (Jvm.Cond.code ({ cls := "VibrationDesk$Laws", name := "kernels", desc := "(LVibrationDesk$Layer;)V" } : Jvm.MethodName) prog_7_method_5_code (7 : Nat) (Option.none : Option Jvm.ClassFile.FieldType)) ∈ lw_all := lw_g (lw_at lw_m8 139 rfl) rfl
theorem q1967 : (Jvm.Cond.methodLink "VibrationDesk$Laws" (86 : Nat) ({ cls := "VibrationDesk$Laws", name := "changesAbout", desc := "([[III)V" } : Jvm.MethodName)) ∈ lw_all := lw_g (lw_at lw_m8 140 rfl) rfl
theorem q1968 : (Jvm.Cond.static ({ cls := "VibrationDesk$Laws", name := "changesAbout", desc := "([[III)V" } : Jvm.MethodName)) ∈ lw_all := lw_g (lw_at lw_m8 141 rfl) rfl
theorem q1969 : (Jvm.Cond.code ({ cls := "VibrationDesk$Laws", name := "changesAbout", desc := "([[III)V" } : Jvm.MethodName) prog_7_method_6_code (4 : Nat) (Option.none : Option Jvm.ClassFile.FieldType)) ∈ lw_all := lw_g (lw_at lw_m8 142 rfl) rfl
theorem q1970 : (Jvm.Cond.methodLink "VibrationDesk$Laws" (94 : Nat) ({ cls := "VibrationDesk$Laws", name := "takes", desc := "(LVibrationDesk$Layer;III)V" } : Jvm.MethodName)) ∈ lw_all := lw_g (lw_at lw_m8 143 rfl) rfl
theorem q1971 : (Jvm.Cond.privateMethod ({ cls := "VibrationDesk$Laws", name := "takes", desc := "(LVibrationDesk$Layer;III)V" } : Jvm.MethodName)) ∈ lw_tbl := lw_at lw_m8 144 rfl
theorem q1972 : (Jvm.Cond.instanceMethod ({ cls := "VibrationDesk$Laws", name := "takes", desc := "(LVibrationDesk$Layer;III)V" } : Jvm.MethodName)) ∈ lw_all := lw_g (lw_at lw_m8 145 rfl) rfl
theorem q1973 : (Jvm.Cond.code ({ cls := "VibrationDesk$Laws", name := "takes", desc := "(LVibrationDesk$Layer;III)V" } : Jvm.MethodName) prog_7_method_7_code (6 : Nat) (Option.none : Option Jvm.ClassFile.FieldType)) ∈ lw_all := lw_g (lw_at lw_m8 146 rfl) rfl
theorem q1974 : (Jvm.Cond.methodLink "VibrationDesk$Laws" (98 : Nat) ({ cls := "java/lang/System", name := "arraycopy", desc := "(Ljava/lang/Object;ILjava/lang/Object;II)V" } : Jvm.MethodName)) ∈ lw_all := lw_g (lw_at lw_m8 147 rfl) rfl
theorem q1975 : (Jvm.Cond.methodLink "VibrationDesk$Laws" (51 : Nat) ({ cls := "VibrationDesk$Laws", name := "laysOne", desc := "(I)V" } : Jvm.MethodName)) ∈ lw_all := lw_g (lw_at lw_m8 148 rfl) rfl
theorem q1976 : (Jvm.Cond.privateMethod ({ cls := "VibrationDesk$Laws", name := "laysOne", desc := "(I)V" } : Jvm.MethodName)) ∈ lw_tbl := lw_at lw_m8 149 rfl
theorem q1977 : (Jvm.Cond.instanceMethod ({ cls := "VibrationDesk$Laws", name := "laysOne", desc := "(I)V" } : Jvm.MethodName)) ∈ lw_all := lw_g (lw_at lw_m8 150 rfl) rfl
theorem q1978 : (Jvm.Cond.code ({ cls := "VibrationDesk$Laws", name := "laysOne", desc := "(I)V" } : Jvm.MethodName) prog_7_method_10_code (6 : Nat) (Option.none : Option Jvm.ClassFile.FieldType)) ∈ lw_all := lw_g (lw_at lw_m8 151 rfl) rfl
theorem q1993 : (Jvm.Cond.instanceMethod ({ cls := "VibrationDesk$Laws", name := "shareIn", desc := "(II)I" } : Jvm.MethodName)) ∈ lw_all := lw_g (lw_at lw_m8 166 rfl) rfl
theorem q1994 : (Jvm.Cond.selects "VibrationDesk$Laws" ({ cls := "VibrationDesk$Laws", name := "shareIn", desc := "(II)I" } : Jvm.MethodName) ({ cls := "VibrationDesk$Laws", name := "shareIn", desc := "(II)I" } : Jvm.MethodName)) ∈ lw_all := lw_g (lw_at lw_m8 167 rfl) rfl
theorem q1995 : (Jvm.Cond.code ({ cls := "VibrationDesk$Laws", name := "shareIn", desc := "(II)I" } : Jvm.MethodName) prog_7_method_12_code (6 : Nat) (Option.some Jvm.ClassFile.FieldType.int)) ∈ lw_all := lw_g (lw_at lw_m8 168 rfl) rfl
theorem q1996 : (Jvm.Cond.methodLink "VibrationDesk$Laws" (118 : Nat) ({ cls := "VibrationDesk$Group", name := "told", desc := "(II)I" } : Jvm.MethodName)) ∈ lw_all := lw_g (lw_at lw_m8 169 rfl) rfl
theorem q1997 : (Jvm.Cond.methodLink "VibrationDesk$Laws" (122 : Nat) ({ cls := "VibrationDesk$Laws", name := "by", desc := "(J)I" } : Jvm.MethodName)) ∈ lw_all := lw_g (lw_at lw_m8 170 rfl) rfl
theorem q1998 : (Jvm.Cond.privateMethod ({ cls := "VibrationDesk$Laws", name := "by", desc := "(J)I" } : Jvm.MethodName)) ∈ lw_tbl := lw_at lw_m8 171 rfl
theorem q1999 : (Jvm.Cond.instanceMethod ({ cls := "VibrationDesk$Laws", name := "by", desc := "(J)I" } : Jvm.MethodName)) ∈ lw_all := lw_g (lw_at lw_m8 172 rfl) rfl
theorem q2000 : (Jvm.Cond.code ({ cls := "VibrationDesk$Laws", name := "by", desc := "(J)I" } : Jvm.MethodName) prog_7_method_11_code (3 : Nat) (Option.some Jvm.ClassFile.FieldType.int)) ∈ lw_all := lw_g (lw_at lw_m8 173 rfl) rfl
theorem q2006 : (Jvm.Cond.instanceMethod ({ cls := "VibrationDesk$Laws", name := "inProduct", desc := "(III)I" } : Jvm.MethodName)) ∈ lw_all := lw_g (lw_at lw_m8 179 rfl) rfl
theorem q2007 : (Jvm.Cond.selects "VibrationDesk$Laws" ({ cls := "VibrationDesk$Laws", name := "inProduct", desc := "(III)I" } : Jvm.MethodName) ({ cls := "VibrationDesk$Laws", name := "inProduct", desc := "(III)I" } : Jvm.MethodName)) ∈ lw_all := lw_g (lw_at lw_m8 180 rfl) rfl
theorem q2008 : (Jvm.Cond.code ({ cls := "VibrationDesk$Laws", name := "inProduct", desc := "(III)I" } : Jvm.MethodName) prog_7_method_13_code (7 : Nat) (Option.some Jvm.ClassFile.FieldType.int)) ∈ lw_all := lw_g (lw_at lw_m8 181 rfl) rfl
theorem q2014 : (Jvm.Cond.instanceMethod ({ cls := "VibrationDesk$Laws", name := "partnerOf", desc := "(I)I" } : Jvm.MethodName)) ∈ lw_all := lw_g (lw_at lw_m8 187 rfl) rfl
theorem q2015 : (Jvm.Cond.selects "VibrationDesk$Laws" ({ cls := "VibrationDesk$Laws", name := "partnerOf", desc := "(I)I" } : Jvm.MethodName) ({ cls := "VibrationDesk$Laws", name := "partnerOf", desc := "(I)I" } : Jvm.MethodName)) ∈ lw_all := lw_g (lw_at lw_m8 188 rfl) rfl
theorem q2016 : (Jvm.Cond.code ({ cls := "VibrationDesk$Laws", name := "partnerOf", desc := "(I)I" } : Jvm.MethodName) prog_7_method_14_code (3 : Nat) (Option.some Jvm.ClassFile.FieldType.int)) ∈ lw_all := lw_g (lw_at lw_m8 189 rfl) rfl
theorem q2017 : (Jvm.Cond.methodLink "VibrationDesk$Laws" (125 : Nat) ({ cls := "VibrationDesk$Laws", name := "isPartner", desc := "(II)Z" } : Jvm.MethodName)) ∈ lw_all := lw_g (lw_at lw_m8 190 rfl) rfl
theorem q2018 : (Jvm.Cond.privateMethod ({ cls := "VibrationDesk$Laws", name := "isPartner", desc := "(II)Z" } : Jvm.MethodName)) ∈ lw_tbl := lw_at lw_m8 191 rfl
theorem q2019 : (Jvm.Cond.instanceMethod ({ cls := "VibrationDesk$Laws", name := "isPartner", desc := "(II)Z" } : Jvm.MethodName)) ∈ lw_all := lw_g (lw_at lw_m8 192 rfl) rfl
theorem q2020 : (Jvm.Cond.code ({ cls := "VibrationDesk$Laws", name := "isPartner", desc := "(II)Z" } : Jvm.MethodName) prog_7_method_15_code (4 : Nat) (Option.some Jvm.ClassFile.FieldType.boolean)) ∈ lw_all := lw_g (lw_at lw_m8 193 rfl) rfl
theorem q2026 : (Jvm.Cond.instanceMethod ({ cls := "VibrationDesk$Laws", name := "kernelOf", desc := "(I)I" } : Jvm.MethodName)) ∈ lw_all := lw_g (lw_at lw_m8 199 rfl) rfl
theorem q2027 : (Jvm.Cond.selects "VibrationDesk$Laws" ({ cls := "VibrationDesk$Laws", name := "kernelOf", desc := "(I)I" } : Jvm.MethodName) ({ cls := "VibrationDesk$Laws", name := "kernelOf", desc := "(I)I" } : Jvm.MethodName)) ∈ lw_all := lw_g (lw_at lw_m8 200 rfl) rfl
theorem q2028 : (Jvm.Cond.code ({ cls := "VibrationDesk$Laws", name := "kernelOf", desc := "(I)I" } : Jvm.MethodName) prog_7_method_16_code (4 : Nat) (Option.some Jvm.ClassFile.FieldType.int)) ∈ lw_all := lw_g (lw_at lw_m8 201 rfl) rfl
theorem in_X8 : ∀ w ∈ wsX80, w ∈ lw_all := lw_in wsX80 [579, 581, 583, 585, 587, 589] (by decide +kernel) (by decide +kernel)
