/-! VibrationDesk$Basis -/
set_option maxRecDepth 100000
def RX5 : String := "VibrationDesk$Basis"
def TX5 : u_T := fun k => match k with
  | 0 => ("VibrationDesk$Basis", "frame", "LVibrationDesk$Frame;", false)
  | 1 => ("VibrationDesk$Basis", "third", "I", false)
  | 2 => ("VibrationDesk$Basis", "fourth", "I", false)
  | 3 => ("VibrationDesk$Basis", "ways", "[[J", true)
  | 4 => ("VibrationDesk$Basis", "made", "[[J", true)
  | 5 => ("VibrationDesk$Basis", "against", "[[J", true)
  | 6 => ("VibrationDesk$Basis", "across", "[J", true)
  | _ => ("VibrationDesk$Basis", "whole", "J", false)
def tyX5 : Nat → FieldType := fun k => match k with
  | 0 => .object "VibrationDesk$Frame"
  | 1 => .int
  | 2 => .int
  | 3 => .array (.array .long)
  | 4 => .array (.array .long)
  | 5 => .array (.array .long)
  | 6 => .array .long
  | _ => .long
abbrev wsX50 : List Cond := u_ws RX5 TX5 8
theorem nmX5 : ∀ a, a < 8 → ∀ b, b < 8 → a ≠ b → (TX5 a).2.1 ≠ (TX5 b).2.1 := by decide +kernel
theorem tyX5_ok : ∀ k, k < 8 → parseFieldDescriptor (TX5 k).2.2.1 = some (tyX5 k) := by decide +kernel
abbrev cX5_init : ByteArray := prog_3_method_1_code
def yX5_init : MethodName := ⟨RX5, "<init>", "()V"⟩
def dkwX5_init_1 : List UInt8 := [42, 6, 6, 197, 0, 7, 2, 181, 0, 17, 42, 6, 188, 11, 181, 0, 20, 177]
abbrev dktX5_init_1 : List UInt8 := dkwX5_init_1 ++ []
def dkwX5_init_0 : List UInt8 := [42, 183, 0, 1, 42, 6, 6, 197, 0, 7, 2, 181, 0, 9, 42, 6, 6, 197, 0, 7, 2, 181, 0, 14]
abbrev dktX5_init_0 : List UInt8 := dkwX5_init_0 ++ dktX5_init_1
theorem dksX5_init_0 : cX5_init.data.toList.drop 0 = dktX5_init_0 := by decide +kernel
theorem dksX5_init_1 : cX5_init.data.toList.drop 24 = dktX5_init_1 := dk_seg dksX5_init_0 24 rfl rfl
theorem dX5_init_0 : decode cX5_init 0 = .ok (.aload_n 0, 1) := dk_42 (dk_at dksX5_init_0 0 rfl rfl)
theorem dX5_init_1 : decode cX5_init 1 = .ok (.invokespecial 1, 3) := dk_183 0 1 (dk_at dksX5_init_0 1 rfl rfl)
theorem dX5_init_4 : decode cX5_init 4 = .ok (.aload_n 0, 1) := dk_42 (dk_at dksX5_init_0 4 rfl rfl)
theorem dX5_init_5 : decode cX5_init 5 = .ok (.iconst 3, 1) := dk_6 (dk_at dksX5_init_0 5 rfl rfl)
theorem dX5_init_6 : decode cX5_init 6 = .ok (.iconst 3, 1) := dk_6 (dk_at dksX5_init_0 6 rfl rfl)
theorem dX5_init_7 : decode cX5_init 7 = .ok (.multianewarray 7 2, 4) := by decide +kernel
theorem dX5_init_11 : decode cX5_init 11 = .ok (.putfield 9, 3) := dk_181 0 9 (dk_at dksX5_init_0 11 rfl rfl)
theorem dX5_init_14 : decode cX5_init 14 = .ok (.aload_n 0, 1) := dk_42 (dk_at dksX5_init_0 14 rfl rfl)
theorem dX5_init_15 : decode cX5_init 15 = .ok (.iconst 3, 1) := dk_6 (dk_at dksX5_init_0 15 rfl rfl)
theorem dX5_init_16 : decode cX5_init 16 = .ok (.iconst 3, 1) := dk_6 (dk_at dksX5_init_0 16 rfl rfl)
theorem dX5_init_17 : decode cX5_init 17 = .ok (.multianewarray 7 2, 4) := by decide +kernel
theorem dX5_init_21 : decode cX5_init 21 = .ok (.putfield 14, 3) := dk_181 0 14 (dk_at dksX5_init_0 21 rfl rfl)
theorem dX5_init_24 : decode cX5_init 24 = .ok (.aload_n 0, 1) := dk_42 (dk_at dksX5_init_1 0 rfl rfl)
theorem dX5_init_25 : decode cX5_init 25 = .ok (.iconst 3, 1) := dk_6 (dk_at dksX5_init_1 1 rfl rfl)
theorem dX5_init_26 : decode cX5_init 26 = .ok (.iconst 3, 1) := dk_6 (dk_at dksX5_init_1 2 rfl rfl)
theorem dX5_init_27 : decode cX5_init 27 = .ok (.multianewarray 7 2, 4) := by decide +kernel
theorem dX5_init_31 : decode cX5_init 31 = .ok (.putfield 17, 3) := dk_181 0 17 (dk_at dksX5_init_1 7 rfl rfl)
theorem dX5_init_34 : decode cX5_init 34 = .ok (.aload_n 0, 1) := dk_42 (dk_at dksX5_init_1 10 rfl rfl)
theorem dX5_init_35 : decode cX5_init 35 = .ok (.iconst 3, 1) := dk_6 (dk_at dksX5_init_1 11 rfl rfl)
theorem dX5_init_36 : decode cX5_init 36 = .ok (.newarray .long, 2) := dk_188_11 (dk_at dksX5_init_1 12 rfl rfl)
theorem dX5_init_38 : decode cX5_init 38 = .ok (.putfield 20, 3) := dk_181 0 20 (dk_at dksX5_init_1 14 rfl rfl)
theorem dX5_init_41 : decode cX5_init 41 = .ok (.return_, 1) := dk_177 (dk_at dksX5_init_1 17 rfl rfl)
abbrev cX5_lays : ByteArray := prog_3_method_2_code
def yX5_lays : MethodName := ⟨RX5, "lays", "(LVibrationDesk$Frame;)V"⟩
def dkwX5_lays_7 : List UInt8 := [42, 42, 180, 0, 9, 3, 50, 42, 180, 0, 17, 3, 50, 184, 0, 53, 181, 0, 57, 177]
abbrev dktX5_lays_7 : List UInt8 := dkwX5_lays_7 ++ []
def dkwX5_lays_6 : List UInt8 := [184, 0, 47, 42, 180, 0, 9, 3, 50, 42, 180, 0, 9, 4, 50, 42, 180, 0, 17, 5, 50, 184, 0, 47]
abbrev dktX5_lays_6 : List UInt8 := dkwX5_lays_6 ++ dktX5_lays_7
def dkwX5_lays_5 : List UInt8 := [3, 50, 184, 0, 47, 42, 180, 0, 9, 5, 50, 42, 180, 0, 9, 3, 50, 42, 180, 0, 17, 4, 50]
abbrev dktX5_lays_5 : List UInt8 := dkwX5_lays_5 ++ dktX5_lays_6
def dkwX5_lays_4 : List UInt8 := [180, 0, 9, 5, 50, 182, 0, 43, 42, 180, 0, 9, 4, 50, 42, 180, 0, 9, 5, 50, 42, 180, 0, 17]
abbrev dktX5_lays_4 : List UInt8 := dkwX5_lays_4 ++ dktX5_lays_5
def dkwX5_lays_3 : List UInt8 := [180, 0, 9, 4, 50, 42, 180, 0, 9, 5, 50, 184, 0, 47, 167, 0, 18, 43, 3, 42, 180, 0, 41, 42]
abbrev dktX5_lays_3 : List UInt8 := dkwX5_lays_3 ++ dktX5_lays_4
def dkwX5_lays_2 : List UInt8 := [180, 0, 9, 4, 50, 182, 0, 43, 42, 180, 0, 41, 156, 0, 27, 42, 180, 0, 9, 3, 50, 42]
abbrev dktX5_lays_2 : List UInt8 := dkwX5_lays_2 ++ dktX5_lays_3
def dkwX5_lays_1 : List UInt8 := [181, 0, 41, 43, 3, 4, 42, 180, 0, 9, 3, 50, 182, 0, 43, 43, 3, 42, 180, 0, 34, 42]
abbrev dktX5_lays_1 : List UInt8 := dkwX5_lays_1 ++ dktX5_lays_2
def dkwX5_lays_0 : List UInt8 := [42, 43, 181, 0, 24, 42, 43, 182, 0, 28, 181, 0, 34, 42, 43, 42, 180, 0, 34, 182, 0, 37]
abbrev dktX5_lays_0 : List UInt8 := dkwX5_lays_0 ++ dktX5_lays_1
theorem dksX5_lays_0 : cX5_lays.data.toList.drop 0 = dktX5_lays_0 := by decide +kernel
theorem dksX5_lays_1 : cX5_lays.data.toList.drop 22 = dktX5_lays_1 := dk_seg dksX5_lays_0 22 rfl rfl
theorem dksX5_lays_2 : cX5_lays.data.toList.drop 44 = dktX5_lays_2 := dk_seg dksX5_lays_1 22 rfl rfl
theorem dksX5_lays_3 : cX5_lays.data.toList.drop 66 = dktX5_lays_3 := dk_seg dksX5_lays_2 22 rfl rfl
theorem dksX5_lays_4 : cX5_lays.data.toList.drop 90 = dktX5_lays_4 := dk_seg dksX5_lays_3 24 rfl rfl
theorem dksX5_lays_5 : cX5_lays.data.toList.drop 114 = dktX5_lays_5 := dk_seg dksX5_lays_4 24 rfl rfl
theorem dksX5_lays_6 : cX5_lays.data.toList.drop 137 = dktX5_lays_6 := dk_seg dksX5_lays_5 23 rfl rfl
theorem dksX5_lays_7 : cX5_lays.data.toList.drop 161 = dktX5_lays_7 := dk_seg dksX5_lays_6 24 rfl rfl
theorem dX5_lays_0 : decode cX5_lays 0 = .ok (.aload_n 0, 1) := dk_42 (dk_at dksX5_lays_0 0 rfl rfl)
theorem dX5_lays_1 : decode cX5_lays 1 = .ok (.aload_n 1, 1) := dk_43 (dk_at dksX5_lays_0 1 rfl rfl)
theorem dX5_lays_2 : decode cX5_lays 2 = .ok (.putfield 24, 3) := dk_181 0 24 (dk_at dksX5_lays_0 2 rfl rfl)
theorem dX5_lays_5 : decode cX5_lays 5 = .ok (.aload_n 0, 1) := dk_42 (dk_at dksX5_lays_0 5 rfl rfl)
theorem dX5_lays_6 : decode cX5_lays 6 = .ok (.aload_n 1, 1) := dk_43 (dk_at dksX5_lays_0 6 rfl rfl)
theorem dX5_lays_7 : decode cX5_lays 7 = .ok (.invokevirtual 28, 3) := dk_182 0 28 (dk_at dksX5_lays_0 7 rfl rfl)
theorem dX5_lays_10 : decode cX5_lays 10 = .ok (.putfield 34, 3) := dk_181 0 34 (dk_at dksX5_lays_0 10 rfl rfl)
theorem dX5_lays_13 : decode cX5_lays 13 = .ok (.aload_n 0, 1) := dk_42 (dk_at dksX5_lays_0 13 rfl rfl)
theorem dX5_lays_14 : decode cX5_lays 14 = .ok (.aload_n 1, 1) := dk_43 (dk_at dksX5_lays_0 14 rfl rfl)
theorem dX5_lays_15 : decode cX5_lays 15 = .ok (.aload_n 0, 1) := dk_42 (dk_at dksX5_lays_0 15 rfl rfl)
theorem dX5_lays_16 : decode cX5_lays 16 = .ok (.getfield 34, 3) := dk_180 0 34 (dk_at dksX5_lays_0 16 rfl rfl)
theorem dX5_lays_19 : decode cX5_lays 19 = .ok (.invokevirtual 37, 3) := dk_182 0 37 (dk_at dksX5_lays_0 19 rfl rfl)
theorem dX5_lays_22 : decode cX5_lays 22 = .ok (.putfield 41, 3) := dk_181 0 41 (dk_at dksX5_lays_1 0 rfl rfl)
theorem dX5_lays_25 : decode cX5_lays 25 = .ok (.aload_n 1, 1) := dk_43 (dk_at dksX5_lays_1 3 rfl rfl)
theorem dX5_lays_26 : decode cX5_lays 26 = .ok (.iconst 0, 1) := dk_3 (dk_at dksX5_lays_1 4 rfl rfl)
theorem dX5_lays_27 : decode cX5_lays 27 = .ok (.iconst 1, 1) := dk_4 (dk_at dksX5_lays_1 5 rfl rfl)
theorem dX5_lays_28 : decode cX5_lays 28 = .ok (.aload_n 0, 1) := dk_42 (dk_at dksX5_lays_1 6 rfl rfl)
theorem dX5_lays_29 : decode cX5_lays 29 = .ok (.getfield 9, 3) := dk_180 0 9 (dk_at dksX5_lays_1 7 rfl rfl)
theorem dX5_lays_32 : decode cX5_lays 32 = .ok (.iconst 0, 1) := dk_3 (dk_at dksX5_lays_1 10 rfl rfl)
theorem dX5_lays_33 : decode cX5_lays 33 = .ok (.aaload, 1) := dk_50 (dk_at dksX5_lays_1 11 rfl rfl)
theorem dX5_lays_34 : decode cX5_lays 34 = .ok (.invokevirtual 43, 3) := dk_182 0 43 (dk_at dksX5_lays_1 12 rfl rfl)
theorem dX5_lays_37 : decode cX5_lays 37 = .ok (.aload_n 1, 1) := dk_43 (dk_at dksX5_lays_1 15 rfl rfl)
theorem dX5_lays_38 : decode cX5_lays 38 = .ok (.iconst 0, 1) := dk_3 (dk_at dksX5_lays_1 16 rfl rfl)
theorem dX5_lays_39 : decode cX5_lays 39 = .ok (.aload_n 0, 1) := dk_42 (dk_at dksX5_lays_1 17 rfl rfl)
theorem dX5_lays_40 : decode cX5_lays 40 = .ok (.getfield 34, 3) := dk_180 0 34 (dk_at dksX5_lays_1 18 rfl rfl)
theorem dX5_lays_43 : decode cX5_lays 43 = .ok (.aload_n 0, 1) := dk_42 (dk_at dksX5_lays_1 21 rfl rfl)
theorem dX5_lays_44 : decode cX5_lays 44 = .ok (.getfield 9, 3) := dk_180 0 9 (dk_at dksX5_lays_2 0 rfl rfl)
theorem dX5_lays_47 : decode cX5_lays 47 = .ok (.iconst 1, 1) := dk_4 (dk_at dksX5_lays_2 3 rfl rfl)
theorem dX5_lays_48 : decode cX5_lays 48 = .ok (.aaload, 1) := dk_50 (dk_at dksX5_lays_2 4 rfl rfl)
theorem dX5_lays_49 : decode cX5_lays 49 = .ok (.invokevirtual 43, 3) := dk_182 0 43 (dk_at dksX5_lays_2 5 rfl rfl)
theorem dX5_lays_52 : decode cX5_lays 52 = .ok (.aload_n 0, 1) := dk_42 (dk_at dksX5_lays_2 8 rfl rfl)
theorem dX5_lays_53 : decode cX5_lays 53 = .ok (.getfield 41, 3) := dk_180 0 41 (dk_at dksX5_lays_2 9 rfl rfl)
theorem dX5_lays_56 : decode cX5_lays 56 = .ok (.ifCond .ge 27, 3) := dk_156 0 27 (dk_at dksX5_lays_2 12 rfl rfl)
theorem dX5_lays_59 : decode cX5_lays 59 = .ok (.aload_n 0, 1) := dk_42 (dk_at dksX5_lays_2 15 rfl rfl)
theorem dX5_lays_60 : decode cX5_lays 60 = .ok (.getfield 9, 3) := dk_180 0 9 (dk_at dksX5_lays_2 16 rfl rfl)
theorem dX5_lays_63 : decode cX5_lays 63 = .ok (.iconst 0, 1) := dk_3 (dk_at dksX5_lays_2 19 rfl rfl)
theorem dX5_lays_64 : decode cX5_lays 64 = .ok (.aaload, 1) := dk_50 (dk_at dksX5_lays_2 20 rfl rfl)
theorem dX5_lays_65 : decode cX5_lays 65 = .ok (.aload_n 0, 1) := dk_42 (dk_at dksX5_lays_2 21 rfl rfl)
theorem dX5_lays_66 : decode cX5_lays 66 = .ok (.getfield 9, 3) := dk_180 0 9 (dk_at dksX5_lays_3 0 rfl rfl)
theorem dX5_lays_69 : decode cX5_lays 69 = .ok (.iconst 1, 1) := dk_4 (dk_at dksX5_lays_3 3 rfl rfl)
theorem dX5_lays_70 : decode cX5_lays 70 = .ok (.aaload, 1) := dk_50 (dk_at dksX5_lays_3 4 rfl rfl)
theorem dX5_lays_71 : decode cX5_lays 71 = .ok (.aload_n 0, 1) := dk_42 (dk_at dksX5_lays_3 5 rfl rfl)
theorem dX5_lays_72 : decode cX5_lays 72 = .ok (.getfield 9, 3) := dk_180 0 9 (dk_at dksX5_lays_3 6 rfl rfl)
theorem dX5_lays_75 : decode cX5_lays 75 = .ok (.iconst 2, 1) := dk_5 (dk_at dksX5_lays_3 9 rfl rfl)
theorem dX5_lays_76 : decode cX5_lays 76 = .ok (.aaload, 1) := dk_50 (dk_at dksX5_lays_3 10 rfl rfl)
theorem dX5_lays_77 : decode cX5_lays 77 = .ok (.invokestatic 47, 3) := dk_184 0 47 (dk_at dksX5_lays_3 11 rfl rfl)
theorem dX5_lays_80 : decode cX5_lays 80 = .ok (.goto 18, 3) := dk_167 0 18 (dk_at dksX5_lays_3 14 rfl rfl)
theorem dX5_lays_83 : decode cX5_lays 83 = .ok (.aload_n 1, 1) := dk_43 (dk_at dksX5_lays_3 17 rfl rfl)
theorem dX5_lays_84 : decode cX5_lays 84 = .ok (.iconst 0, 1) := dk_3 (dk_at dksX5_lays_3 18 rfl rfl)
theorem dX5_lays_85 : decode cX5_lays 85 = .ok (.aload_n 0, 1) := dk_42 (dk_at dksX5_lays_3 19 rfl rfl)
theorem dX5_lays_86 : decode cX5_lays 86 = .ok (.getfield 41, 3) := dk_180 0 41 (dk_at dksX5_lays_3 20 rfl rfl)
theorem dX5_lays_89 : decode cX5_lays 89 = .ok (.aload_n 0, 1) := dk_42 (dk_at dksX5_lays_3 23 rfl rfl)
theorem dX5_lays_90 : decode cX5_lays 90 = .ok (.getfield 9, 3) := dk_180 0 9 (dk_at dksX5_lays_4 0 rfl rfl)
theorem dX5_lays_93 : decode cX5_lays 93 = .ok (.iconst 2, 1) := dk_5 (dk_at dksX5_lays_4 3 rfl rfl)
theorem dX5_lays_94 : decode cX5_lays 94 = .ok (.aaload, 1) := dk_50 (dk_at dksX5_lays_4 4 rfl rfl)
theorem dX5_lays_95 : decode cX5_lays 95 = .ok (.invokevirtual 43, 3) := dk_182 0 43 (dk_at dksX5_lays_4 5 rfl rfl)
theorem dX5_lays_98 : decode cX5_lays 98 = .ok (.aload_n 0, 1) := dk_42 (dk_at dksX5_lays_4 8 rfl rfl)
theorem dX5_lays_99 : decode cX5_lays 99 = .ok (.getfield 9, 3) := dk_180 0 9 (dk_at dksX5_lays_4 9 rfl rfl)
theorem dX5_lays_102 : decode cX5_lays 102 = .ok (.iconst 1, 1) := dk_4 (dk_at dksX5_lays_4 12 rfl rfl)
theorem dX5_lays_103 : decode cX5_lays 103 = .ok (.aaload, 1) := dk_50 (dk_at dksX5_lays_4 13 rfl rfl)
theorem dX5_lays_104 : decode cX5_lays 104 = .ok (.aload_n 0, 1) := dk_42 (dk_at dksX5_lays_4 14 rfl rfl)
theorem dX5_lays_105 : decode cX5_lays 105 = .ok (.getfield 9, 3) := dk_180 0 9 (dk_at dksX5_lays_4 15 rfl rfl)
theorem dX5_lays_108 : decode cX5_lays 108 = .ok (.iconst 2, 1) := dk_5 (dk_at dksX5_lays_4 18 rfl rfl)
theorem dX5_lays_109 : decode cX5_lays 109 = .ok (.aaload, 1) := dk_50 (dk_at dksX5_lays_4 19 rfl rfl)
theorem dX5_lays_110 : decode cX5_lays 110 = .ok (.aload_n 0, 1) := dk_42 (dk_at dksX5_lays_4 20 rfl rfl)
theorem dX5_lays_111 : decode cX5_lays 111 = .ok (.getfield 17, 3) := dk_180 0 17 (dk_at dksX5_lays_4 21 rfl rfl)
theorem dX5_lays_114 : decode cX5_lays 114 = .ok (.iconst 0, 1) := dk_3 (dk_at dksX5_lays_5 0 rfl rfl)
theorem dX5_lays_115 : decode cX5_lays 115 = .ok (.aaload, 1) := dk_50 (dk_at dksX5_lays_5 1 rfl rfl)
theorem dX5_lays_116 : decode cX5_lays 116 = .ok (.invokestatic 47, 3) := dk_184 0 47 (dk_at dksX5_lays_5 2 rfl rfl)
theorem dX5_lays_119 : decode cX5_lays 119 = .ok (.aload_n 0, 1) := dk_42 (dk_at dksX5_lays_5 5 rfl rfl)
theorem dX5_lays_120 : decode cX5_lays 120 = .ok (.getfield 9, 3) := dk_180 0 9 (dk_at dksX5_lays_5 6 rfl rfl)
theorem dX5_lays_123 : decode cX5_lays 123 = .ok (.iconst 2, 1) := dk_5 (dk_at dksX5_lays_5 9 rfl rfl)
theorem dX5_lays_124 : decode cX5_lays 124 = .ok (.aaload, 1) := dk_50 (dk_at dksX5_lays_5 10 rfl rfl)
theorem dX5_lays_125 : decode cX5_lays 125 = .ok (.aload_n 0, 1) := dk_42 (dk_at dksX5_lays_5 11 rfl rfl)
theorem dX5_lays_126 : decode cX5_lays 126 = .ok (.getfield 9, 3) := dk_180 0 9 (dk_at dksX5_lays_5 12 rfl rfl)
theorem dX5_lays_129 : decode cX5_lays 129 = .ok (.iconst 0, 1) := dk_3 (dk_at dksX5_lays_5 15 rfl rfl)
theorem dX5_lays_130 : decode cX5_lays 130 = .ok (.aaload, 1) := dk_50 (dk_at dksX5_lays_5 16 rfl rfl)
theorem dX5_lays_131 : decode cX5_lays 131 = .ok (.aload_n 0, 1) := dk_42 (dk_at dksX5_lays_5 17 rfl rfl)
theorem dX5_lays_132 : decode cX5_lays 132 = .ok (.getfield 17, 3) := dk_180 0 17 (dk_at dksX5_lays_5 18 rfl rfl)
theorem dX5_lays_135 : decode cX5_lays 135 = .ok (.iconst 1, 1) := dk_4 (dk_at dksX5_lays_5 21 rfl rfl)
theorem dX5_lays_136 : decode cX5_lays 136 = .ok (.aaload, 1) := dk_50 (dk_at dksX5_lays_5 22 rfl rfl)
theorem dX5_lays_137 : decode cX5_lays 137 = .ok (.invokestatic 47, 3) := dk_184 0 47 (dk_at dksX5_lays_6 0 rfl rfl)
theorem dX5_lays_140 : decode cX5_lays 140 = .ok (.aload_n 0, 1) := dk_42 (dk_at dksX5_lays_6 3 rfl rfl)
theorem dX5_lays_141 : decode cX5_lays 141 = .ok (.getfield 9, 3) := dk_180 0 9 (dk_at dksX5_lays_6 4 rfl rfl)
theorem dX5_lays_144 : decode cX5_lays 144 = .ok (.iconst 0, 1) := dk_3 (dk_at dksX5_lays_6 7 rfl rfl)
theorem dX5_lays_145 : decode cX5_lays 145 = .ok (.aaload, 1) := dk_50 (dk_at dksX5_lays_6 8 rfl rfl)
theorem dX5_lays_146 : decode cX5_lays 146 = .ok (.aload_n 0, 1) := dk_42 (dk_at dksX5_lays_6 9 rfl rfl)
theorem dX5_lays_147 : decode cX5_lays 147 = .ok (.getfield 9, 3) := dk_180 0 9 (dk_at dksX5_lays_6 10 rfl rfl)
theorem dX5_lays_150 : decode cX5_lays 150 = .ok (.iconst 1, 1) := dk_4 (dk_at dksX5_lays_6 13 rfl rfl)
theorem dX5_lays_151 : decode cX5_lays 151 = .ok (.aaload, 1) := dk_50 (dk_at dksX5_lays_6 14 rfl rfl)
theorem dX5_lays_152 : decode cX5_lays 152 = .ok (.aload_n 0, 1) := dk_42 (dk_at dksX5_lays_6 15 rfl rfl)
theorem dX5_lays_153 : decode cX5_lays 153 = .ok (.getfield 17, 3) := dk_180 0 17 (dk_at dksX5_lays_6 16 rfl rfl)
theorem dX5_lays_156 : decode cX5_lays 156 = .ok (.iconst 2, 1) := dk_5 (dk_at dksX5_lays_6 19 rfl rfl)
theorem dX5_lays_157 : decode cX5_lays 157 = .ok (.aaload, 1) := dk_50 (dk_at dksX5_lays_6 20 rfl rfl)
theorem dX5_lays_158 : decode cX5_lays 158 = .ok (.invokestatic 47, 3) := dk_184 0 47 (dk_at dksX5_lays_6 21 rfl rfl)
theorem dX5_lays_161 : decode cX5_lays 161 = .ok (.aload_n 0, 1) := dk_42 (dk_at dksX5_lays_7 0 rfl rfl)
theorem dX5_lays_162 : decode cX5_lays 162 = .ok (.aload_n 0, 1) := dk_42 (dk_at dksX5_lays_7 1 rfl rfl)
theorem dX5_lays_163 : decode cX5_lays 163 = .ok (.getfield 9, 3) := dk_180 0 9 (dk_at dksX5_lays_7 2 rfl rfl)
theorem dX5_lays_166 : decode cX5_lays 166 = .ok (.iconst 0, 1) := dk_3 (dk_at dksX5_lays_7 5 rfl rfl)
theorem dX5_lays_167 : decode cX5_lays 167 = .ok (.aaload, 1) := dk_50 (dk_at dksX5_lays_7 6 rfl rfl)
theorem dX5_lays_168 : decode cX5_lays 168 = .ok (.aload_n 0, 1) := dk_42 (dk_at dksX5_lays_7 7 rfl rfl)
theorem dX5_lays_169 : decode cX5_lays 169 = .ok (.getfield 17, 3) := dk_180 0 17 (dk_at dksX5_lays_7 8 rfl rfl)
theorem dX5_lays_172 : decode cX5_lays 172 = .ok (.iconst 0, 1) := dk_3 (dk_at dksX5_lays_7 11 rfl rfl)
theorem dX5_lays_173 : decode cX5_lays 173 = .ok (.aaload, 1) := dk_50 (dk_at dksX5_lays_7 12 rfl rfl)
theorem dX5_lays_174 : decode cX5_lays 174 = .ok (.invokestatic 53, 3) := dk_184 0 53 (dk_at dksX5_lays_7 13 rfl rfl)
theorem dX5_lays_177 : decode cX5_lays 177 = .ok (.putfield 57, 3) := dk_181 0 57 (dk_at dksX5_lays_7 16 rfl rfl)
theorem dX5_lays_180 : decode cX5_lays 180 = .ok (.return_, 1) := dk_177 (dk_at dksX5_lays_7 19 rfl rfl)
abbrev cX5_isFlat : ByteArray := prog_3_method_3_code
def yX5_isFlat : MethodName := ⟨RX5, "isFlat", "()Z"⟩
def dkwX5_isFlat_0 : List UInt8 := [42, 180, 0, 41, 156, 0, 7, 4, 167, 0, 4, 3, 172]
abbrev dktX5_isFlat_0 : List UInt8 := dkwX5_isFlat_0 ++ []
theorem dksX5_isFlat_0 : cX5_isFlat.data.toList.drop 0 = dktX5_isFlat_0 := by decide +kernel
theorem dX5_isFlat_0 : decode cX5_isFlat 0 = .ok (.aload_n 0, 1) := dk_42 (dk_at dksX5_isFlat_0 0 rfl rfl)
theorem dX5_isFlat_1 : decode cX5_isFlat 1 = .ok (.getfield 41, 3) := dk_180 0 41 (dk_at dksX5_isFlat_0 1 rfl rfl)
theorem dX5_isFlat_4 : decode cX5_isFlat 4 = .ok (.ifCond .ge 7, 3) := dk_156 0 7 (dk_at dksX5_isFlat_0 4 rfl rfl)
theorem dX5_isFlat_7 : decode cX5_isFlat 7 = .ok (.iconst 1, 1) := dk_4 (dk_at dksX5_isFlat_0 7 rfl rfl)
theorem dX5_isFlat_8 : decode cX5_isFlat 8 = .ok (.goto 4, 3) := dk_167 0 4 (dk_at dksX5_isFlat_0 8 rfl rfl)
theorem dX5_isFlat_11 : decode cX5_isFlat 11 = .ok (.iconst 0, 1) := dk_3 (dk_at dksX5_isFlat_0 11 rfl rfl)
theorem dX5_isFlat_12 : decode cX5_isFlat 12 = .ok (.ireturn, 1) := dk_172 (dk_at dksX5_isFlat_0 12 rfl rfl)
abbrev cX5_diagonal : ByteArray := prog_3_method_7_code
def yX5_diagonal : MethodName := ⟨RX5, "diagonal", "(LVibrationDesk$Move;)I"⟩
def dkwX5_diagonal_1 : List UInt8 := [97, 42, 180, 0, 57, 109, 136, 172]
abbrev dktX5_diagonal_1 : List UInt8 := dkwX5_diagonal_1 ++ []
def dkwX5_diagonal_0 : List UInt8 := [42, 43, 182, 0, 73, 42, 3, 3, 182, 0, 77, 42, 4, 4, 182, 0, 77, 97, 42, 5, 5, 182, 0, 77]
abbrev dktX5_diagonal_0 : List UInt8 := dkwX5_diagonal_0 ++ dktX5_diagonal_1
theorem dksX5_diagonal_0 : cX5_diagonal.data.toList.drop 0 = dktX5_diagonal_0 := by decide +kernel
theorem dksX5_diagonal_1 : cX5_diagonal.data.toList.drop 24 = dktX5_diagonal_1 := dk_seg dksX5_diagonal_0 24 rfl rfl
theorem dX5_diagonal_0 : decode cX5_diagonal 0 = .ok (.aload_n 0, 1) := dk_42 (dk_at dksX5_diagonal_0 0 rfl rfl)
theorem dX5_diagonal_1 : decode cX5_diagonal 1 = .ok (.aload_n 1, 1) := dk_43 (dk_at dksX5_diagonal_0 1 rfl rfl)
theorem dX5_diagonal_2 : decode cX5_diagonal 2 = .ok (.invokevirtual 73, 3) := dk_182 0 73 (dk_at dksX5_diagonal_0 2 rfl rfl)
theorem dX5_diagonal_5 : decode cX5_diagonal 5 = .ok (.aload_n 0, 1) := dk_42 (dk_at dksX5_diagonal_0 5 rfl rfl)
theorem dX5_diagonal_6 : decode cX5_diagonal 6 = .ok (.iconst 0, 1) := dk_3 (dk_at dksX5_diagonal_0 6 rfl rfl)
theorem dX5_diagonal_7 : decode cX5_diagonal 7 = .ok (.iconst 0, 1) := dk_3 (dk_at dksX5_diagonal_0 7 rfl rfl)
theorem dX5_diagonal_8 : decode cX5_diagonal 8 = .ok (.invokevirtual 77, 3) := dk_182 0 77 (dk_at dksX5_diagonal_0 8 rfl rfl)
theorem dX5_diagonal_11 : decode cX5_diagonal 11 = .ok (.aload_n 0, 1) := dk_42 (dk_at dksX5_diagonal_0 11 rfl rfl)
theorem dX5_diagonal_12 : decode cX5_diagonal 12 = .ok (.iconst 1, 1) := dk_4 (dk_at dksX5_diagonal_0 12 rfl rfl)
theorem dX5_diagonal_13 : decode cX5_diagonal 13 = .ok (.iconst 1, 1) := dk_4 (dk_at dksX5_diagonal_0 13 rfl rfl)
theorem dX5_diagonal_14 : decode cX5_diagonal 14 = .ok (.invokevirtual 77, 3) := dk_182 0 77 (dk_at dksX5_diagonal_0 14 rfl rfl)
theorem dX5_diagonal_17 : decode cX5_diagonal 17 = .ok (.ladd, 1) := dk_97 (dk_at dksX5_diagonal_0 17 rfl rfl)
theorem dX5_diagonal_18 : decode cX5_diagonal 18 = .ok (.aload_n 0, 1) := dk_42 (dk_at dksX5_diagonal_0 18 rfl rfl)
theorem dX5_diagonal_19 : decode cX5_diagonal 19 = .ok (.iconst 2, 1) := dk_5 (dk_at dksX5_diagonal_0 19 rfl rfl)
theorem dX5_diagonal_20 : decode cX5_diagonal 20 = .ok (.iconst 2, 1) := dk_5 (dk_at dksX5_diagonal_0 20 rfl rfl)
theorem dX5_diagonal_21 : decode cX5_diagonal 21 = .ok (.invokevirtual 77, 3) := dk_182 0 77 (dk_at dksX5_diagonal_0 21 rfl rfl)
theorem dX5_diagonal_24 : decode cX5_diagonal 24 = .ok (.ladd, 1) := dk_97 (dk_at dksX5_diagonal_1 0 rfl rfl)
theorem dX5_diagonal_25 : decode cX5_diagonal 25 = .ok (.aload_n 0, 1) := dk_42 (dk_at dksX5_diagonal_1 1 rfl rfl)
theorem dX5_diagonal_26 : decode cX5_diagonal 26 = .ok (.getfield 57, 3) := dk_180 0 57 (dk_at dksX5_diagonal_1 2 rfl rfl)
theorem dX5_diagonal_29 : decode cX5_diagonal 29 = .ok (.ldiv, 1) := dk_109 (dk_at dksX5_diagonal_1 5 rfl rfl)
theorem dX5_diagonal_30 : decode cX5_diagonal 30 = .ok (.l2i, 1) := dk_136 (dk_at dksX5_diagonal_1 6 rfl rfl)
theorem dX5_diagonal_31 : decode cX5_diagonal 31 = .ok (.ireturn, 1) := dk_172 (dk_at dksX5_diagonal_1 7 rfl rfl)
abbrev cX5_moves : ByteArray := prog_3_method_4_code
def yX5_moves : MethodName := ⟨RX5, "moves", "(LVibrationDesk$Move;)V"⟩
def dkwX5_moves_6 : List UInt8 := [42, 180, 0, 14, 5, 50, 182, 0, 43, 177]
abbrev dktX5_moves_6 : List UInt8 := dkwX5_moves_6 ++ []
def dkwX5_moves_5 : List UInt8 := [167, 0, 33, 42, 180, 0, 24, 43, 3, 185, 0, 61, 2, 0, 43, 42, 180, 0, 41, 185, 0, 61, 2, 0]
abbrev dktX5_moves_5 : List UInt8 := dkwX5_moves_5 ++ dktX5_moves_6
def dkwX5_moves_4 : List UInt8 := [5, 50, 28, 43, 185, 0, 70, 1, 0, 133, 42, 180, 0, 20, 28, 47, 105, 80, 132, 2, 1, 167, 255, 226]
abbrev dktX5_moves_4 : List UInt8 := dkwX5_moves_4 ++ dktX5_moves_5
def dkwX5_moves_3 : List UInt8 := [180, 0, 20, 184, 0, 47, 42, 182, 0, 66, 153, 0, 41, 3, 61, 28, 6, 162, 0, 31, 42, 180, 0, 14]
abbrev dktX5_moves_3 : List UInt8 := dkwX5_moves_3 ++ dktX5_moves_4
def dkwX5_moves_2 : List UInt8 := [42, 180, 0, 14, 4, 50, 182, 0, 43, 42, 180, 0, 14, 3, 50, 42, 180, 0, 14, 4, 50, 42]
abbrev dktX5_moves_2 : List UInt8 := dkwX5_moves_2 ++ dktX5_moves_3
def dkwX5_moves_1 : List UInt8 := [182, 0, 43, 42, 180, 0, 24, 43, 3, 185, 0, 61, 2, 0, 43, 42, 180, 0, 34, 185, 0, 61, 2, 0]
abbrev dktX5_moves_1 : List UInt8 := dkwX5_moves_1 ++ dktX5_moves_2
def dkwX5_moves_0 : List UInt8 := [42, 180, 0, 24, 43, 3, 185, 0, 61, 2, 0, 43, 4, 185, 0, 61, 2, 0, 42, 180, 0, 14, 3, 50]
abbrev dktX5_moves_0 : List UInt8 := dkwX5_moves_0 ++ dktX5_moves_1
theorem dksX5_moves_0 : cX5_moves.data.toList.drop 0 = dktX5_moves_0 := by decide +kernel
theorem dksX5_moves_1 : cX5_moves.data.toList.drop 24 = dktX5_moves_1 := dk_seg dksX5_moves_0 24 rfl rfl
theorem dksX5_moves_2 : cX5_moves.data.toList.drop 48 = dktX5_moves_2 := dk_seg dksX5_moves_1 24 rfl rfl
theorem dksX5_moves_3 : cX5_moves.data.toList.drop 70 = dktX5_moves_3 := dk_seg dksX5_moves_2 22 rfl rfl
theorem dksX5_moves_4 : cX5_moves.data.toList.drop 94 = dktX5_moves_4 := dk_seg dksX5_moves_3 24 rfl rfl
theorem dksX5_moves_5 : cX5_moves.data.toList.drop 118 = dktX5_moves_5 := dk_seg dksX5_moves_4 24 rfl rfl
theorem dksX5_moves_6 : cX5_moves.data.toList.drop 142 = dktX5_moves_6 := dk_seg dksX5_moves_5 24 rfl rfl
theorem dX5_moves_0 : decode cX5_moves 0 = .ok (.aload_n 0, 1) := dk_42 (dk_at dksX5_moves_0 0 rfl rfl)
theorem dX5_moves_1 : decode cX5_moves 1 = .ok (.getfield 24, 3) := dk_180 0 24 (dk_at dksX5_moves_0 1 rfl rfl)
theorem dX5_moves_4 : decode cX5_moves 4 = .ok (.aload_n 1, 1) := dk_43 (dk_at dksX5_moves_0 4 rfl rfl)
theorem dX5_moves_5 : decode cX5_moves 5 = .ok (.iconst 0, 1) := dk_3 (dk_at dksX5_moves_0 5 rfl rfl)
theorem dX5_moves_6 : decode cX5_moves 6 = .ok (.invokeinterface 61 2, 5) := by decide +kernel
theorem dX5_moves_11 : decode cX5_moves 11 = .ok (.aload_n 1, 1) := dk_43 (dk_at dksX5_moves_0 11 rfl rfl)
theorem dX5_moves_12 : decode cX5_moves 12 = .ok (.iconst 1, 1) := dk_4 (dk_at dksX5_moves_0 12 rfl rfl)
theorem dX5_moves_13 : decode cX5_moves 13 = .ok (.invokeinterface 61 2, 5) := by decide +kernel
theorem dX5_moves_18 : decode cX5_moves 18 = .ok (.aload_n 0, 1) := dk_42 (dk_at dksX5_moves_0 18 rfl rfl)
theorem dX5_moves_19 : decode cX5_moves 19 = .ok (.getfield 14, 3) := dk_180 0 14 (dk_at dksX5_moves_0 19 rfl rfl)
theorem dX5_moves_22 : decode cX5_moves 22 = .ok (.iconst 0, 1) := dk_3 (dk_at dksX5_moves_0 22 rfl rfl)
theorem dX5_moves_23 : decode cX5_moves 23 = .ok (.aaload, 1) := dk_50 (dk_at dksX5_moves_0 23 rfl rfl)
theorem dX5_moves_24 : decode cX5_moves 24 = .ok (.invokevirtual 43, 3) := dk_182 0 43 (dk_at dksX5_moves_1 0 rfl rfl)
theorem dX5_moves_27 : decode cX5_moves 27 = .ok (.aload_n 0, 1) := dk_42 (dk_at dksX5_moves_1 3 rfl rfl)
theorem dX5_moves_28 : decode cX5_moves 28 = .ok (.getfield 24, 3) := dk_180 0 24 (dk_at dksX5_moves_1 4 rfl rfl)
theorem dX5_moves_31 : decode cX5_moves 31 = .ok (.aload_n 1, 1) := dk_43 (dk_at dksX5_moves_1 7 rfl rfl)
theorem dX5_moves_32 : decode cX5_moves 32 = .ok (.iconst 0, 1) := dk_3 (dk_at dksX5_moves_1 8 rfl rfl)
theorem dX5_moves_33 : decode cX5_moves 33 = .ok (.invokeinterface 61 2, 5) := by decide +kernel
theorem dX5_moves_38 : decode cX5_moves 38 = .ok (.aload_n 1, 1) := dk_43 (dk_at dksX5_moves_1 14 rfl rfl)
theorem dX5_moves_39 : decode cX5_moves 39 = .ok (.aload_n 0, 1) := dk_42 (dk_at dksX5_moves_1 15 rfl rfl)
theorem dX5_moves_40 : decode cX5_moves 40 = .ok (.getfield 34, 3) := dk_180 0 34 (dk_at dksX5_moves_1 16 rfl rfl)
theorem dX5_moves_43 : decode cX5_moves 43 = .ok (.invokeinterface 61 2, 5) := by decide +kernel
theorem dX5_moves_48 : decode cX5_moves 48 = .ok (.aload_n 0, 1) := dk_42 (dk_at dksX5_moves_2 0 rfl rfl)
theorem dX5_moves_49 : decode cX5_moves 49 = .ok (.getfield 14, 3) := dk_180 0 14 (dk_at dksX5_moves_2 1 rfl rfl)
theorem dX5_moves_52 : decode cX5_moves 52 = .ok (.iconst 1, 1) := dk_4 (dk_at dksX5_moves_2 4 rfl rfl)
theorem dX5_moves_53 : decode cX5_moves 53 = .ok (.aaload, 1) := dk_50 (dk_at dksX5_moves_2 5 rfl rfl)
theorem dX5_moves_54 : decode cX5_moves 54 = .ok (.invokevirtual 43, 3) := dk_182 0 43 (dk_at dksX5_moves_2 6 rfl rfl)
theorem dX5_moves_57 : decode cX5_moves 57 = .ok (.aload_n 0, 1) := dk_42 (dk_at dksX5_moves_2 9 rfl rfl)
theorem dX5_moves_58 : decode cX5_moves 58 = .ok (.getfield 14, 3) := dk_180 0 14 (dk_at dksX5_moves_2 10 rfl rfl)
theorem dX5_moves_61 : decode cX5_moves 61 = .ok (.iconst 0, 1) := dk_3 (dk_at dksX5_moves_2 13 rfl rfl)
theorem dX5_moves_62 : decode cX5_moves 62 = .ok (.aaload, 1) := dk_50 (dk_at dksX5_moves_2 14 rfl rfl)
theorem dX5_moves_63 : decode cX5_moves 63 = .ok (.aload_n 0, 1) := dk_42 (dk_at dksX5_moves_2 15 rfl rfl)
theorem dX5_moves_64 : decode cX5_moves 64 = .ok (.getfield 14, 3) := dk_180 0 14 (dk_at dksX5_moves_2 16 rfl rfl)
theorem dX5_moves_67 : decode cX5_moves 67 = .ok (.iconst 1, 1) := dk_4 (dk_at dksX5_moves_2 19 rfl rfl)
theorem dX5_moves_68 : decode cX5_moves 68 = .ok (.aaload, 1) := dk_50 (dk_at dksX5_moves_2 20 rfl rfl)
theorem dX5_moves_69 : decode cX5_moves 69 = .ok (.aload_n 0, 1) := dk_42 (dk_at dksX5_moves_2 21 rfl rfl)
theorem dX5_moves_70 : decode cX5_moves 70 = .ok (.getfield 20, 3) := dk_180 0 20 (dk_at dksX5_moves_3 0 rfl rfl)
theorem dX5_moves_73 : decode cX5_moves 73 = .ok (.invokestatic 47, 3) := dk_184 0 47 (dk_at dksX5_moves_3 3 rfl rfl)
theorem dX5_moves_76 : decode cX5_moves 76 = .ok (.aload_n 0, 1) := dk_42 (dk_at dksX5_moves_3 6 rfl rfl)
theorem dX5_moves_77 : decode cX5_moves 77 = .ok (.invokevirtual 66, 3) := dk_182 0 66 (dk_at dksX5_moves_3 7 rfl rfl)
theorem dX5_moves_80 : decode cX5_moves 80 = .ok (.ifCond .eq 41, 3) := dk_153 0 41 (dk_at dksX5_moves_3 10 rfl rfl)
theorem dX5_moves_83 : decode cX5_moves 83 = .ok (.iconst 0, 1) := dk_3 (dk_at dksX5_moves_3 13 rfl rfl)
theorem dX5_moves_84 : decode cX5_moves 84 = .ok (.istore_n 2, 1) := dk_61 (dk_at dksX5_moves_3 14 rfl rfl)
theorem dX5_moves_85 : decode cX5_moves 85 = .ok (.iload_n 2, 1) := dk_28 (dk_at dksX5_moves_3 15 rfl rfl)
theorem dX5_moves_86 : decode cX5_moves 86 = .ok (.iconst 3, 1) := dk_6 (dk_at dksX5_moves_3 16 rfl rfl)
theorem dX5_moves_87 : decode cX5_moves 87 = .ok (.if_icmp .ge 31, 3) := dk_162 0 31 (dk_at dksX5_moves_3 17 rfl rfl)
theorem dX5_moves_90 : decode cX5_moves 90 = .ok (.aload_n 0, 1) := dk_42 (dk_at dksX5_moves_3 20 rfl rfl)
theorem dX5_moves_91 : decode cX5_moves 91 = .ok (.getfield 14, 3) := dk_180 0 14 (dk_at dksX5_moves_3 21 rfl rfl)
theorem dX5_moves_94 : decode cX5_moves 94 = .ok (.iconst 2, 1) := dk_5 (dk_at dksX5_moves_4 0 rfl rfl)
theorem dX5_moves_95 : decode cX5_moves 95 = .ok (.aaload, 1) := dk_50 (dk_at dksX5_moves_4 1 rfl rfl)
theorem dX5_moves_96 : decode cX5_moves 96 = .ok (.iload_n 2, 1) := dk_28 (dk_at dksX5_moves_4 2 rfl rfl)
theorem dX5_moves_97 : decode cX5_moves 97 = .ok (.aload_n 1, 1) := dk_43 (dk_at dksX5_moves_4 3 rfl rfl)
theorem dX5_moves_98 : decode cX5_moves 98 = .ok (.invokeinterface 70 1, 5) := by decide +kernel
theorem dX5_moves_103 : decode cX5_moves 103 = .ok (.i2l, 1) := dk_133 (dk_at dksX5_moves_4 9 rfl rfl)
theorem dX5_moves_104 : decode cX5_moves 104 = .ok (.aload_n 0, 1) := dk_42 (dk_at dksX5_moves_4 10 rfl rfl)
theorem dX5_moves_105 : decode cX5_moves 105 = .ok (.getfield 20, 3) := dk_180 0 20 (dk_at dksX5_moves_4 11 rfl rfl)
theorem dX5_moves_108 : decode cX5_moves 108 = .ok (.iload_n 2, 1) := dk_28 (dk_at dksX5_moves_4 14 rfl rfl)
theorem dX5_moves_109 : decode cX5_moves 109 = .ok (.laload, 1) := dk_47 (dk_at dksX5_moves_4 15 rfl rfl)
theorem dX5_moves_110 : decode cX5_moves 110 = .ok (.lmul, 1) := dk_105 (dk_at dksX5_moves_4 16 rfl rfl)
theorem dX5_moves_111 : decode cX5_moves 111 = .ok (.lastore, 1) := dk_80 (dk_at dksX5_moves_4 17 rfl rfl)
theorem dX5_moves_112 : decode cX5_moves 112 = .ok (.iinc 2 1, 3) := dk_132 2 1 (dk_at dksX5_moves_4 18 rfl rfl)
theorem dX5_moves_115 : decode cX5_moves 115 = .ok (.goto (-30), 3) := dk_167 255 226 (dk_at dksX5_moves_4 21 rfl rfl)
theorem dX5_moves_118 : decode cX5_moves 118 = .ok (.goto 33, 3) := dk_167 0 33 (dk_at dksX5_moves_5 0 rfl rfl)
theorem dX5_moves_121 : decode cX5_moves 121 = .ok (.aload_n 0, 1) := dk_42 (dk_at dksX5_moves_5 3 rfl rfl)
theorem dX5_moves_122 : decode cX5_moves 122 = .ok (.getfield 24, 3) := dk_180 0 24 (dk_at dksX5_moves_5 4 rfl rfl)
theorem dX5_moves_125 : decode cX5_moves 125 = .ok (.aload_n 1, 1) := dk_43 (dk_at dksX5_moves_5 7 rfl rfl)
theorem dX5_moves_126 : decode cX5_moves 126 = .ok (.iconst 0, 1) := dk_3 (dk_at dksX5_moves_5 8 rfl rfl)
theorem dX5_moves_127 : decode cX5_moves 127 = .ok (.invokeinterface 61 2, 5) := by decide +kernel
theorem dX5_moves_132 : decode cX5_moves 132 = .ok (.aload_n 1, 1) := dk_43 (dk_at dksX5_moves_5 14 rfl rfl)
theorem dX5_moves_133 : decode cX5_moves 133 = .ok (.aload_n 0, 1) := dk_42 (dk_at dksX5_moves_5 15 rfl rfl)
theorem dX5_moves_134 : decode cX5_moves 134 = .ok (.getfield 41, 3) := dk_180 0 41 (dk_at dksX5_moves_5 16 rfl rfl)
theorem dX5_moves_137 : decode cX5_moves 137 = .ok (.invokeinterface 61 2, 5) := by decide +kernel
theorem dX5_moves_142 : decode cX5_moves 142 = .ok (.aload_n 0, 1) := dk_42 (dk_at dksX5_moves_6 0 rfl rfl)
theorem dX5_moves_143 : decode cX5_moves 143 = .ok (.getfield 14, 3) := dk_180 0 14 (dk_at dksX5_moves_6 1 rfl rfl)
theorem dX5_moves_146 : decode cX5_moves 146 = .ok (.iconst 2, 1) := dk_5 (dk_at dksX5_moves_6 4 rfl rfl)
theorem dX5_moves_147 : decode cX5_moves 147 = .ok (.aaload, 1) := dk_50 (dk_at dksX5_moves_6 5 rfl rfl)
theorem dX5_moves_148 : decode cX5_moves 148 = .ok (.invokevirtual 43, 3) := dk_182 0 43 (dk_at dksX5_moves_6 6 rfl rfl)
theorem dX5_moves_151 : decode cX5_moves 151 = .ok (.return_, 1) := dk_177 (dk_at dksX5_moves_6 9 rfl rfl)
abbrev cX5_part : ByteArray := prog_3_method_6_code
def yX5_part : MethodName := ⟨RX5, "part", "(II)J"⟩
def dkwX5_part_1 : List UInt8 := [180, 0, 17, 21, 5, 50, 28, 47, 105, 97, 66, 132, 5, 1, 167, 255, 225, 33, 173]
abbrev dktX5_part_1 : List UInt8 := dkwX5_part_1 ++ []
def dkwX5_part_0 : List UInt8 := [9, 66, 3, 54, 5, 21, 5, 6, 162, 0, 31, 33, 42, 180, 0, 14, 21, 5, 50, 27, 47, 42]
abbrev dktX5_part_0 : List UInt8 := dkwX5_part_0 ++ dktX5_part_1
theorem dksX5_part_0 : cX5_part.data.toList.drop 0 = dktX5_part_0 := by decide +kernel
theorem dksX5_part_1 : cX5_part.data.toList.drop 22 = dktX5_part_1 := dk_seg dksX5_part_0 22 rfl rfl
theorem dX5_part_0 : decode cX5_part 0 = .ok (.lconst 0, 1) := dk_9 (dk_at dksX5_part_0 0 rfl rfl)
theorem dX5_part_1 : decode cX5_part 1 = .ok (.lstore_n 3, 1) := dk_66 (dk_at dksX5_part_0 1 rfl rfl)
theorem dX5_part_2 : decode cX5_part 2 = .ok (.iconst 0, 1) := dk_3 (dk_at dksX5_part_0 2 rfl rfl)
theorem dX5_part_3 : decode cX5_part 3 = .ok (.istore 5, 2) := dk_54 5 (dk_at dksX5_part_0 3 rfl rfl)
theorem dX5_part_5 : decode cX5_part 5 = .ok (.iload 5, 2) := dk_21 5 (dk_at dksX5_part_0 5 rfl rfl)
theorem dX5_part_7 : decode cX5_part 7 = .ok (.iconst 3, 1) := dk_6 (dk_at dksX5_part_0 7 rfl rfl)
theorem dX5_part_8 : decode cX5_part 8 = .ok (.if_icmp .ge 31, 3) := dk_162 0 31 (dk_at dksX5_part_0 8 rfl rfl)
theorem dX5_part_11 : decode cX5_part 11 = .ok (.lload_n 3, 1) := dk_33 (dk_at dksX5_part_0 11 rfl rfl)
theorem dX5_part_12 : decode cX5_part 12 = .ok (.aload_n 0, 1) := dk_42 (dk_at dksX5_part_0 12 rfl rfl)
theorem dX5_part_13 : decode cX5_part 13 = .ok (.getfield 14, 3) := dk_180 0 14 (dk_at dksX5_part_0 13 rfl rfl)
theorem dX5_part_16 : decode cX5_part 16 = .ok (.iload 5, 2) := dk_21 5 (dk_at dksX5_part_0 16 rfl rfl)
theorem dX5_part_18 : decode cX5_part 18 = .ok (.aaload, 1) := dk_50 (dk_at dksX5_part_0 18 rfl rfl)
theorem dX5_part_19 : decode cX5_part 19 = .ok (.iload_n 1, 1) := dk_27 (dk_at dksX5_part_0 19 rfl rfl)
theorem dX5_part_20 : decode cX5_part 20 = .ok (.laload, 1) := dk_47 (dk_at dksX5_part_0 20 rfl rfl)
theorem dX5_part_21 : decode cX5_part 21 = .ok (.aload_n 0, 1) := dk_42 (dk_at dksX5_part_0 21 rfl rfl)
theorem dX5_part_22 : decode cX5_part 22 = .ok (.getfield 17, 3) := dk_180 0 17 (dk_at dksX5_part_1 0 rfl rfl)
theorem dX5_part_25 : decode cX5_part 25 = .ok (.iload 5, 2) := dk_21 5 (dk_at dksX5_part_1 3 rfl rfl)
theorem dX5_part_27 : decode cX5_part 27 = .ok (.aaload, 1) := dk_50 (dk_at dksX5_part_1 5 rfl rfl)
theorem dX5_part_28 : decode cX5_part 28 = .ok (.iload_n 2, 1) := dk_28 (dk_at dksX5_part_1 6 rfl rfl)
theorem dX5_part_29 : decode cX5_part 29 = .ok (.laload, 1) := dk_47 (dk_at dksX5_part_1 7 rfl rfl)
theorem dX5_part_30 : decode cX5_part 30 = .ok (.lmul, 1) := dk_105 (dk_at dksX5_part_1 8 rfl rfl)
theorem dX5_part_31 : decode cX5_part 31 = .ok (.ladd, 1) := dk_97 (dk_at dksX5_part_1 9 rfl rfl)
theorem dX5_part_32 : decode cX5_part 32 = .ok (.lstore_n 3, 1) := dk_66 (dk_at dksX5_part_1 10 rfl rfl)
theorem dX5_part_33 : decode cX5_part 33 = .ok (.iinc 5 1, 3) := dk_132 5 1 (dk_at dksX5_part_1 11 rfl rfl)
theorem dX5_part_36 : decode cX5_part 36 = .ok (.goto (-31), 3) := dk_167 255 225 (dk_at dksX5_part_1 14 rfl rfl)
theorem dX5_part_39 : decode cX5_part 39 = .ok (.lload_n 3, 1) := dk_33 (dk_at dksX5_part_1 17 rfl rfl)
theorem dX5_part_40 : decode cX5_part 40 = .ok (.lreturn, 1) := dk_173 (dk_at dksX5_part_1 18 rfl rfl)
abbrev cX5_handed : ByteArray := prog_3_method_5_code
def yX5_handed : MethodName := ⟨RX5, "handed", "(LVibrationDesk$Move;)I"⟩
def dkwX5_handed_1 : List UInt8 := [154, 0, 7, 4, 167, 0, 4, 2, 172]
abbrev dktX5_handed_1 : List UInt8 := dkwX5_handed_1 ++ []
def dkwX5_handed_0 : List UInt8 := [42, 43, 182, 0, 73, 42, 180, 0, 20, 42, 180, 0, 14, 5, 50, 184, 0, 53, 42, 180, 0, 57, 148]
abbrev dktX5_handed_0 : List UInt8 := dkwX5_handed_0 ++ dktX5_handed_1
theorem dksX5_handed_0 : cX5_handed.data.toList.drop 0 = dktX5_handed_0 := by decide +kernel
theorem dksX5_handed_1 : cX5_handed.data.toList.drop 23 = dktX5_handed_1 := dk_seg dksX5_handed_0 23 rfl rfl
theorem dX5_handed_0 : decode cX5_handed 0 = .ok (.aload_n 0, 1) := dk_42 (dk_at dksX5_handed_0 0 rfl rfl)
theorem dX5_handed_1 : decode cX5_handed 1 = .ok (.aload_n 1, 1) := dk_43 (dk_at dksX5_handed_0 1 rfl rfl)
theorem dX5_handed_2 : decode cX5_handed 2 = .ok (.invokevirtual 73, 3) := dk_182 0 73 (dk_at dksX5_handed_0 2 rfl rfl)
theorem dX5_handed_5 : decode cX5_handed 5 = .ok (.aload_n 0, 1) := dk_42 (dk_at dksX5_handed_0 5 rfl rfl)
theorem dX5_handed_6 : decode cX5_handed 6 = .ok (.getfield 20, 3) := dk_180 0 20 (dk_at dksX5_handed_0 6 rfl rfl)
theorem dX5_handed_9 : decode cX5_handed 9 = .ok (.aload_n 0, 1) := dk_42 (dk_at dksX5_handed_0 9 rfl rfl)
theorem dX5_handed_10 : decode cX5_handed 10 = .ok (.getfield 14, 3) := dk_180 0 14 (dk_at dksX5_handed_0 10 rfl rfl)
theorem dX5_handed_13 : decode cX5_handed 13 = .ok (.iconst 2, 1) := dk_5 (dk_at dksX5_handed_0 13 rfl rfl)
theorem dX5_handed_14 : decode cX5_handed 14 = .ok (.aaload, 1) := dk_50 (dk_at dksX5_handed_0 14 rfl rfl)
theorem dX5_handed_15 : decode cX5_handed 15 = .ok (.invokestatic 53, 3) := dk_184 0 53 (dk_at dksX5_handed_0 15 rfl rfl)
theorem dX5_handed_18 : decode cX5_handed 18 = .ok (.aload_n 0, 1) := dk_42 (dk_at dksX5_handed_0 18 rfl rfl)
theorem dX5_handed_19 : decode cX5_handed 19 = .ok (.getfield 57, 3) := dk_180 0 57 (dk_at dksX5_handed_0 19 rfl rfl)
theorem dX5_handed_22 : decode cX5_handed 22 = .ok (.lcmp, 1) := dk_148 (dk_at dksX5_handed_0 22 rfl rfl)
theorem dX5_handed_23 : decode cX5_handed 23 = .ok (.ifCond .ne 7, 3) := dk_154 0 7 (dk_at dksX5_handed_1 0 rfl rfl)
theorem dX5_handed_26 : decode cX5_handed 26 = .ok (.iconst 1, 1) := dk_4 (dk_at dksX5_handed_1 3 rfl rfl)
theorem dX5_handed_27 : decode cX5_handed 27 = .ok (.goto 4, 3) := dk_167 0 4 (dk_at dksX5_handed_1 4 rfl rfl)
theorem dX5_handed_30 : decode cX5_handed 30 = .ok (.iconst (-1), 1) := dk_2 (dk_at dksX5_handed_1 7 rfl rfl)
theorem dX5_handed_31 : decode cX5_handed 31 = .ok (.ireturn, 1) := dk_172 (dk_at dksX5_handed_1 8 rfl rfl)
theorem q159 : (Jvm.Cond.initialized "VibrationDesk$Basis") ∈ lw_all := lw_g (lw_at lw_m1 12 rfl) rfl
theorem q385 : (Jvm.Cond.instantiable "VibrationDesk$Basis" (8 : Nat)) ∈ lw_all := lw_g (lw_at lw_m1 238 rfl) rfl
theorem q387 : (Jvm.Cond.instanceMethod ({ cls := "VibrationDesk$Basis", name := "<init>", desc := "()V" } : Jvm.MethodName)) ∈ lw_all := lw_g (lw_at lw_m2 0 rfl) rfl
theorem q388 : (Jvm.Cond.code ({ cls := "VibrationDesk$Basis", name := "<init>", desc := "()V" } : Jvm.MethodName) prog_3_method_1_code (1 : Nat) (Option.none : Option Jvm.ClassFile.FieldType)) ∈ lw_all := lw_g (lw_at lw_m2 1 rfl) rfl
theorem q389 : (Jvm.Cond.methodLink "VibrationDesk$Basis" (1 : Nat) ({ cls := "java/lang/Object", name := "<init>", desc := "()V" } : Jvm.MethodName)) ∈ lw_all := lw_g (lw_at lw_m2 2 rfl) rfl
theorem q390 : (Jvm.Cond.classLink "VibrationDesk$Basis" (7 : Nat) "[[J") ∈ lw_all := lw_g (lw_at lw_m2 3 rfl) rfl
theorem q392 : (Jvm.Cond.fieldLink "VibrationDesk$Basis" (24 : Nat) "VibrationDesk$Basis" "frame" "LVibrationDesk$Frame;") ∈ lw_all := lw_g (lw_at lw_m2 5 rfl) rfl
theorem q393 : (Jvm.Cond.fieldLink "VibrationDesk$Basis" (34 : Nat) "VibrationDesk$Basis" "third" "I") ∈ lw_all := lw_g (lw_at lw_m2 6 rfl) rfl
theorem q394 : (Jvm.Cond.fieldLink "VibrationDesk$Basis" (41 : Nat) "VibrationDesk$Basis" "fourth" "I") ∈ lw_all := lw_g (lw_at lw_m2 7 rfl) rfl
theorem q395 : (Jvm.Cond.fieldLink "VibrationDesk$Basis" (9 : Nat) "VibrationDesk$Basis" "ways" "[[J") ∈ lw_all := lw_g (lw_at lw_m2 8 rfl) rfl
theorem q396 : (Jvm.Cond.fieldLink "VibrationDesk$Basis" (14 : Nat) "VibrationDesk$Basis" "made" "[[J") ∈ lw_all := lw_g (lw_at lw_m2 9 rfl) rfl
theorem q397 : (Jvm.Cond.fieldLink "VibrationDesk$Basis" (17 : Nat) "VibrationDesk$Basis" "against" "[[J") ∈ lw_all := lw_g (lw_at lw_m2 10 rfl) rfl
theorem q398 : (Jvm.Cond.fieldLink "VibrationDesk$Basis" (20 : Nat) "VibrationDesk$Basis" "across" "[J") ∈ lw_all := lw_g (lw_at lw_m2 11 rfl) rfl
theorem q399 : (Jvm.Cond.fieldLink "VibrationDesk$Basis" (57 : Nat) "VibrationDesk$Basis" "whole" "J") ∈ lw_all := lw_g (lw_at lw_m2 12 rfl) rfl
theorem q401 : (Jvm.Cond.lays "VibrationDesk$Basis" "VibrationDesk$Basis" "frame" "LVibrationDesk$Frame;") ∈ lw_all := lw_g (lw_at lw_m2 14 rfl) rfl
theorem q402 : (Jvm.Cond.soleField "VibrationDesk$Basis" "frame") ∈ lw_all := lw_g (lw_at lw_m2 15 rfl) rfl
theorem q403 : (Jvm.Cond.lays "VibrationDesk$Basis" "VibrationDesk$Basis" "third" "I") ∈ lw_all := lw_g (lw_at lw_m2 16 rfl) rfl
theorem q404 : (Jvm.Cond.soleField "VibrationDesk$Basis" "third") ∈ lw_all := lw_g (lw_at lw_m2 17 rfl) rfl
theorem q405 : (Jvm.Cond.lays "VibrationDesk$Basis" "VibrationDesk$Basis" "fourth" "I") ∈ lw_all := lw_g (lw_at lw_m2 18 rfl) rfl
theorem q406 : (Jvm.Cond.soleField "VibrationDesk$Basis" "fourth") ∈ lw_all := lw_g (lw_at lw_m2 19 rfl) rfl
theorem q407 : (Jvm.Cond.laysFinal "VibrationDesk$Basis" "VibrationDesk$Basis" "ways" "[[J") ∈ lw_all := lw_g (lw_at lw_m2 20 rfl) rfl
theorem q408 : (Jvm.Cond.soleField "VibrationDesk$Basis" "ways") ∈ lw_all := lw_g (lw_at lw_m2 21 rfl) rfl
theorem q409 : (Jvm.Cond.laysFinal "VibrationDesk$Basis" "VibrationDesk$Basis" "made" "[[J") ∈ lw_all := lw_g (lw_at lw_m2 22 rfl) rfl
theorem q410 : (Jvm.Cond.soleField "VibrationDesk$Basis" "made") ∈ lw_all := lw_g (lw_at lw_m2 23 rfl) rfl
theorem q411 : (Jvm.Cond.laysFinal "VibrationDesk$Basis" "VibrationDesk$Basis" "against" "[[J") ∈ lw_all := lw_g (lw_at lw_m2 24 rfl) rfl
theorem q412 : (Jvm.Cond.soleField "VibrationDesk$Basis" "against") ∈ lw_all := lw_g (lw_at lw_m2 25 rfl) rfl
theorem q413 : (Jvm.Cond.laysFinal "VibrationDesk$Basis" "VibrationDesk$Basis" "across" "[J") ∈ lw_all := lw_g (lw_at lw_m2 26 rfl) rfl
theorem q414 : (Jvm.Cond.soleField "VibrationDesk$Basis" "across") ∈ lw_all := lw_g (lw_at lw_m2 27 rfl) rfl
theorem q415 : (Jvm.Cond.lays "VibrationDesk$Basis" "VibrationDesk$Basis" "whole" "J") ∈ lw_all := lw_g (lw_at lw_m2 28 rfl) rfl
theorem q416 : (Jvm.Cond.soleField "VibrationDesk$Basis" "whole") ∈ lw_all := lw_g (lw_at lw_m2 29 rfl) rfl
theorem q417 : (Jvm.Cond.superclass "VibrationDesk$Basis" "java/lang/Object") ∈ lw_all := lw_g (lw_at lw_m2 30 rfl) rfl
theorem q1335 : (Jvm.Cond.instanceMethod ({ cls := "VibrationDesk$Basis", name := "lays", desc := "(LVibrationDesk$Frame;)V" } : Jvm.MethodName)) ∈ lw_all := lw_g (lw_at lw_m5 228 rfl) rfl
theorem q1336 : (Jvm.Cond.selects "VibrationDesk$Basis" ({ cls := "VibrationDesk$Basis", name := "lays", desc := "(LVibrationDesk$Frame;)V" } : Jvm.MethodName) ({ cls := "VibrationDesk$Basis", name := "lays", desc := "(LVibrationDesk$Frame;)V" } : Jvm.MethodName)) ∈ lw_all := lw_g (lw_at lw_m5 229 rfl) rfl
theorem q1337 : (Jvm.Cond.code ({ cls := "VibrationDesk$Basis", name := "lays", desc := "(LVibrationDesk$Frame;)V" } : Jvm.MethodName) prog_3_method_2_code (2 : Nat) (Option.none : Option Jvm.ClassFile.FieldType)) ∈ lw_all := lw_g (lw_at lw_m5 230 rfl) rfl
theorem q1338 : (Jvm.Cond.methodLink "VibrationDesk$Basis" (28 : Nat) ({ cls := "VibrationDesk$Frame", name := "third", desc := "()I" } : Jvm.MethodName)) ∈ lw_all := lw_g (lw_at lw_m5 231 rfl) rfl
theorem q1339 : (Jvm.Cond.methodLink "VibrationDesk$Basis" (37 : Nat) ({ cls := "VibrationDesk$Frame", name := "fourth", desc := "(I)I" } : Jvm.MethodName)) ∈ lw_all := lw_g (lw_at lw_m5 232 rfl) rfl
theorem q1340 : (Jvm.Cond.methodLink "VibrationDesk$Basis" (43 : Nat) ({ cls := "VibrationDesk$Frame", name := "difference", desc := "(II[J)V" } : Jvm.MethodName)) ∈ lw_all := lw_g (lw_at lw_m5 233 rfl) rfl
theorem q1341 : (Jvm.Cond.methodLinkNest "VibrationDesk$Basis" (47 : Nat) ({ cls := "VibrationDesk", name := "crosses", desc := "([J[J[J)V" } : Jvm.MethodName) "VibrationDesk") ∈ lw_tbl := lw_at lw_m5 234 rfl
theorem q1342 : (Jvm.Cond.methodLinkNest "VibrationDesk$Basis" (53 : Nat) ({ cls := "VibrationDesk", name := "dot", desc := "([J[J)J" } : Jvm.MethodName) "VibrationDesk") ∈ lw_tbl := lw_at lw_m5 235 rfl
theorem q1353 : (Jvm.Cond.instanceMethod ({ cls := "VibrationDesk$Basis", name := "isFlat", desc := "()Z" } : Jvm.MethodName)) ∈ lw_all := lw_g (lw_at lw_m6 6 rfl) rfl
theorem q1354 : (Jvm.Cond.selects "VibrationDesk$Basis" ({ cls := "VibrationDesk$Basis", name := "isFlat", desc := "()Z" } : Jvm.MethodName) ({ cls := "VibrationDesk$Basis", name := "isFlat", desc := "()Z" } : Jvm.MethodName)) ∈ lw_all := lw_g (lw_at lw_m6 7 rfl) rfl
theorem q1355 : (Jvm.Cond.code ({ cls := "VibrationDesk$Basis", name := "isFlat", desc := "()Z" } : Jvm.MethodName) prog_3_method_3_code (1 : Nat) (Option.some Jvm.ClassFile.FieldType.boolean)) ∈ lw_all := lw_g (lw_at lw_m6 8 rfl) rfl
theorem q1362 : (Jvm.Cond.instanceMethod ({ cls := "VibrationDesk$Basis", name := "diagonal", desc := "(LVibrationDesk$Move;)I" } : Jvm.MethodName)) ∈ lw_all := lw_g (lw_at lw_m6 15 rfl) rfl
theorem q1363 : (Jvm.Cond.selects "VibrationDesk$Basis" ({ cls := "VibrationDesk$Basis", name := "diagonal", desc := "(LVibrationDesk$Move;)I" } : Jvm.MethodName) ({ cls := "VibrationDesk$Basis", name := "diagonal", desc := "(LVibrationDesk$Move;)I" } : Jvm.MethodName)) ∈ lw_all := lw_g (lw_at lw_m6 16 rfl) rfl
theorem q1364 : (Jvm.Cond.code ({ cls := "VibrationDesk$Basis", name := "diagonal", desc := "(LVibrationDesk$Move;)I" } : Jvm.MethodName) prog_3_method_7_code (2 : Nat) (Option.some Jvm.ClassFile.FieldType.int)) ∈ lw_all := lw_g (lw_at lw_m6 17 rfl) rfl
theorem q1365 : (Jvm.Cond.methodLink "VibrationDesk$Basis" (73 : Nat) ({ cls := "VibrationDesk$Basis", name := "moves", desc := "(LVibrationDesk$Move;)V" } : Jvm.MethodName)) ∈ lw_all := lw_g (lw_at lw_m6 18 rfl) rfl
theorem q1366 : (Jvm.Cond.instanceMethod ({ cls := "VibrationDesk$Basis", name := "moves", desc := "(LVibrationDesk$Move;)V" } : Jvm.MethodName)) ∈ lw_all := lw_g (lw_at lw_m6 19 rfl) rfl
theorem q1367 : (Jvm.Cond.selects "VibrationDesk$Basis" ({ cls := "VibrationDesk$Basis", name := "moves", desc := "(LVibrationDesk$Move;)V" } : Jvm.MethodName) ({ cls := "VibrationDesk$Basis", name := "moves", desc := "(LVibrationDesk$Move;)V" } : Jvm.MethodName)) ∈ lw_all := lw_g (lw_at lw_m6 20 rfl) rfl
theorem q1368 : (Jvm.Cond.code ({ cls := "VibrationDesk$Basis", name := "moves", desc := "(LVibrationDesk$Move;)V" } : Jvm.MethodName) prog_3_method_4_code (3 : Nat) (Option.none : Option Jvm.ClassFile.FieldType)) ∈ lw_all := lw_g (lw_at lw_m6 21 rfl) rfl
theorem q1369 : (Jvm.Cond.interfaceEntry "VibrationDesk$Basis" (61 : Nat)) ∈ lw_tbl := lw_at lw_m6 22 rfl
theorem q1370 : (Jvm.Cond.methodLink "VibrationDesk$Basis" (61 : Nat) ({ cls := "VibrationDesk$Move", name := "to", desc := "(I)I" } : Jvm.MethodName)) ∈ lw_all := lw_g (lw_at lw_m6 23 rfl) rfl
theorem q1387 : (Jvm.Cond.methodLink "VibrationDesk$Basis" (66 : Nat) ({ cls := "VibrationDesk$Basis", name := "isFlat", desc := "()Z" } : Jvm.MethodName)) ∈ lw_all := lw_g (lw_at lw_m6 40 rfl) rfl
theorem q1388 : (Jvm.Cond.interfaceEntry "VibrationDesk$Basis" (70 : Nat)) ∈ lw_tbl := lw_at lw_m6 41 rfl
theorem q1389 : (Jvm.Cond.methodLink "VibrationDesk$Basis" (70 : Nat) ({ cls := "VibrationDesk$Move", name := "hand", desc := "()I" } : Jvm.MethodName)) ∈ lw_all := lw_g (lw_at lw_m6 42 rfl) rfl
theorem q1404 : (Jvm.Cond.methodLink "VibrationDesk$Basis" (77 : Nat) ({ cls := "VibrationDesk$Basis", name := "part", desc := "(II)J" } : Jvm.MethodName)) ∈ lw_all := lw_g (lw_at lw_m6 57 rfl) rfl
theorem q1405 : (Jvm.Cond.instanceMethod ({ cls := "VibrationDesk$Basis", name := "part", desc := "(II)J" } : Jvm.MethodName)) ∈ lw_all := lw_g (lw_at lw_m6 58 rfl) rfl
theorem q1406 : (Jvm.Cond.selects "VibrationDesk$Basis" ({ cls := "VibrationDesk$Basis", name := "part", desc := "(II)J" } : Jvm.MethodName) ({ cls := "VibrationDesk$Basis", name := "part", desc := "(II)J" } : Jvm.MethodName)) ∈ lw_all := lw_g (lw_at lw_m6 59 rfl) rfl
theorem q1407 : (Jvm.Cond.code ({ cls := "VibrationDesk$Basis", name := "part", desc := "(II)J" } : Jvm.MethodName) prog_3_method_6_code (6 : Nat) (Option.some Jvm.ClassFile.FieldType.long)) ∈ lw_all := lw_g (lw_at lw_m6 60 rfl) rfl
theorem q1409 : (Jvm.Cond.instanceMethod ({ cls := "VibrationDesk$Basis", name := "handed", desc := "(LVibrationDesk$Move;)I" } : Jvm.MethodName)) ∈ lw_all := lw_g (lw_at lw_m6 62 rfl) rfl
theorem q1410 : (Jvm.Cond.selects "VibrationDesk$Basis" ({ cls := "VibrationDesk$Basis", name := "handed", desc := "(LVibrationDesk$Move;)I" } : Jvm.MethodName) ({ cls := "VibrationDesk$Basis", name := "handed", desc := "(LVibrationDesk$Move;)I" } : Jvm.MethodName)) ∈ lw_all := lw_g (lw_at lw_m6 63 rfl) rfl
theorem q1411 : (Jvm.Cond.code ({ cls := "VibrationDesk$Basis", name := "handed", desc := "(LVibrationDesk$Move;)I" } : Jvm.MethodName) prog_3_method_5_code (2 : Nat) (Option.some Jvm.ClassFile.FieldType.int)) ∈ lw_all := lw_g (lw_at lw_m6 64 rfl) rfl
theorem in_X5 : ∀ w ∈ wsX50, w ∈ lw_all := lw_in wsX50 [401, 403, 405, 407, 409, 411, 413, 415] (by decide +kernel) (by decide +kernel)
