/-! VibrationDesk -/
set_option maxRecDepth 100000
def RX0 : String := "VibrationDesk"
def TX0 : u_T := fun k => match k with
  | 0 => ("VibrationDesk", "tape", "[B", true)
  | 1 => ("VibrationDesk", "taped", "I", false)
  | 2 => ("VibrationDesk", "faultKind", "I", false)
  | 3 => ("VibrationDesk", "faultAt", "I", false)
  | 4 => ("VibrationDesk", "bad", "LVibrationDesk$Bad;", true)
  | 5 => ("VibrationDesk", "letters", "Ljava/lang/StringBuilder;", true)
  | 6 => ("VibrationDesk", "status", "I", false)
  | 7 => ("VibrationDesk", "upper", "J", false)
  | 8 => ("VibrationDesk", "lower", "J", false)
  | 9 => ("VibrationDesk", "now", "LVibrationDesk$Frame;", true)
  | 10 => ("VibrationDesk", "other", "LVibrationDesk$Frame;", true)
  | 11 => ("VibrationDesk", "kept", "[LVibrationDesk$Frame;", true)
  | 12 => ("VibrationDesk", "keptMany", "I", false)
  | 13 => ("VibrationDesk", "group", "LVibrationDesk$Group;", true)
  | 14 => ("VibrationDesk", "another", "LVibrationDesk$Group;", true)
  | 15 => ("VibrationDesk", "laws", "LVibrationDesk$Laws;", true)
  | 16 => ("VibrationDesk", "isFound", "Z", false)
  | 17 => ("VibrationDesk", "isLawful", "Z", false)
  | 18 => ("VibrationDesk", "isSetDown", "Z", false)
  | 19 => ("VibrationDesk", "name", "Ljava/lang/String;", false)
  | 20 => ("VibrationDesk", "lengths", "[I", true)
  | _ => ("VibrationDesk", "ways", "[I", true)
def tyX0 : Nat → FieldType := fun k => match k with
  | 0 => .array .byte
  | 1 => .int
  | 2 => .int
  | 3 => .int
  | 4 => .object "VibrationDesk$Bad"
  | 5 => .object "java/lang/StringBuilder"
  | 6 => .int
  | 7 => .long
  | 8 => .long
  | 9 => .object "VibrationDesk$Frame"
  | 10 => .object "VibrationDesk$Frame"
  | 11 => .array (.object "VibrationDesk$Frame")
  | 12 => .int
  | 13 => .object "VibrationDesk$Group"
  | 14 => .object "VibrationDesk$Group"
  | 15 => .object "VibrationDesk$Laws"
  | 16 => .boolean
  | 17 => .boolean
  | 18 => .boolean
  | 19 => .object "java/lang/String"
  | 20 => .array .int
  | _ => .array .int
abbrev wsX00 : List Cond := u_ws RX0 TX0 22
set_option maxRecDepth 100000 in
theorem nmX0 : ∀ a, a < 22 → ∀ b, b < 22 → a ≠ b → (TX0 a).2.1 ≠ (TX0 b).2.1 := by decide +kernel
set_option maxRecDepth 100000 in
theorem tyX0_ok : ∀ k, k < 22 → parseFieldDescriptor (TX0 k).2.2.1 = some (tyX0 k) := by decide +kernel
abbrev cX0_init : ByteArray := prog_1_method_7_code
def yX0_init : MethodName := ⟨RX0, "<init>", "()V"⟩
def dkwX0_init_7 : List UInt8 := [132, 1, 1, 167, 255, 234, 177]
abbrev dktX0_init_7 : List UInt8 := dkwX0_init_7 ++ []
def dkwX0_init_6 : List UInt8 := [181, 0, 174, 3, 60, 27, 16, 6, 162, 0, 22, 42, 180, 0, 141, 27, 187, 0, 131, 89, 183, 0, 133, 83]
abbrev dktX0_init_6 : List UInt8 := dkwX0_init_6 ++ dktX0_init_7
def dkwX0_init_5 : List UInt8 := [181, 0, 160, 42, 18, 164, 181, 0, 166, 42, 16, 13, 188, 10, 181, 0, 170, 42, 16, 13, 188, 10]
abbrev dktX0_init_5 : List UInt8 := dkwX0_init_5 ++ dktX0_init_6
def dkwX0_init_4 : List UInt8 := [187, 0, 145, 89, 183, 0, 147, 181, 0, 152, 42, 187, 0, 155, 89, 42, 180, 0, 148, 183, 0, 157]
abbrev dktX0_init_4 : List UInt8 := dkwX0_init_4 ++ dktX0_init_5
def dkwX0_init_3 : List UInt8 := [181, 0, 138, 42, 16, 6, 189, 0, 131, 181, 0, 141, 42, 187, 0, 145, 89, 183, 0, 147, 181, 0, 148, 42]
abbrev dktX0_init_3 : List UInt8 := dkwX0_init_3 ++ dktX0_init_4
def dkwX0_init_2 : List UInt8 := [42, 10, 181, 0, 127, 42, 187, 0, 131, 89, 183, 0, 133, 181, 0, 134, 42, 187, 0, 131, 89, 183, 0, 133]
abbrev dktX0_init_2 : List UInt8 := dkwX0_init_2 ++ dktX0_init_3
def dkwX0_init_1 : List UInt8 := [187, 0, 111, 89, 183, 0, 113, 181, 0, 114, 42, 187, 0, 118, 89, 17, 2, 88, 183, 0, 120, 181, 0, 123]
abbrev dktX0_init_1 : List UInt8 := dkwX0_init_1 ++ dktX0_init_2
def dkwX0_init_0 : List UInt8 := [42, 183, 0, 94, 42, 17, 2, 88, 188, 8, 181, 0, 100, 42, 2, 181, 0, 104, 42, 2, 181, 0, 108, 42]
abbrev dktX0_init_0 : List UInt8 := dkwX0_init_0 ++ dktX0_init_1
theorem dksX0_init_0 : cX0_init.data.toList.drop 0 = dktX0_init_0 := by decide +kernel
theorem dksX0_init_1 : cX0_init.data.toList.drop 24 = dktX0_init_1 := dk_seg dksX0_init_0 24 rfl rfl
theorem dksX0_init_2 : cX0_init.data.toList.drop 48 = dktX0_init_2 := dk_seg dksX0_init_1 24 rfl rfl
theorem dksX0_init_3 : cX0_init.data.toList.drop 72 = dktX0_init_3 := dk_seg dksX0_init_2 24 rfl rfl
theorem dksX0_init_4 : cX0_init.data.toList.drop 96 = dktX0_init_4 := dk_seg dksX0_init_3 24 rfl rfl
theorem dksX0_init_5 : cX0_init.data.toList.drop 118 = dktX0_init_5 := dk_seg dksX0_init_4 22 rfl rfl
theorem dksX0_init_6 : cX0_init.data.toList.drop 140 = dktX0_init_6 := dk_seg dksX0_init_5 22 rfl rfl
theorem dksX0_init_7 : cX0_init.data.toList.drop 164 = dktX0_init_7 := dk_seg dksX0_init_6 24 rfl rfl
theorem dX0_init_0 : decode cX0_init 0 = .ok (.aload_n 0, 1) := dk_42 (dk_at dksX0_init_0 0 rfl rfl)
theorem dX0_init_1 : decode cX0_init 1 = .ok (.invokespecial 94, 3) := dk_183 0 94 (dk_at dksX0_init_0 1 rfl rfl)
theorem dX0_init_4 : decode cX0_init 4 = .ok (.aload_n 0, 1) := dk_42 (dk_at dksX0_init_0 4 rfl rfl)
theorem dX0_init_5 : decode cX0_init 5 = .ok (.sipush 600, 3) := dk_17 2 88 (dk_at dksX0_init_0 5 rfl rfl)
theorem dX0_init_8 : decode cX0_init 8 = .ok (.newarray .byte, 2) := dk_188_8 (dk_at dksX0_init_0 8 rfl rfl)
theorem dX0_init_10 : decode cX0_init 10 = .ok (.putfield 100, 3) := dk_181 0 100 (dk_at dksX0_init_0 10 rfl rfl)
theorem dX0_init_13 : decode cX0_init 13 = .ok (.aload_n 0, 1) := dk_42 (dk_at dksX0_init_0 13 rfl rfl)
theorem dX0_init_14 : decode cX0_init 14 = .ok (.iconst (-1), 1) := dk_2 (dk_at dksX0_init_0 14 rfl rfl)
theorem dX0_init_15 : decode cX0_init 15 = .ok (.putfield 104, 3) := dk_181 0 104 (dk_at dksX0_init_0 15 rfl rfl)
theorem dX0_init_18 : decode cX0_init 18 = .ok (.aload_n 0, 1) := dk_42 (dk_at dksX0_init_0 18 rfl rfl)
theorem dX0_init_19 : decode cX0_init 19 = .ok (.iconst (-1), 1) := dk_2 (dk_at dksX0_init_0 19 rfl rfl)
theorem dX0_init_20 : decode cX0_init 20 = .ok (.putfield 108, 3) := dk_181 0 108 (dk_at dksX0_init_0 20 rfl rfl)
theorem dX0_init_23 : decode cX0_init 23 = .ok (.aload_n 0, 1) := dk_42 (dk_at dksX0_init_0 23 rfl rfl)
theorem dX0_init_24 : decode cX0_init 24 = .ok (.new 111, 3) := dk_187 0 111 (dk_at dksX0_init_1 0 rfl rfl)
theorem dX0_init_27 : decode cX0_init 27 = .ok (.dup, 1) := dk_89 (dk_at dksX0_init_1 3 rfl rfl)
theorem dX0_init_28 : decode cX0_init 28 = .ok (.invokespecial 113, 3) := dk_183 0 113 (dk_at dksX0_init_1 4 rfl rfl)
theorem dX0_init_31 : decode cX0_init 31 = .ok (.putfield 114, 3) := dk_181 0 114 (dk_at dksX0_init_1 7 rfl rfl)
theorem dX0_init_34 : decode cX0_init 34 = .ok (.aload_n 0, 1) := dk_42 (dk_at dksX0_init_1 10 rfl rfl)
theorem dX0_init_35 : decode cX0_init 35 = .ok (.new 118, 3) := dk_187 0 118 (dk_at dksX0_init_1 11 rfl rfl)
theorem dX0_init_38 : decode cX0_init 38 = .ok (.dup, 1) := dk_89 (dk_at dksX0_init_1 14 rfl rfl)
theorem dX0_init_39 : decode cX0_init 39 = .ok (.sipush 600, 3) := dk_17 2 88 (dk_at dksX0_init_1 15 rfl rfl)
theorem dX0_init_42 : decode cX0_init 42 = .ok (.invokespecial 120, 3) := dk_183 0 120 (dk_at dksX0_init_1 18 rfl rfl)
theorem dX0_init_45 : decode cX0_init 45 = .ok (.putfield 123, 3) := dk_181 0 123 (dk_at dksX0_init_1 21 rfl rfl)
theorem dX0_init_48 : decode cX0_init 48 = .ok (.aload_n 0, 1) := dk_42 (dk_at dksX0_init_2 0 rfl rfl)
theorem dX0_init_49 : decode cX0_init 49 = .ok (.lconst 1, 1) := dk_10 (dk_at dksX0_init_2 1 rfl rfl)
theorem dX0_init_50 : decode cX0_init 50 = .ok (.putfield 127, 3) := dk_181 0 127 (dk_at dksX0_init_2 2 rfl rfl)
theorem dX0_init_53 : decode cX0_init 53 = .ok (.aload_n 0, 1) := dk_42 (dk_at dksX0_init_2 5 rfl rfl)
theorem dX0_init_54 : decode cX0_init 54 = .ok (.new 131, 3) := dk_187 0 131 (dk_at dksX0_init_2 6 rfl rfl)
theorem dX0_init_57 : decode cX0_init 57 = .ok (.dup, 1) := dk_89 (dk_at dksX0_init_2 9 rfl rfl)
theorem dX0_init_58 : decode cX0_init 58 = .ok (.invokespecial 133, 3) := dk_183 0 133 (dk_at dksX0_init_2 10 rfl rfl)
theorem dX0_init_61 : decode cX0_init 61 = .ok (.putfield 134, 3) := dk_181 0 134 (dk_at dksX0_init_2 13 rfl rfl)
theorem dX0_init_64 : decode cX0_init 64 = .ok (.aload_n 0, 1) := dk_42 (dk_at dksX0_init_2 16 rfl rfl)
theorem dX0_init_65 : decode cX0_init 65 = .ok (.new 131, 3) := dk_187 0 131 (dk_at dksX0_init_2 17 rfl rfl)
theorem dX0_init_68 : decode cX0_init 68 = .ok (.dup, 1) := dk_89 (dk_at dksX0_init_2 20 rfl rfl)
theorem dX0_init_69 : decode cX0_init 69 = .ok (.invokespecial 133, 3) := dk_183 0 133 (dk_at dksX0_init_2 21 rfl rfl)
theorem dX0_init_72 : decode cX0_init 72 = .ok (.putfield 138, 3) := dk_181 0 138 (dk_at dksX0_init_3 0 rfl rfl)
theorem dX0_init_75 : decode cX0_init 75 = .ok (.aload_n 0, 1) := dk_42 (dk_at dksX0_init_3 3 rfl rfl)
theorem dX0_init_76 : decode cX0_init 76 = .ok (.bipush 6, 2) := dk_16 6 (dk_at dksX0_init_3 4 rfl rfl)
theorem dX0_init_78 : decode cX0_init 78 = .ok (.anewarray 131, 3) := dk_189 0 131 (dk_at dksX0_init_3 6 rfl rfl)
theorem dX0_init_81 : decode cX0_init 81 = .ok (.putfield 141, 3) := dk_181 0 141 (dk_at dksX0_init_3 9 rfl rfl)
theorem dX0_init_84 : decode cX0_init 84 = .ok (.aload_n 0, 1) := dk_42 (dk_at dksX0_init_3 12 rfl rfl)
theorem dX0_init_85 : decode cX0_init 85 = .ok (.new 145, 3) := dk_187 0 145 (dk_at dksX0_init_3 13 rfl rfl)
theorem dX0_init_88 : decode cX0_init 88 = .ok (.dup, 1) := dk_89 (dk_at dksX0_init_3 16 rfl rfl)
theorem dX0_init_89 : decode cX0_init 89 = .ok (.invokespecial 147, 3) := dk_183 0 147 (dk_at dksX0_init_3 17 rfl rfl)
theorem dX0_init_92 : decode cX0_init 92 = .ok (.putfield 148, 3) := dk_181 0 148 (dk_at dksX0_init_3 20 rfl rfl)
theorem dX0_init_95 : decode cX0_init 95 = .ok (.aload_n 0, 1) := dk_42 (dk_at dksX0_init_3 23 rfl rfl)
theorem dX0_init_96 : decode cX0_init 96 = .ok (.new 145, 3) := dk_187 0 145 (dk_at dksX0_init_4 0 rfl rfl)
theorem dX0_init_99 : decode cX0_init 99 = .ok (.dup, 1) := dk_89 (dk_at dksX0_init_4 3 rfl rfl)
theorem dX0_init_100 : decode cX0_init 100 = .ok (.invokespecial 147, 3) := dk_183 0 147 (dk_at dksX0_init_4 4 rfl rfl)
theorem dX0_init_103 : decode cX0_init 103 = .ok (.putfield 152, 3) := dk_181 0 152 (dk_at dksX0_init_4 7 rfl rfl)
theorem dX0_init_106 : decode cX0_init 106 = .ok (.aload_n 0, 1) := dk_42 (dk_at dksX0_init_4 10 rfl rfl)
theorem dX0_init_107 : decode cX0_init 107 = .ok (.new 155, 3) := dk_187 0 155 (dk_at dksX0_init_4 11 rfl rfl)
theorem dX0_init_110 : decode cX0_init 110 = .ok (.dup, 1) := dk_89 (dk_at dksX0_init_4 14 rfl rfl)
theorem dX0_init_111 : decode cX0_init 111 = .ok (.aload_n 0, 1) := dk_42 (dk_at dksX0_init_4 15 rfl rfl)
theorem dX0_init_112 : decode cX0_init 112 = .ok (.getfield 148, 3) := dk_180 0 148 (dk_at dksX0_init_4 16 rfl rfl)
theorem dX0_init_115 : decode cX0_init 115 = .ok (.invokespecial 157, 3) := dk_183 0 157 (dk_at dksX0_init_4 19 rfl rfl)
theorem dX0_init_118 : decode cX0_init 118 = .ok (.putfield 160, 3) := dk_181 0 160 (dk_at dksX0_init_5 0 rfl rfl)
theorem dX0_init_121 : decode cX0_init 121 = .ok (.aload_n 0, 1) := dk_42 (dk_at dksX0_init_5 3 rfl rfl)
theorem dX0_init_122 : decode cX0_init 122 = .ok (.ldc 164, 2) := dk_18 164 (dk_at dksX0_init_5 4 rfl rfl)
theorem dX0_init_124 : decode cX0_init 124 = .ok (.putfield 166, 3) := dk_181 0 166 (dk_at dksX0_init_5 6 rfl rfl)
theorem dX0_init_127 : decode cX0_init 127 = .ok (.aload_n 0, 1) := dk_42 (dk_at dksX0_init_5 9 rfl rfl)
theorem dX0_init_128 : decode cX0_init 128 = .ok (.bipush 13, 2) := dk_16 13 (dk_at dksX0_init_5 10 rfl rfl)
theorem dX0_init_130 : decode cX0_init 130 = .ok (.newarray .int, 2) := dk_188_10 (dk_at dksX0_init_5 12 rfl rfl)
theorem dX0_init_132 : decode cX0_init 132 = .ok (.putfield 170, 3) := dk_181 0 170 (dk_at dksX0_init_5 14 rfl rfl)
theorem dX0_init_135 : decode cX0_init 135 = .ok (.aload_n 0, 1) := dk_42 (dk_at dksX0_init_5 17 rfl rfl)
theorem dX0_init_136 : decode cX0_init 136 = .ok (.bipush 13, 2) := dk_16 13 (dk_at dksX0_init_5 18 rfl rfl)
theorem dX0_init_138 : decode cX0_init 138 = .ok (.newarray .int, 2) := dk_188_10 (dk_at dksX0_init_5 20 rfl rfl)
theorem dX0_init_140 : decode cX0_init 140 = .ok (.putfield 174, 3) := dk_181 0 174 (dk_at dksX0_init_6 0 rfl rfl)
theorem dX0_init_143 : decode cX0_init 143 = .ok (.iconst 0, 1) := dk_3 (dk_at dksX0_init_6 3 rfl rfl)
theorem dX0_init_144 : decode cX0_init 144 = .ok (.istore_n 1, 1) := dk_60 (dk_at dksX0_init_6 4 rfl rfl)
theorem dX0_init_145 : decode cX0_init 145 = .ok (.iload_n 1, 1) := dk_27 (dk_at dksX0_init_6 5 rfl rfl)
theorem dX0_init_146 : decode cX0_init 146 = .ok (.bipush 6, 2) := dk_16 6 (dk_at dksX0_init_6 6 rfl rfl)
theorem dX0_init_148 : decode cX0_init 148 = .ok (.if_icmp .ge 22, 3) := dk_162 0 22 (dk_at dksX0_init_6 8 rfl rfl)
theorem dX0_init_151 : decode cX0_init 151 = .ok (.aload_n 0, 1) := dk_42 (dk_at dksX0_init_6 11 rfl rfl)
theorem dX0_init_152 : decode cX0_init 152 = .ok (.getfield 141, 3) := dk_180 0 141 (dk_at dksX0_init_6 12 rfl rfl)
theorem dX0_init_155 : decode cX0_init 155 = .ok (.iload_n 1, 1) := dk_27 (dk_at dksX0_init_6 15 rfl rfl)
theorem dX0_init_156 : decode cX0_init 156 = .ok (.new 131, 3) := dk_187 0 131 (dk_at dksX0_init_6 16 rfl rfl)
theorem dX0_init_159 : decode cX0_init 159 = .ok (.dup, 1) := dk_89 (dk_at dksX0_init_6 19 rfl rfl)
theorem dX0_init_160 : decode cX0_init 160 = .ok (.invokespecial 133, 3) := dk_183 0 133 (dk_at dksX0_init_6 20 rfl rfl)
theorem dX0_init_163 : decode cX0_init 163 = .ok (.aastore, 1) := dk_83 (dk_at dksX0_init_6 23 rfl rfl)
theorem dX0_init_164 : decode cX0_init 164 = .ok (.iinc 1 1, 3) := dk_132 1 1 (dk_at dksX0_init_7 0 rfl rfl)
theorem dX0_init_167 : decode cX0_init 167 = .ok (.goto (-22), 3) := dk_167 255 234 (dk_at dksX0_init_7 3 rfl rfl)
theorem dX0_init_170 : decode cX0_init 170 = .ok (.return_, 1) := dk_177 (dk_at dksX0_init_7 6 rfl rfl)
abbrev cX0_status : ByteArray := prog_1_method_8_code
def yX0_status : MethodName := ⟨RX0, "status", "()I"⟩
theorem dX0_status_0 : decode cX0_status 0 = .ok (.aload_n 0, 1) := by decide +kernel
theorem dX0_status_1 : decode cX0_status 1 = .ok (.getfield 177, 3) := by decide +kernel
theorem dX0_status_4 : decode cX0_status 4 = .ok (.ireturn, 1) := by decide +kernel
abbrev cX0_top : ByteArray := prog_1_method_9_code
def yX0_top : MethodName := ⟨RX0, "top", "()J"⟩
theorem dX0_top_0 : decode cX0_top 0 = .ok (.aload_n 0, 1) := by decide +kernel
theorem dX0_top_1 : decode cX0_top 1 = .ok (.getfield 180, 3) := by decide +kernel
theorem dX0_top_4 : decode cX0_top 4 = .ok (.lreturn, 1) := by decide +kernel
abbrev cX0_bottom : ByteArray := prog_1_method_10_code
def yX0_bottom : MethodName := ⟨RX0, "bottom", "()J"⟩
theorem dX0_bottom_0 : decode cX0_bottom 0 = .ok (.aload_n 0, 1) := by decide +kernel
theorem dX0_bottom_1 : decode cX0_bottom 1 = .ok (.getfield 127, 3) := by decide +kernel
theorem dX0_bottom_4 : decode cX0_bottom 4 = .ok (.lreturn, 1) := by decide +kernel
abbrev cX0_back : ByteArray := prog_1_method_19_code
def yX0_back : MethodName := ⟨RX0, "back", "()I"⟩
def dkwX0_back_2 : List UInt8 := [182, 0, 201, 42, 182, 0, 205, 42, 180, 0, 198, 172]
abbrev dktX0_back_2 : List UInt8 := dkwX0_back_2 ++ []
def dkwX0_back_1 : List UInt8 := [172, 42, 89, 180, 0, 198, 4, 100, 181, 0, 198, 42, 180, 0, 134, 42, 180, 0, 141, 42, 180, 0, 198, 50]
abbrev dktX0_back_1 : List UInt8 := dkwX0_back_1 ++ dktX0_back_2
def dkwX0_back_0 : List UInt8 := [42, 42, 180, 0, 198, 154, 0, 7, 6, 167, 0, 4, 3, 181, 0, 177, 42, 180, 0, 177, 158, 0, 5, 2]
abbrev dktX0_back_0 : List UInt8 := dkwX0_back_0 ++ dktX0_back_1
theorem dksX0_back_0 : cX0_back.data.toList.drop 0 = dktX0_back_0 := by decide +kernel
theorem dksX0_back_1 : cX0_back.data.toList.drop 24 = dktX0_back_1 := dk_seg dksX0_back_0 24 rfl rfl
theorem dksX0_back_2 : cX0_back.data.toList.drop 48 = dktX0_back_2 := dk_seg dksX0_back_1 24 rfl rfl
theorem dX0_back_0 : decode cX0_back 0 = .ok (.aload_n 0, 1) := dk_42 (dk_at dksX0_back_0 0 rfl rfl)
theorem dX0_back_1 : decode cX0_back 1 = .ok (.aload_n 0, 1) := dk_42 (dk_at dksX0_back_0 1 rfl rfl)
theorem dX0_back_2 : decode cX0_back 2 = .ok (.getfield 198, 3) := dk_180 0 198 (dk_at dksX0_back_0 2 rfl rfl)
theorem dX0_back_5 : decode cX0_back 5 = .ok (.ifCond .ne 7, 3) := dk_154 0 7 (dk_at dksX0_back_0 5 rfl rfl)
theorem dX0_back_8 : decode cX0_back 8 = .ok (.iconst 3, 1) := dk_6 (dk_at dksX0_back_0 8 rfl rfl)
theorem dX0_back_9 : decode cX0_back 9 = .ok (.goto 4, 3) := dk_167 0 4 (dk_at dksX0_back_0 9 rfl rfl)
theorem dX0_back_12 : decode cX0_back 12 = .ok (.iconst 0, 1) := dk_3 (dk_at dksX0_back_0 12 rfl rfl)
theorem dX0_back_13 : decode cX0_back 13 = .ok (.putfield 177, 3) := dk_181 0 177 (dk_at dksX0_back_0 13 rfl rfl)
theorem dX0_back_16 : decode cX0_back 16 = .ok (.aload_n 0, 1) := dk_42 (dk_at dksX0_back_0 16 rfl rfl)
theorem dX0_back_17 : decode cX0_back 17 = .ok (.getfield 177, 3) := dk_180 0 177 (dk_at dksX0_back_0 17 rfl rfl)
theorem dX0_back_20 : decode cX0_back 20 = .ok (.ifCond .le 5, 3) := dk_158 0 5 (dk_at dksX0_back_0 20 rfl rfl)
theorem dX0_back_23 : decode cX0_back 23 = .ok (.iconst (-1), 1) := dk_2 (dk_at dksX0_back_0 23 rfl rfl)
theorem dX0_back_24 : decode cX0_back 24 = .ok (.ireturn, 1) := dk_172 (dk_at dksX0_back_1 0 rfl rfl)
theorem dX0_back_25 : decode cX0_back 25 = .ok (.aload_n 0, 1) := dk_42 (dk_at dksX0_back_1 1 rfl rfl)
theorem dX0_back_26 : decode cX0_back 26 = .ok (.dup, 1) := dk_89 (dk_at dksX0_back_1 2 rfl rfl)
theorem dX0_back_27 : decode cX0_back 27 = .ok (.getfield 198, 3) := dk_180 0 198 (dk_at dksX0_back_1 3 rfl rfl)
theorem dX0_back_30 : decode cX0_back 30 = .ok (.iconst 1, 1) := dk_4 (dk_at dksX0_back_1 6 rfl rfl)
theorem dX0_back_31 : decode cX0_back 31 = .ok (.isub, 1) := dk_100 (dk_at dksX0_back_1 7 rfl rfl)
theorem dX0_back_32 : decode cX0_back 32 = .ok (.putfield 198, 3) := dk_181 0 198 (dk_at dksX0_back_1 8 rfl rfl)
theorem dX0_back_35 : decode cX0_back 35 = .ok (.aload_n 0, 1) := dk_42 (dk_at dksX0_back_1 11 rfl rfl)
theorem dX0_back_36 : decode cX0_back 36 = .ok (.getfield 134, 3) := dk_180 0 134 (dk_at dksX0_back_1 12 rfl rfl)
theorem dX0_back_39 : decode cX0_back 39 = .ok (.aload_n 0, 1) := dk_42 (dk_at dksX0_back_1 15 rfl rfl)
theorem dX0_back_40 : decode cX0_back 40 = .ok (.getfield 141, 3) := dk_180 0 141 (dk_at dksX0_back_1 16 rfl rfl)
theorem dX0_back_43 : decode cX0_back 43 = .ok (.aload_n 0, 1) := dk_42 (dk_at dksX0_back_1 19 rfl rfl)
theorem dX0_back_44 : decode cX0_back 44 = .ok (.getfield 198, 3) := dk_180 0 198 (dk_at dksX0_back_1 20 rfl rfl)
theorem dX0_back_47 : decode cX0_back 47 = .ok (.aaload, 1) := dk_50 (dk_at dksX0_back_1 23 rfl rfl)
theorem dX0_back_48 : decode cX0_back 48 = .ok (.invokevirtual 201, 3) := dk_182 0 201 (dk_at dksX0_back_2 0 rfl rfl)
theorem dX0_back_51 : decode cX0_back 51 = .ok (.aload_n 0, 1) := dk_42 (dk_at dksX0_back_2 3 rfl rfl)
theorem dX0_back_52 : decode cX0_back 52 = .ok (.invokevirtual 205, 3) := dk_182 0 205 (dk_at dksX0_back_2 4 rfl rfl)
theorem dX0_back_55 : decode cX0_back 55 = .ok (.aload_n 0, 1) := dk_42 (dk_at dksX0_back_2 7 rfl rfl)
theorem dX0_back_56 : decode cX0_back 56 = .ok (.getfield 198, 3) := dk_180 0 198 (dk_at dksX0_back_2 8 rfl rfl)
theorem dX0_back_59 : decode cX0_back 59 = .ok (.ireturn, 1) := dk_172 (dk_at dksX0_back_2 11 rfl rfl)
abbrev cX0_changes : ByteArray := prog_1_method_18_code
def yX0_changes : MethodName := ⟨RX0, "changes", "()V"⟩
def dkwX0_changes_0 : List UInt8 := [42, 3, 181, 0, 208, 42, 3, 181, 0, 212, 42, 3, 181, 0, 215, 177]
abbrev dktX0_changes_0 : List UInt8 := dkwX0_changes_0 ++ []
theorem dksX0_changes_0 : cX0_changes.data.toList.drop 0 = dktX0_changes_0 := by decide +kernel
theorem dX0_changes_0 : decode cX0_changes 0 = .ok (.aload_n 0, 1) := dk_42 (dk_at dksX0_changes_0 0 rfl rfl)
theorem dX0_changes_1 : decode cX0_changes 1 = .ok (.iconst 0, 1) := dk_3 (dk_at dksX0_changes_0 1 rfl rfl)
theorem dX0_changes_2 : decode cX0_changes 2 = .ok (.putfield 208, 3) := dk_181 0 208 (dk_at dksX0_changes_0 2 rfl rfl)
theorem dX0_changes_5 : decode cX0_changes 5 = .ok (.aload_n 0, 1) := dk_42 (dk_at dksX0_changes_0 5 rfl rfl)
theorem dX0_changes_6 : decode cX0_changes 6 = .ok (.iconst 0, 1) := dk_3 (dk_at dksX0_changes_0 6 rfl rfl)
theorem dX0_changes_7 : decode cX0_changes 7 = .ok (.putfield 212, 3) := dk_181 0 212 (dk_at dksX0_changes_0 7 rfl rfl)
theorem dX0_changes_10 : decode cX0_changes 10 = .ok (.aload_n 0, 1) := dk_42 (dk_at dksX0_changes_0 10 rfl rfl)
theorem dX0_changes_11 : decode cX0_changes 11 = .ok (.iconst 0, 1) := dk_3 (dk_at dksX0_changes_0 11 rfl rfl)
theorem dX0_changes_12 : decode cX0_changes 12 = .ok (.putfield 215, 3) := dk_181 0 215 (dk_at dksX0_changes_0 12 rfl rfl)
theorem dX0_changes_15 : decode cX0_changes 15 = .ok (.return_, 1) := dk_177 (dk_at dksX0_changes_0 15 rfl rfl)
abbrev cX0_feed : ByteArray := prog_1_method_20_code
def yX0_feed : MethodName := ⟨RX0, "feed", "(IIIII)I"⟩
def dkwX0_feed_2 : List UInt8 := [172]
abbrev dktX0_feed_2 : List UInt8 := dkwX0_feed_2 ++ []
def dkwX0_feed_1 : List UInt8 := [182, 0, 221, 42, 29, 182, 0, 221, 42, 21, 4, 182, 0, 221, 42, 21, 5, 182, 0, 221, 42, 180, 0, 218]
abbrev dktX0_feed_1 : List UInt8 := dkwX0_feed_1 ++ dktX0_feed_2
def dkwX0_feed_0 : List UInt8 := [42, 180, 0, 218, 16, 20, 96, 17, 2, 88, 164, 0, 5, 2, 172, 42, 27, 182, 0, 221, 42, 28]
abbrev dktX0_feed_0 : List UInt8 := dkwX0_feed_0 ++ dktX0_feed_1
theorem dksX0_feed_0 : cX0_feed.data.toList.drop 0 = dktX0_feed_0 := by decide +kernel
theorem dksX0_feed_1 : cX0_feed.data.toList.drop 22 = dktX0_feed_1 := dk_seg dksX0_feed_0 22 rfl rfl
theorem dksX0_feed_2 : cX0_feed.data.toList.drop 46 = dktX0_feed_2 := dk_seg dksX0_feed_1 24 rfl rfl
theorem dX0_feed_0 : decode cX0_feed 0 = .ok (.aload_n 0, 1) := dk_42 (dk_at dksX0_feed_0 0 rfl rfl)
theorem dX0_feed_1 : decode cX0_feed 1 = .ok (.getfield 218, 3) := dk_180 0 218 (dk_at dksX0_feed_0 1 rfl rfl)
theorem dX0_feed_4 : decode cX0_feed 4 = .ok (.bipush 20, 2) := dk_16 20 (dk_at dksX0_feed_0 4 rfl rfl)
theorem dX0_feed_6 : decode cX0_feed 6 = .ok (.iadd, 1) := dk_96 (dk_at dksX0_feed_0 6 rfl rfl)
theorem dX0_feed_7 : decode cX0_feed 7 = .ok (.sipush 600, 3) := dk_17 2 88 (dk_at dksX0_feed_0 7 rfl rfl)
theorem dX0_feed_10 : decode cX0_feed 10 = .ok (.if_icmp .le 5, 3) := dk_164 0 5 (dk_at dksX0_feed_0 10 rfl rfl)
theorem dX0_feed_13 : decode cX0_feed 13 = .ok (.iconst (-1), 1) := dk_2 (dk_at dksX0_feed_0 13 rfl rfl)
theorem dX0_feed_14 : decode cX0_feed 14 = .ok (.ireturn, 1) := dk_172 (dk_at dksX0_feed_0 14 rfl rfl)
theorem dX0_feed_15 : decode cX0_feed 15 = .ok (.aload_n 0, 1) := dk_42 (dk_at dksX0_feed_0 15 rfl rfl)
theorem dX0_feed_16 : decode cX0_feed 16 = .ok (.iload_n 1, 1) := dk_27 (dk_at dksX0_feed_0 16 rfl rfl)
theorem dX0_feed_17 : decode cX0_feed 17 = .ok (.invokevirtual 221, 3) := dk_182 0 221 (dk_at dksX0_feed_0 17 rfl rfl)
theorem dX0_feed_20 : decode cX0_feed 20 = .ok (.aload_n 0, 1) := dk_42 (dk_at dksX0_feed_0 20 rfl rfl)
theorem dX0_feed_21 : decode cX0_feed 21 = .ok (.iload_n 2, 1) := dk_28 (dk_at dksX0_feed_0 21 rfl rfl)
theorem dX0_feed_22 : decode cX0_feed 22 = .ok (.invokevirtual 221, 3) := dk_182 0 221 (dk_at dksX0_feed_1 0 rfl rfl)
theorem dX0_feed_25 : decode cX0_feed 25 = .ok (.aload_n 0, 1) := dk_42 (dk_at dksX0_feed_1 3 rfl rfl)
theorem dX0_feed_26 : decode cX0_feed 26 = .ok (.iload_n 3, 1) := dk_29 (dk_at dksX0_feed_1 4 rfl rfl)
theorem dX0_feed_27 : decode cX0_feed 27 = .ok (.invokevirtual 221, 3) := dk_182 0 221 (dk_at dksX0_feed_1 5 rfl rfl)
theorem dX0_feed_30 : decode cX0_feed 30 = .ok (.aload_n 0, 1) := dk_42 (dk_at dksX0_feed_1 8 rfl rfl)
theorem dX0_feed_31 : decode cX0_feed 31 = .ok (.iload 4, 2) := dk_21 4 (dk_at dksX0_feed_1 9 rfl rfl)
theorem dX0_feed_33 : decode cX0_feed 33 = .ok (.invokevirtual 221, 3) := dk_182 0 221 (dk_at dksX0_feed_1 11 rfl rfl)
theorem dX0_feed_36 : decode cX0_feed 36 = .ok (.aload_n 0, 1) := dk_42 (dk_at dksX0_feed_1 14 rfl rfl)
theorem dX0_feed_37 : decode cX0_feed 37 = .ok (.iload 5, 2) := dk_21 5 (dk_at dksX0_feed_1 15 rfl rfl)
theorem dX0_feed_39 : decode cX0_feed 39 = .ok (.invokevirtual 221, 3) := dk_182 0 221 (dk_at dksX0_feed_1 17 rfl rfl)
theorem dX0_feed_42 : decode cX0_feed 42 = .ok (.aload_n 0, 1) := dk_42 (dk_at dksX0_feed_1 20 rfl rfl)
theorem dX0_feed_43 : decode cX0_feed 43 = .ok (.getfield 218, 3) := dk_180 0 218 (dk_at dksX0_feed_1 21 rfl rfl)
theorem dX0_feed_46 : decode cX0_feed 46 = .ok (.ireturn, 1) := dk_172 (dk_at dksX0_feed_2 0 rfl rfl)
abbrev cX0_lay : ByteArray := prog_1_method_21_code
def yX0_lay : MethodName := ⟨RX0, "lay", "(I)V"⟩
def dkwX0_lay_1 : List UInt8 := [180, 0, 218, 4, 96, 181, 0, 218, 132, 2, 248, 167, 255, 226, 177]
abbrev dktX0_lay_1 : List UInt8 := dkwX0_lay_1 ++ []
def dkwX0_lay_0 : List UInt8 := [16, 24, 61, 28, 155, 0, 32, 42, 180, 0, 100, 42, 180, 0, 218, 27, 28, 122, 145, 84, 42, 89]
abbrev dktX0_lay_0 : List UInt8 := dkwX0_lay_0 ++ dktX0_lay_1
theorem dksX0_lay_0 : cX0_lay.data.toList.drop 0 = dktX0_lay_0 := by decide +kernel
theorem dksX0_lay_1 : cX0_lay.data.toList.drop 22 = dktX0_lay_1 := dk_seg dksX0_lay_0 22 rfl rfl
theorem dX0_lay_0 : decode cX0_lay 0 = .ok (.bipush 24, 2) := dk_16 24 (dk_at dksX0_lay_0 0 rfl rfl)
theorem dX0_lay_2 : decode cX0_lay 2 = .ok (.istore_n 2, 1) := dk_61 (dk_at dksX0_lay_0 2 rfl rfl)
theorem dX0_lay_3 : decode cX0_lay 3 = .ok (.iload_n 2, 1) := dk_28 (dk_at dksX0_lay_0 3 rfl rfl)
theorem dX0_lay_4 : decode cX0_lay 4 = .ok (.ifCond .lt 32, 3) := dk_155 0 32 (dk_at dksX0_lay_0 4 rfl rfl)
theorem dX0_lay_7 : decode cX0_lay 7 = .ok (.aload_n 0, 1) := dk_42 (dk_at dksX0_lay_0 7 rfl rfl)
theorem dX0_lay_8 : decode cX0_lay 8 = .ok (.getfield 100, 3) := dk_180 0 100 (dk_at dksX0_lay_0 8 rfl rfl)
theorem dX0_lay_11 : decode cX0_lay 11 = .ok (.aload_n 0, 1) := dk_42 (dk_at dksX0_lay_0 11 rfl rfl)
theorem dX0_lay_12 : decode cX0_lay 12 = .ok (.getfield 218, 3) := dk_180 0 218 (dk_at dksX0_lay_0 12 rfl rfl)
theorem dX0_lay_15 : decode cX0_lay 15 = .ok (.iload_n 1, 1) := dk_27 (dk_at dksX0_lay_0 15 rfl rfl)
theorem dX0_lay_16 : decode cX0_lay 16 = .ok (.iload_n 2, 1) := dk_28 (dk_at dksX0_lay_0 16 rfl rfl)
theorem dX0_lay_17 : decode cX0_lay 17 = .ok (.ishr, 1) := dk_122 (dk_at dksX0_lay_0 17 rfl rfl)
theorem dX0_lay_18 : decode cX0_lay 18 = .ok (.i2b, 1) := dk_145 (dk_at dksX0_lay_0 18 rfl rfl)
theorem dX0_lay_19 : decode cX0_lay 19 = .ok (.bastore, 1) := dk_84 (dk_at dksX0_lay_0 19 rfl rfl)
theorem dX0_lay_20 : decode cX0_lay 20 = .ok (.aload_n 0, 1) := dk_42 (dk_at dksX0_lay_0 20 rfl rfl)
theorem dX0_lay_21 : decode cX0_lay 21 = .ok (.dup, 1) := dk_89 (dk_at dksX0_lay_0 21 rfl rfl)
theorem dX0_lay_22 : decode cX0_lay 22 = .ok (.getfield 218, 3) := dk_180 0 218 (dk_at dksX0_lay_1 0 rfl rfl)
theorem dX0_lay_25 : decode cX0_lay 25 = .ok (.iconst 1, 1) := dk_4 (dk_at dksX0_lay_1 3 rfl rfl)
theorem dX0_lay_26 : decode cX0_lay 26 = .ok (.iadd, 1) := dk_96 (dk_at dksX0_lay_1 4 rfl rfl)
theorem dX0_lay_27 : decode cX0_lay 27 = .ok (.putfield 218, 3) := dk_181 0 218 (dk_at dksX0_lay_1 5 rfl rfl)
theorem dX0_lay_30 : decode cX0_lay 30 = .ok (.iinc 2 (-8), 3) := dk_132 2 248 (dk_at dksX0_lay_1 8 rfl rfl)
theorem dX0_lay_33 : decode cX0_lay 33 = .ok (.goto (-30), 3) := dk_167 255 226 (dk_at dksX0_lay_1 11 rfl rfl)
theorem dX0_lay_36 : decode cX0_lay 36 = .ok (.return_, 1) := dk_177 (dk_at dksX0_lay_1 14 rfl rfl)
abbrev cX0_frame : ByteArray := prog_1_method_22_code
def yX0_frame : MethodName := ⟨RX0, "frame", "(I)I"⟩
def dkwX0_frame_4 : List UInt8 := [42, 180, 0, 138, 182, 0, 201, 42, 180, 0, 134, 180, 0, 187, 172]
abbrev dktX0_frame_4 : List UInt8 := dkwX0_frame_4 ++ []
def dkwX0_frame_3 : List UInt8 := [42, 44, 180, 0, 242, 181, 0, 108, 42, 16, 7, 181, 0, 177, 2, 172, 42, 182, 0, 245, 42, 180, 0, 134]
abbrev dktX0_frame_3 : List UInt8 := dkwX0_frame_3 ++ dktX0_frame_4
def dkwX0_frame_2 : List UInt8 := [42, 27, 42, 180, 0, 138, 183, 0, 233, 182, 0, 236, 167, 0, 28, 77, 42, 44, 180, 0, 239, 181, 0, 104]
abbrev dktX0_frame_2 : List UInt8 := dkwX0_frame_2 ++ dktX0_frame_3
def dkwX0_frame_1 : List UInt8 := [181, 0, 218, 42, 3, 181, 0, 104, 42, 2, 181, 0, 108, 42, 180, 0, 138, 182, 0, 228, 187, 0, 231, 89]
abbrev dktX0_frame_1 : List UInt8 := dkwX0_frame_1 ++ dktX0_frame_2
def dkwX0_frame_0 : List UInt8 := [42, 27, 133, 9, 42, 180, 0, 218, 133, 184, 0, 194, 182, 0, 224, 154, 0, 5, 2, 172, 42, 3]
abbrev dktX0_frame_0 : List UInt8 := dkwX0_frame_0 ++ dktX0_frame_1
theorem dksX0_frame_0 : cX0_frame.data.toList.drop 0 = dktX0_frame_0 := by decide +kernel
theorem dksX0_frame_1 : cX0_frame.data.toList.drop 22 = dktX0_frame_1 := dk_seg dksX0_frame_0 22 rfl rfl
theorem dksX0_frame_2 : cX0_frame.data.toList.drop 46 = dktX0_frame_2 := dk_seg dksX0_frame_1 24 rfl rfl
theorem dksX0_frame_3 : cX0_frame.data.toList.drop 70 = dktX0_frame_3 := dk_seg dksX0_frame_2 24 rfl rfl
theorem dksX0_frame_4 : cX0_frame.data.toList.drop 94 = dktX0_frame_4 := dk_seg dksX0_frame_3 24 rfl rfl
theorem dX0_frame_0 : decode cX0_frame 0 = .ok (.aload_n 0, 1) := dk_42 (dk_at dksX0_frame_0 0 rfl rfl)
theorem dX0_frame_1 : decode cX0_frame 1 = .ok (.iload_n 1, 1) := dk_27 (dk_at dksX0_frame_0 1 rfl rfl)
theorem dX0_frame_2 : decode cX0_frame 2 = .ok (.i2l, 1) := dk_133 (dk_at dksX0_frame_0 2 rfl rfl)
theorem dX0_frame_3 : decode cX0_frame 3 = .ok (.lconst 0, 1) := dk_9 (dk_at dksX0_frame_0 3 rfl rfl)
theorem dX0_frame_4 : decode cX0_frame 4 = .ok (.aload_n 0, 1) := dk_42 (dk_at dksX0_frame_0 4 rfl rfl)
theorem dX0_frame_5 : decode cX0_frame 5 = .ok (.getfield 218, 3) := dk_180 0 218 (dk_at dksX0_frame_0 5 rfl rfl)
theorem dX0_frame_8 : decode cX0_frame 8 = .ok (.i2l, 1) := dk_133 (dk_at dksX0_frame_0 8 rfl rfl)
theorem dX0_frame_9 : decode cX0_frame 9 = .ok (.invokestatic 194, 3) := dk_184 0 194 (dk_at dksX0_frame_0 9 rfl rfl)
theorem dX0_frame_12 : decode cX0_frame 12 = .ok (.invokevirtual 224, 3) := dk_182 0 224 (dk_at dksX0_frame_0 12 rfl rfl)
theorem dX0_frame_15 : decode cX0_frame 15 = .ok (.ifCond .ne 5, 3) := dk_154 0 5 (dk_at dksX0_frame_0 15 rfl rfl)
theorem dX0_frame_18 : decode cX0_frame 18 = .ok (.iconst (-1), 1) := dk_2 (dk_at dksX0_frame_0 18 rfl rfl)
theorem dX0_frame_19 : decode cX0_frame 19 = .ok (.ireturn, 1) := dk_172 (dk_at dksX0_frame_0 19 rfl rfl)
theorem dX0_frame_20 : decode cX0_frame 20 = .ok (.aload_n 0, 1) := dk_42 (dk_at dksX0_frame_0 20 rfl rfl)
theorem dX0_frame_21 : decode cX0_frame 21 = .ok (.iconst 0, 1) := dk_3 (dk_at dksX0_frame_0 21 rfl rfl)
theorem dX0_frame_22 : decode cX0_frame 22 = .ok (.putfield 218, 3) := dk_181 0 218 (dk_at dksX0_frame_1 0 rfl rfl)
theorem dX0_frame_25 : decode cX0_frame 25 = .ok (.aload_n 0, 1) := dk_42 (dk_at dksX0_frame_1 3 rfl rfl)
theorem dX0_frame_26 : decode cX0_frame 26 = .ok (.iconst 0, 1) := dk_3 (dk_at dksX0_frame_1 4 rfl rfl)
theorem dX0_frame_27 : decode cX0_frame 27 = .ok (.putfield 104, 3) := dk_181 0 104 (dk_at dksX0_frame_1 5 rfl rfl)
theorem dX0_frame_30 : decode cX0_frame 30 = .ok (.aload_n 0, 1) := dk_42 (dk_at dksX0_frame_1 8 rfl rfl)
theorem dX0_frame_31 : decode cX0_frame 31 = .ok (.iconst (-1), 1) := dk_2 (dk_at dksX0_frame_1 9 rfl rfl)
theorem dX0_frame_32 : decode cX0_frame 32 = .ok (.putfield 108, 3) := dk_181 0 108 (dk_at dksX0_frame_1 10 rfl rfl)
theorem dX0_frame_35 : decode cX0_frame 35 = .ok (.aload_n 0, 1) := dk_42 (dk_at dksX0_frame_1 13 rfl rfl)
theorem dX0_frame_36 : decode cX0_frame 36 = .ok (.getfield 138, 3) := dk_180 0 138 (dk_at dksX0_frame_1 14 rfl rfl)
theorem dX0_frame_39 : decode cX0_frame 39 = .ok (.invokevirtual 228, 3) := dk_182 0 228 (dk_at dksX0_frame_1 17 rfl rfl)
theorem dX0_frame_42 : decode cX0_frame 42 = .ok (.new 231, 3) := dk_187 0 231 (dk_at dksX0_frame_1 20 rfl rfl)
theorem dX0_frame_45 : decode cX0_frame 45 = .ok (.dup, 1) := dk_89 (dk_at dksX0_frame_1 23 rfl rfl)
theorem dX0_frame_46 : decode cX0_frame 46 = .ok (.aload_n 0, 1) := dk_42 (dk_at dksX0_frame_2 0 rfl rfl)
theorem dX0_frame_47 : decode cX0_frame 47 = .ok (.iload_n 1, 1) := dk_27 (dk_at dksX0_frame_2 1 rfl rfl)
theorem dX0_frame_48 : decode cX0_frame 48 = .ok (.aload_n 0, 1) := dk_42 (dk_at dksX0_frame_2 2 rfl rfl)
theorem dX0_frame_49 : decode cX0_frame 49 = .ok (.getfield 138, 3) := dk_180 0 138 (dk_at dksX0_frame_2 3 rfl rfl)
theorem dX0_frame_52 : decode cX0_frame 52 = .ok (.invokespecial 233, 3) := dk_183 0 233 (dk_at dksX0_frame_2 6 rfl rfl)
theorem dX0_frame_55 : decode cX0_frame 55 = .ok (.invokevirtual 236, 3) := dk_182 0 236 (dk_at dksX0_frame_2 9 rfl rfl)
theorem dX0_frame_58 : decode cX0_frame 58 = .ok (.goto 28, 3) := dk_167 0 28 (dk_at dksX0_frame_2 12 rfl rfl)
theorem dX0_frame_61 : decode cX0_frame 61 = .ok (.astore_n 2, 1) := dk_77 (dk_at dksX0_frame_2 15 rfl rfl)
theorem dX0_frame_62 : decode cX0_frame 62 = .ok (.aload_n 0, 1) := dk_42 (dk_at dksX0_frame_2 16 rfl rfl)
theorem dX0_frame_63 : decode cX0_frame 63 = .ok (.aload_n 2, 1) := dk_44 (dk_at dksX0_frame_2 17 rfl rfl)
theorem dX0_frame_64 : decode cX0_frame 64 = .ok (.getfield 239, 3) := dk_180 0 239 (dk_at dksX0_frame_2 18 rfl rfl)
theorem dX0_frame_67 : decode cX0_frame 67 = .ok (.putfield 104, 3) := dk_181 0 104 (dk_at dksX0_frame_2 21 rfl rfl)
theorem dX0_frame_70 : decode cX0_frame 70 = .ok (.aload_n 0, 1) := dk_42 (dk_at dksX0_frame_3 0 rfl rfl)
theorem dX0_frame_71 : decode cX0_frame 71 = .ok (.aload_n 2, 1) := dk_44 (dk_at dksX0_frame_3 1 rfl rfl)
theorem dX0_frame_72 : decode cX0_frame 72 = .ok (.getfield 242, 3) := dk_180 0 242 (dk_at dksX0_frame_3 2 rfl rfl)
theorem dX0_frame_75 : decode cX0_frame 75 = .ok (.putfield 108, 3) := dk_181 0 108 (dk_at dksX0_frame_3 5 rfl rfl)
theorem dX0_frame_78 : decode cX0_frame 78 = .ok (.aload_n 0, 1) := dk_42 (dk_at dksX0_frame_3 8 rfl rfl)
theorem dX0_frame_79 : decode cX0_frame 79 = .ok (.bipush 7, 2) := dk_16 7 (dk_at dksX0_frame_3 9 rfl rfl)
theorem dX0_frame_81 : decode cX0_frame 81 = .ok (.putfield 177, 3) := dk_181 0 177 (dk_at dksX0_frame_3 11 rfl rfl)
theorem dX0_frame_84 : decode cX0_frame 84 = .ok (.iconst (-1), 1) := dk_2 (dk_at dksX0_frame_3 14 rfl rfl)
theorem dX0_frame_85 : decode cX0_frame 85 = .ok (.ireturn, 1) := dk_172 (dk_at dksX0_frame_3 15 rfl rfl)
theorem dX0_frame_86 : decode cX0_frame 86 = .ok (.aload_n 0, 1) := dk_42 (dk_at dksX0_frame_3 16 rfl rfl)
theorem dX0_frame_87 : decode cX0_frame 87 = .ok (.invokevirtual 245, 3) := dk_182 0 245 (dk_at dksX0_frame_3 17 rfl rfl)
theorem dX0_frame_90 : decode cX0_frame 90 = .ok (.aload_n 0, 1) := dk_42 (dk_at dksX0_frame_3 20 rfl rfl)
theorem dX0_frame_91 : decode cX0_frame 91 = .ok (.getfield 134, 3) := dk_180 0 134 (dk_at dksX0_frame_3 21 rfl rfl)
theorem dX0_frame_94 : decode cX0_frame 94 = .ok (.aload_n 0, 1) := dk_42 (dk_at dksX0_frame_4 0 rfl rfl)
theorem dX0_frame_95 : decode cX0_frame 95 = .ok (.getfield 138, 3) := dk_180 0 138 (dk_at dksX0_frame_4 1 rfl rfl)
theorem dX0_frame_98 : decode cX0_frame 98 = .ok (.invokevirtual 201, 3) := dk_182 0 201 (dk_at dksX0_frame_4 4 rfl rfl)
theorem dX0_frame_101 : decode cX0_frame 101 = .ok (.aload_n 0, 1) := dk_42 (dk_at dksX0_frame_4 7 rfl rfl)
theorem dX0_frame_102 : decode cX0_frame 102 = .ok (.getfield 134, 3) := dk_180 0 134 (dk_at dksX0_frame_4 8 rfl rfl)
theorem dX0_frame_105 : decode cX0_frame 105 = .ok (.getfield 187, 3) := dk_180 0 187 (dk_at dksX0_frame_4 11 rfl rfl)
theorem dX0_frame_108 : decode cX0_frame 108 = .ok (.ireturn, 1) := dk_172 (dk_at dksX0_frame_4 14 rfl rfl)
abbrev cX0_isIn : ByteArray := prog_1_method_15_code
def yX0_isIn : MethodName := ⟨RX0, "isIn", "(JJJ)Z"⟩
def dkwX0_isIn_0 : List UInt8 := [30, 32, 148, 155, 0, 14, 30, 22, 4, 148, 157, 0, 7, 4, 167, 0, 4, 3, 172]
abbrev dktX0_isIn_0 : List UInt8 := dkwX0_isIn_0 ++ []
theorem dksX0_isIn_0 : cX0_isIn.data.toList.drop 0 = dktX0_isIn_0 := by decide +kernel
theorem dX0_isIn_0 : decode cX0_isIn 0 = .ok (.lload_n 0, 1) := dk_30 (dk_at dksX0_isIn_0 0 rfl rfl)
theorem dX0_isIn_1 : decode cX0_isIn 1 = .ok (.lload_n 2, 1) := dk_32 (dk_at dksX0_isIn_0 1 rfl rfl)
theorem dX0_isIn_2 : decode cX0_isIn 2 = .ok (.lcmp, 1) := dk_148 (dk_at dksX0_isIn_0 2 rfl rfl)
theorem dX0_isIn_3 : decode cX0_isIn 3 = .ok (.ifCond .lt 14, 3) := dk_155 0 14 (dk_at dksX0_isIn_0 3 rfl rfl)
theorem dX0_isIn_6 : decode cX0_isIn 6 = .ok (.lload_n 0, 1) := dk_30 (dk_at dksX0_isIn_0 6 rfl rfl)
theorem dX0_isIn_7 : decode cX0_isIn 7 = .ok (.lload 4, 2) := dk_22 4 (dk_at dksX0_isIn_0 7 rfl rfl)
theorem dX0_isIn_9 : decode cX0_isIn 9 = .ok (.lcmp, 1) := dk_148 (dk_at dksX0_isIn_0 9 rfl rfl)
theorem dX0_isIn_10 : decode cX0_isIn 10 = .ok (.ifCond .gt 7, 3) := dk_157 0 7 (dk_at dksX0_isIn_0 10 rfl rfl)
theorem dX0_isIn_13 : decode cX0_isIn 13 = .ok (.iconst 1, 1) := dk_4 (dk_at dksX0_isIn_0 13 rfl rfl)
theorem dX0_isIn_14 : decode cX0_isIn 14 = .ok (.goto 4, 3) := dk_167 0 4 (dk_at dksX0_isIn_0 14 rfl rfl)
theorem dX0_isIn_17 : decode cX0_isIn 17 = .ok (.iconst 0, 1) := dk_3 (dk_at dksX0_isIn_0 17 rfl rfl)
theorem dX0_isIn_18 : decode cX0_isIn 18 = .ok (.ireturn, 1) := dk_172 (dk_at dksX0_isIn_0 18 rfl rfl)
abbrev cX0_can : ByteArray := prog_1_method_13_code
def yX0_can : MethodName := ⟨RX0, "can", "(Z)Z"⟩
def dkwX0_can_0 : List UInt8 := [42, 27, 153, 0, 7, 3, 167, 0, 4, 4, 181, 0, 177, 27, 172]
abbrev dktX0_can_0 : List UInt8 := dkwX0_can_0 ++ []
theorem dksX0_can_0 : cX0_can.data.toList.drop 0 = dktX0_can_0 := by decide +kernel
theorem dX0_can_0 : decode cX0_can 0 = .ok (.aload_n 0, 1) := dk_42 (dk_at dksX0_can_0 0 rfl rfl)
theorem dX0_can_1 : decode cX0_can 1 = .ok (.iload_n 1, 1) := dk_27 (dk_at dksX0_can_0 1 rfl rfl)
theorem dX0_can_2 : decode cX0_can 2 = .ok (.ifCond .eq 7, 3) := dk_153 0 7 (dk_at dksX0_can_0 2 rfl rfl)
theorem dX0_can_5 : decode cX0_can 5 = .ok (.iconst 0, 1) := dk_3 (dk_at dksX0_can_0 5 rfl rfl)
theorem dX0_can_6 : decode cX0_can 6 = .ok (.goto 4, 3) := dk_167 0 4 (dk_at dksX0_can_0 6 rfl rfl)
theorem dX0_can_9 : decode cX0_can 9 = .ok (.iconst 1, 1) := dk_4 (dk_at dksX0_can_0 9 rfl rfl)
theorem dX0_can_10 : decode cX0_can 10 = .ok (.putfield 177, 3) := dk_181 0 177 (dk_at dksX0_can_0 10 rfl rfl)
theorem dX0_can_13 : decode cX0_can 13 = .ok (.iload_n 1, 1) := dk_27 (dk_at dksX0_can_0 13 rfl rfl)
theorem dX0_can_14 : decode cX0_can 14 = .ok (.ireturn, 1) := dk_172 (dk_at dksX0_can_0 14 rfl rfl)
abbrev cX0_remembers : ByteArray := prog_1_method_17_code
def yX0_remembers : MethodName := ⟨RX0, "remembers", "()V"⟩
def dkwX0_remembers_3 : List UInt8 := [180, 0, 134, 182, 0, 201, 42, 89, 180, 0, 198, 4, 96, 181, 0, 198, 42, 182, 0, 205, 177]
abbrev dktX0_remembers_3 : List UInt8 := dkwX0_remembers_3 ++ []
def dkwX0_remembers_2 : List UInt8 := [8, 43, 83, 42, 89, 180, 0, 198, 4, 100, 181, 0, 198, 42, 180, 0, 141, 42, 180, 0, 198, 50, 42]
abbrev dktX0_remembers_2 : List UInt8 := dkwX0_remembers_2 ++ dktX0_remembers_3
def dkwX0_remembers_1 : List UInt8 := [42, 180, 0, 141, 28, 4, 100, 42, 180, 0, 141, 28, 50, 83, 132, 2, 1, 167, 255, 233, 42, 180, 0, 141]
abbrev dktX0_remembers_1 : List UInt8 := dkwX0_remembers_1 ++ dktX0_remembers_2
def dkwX0_remembers_0 : List UInt8 := [42, 180, 0, 198, 16, 6, 160, 0, 55, 42, 180, 0, 141, 3, 50, 76, 4, 61, 28, 16, 6, 162, 0, 23]
abbrev dktX0_remembers_0 : List UInt8 := dkwX0_remembers_0 ++ dktX0_remembers_1
theorem dksX0_remembers_0 : cX0_remembers.data.toList.drop 0 = dktX0_remembers_0 := by decide +kernel
theorem dksX0_remembers_1 : cX0_remembers.data.toList.drop 24 = dktX0_remembers_1 := dk_seg dksX0_remembers_0 24 rfl rfl
theorem dksX0_remembers_2 : cX0_remembers.data.toList.drop 48 = dktX0_remembers_2 := dk_seg dksX0_remembers_1 24 rfl rfl
theorem dksX0_remembers_3 : cX0_remembers.data.toList.drop 71 = dktX0_remembers_3 := dk_seg dksX0_remembers_2 23 rfl rfl
theorem dX0_remembers_0 : decode cX0_remembers 0 = .ok (.aload_n 0, 1) := dk_42 (dk_at dksX0_remembers_0 0 rfl rfl)
theorem dX0_remembers_1 : decode cX0_remembers 1 = .ok (.getfield 198, 3) := dk_180 0 198 (dk_at dksX0_remembers_0 1 rfl rfl)
theorem dX0_remembers_4 : decode cX0_remembers 4 = .ok (.bipush 6, 2) := dk_16 6 (dk_at dksX0_remembers_0 4 rfl rfl)
theorem dX0_remembers_6 : decode cX0_remembers 6 = .ok (.if_icmp .ne 55, 3) := dk_160 0 55 (dk_at dksX0_remembers_0 6 rfl rfl)
theorem dX0_remembers_9 : decode cX0_remembers 9 = .ok (.aload_n 0, 1) := dk_42 (dk_at dksX0_remembers_0 9 rfl rfl)
theorem dX0_remembers_10 : decode cX0_remembers 10 = .ok (.getfield 141, 3) := dk_180 0 141 (dk_at dksX0_remembers_0 10 rfl rfl)
theorem dX0_remembers_13 : decode cX0_remembers 13 = .ok (.iconst 0, 1) := dk_3 (dk_at dksX0_remembers_0 13 rfl rfl)
theorem dX0_remembers_14 : decode cX0_remembers 14 = .ok (.aaload, 1) := dk_50 (dk_at dksX0_remembers_0 14 rfl rfl)
theorem dX0_remembers_15 : decode cX0_remembers 15 = .ok (.astore_n 1, 1) := dk_76 (dk_at dksX0_remembers_0 15 rfl rfl)
theorem dX0_remembers_16 : decode cX0_remembers 16 = .ok (.iconst 1, 1) := dk_4 (dk_at dksX0_remembers_0 16 rfl rfl)
theorem dX0_remembers_17 : decode cX0_remembers 17 = .ok (.istore_n 2, 1) := dk_61 (dk_at dksX0_remembers_0 17 rfl rfl)
theorem dX0_remembers_18 : decode cX0_remembers 18 = .ok (.iload_n 2, 1) := dk_28 (dk_at dksX0_remembers_0 18 rfl rfl)
theorem dX0_remembers_19 : decode cX0_remembers 19 = .ok (.bipush 6, 2) := dk_16 6 (dk_at dksX0_remembers_0 19 rfl rfl)
theorem dX0_remembers_21 : decode cX0_remembers 21 = .ok (.if_icmp .ge 23, 3) := dk_162 0 23 (dk_at dksX0_remembers_0 21 rfl rfl)
theorem dX0_remembers_24 : decode cX0_remembers 24 = .ok (.aload_n 0, 1) := dk_42 (dk_at dksX0_remembers_1 0 rfl rfl)
theorem dX0_remembers_25 : decode cX0_remembers 25 = .ok (.getfield 141, 3) := dk_180 0 141 (dk_at dksX0_remembers_1 1 rfl rfl)
theorem dX0_remembers_28 : decode cX0_remembers 28 = .ok (.iload_n 2, 1) := dk_28 (dk_at dksX0_remembers_1 4 rfl rfl)
theorem dX0_remembers_29 : decode cX0_remembers 29 = .ok (.iconst 1, 1) := dk_4 (dk_at dksX0_remembers_1 5 rfl rfl)
theorem dX0_remembers_30 : decode cX0_remembers 30 = .ok (.isub, 1) := dk_100 (dk_at dksX0_remembers_1 6 rfl rfl)
theorem dX0_remembers_31 : decode cX0_remembers 31 = .ok (.aload_n 0, 1) := dk_42 (dk_at dksX0_remembers_1 7 rfl rfl)
theorem dX0_remembers_32 : decode cX0_remembers 32 = .ok (.getfield 141, 3) := dk_180 0 141 (dk_at dksX0_remembers_1 8 rfl rfl)
theorem dX0_remembers_35 : decode cX0_remembers 35 = .ok (.iload_n 2, 1) := dk_28 (dk_at dksX0_remembers_1 11 rfl rfl)
theorem dX0_remembers_36 : decode cX0_remembers 36 = .ok (.aaload, 1) := dk_50 (dk_at dksX0_remembers_1 12 rfl rfl)
theorem dX0_remembers_37 : decode cX0_remembers 37 = .ok (.aastore, 1) := dk_83 (dk_at dksX0_remembers_1 13 rfl rfl)
theorem dX0_remembers_38 : decode cX0_remembers 38 = .ok (.iinc 2 1, 3) := dk_132 2 1 (dk_at dksX0_remembers_1 14 rfl rfl)
theorem dX0_remembers_41 : decode cX0_remembers 41 = .ok (.goto (-23), 3) := dk_167 255 233 (dk_at dksX0_remembers_1 17 rfl rfl)
theorem dX0_remembers_44 : decode cX0_remembers 44 = .ok (.aload_n 0, 1) := dk_42 (dk_at dksX0_remembers_1 20 rfl rfl)
theorem dX0_remembers_45 : decode cX0_remembers 45 = .ok (.getfield 141, 3) := dk_180 0 141 (dk_at dksX0_remembers_1 21 rfl rfl)
theorem dX0_remembers_48 : decode cX0_remembers 48 = .ok (.iconst 5, 1) := dk_8 (dk_at dksX0_remembers_2 0 rfl rfl)
theorem dX0_remembers_49 : decode cX0_remembers 49 = .ok (.aload_n 1, 1) := dk_43 (dk_at dksX0_remembers_2 1 rfl rfl)
theorem dX0_remembers_50 : decode cX0_remembers 50 = .ok (.aastore, 1) := dk_83 (dk_at dksX0_remembers_2 2 rfl rfl)
theorem dX0_remembers_51 : decode cX0_remembers 51 = .ok (.aload_n 0, 1) := dk_42 (dk_at dksX0_remembers_2 3 rfl rfl)
theorem dX0_remembers_52 : decode cX0_remembers 52 = .ok (.dup, 1) := dk_89 (dk_at dksX0_remembers_2 4 rfl rfl)
theorem dX0_remembers_53 : decode cX0_remembers 53 = .ok (.getfield 198, 3) := dk_180 0 198 (dk_at dksX0_remembers_2 5 rfl rfl)
theorem dX0_remembers_56 : decode cX0_remembers 56 = .ok (.iconst 1, 1) := dk_4 (dk_at dksX0_remembers_2 8 rfl rfl)
theorem dX0_remembers_57 : decode cX0_remembers 57 = .ok (.isub, 1) := dk_100 (dk_at dksX0_remembers_2 9 rfl rfl)
theorem dX0_remembers_58 : decode cX0_remembers 58 = .ok (.putfield 198, 3) := dk_181 0 198 (dk_at dksX0_remembers_2 10 rfl rfl)
theorem dX0_remembers_61 : decode cX0_remembers 61 = .ok (.aload_n 0, 1) := dk_42 (dk_at dksX0_remembers_2 13 rfl rfl)
theorem dX0_remembers_62 : decode cX0_remembers 62 = .ok (.getfield 141, 3) := dk_180 0 141 (dk_at dksX0_remembers_2 14 rfl rfl)
theorem dX0_remembers_65 : decode cX0_remembers 65 = .ok (.aload_n 0, 1) := dk_42 (dk_at dksX0_remembers_2 17 rfl rfl)
theorem dX0_remembers_66 : decode cX0_remembers 66 = .ok (.getfield 198, 3) := dk_180 0 198 (dk_at dksX0_remembers_2 18 rfl rfl)
theorem dX0_remembers_69 : decode cX0_remembers 69 = .ok (.aaload, 1) := dk_50 (dk_at dksX0_remembers_2 21 rfl rfl)
theorem dX0_remembers_70 : decode cX0_remembers 70 = .ok (.aload_n 0, 1) := dk_42 (dk_at dksX0_remembers_2 22 rfl rfl)
theorem dX0_remembers_71 : decode cX0_remembers 71 = .ok (.getfield 134, 3) := dk_180 0 134 (dk_at dksX0_remembers_3 0 rfl rfl)
theorem dX0_remembers_74 : decode cX0_remembers 74 = .ok (.invokevirtual 201, 3) := dk_182 0 201 (dk_at dksX0_remembers_3 3 rfl rfl)
theorem dX0_remembers_77 : decode cX0_remembers 77 = .ok (.aload_n 0, 1) := dk_42 (dk_at dksX0_remembers_3 6 rfl rfl)
theorem dX0_remembers_78 : decode cX0_remembers 78 = .ok (.dup, 1) := dk_89 (dk_at dksX0_remembers_3 7 rfl rfl)
theorem dX0_remembers_79 : decode cX0_remembers 79 = .ok (.getfield 198, 3) := dk_180 0 198 (dk_at dksX0_remembers_3 8 rfl rfl)
theorem dX0_remembers_82 : decode cX0_remembers 82 = .ok (.iconst 1, 1) := dk_4 (dk_at dksX0_remembers_3 11 rfl rfl)
theorem dX0_remembers_83 : decode cX0_remembers 83 = .ok (.iadd, 1) := dk_96 (dk_at dksX0_remembers_3 12 rfl rfl)
theorem dX0_remembers_84 : decode cX0_remembers 84 = .ok (.putfield 198, 3) := dk_181 0 198 (dk_at dksX0_remembers_3 13 rfl rfl)
theorem dX0_remembers_87 : decode cX0_remembers 87 = .ok (.aload_n 0, 1) := dk_42 (dk_at dksX0_remembers_3 16 rfl rfl)
theorem dX0_remembers_88 : decode cX0_remembers 88 = .ok (.invokevirtual 205, 3) := dk_182 0 205 (dk_at dksX0_remembers_3 17 rfl rfl)
theorem dX0_remembers_91 : decode cX0_remembers 91 = .ok (.return_, 1) := dk_177 (dk_at dksX0_remembers_3 20 rfl rfl)
abbrev cX0_fault : ByteArray := prog_1_method_23_code
def yX0_fault : MethodName := ⟨RX0, "fault", "(I)I"⟩
def dkwX0_fault_1 : List UInt8 := [172]
abbrev dktX0_fault_1 : List UInt8 := dkwX0_fault_1 ++ []
def dkwX0_fault_0 : List UInt8 := [27, 154, 0, 10, 42, 180, 0, 104, 167, 0, 16, 27, 4, 160, 0, 10, 42, 180, 0, 108, 167, 0, 4, 2]
abbrev dktX0_fault_0 : List UInt8 := dkwX0_fault_0 ++ dktX0_fault_1
theorem dksX0_fault_0 : cX0_fault.data.toList.drop 0 = dktX0_fault_0 := by decide +kernel
theorem dksX0_fault_1 : cX0_fault.data.toList.drop 24 = dktX0_fault_1 := dk_seg dksX0_fault_0 24 rfl rfl
theorem dX0_fault_0 : decode cX0_fault 0 = .ok (.iload_n 1, 1) := dk_27 (dk_at dksX0_fault_0 0 rfl rfl)
theorem dX0_fault_1 : decode cX0_fault 1 = .ok (.ifCond .ne 10, 3) := dk_154 0 10 (dk_at dksX0_fault_0 1 rfl rfl)
theorem dX0_fault_4 : decode cX0_fault 4 = .ok (.aload_n 0, 1) := dk_42 (dk_at dksX0_fault_0 4 rfl rfl)
theorem dX0_fault_5 : decode cX0_fault 5 = .ok (.getfield 104, 3) := dk_180 0 104 (dk_at dksX0_fault_0 5 rfl rfl)
theorem dX0_fault_8 : decode cX0_fault 8 = .ok (.goto 16, 3) := dk_167 0 16 (dk_at dksX0_fault_0 8 rfl rfl)
theorem dX0_fault_11 : decode cX0_fault 11 = .ok (.iload_n 1, 1) := dk_27 (dk_at dksX0_fault_0 11 rfl rfl)
theorem dX0_fault_12 : decode cX0_fault 12 = .ok (.iconst 1, 1) := dk_4 (dk_at dksX0_fault_0 12 rfl rfl)
theorem dX0_fault_13 : decode cX0_fault 13 = .ok (.if_icmp .ne 10, 3) := dk_160 0 10 (dk_at dksX0_fault_0 13 rfl rfl)
theorem dX0_fault_16 : decode cX0_fault 16 = .ok (.aload_n 0, 1) := dk_42 (dk_at dksX0_fault_0 16 rfl rfl)
theorem dX0_fault_17 : decode cX0_fault 17 = .ok (.getfield 108, 3) := dk_180 0 108 (dk_at dksX0_fault_0 17 rfl rfl)
theorem dX0_fault_20 : decode cX0_fault 20 = .ok (.goto 4, 3) := dk_167 0 4 (dk_at dksX0_fault_0 20 rfl rfl)
theorem dX0_fault_23 : decode cX0_fault 23 = .ok (.iconst (-1), 1) := dk_2 (dk_at dksX0_fault_0 23 rfl rfl)
theorem dX0_fault_24 : decode cX0_fault 24 = .ok (.ireturn, 1) := dk_172 (dk_at dksX0_fault_1 0 rfl rfl)
abbrev cX0_atoms : ByteArray := prog_1_method_24_code
def yX0_atoms : MethodName := ⟨RX0, "atoms", "()I"⟩
def dkwX0_atoms_0 : List UInt8 := [42, 3, 181, 0, 177, 42, 180, 0, 134, 180, 0, 187, 172]
abbrev dktX0_atoms_0 : List UInt8 := dkwX0_atoms_0 ++ []
theorem dksX0_atoms_0 : cX0_atoms.data.toList.drop 0 = dktX0_atoms_0 := by decide +kernel
theorem dX0_atoms_0 : decode cX0_atoms 0 = .ok (.aload_n 0, 1) := dk_42 (dk_at dksX0_atoms_0 0 rfl rfl)
theorem dX0_atoms_1 : decode cX0_atoms 1 = .ok (.iconst 0, 1) := dk_3 (dk_at dksX0_atoms_0 1 rfl rfl)
theorem dX0_atoms_2 : decode cX0_atoms 2 = .ok (.putfield 177, 3) := dk_181 0 177 (dk_at dksX0_atoms_0 2 rfl rfl)
theorem dX0_atoms_5 : decode cX0_atoms 5 = .ok (.aload_n 0, 1) := dk_42 (dk_at dksX0_atoms_0 5 rfl rfl)
theorem dX0_atoms_6 : decode cX0_atoms 6 = .ok (.getfield 134, 3) := dk_180 0 134 (dk_at dksX0_atoms_0 6 rfl rfl)
theorem dX0_atoms_9 : decode cX0_atoms 9 = .ok (.getfield 187, 3) := dk_180 0 187 (dk_at dksX0_atoms_0 9 rfl rfl)
theorem dX0_atoms_12 : decode cX0_atoms 12 = .ok (.ireturn, 1) := dk_172 (dk_at dksX0_atoms_0 12 rfl rfl)
abbrev cX0_atom : ByteArray := prog_1_method_25_code
def yX0_atom : MethodName := ⟨RX0, "atom", "(II)I"⟩
def dkwX0_atom_3 : List UInt8 := [100, 50, 27, 46, 172]
abbrev dktX0_atom_3 : List UInt8 := dkwX0_atom_3 ++ []
def dkwX0_atom_2 : List UInt8 := [154, 0, 15, 42, 180, 0, 134, 180, 1, 2, 27, 46, 167, 0, 16, 42, 180, 0, 134, 180, 1, 5, 28, 4]
abbrev dktX0_atom_2 : List UInt8 := dkwX0_atom_2 ++ dktX0_atom_3
def dkwX0_atom_1 : List UInt8 := [182, 0, 224, 153, 0, 16, 42, 42, 27, 182, 0, 250, 6, 182, 0, 254, 154, 0, 5, 2, 172, 28]
abbrev dktX0_atom_1 : List UInt8 := dkwX0_atom_1 ++ dktX0_atom_2
def dkwX0_atom_0 : List UInt8 := [42, 27, 155, 0, 19, 28, 133, 9, 20, 0, 248, 184, 0, 194, 153, 0, 7, 4, 167, 0, 4, 3]
abbrev dktX0_atom_0 : List UInt8 := dkwX0_atom_0 ++ dktX0_atom_1
theorem dksX0_atom_0 : cX0_atom.data.toList.drop 0 = dktX0_atom_0 := by decide +kernel
theorem dksX0_atom_1 : cX0_atom.data.toList.drop 22 = dktX0_atom_1 := dk_seg dksX0_atom_0 22 rfl rfl
theorem dksX0_atom_2 : cX0_atom.data.toList.drop 44 = dktX0_atom_2 := dk_seg dksX0_atom_1 22 rfl rfl
theorem dksX0_atom_3 : cX0_atom.data.toList.drop 68 = dktX0_atom_3 := dk_seg dksX0_atom_2 24 rfl rfl
theorem dX0_atom_0 : decode cX0_atom 0 = .ok (.aload_n 0, 1) := dk_42 (dk_at dksX0_atom_0 0 rfl rfl)
theorem dX0_atom_1 : decode cX0_atom 1 = .ok (.iload_n 1, 1) := dk_27 (dk_at dksX0_atom_0 1 rfl rfl)
theorem dX0_atom_2 : decode cX0_atom 2 = .ok (.ifCond .lt 19, 3) := dk_155 0 19 (dk_at dksX0_atom_0 2 rfl rfl)
theorem dX0_atom_5 : decode cX0_atom 5 = .ok (.iload_n 2, 1) := dk_28 (dk_at dksX0_atom_0 5 rfl rfl)
theorem dX0_atom_6 : decode cX0_atom 6 = .ok (.i2l, 1) := dk_133 (dk_at dksX0_atom_0 6 rfl rfl)
theorem dX0_atom_7 : decode cX0_atom 7 = .ok (.lconst 0, 1) := dk_9 (dk_at dksX0_atom_0 7 rfl rfl)
theorem dX0_atom_8 : decode cX0_atom 8 = .ok (.ldc2_w 248, 3) := dk_20 0 248 (dk_at dksX0_atom_0 8 rfl rfl)
theorem dX0_atom_11 : decode cX0_atom 11 = .ok (.invokestatic 194, 3) := dk_184 0 194 (dk_at dksX0_atom_0 11 rfl rfl)
theorem dX0_atom_14 : decode cX0_atom 14 = .ok (.ifCond .eq 7, 3) := dk_153 0 7 (dk_at dksX0_atom_0 14 rfl rfl)
theorem dX0_atom_17 : decode cX0_atom 17 = .ok (.iconst 1, 1) := dk_4 (dk_at dksX0_atom_0 17 rfl rfl)
theorem dX0_atom_18 : decode cX0_atom 18 = .ok (.goto 4, 3) := dk_167 0 4 (dk_at dksX0_atom_0 18 rfl rfl)
theorem dX0_atom_21 : decode cX0_atom 21 = .ok (.iconst 0, 1) := dk_3 (dk_at dksX0_atom_0 21 rfl rfl)
theorem dX0_atom_22 : decode cX0_atom 22 = .ok (.invokevirtual 224, 3) := dk_182 0 224 (dk_at dksX0_atom_1 0 rfl rfl)
theorem dX0_atom_25 : decode cX0_atom 25 = .ok (.ifCond .eq 16, 3) := dk_153 0 16 (dk_at dksX0_atom_1 3 rfl rfl)
theorem dX0_atom_28 : decode cX0_atom 28 = .ok (.aload_n 0, 1) := dk_42 (dk_at dksX0_atom_1 6 rfl rfl)
theorem dX0_atom_29 : decode cX0_atom 29 = .ok (.aload_n 0, 1) := dk_42 (dk_at dksX0_atom_1 7 rfl rfl)
theorem dX0_atom_30 : decode cX0_atom 30 = .ok (.iload_n 1, 1) := dk_27 (dk_at dksX0_atom_1 8 rfl rfl)
theorem dX0_atom_31 : decode cX0_atom 31 = .ok (.invokevirtual 250, 3) := dk_182 0 250 (dk_at dksX0_atom_1 9 rfl rfl)
theorem dX0_atom_34 : decode cX0_atom 34 = .ok (.iconst 3, 1) := dk_6 (dk_at dksX0_atom_1 12 rfl rfl)
theorem dX0_atom_35 : decode cX0_atom 35 = .ok (.invokevirtual 254, 3) := dk_182 0 254 (dk_at dksX0_atom_1 13 rfl rfl)
theorem dX0_atom_38 : decode cX0_atom 38 = .ok (.ifCond .ne 5, 3) := dk_154 0 5 (dk_at dksX0_atom_1 16 rfl rfl)
theorem dX0_atom_41 : decode cX0_atom 41 = .ok (.iconst (-1), 1) := dk_2 (dk_at dksX0_atom_1 19 rfl rfl)
theorem dX0_atom_42 : decode cX0_atom 42 = .ok (.ireturn, 1) := dk_172 (dk_at dksX0_atom_1 20 rfl rfl)
theorem dX0_atom_43 : decode cX0_atom 43 = .ok (.iload_n 2, 1) := dk_28 (dk_at dksX0_atom_1 21 rfl rfl)
theorem dX0_atom_44 : decode cX0_atom 44 = .ok (.ifCond .ne 15, 3) := dk_154 0 15 (dk_at dksX0_atom_2 0 rfl rfl)
theorem dX0_atom_47 : decode cX0_atom 47 = .ok (.aload_n 0, 1) := dk_42 (dk_at dksX0_atom_2 3 rfl rfl)
theorem dX0_atom_48 : decode cX0_atom 48 = .ok (.getfield 134, 3) := dk_180 0 134 (dk_at dksX0_atom_2 4 rfl rfl)
theorem dX0_atom_51 : decode cX0_atom 51 = .ok (.getfield 258, 3) := dk_180 1 2 (dk_at dksX0_atom_2 7 rfl rfl)
theorem dX0_atom_54 : decode cX0_atom 54 = .ok (.iload_n 1, 1) := dk_27 (dk_at dksX0_atom_2 10 rfl rfl)
theorem dX0_atom_55 : decode cX0_atom 55 = .ok (.iaload, 1) := dk_46 (dk_at dksX0_atom_2 11 rfl rfl)
theorem dX0_atom_56 : decode cX0_atom 56 = .ok (.goto 16, 3) := dk_167 0 16 (dk_at dksX0_atom_2 12 rfl rfl)
theorem dX0_atom_59 : decode cX0_atom 59 = .ok (.aload_n 0, 1) := dk_42 (dk_at dksX0_atom_2 15 rfl rfl)
theorem dX0_atom_60 : decode cX0_atom 60 = .ok (.getfield 134, 3) := dk_180 0 134 (dk_at dksX0_atom_2 16 rfl rfl)
theorem dX0_atom_63 : decode cX0_atom 63 = .ok (.getfield 261, 3) := dk_180 1 5 (dk_at dksX0_atom_2 19 rfl rfl)
theorem dX0_atom_66 : decode cX0_atom 66 = .ok (.iload_n 2, 1) := dk_28 (dk_at dksX0_atom_2 22 rfl rfl)
theorem dX0_atom_67 : decode cX0_atom 67 = .ok (.iconst 1, 1) := dk_4 (dk_at dksX0_atom_2 23 rfl rfl)
theorem dX0_atom_68 : decode cX0_atom 68 = .ok (.isub, 1) := dk_100 (dk_at dksX0_atom_3 0 rfl rfl)
theorem dX0_atom_69 : decode cX0_atom 69 = .ok (.aaload, 1) := dk_50 (dk_at dksX0_atom_3 1 rfl rfl)
theorem dX0_atom_70 : decode cX0_atom 70 = .ok (.iload_n 1, 1) := dk_27 (dk_at dksX0_atom_3 2 rfl rfl)
theorem dX0_atom_71 : decode cX0_atom 71 = .ok (.iaload, 1) := dk_46 (dk_at dksX0_atom_3 3 rfl rfl)
theorem dX0_atom_72 : decode cX0_atom 72 = .ok (.ireturn, 1) := dk_172 (dk_at dksX0_atom_3 4 rfl rfl)
abbrev cX0_isAtom : ByteArray := prog_1_method_14_code
def yX0_isAtom : MethodName := ⟨RX0, "isAtom", "(I)Z"⟩
def dkwX0_isAtom_0 : List UInt8 := [27, 42, 180, 0, 134, 180, 0, 187, 162, 0, 7, 4, 167, 0, 4, 3, 172]
abbrev dktX0_isAtom_0 : List UInt8 := dkwX0_isAtom_0 ++ []
theorem dksX0_isAtom_0 : cX0_isAtom.data.toList.drop 0 = dktX0_isAtom_0 := by decide +kernel
theorem dX0_isAtom_0 : decode cX0_isAtom 0 = .ok (.iload_n 1, 1) := dk_27 (dk_at dksX0_isAtom_0 0 rfl rfl)
theorem dX0_isAtom_1 : decode cX0_isAtom 1 = .ok (.aload_n 0, 1) := dk_42 (dk_at dksX0_isAtom_0 1 rfl rfl)
theorem dX0_isAtom_2 : decode cX0_isAtom 2 = .ok (.getfield 134, 3) := dk_180 0 134 (dk_at dksX0_isAtom_0 2 rfl rfl)
theorem dX0_isAtom_5 : decode cX0_isAtom 5 = .ok (.getfield 187, 3) := dk_180 0 187 (dk_at dksX0_isAtom_0 5 rfl rfl)
theorem dX0_isAtom_8 : decode cX0_isAtom 8 = .ok (.if_icmp .ge 7, 3) := dk_162 0 7 (dk_at dksX0_isAtom_0 8 rfl rfl)
theorem dX0_isAtom_11 : decode cX0_isAtom 11 = .ok (.iconst 1, 1) := dk_4 (dk_at dksX0_isAtom_0 11 rfl rfl)
theorem dX0_isAtom_12 : decode cX0_isAtom 12 = .ok (.goto 4, 3) := dk_167 0 4 (dk_at dksX0_isAtom_0 12 rfl rfl)
theorem dX0_isAtom_15 : decode cX0_isAtom 15 = .ok (.iconst 0, 1) := dk_3 (dk_at dksX0_isAtom_0 15 rfl rfl)
theorem dX0_isAtom_16 : decode cX0_isAtom 16 = .ok (.ireturn, 1) := dk_172 (dk_at dksX0_isAtom_0 16 rfl rfl)
abbrev cX0_may : ByteArray := prog_1_method_12_code
def yX0_may : MethodName := ⟨RX0, "may", "(ZI)Z"⟩
def dkwX0_may_1 : List UInt8 := [167, 0, 4, 3, 172]
abbrev dktX0_may_1 : List UInt8 := dkwX0_may_1 ++ []
def dkwX0_may_0 : List UInt8 := [42, 180, 0, 177, 154, 0, 12, 27, 154, 0, 8, 42, 28, 181, 0, 177, 42, 180, 0, 177, 154, 0, 7, 4]
abbrev dktX0_may_0 : List UInt8 := dkwX0_may_0 ++ dktX0_may_1
theorem dksX0_may_0 : cX0_may.data.toList.drop 0 = dktX0_may_0 := by decide +kernel
theorem dksX0_may_1 : cX0_may.data.toList.drop 24 = dktX0_may_1 := dk_seg dksX0_may_0 24 rfl rfl
theorem dX0_may_0 : decode cX0_may 0 = .ok (.aload_n 0, 1) := dk_42 (dk_at dksX0_may_0 0 rfl rfl)
theorem dX0_may_1 : decode cX0_may 1 = .ok (.getfield 177, 3) := dk_180 0 177 (dk_at dksX0_may_0 1 rfl rfl)
theorem dX0_may_4 : decode cX0_may 4 = .ok (.ifCond .ne 12, 3) := dk_154 0 12 (dk_at dksX0_may_0 4 rfl rfl)
theorem dX0_may_7 : decode cX0_may 7 = .ok (.iload_n 1, 1) := dk_27 (dk_at dksX0_may_0 7 rfl rfl)
theorem dX0_may_8 : decode cX0_may 8 = .ok (.ifCond .ne 8, 3) := dk_154 0 8 (dk_at dksX0_may_0 8 rfl rfl)
theorem dX0_may_11 : decode cX0_may 11 = .ok (.aload_n 0, 1) := dk_42 (dk_at dksX0_may_0 11 rfl rfl)
theorem dX0_may_12 : decode cX0_may 12 = .ok (.iload_n 2, 1) := dk_28 (dk_at dksX0_may_0 12 rfl rfl)
theorem dX0_may_13 : decode cX0_may 13 = .ok (.putfield 177, 3) := dk_181 0 177 (dk_at dksX0_may_0 13 rfl rfl)
theorem dX0_may_16 : decode cX0_may 16 = .ok (.aload_n 0, 1) := dk_42 (dk_at dksX0_may_0 16 rfl rfl)
theorem dX0_may_17 : decode cX0_may 17 = .ok (.getfield 177, 3) := dk_180 0 177 (dk_at dksX0_may_0 17 rfl rfl)
theorem dX0_may_20 : decode cX0_may 20 = .ok (.ifCond .ne 7, 3) := dk_154 0 7 (dk_at dksX0_may_0 20 rfl rfl)
theorem dX0_may_23 : decode cX0_may 23 = .ok (.iconst 1, 1) := dk_4 (dk_at dksX0_may_0 23 rfl rfl)
theorem dX0_may_24 : decode cX0_may 24 = .ok (.goto 4, 3) := dk_167 0 4 (dk_at dksX0_may_1 0 rfl rfl)
theorem dX0_may_27 : decode cX0_may 27 = .ok (.iconst 0, 1) := dk_3 (dk_at dksX0_may_1 3 rfl rfl)
theorem dX0_may_28 : decode cX0_may 28 = .ok (.ireturn, 1) := dk_172 (dk_at dksX0_may_1 4 rfl rfl)
abbrev cX0_put : ByteArray := prog_1_method_26_code
def yX0_put : MethodName := ⟨RX0, "put", "(IIII)I"⟩
def dkwX0_put_4 : List UInt8 := [29, 21, 4, 182, 1, 19, 42, 180, 0, 134, 180, 0, 187, 4, 100, 172]
abbrev dktX0_put_4 : List UInt8 := dkwX0_put_4 ++ []
def dkwX0_put_3 : List UInt8 := [4, 167, 0, 4, 3, 8, 182, 0, 254, 154, 0, 5, 2, 172, 42, 182, 0, 245, 42, 180, 0, 134, 27, 28]
abbrev dktX0_put_3 : List UInt8 := dkwX0_put_3 ++ dktX0_put_4
def dkwX0_put_2 : List UInt8 := [167, 0, 4, 3, 7, 182, 0, 254, 87, 42, 42, 180, 0, 134, 28, 29, 21, 4, 182, 1, 15, 156, 0, 7]
abbrev dktX0_put_2 : List UInt8 := dkwX0_put_2 ++ dktX0_put_3
def dkwX0_put_1 : List UInt8 := [167, 0, 4, 3, 182, 0, 224, 87, 42, 42, 180, 0, 134, 180, 0, 187, 16, 12, 162, 0, 7, 4]
abbrev dktX0_put_1 : List UInt8 := dkwX0_put_1 ++ dktX0_put_2
def dkwX0_put_0 : List UInt8 := [42, 27, 133, 10, 20, 1, 9, 184, 0, 194, 153, 0, 17, 28, 29, 21, 4, 184, 1, 11, 153, 0, 7, 4]
abbrev dktX0_put_0 : List UInt8 := dkwX0_put_0 ++ dktX0_put_1
theorem dksX0_put_0 : cX0_put.data.toList.drop 0 = dktX0_put_0 := by decide +kernel
theorem dksX0_put_1 : cX0_put.data.toList.drop 24 = dktX0_put_1 := dk_seg dksX0_put_0 24 rfl rfl
theorem dksX0_put_2 : cX0_put.data.toList.drop 46 = dktX0_put_2 := dk_seg dksX0_put_1 22 rfl rfl
theorem dksX0_put_3 : cX0_put.data.toList.drop 70 = dktX0_put_3 := dk_seg dksX0_put_2 24 rfl rfl
theorem dksX0_put_4 : cX0_put.data.toList.drop 94 = dktX0_put_4 := dk_seg dksX0_put_3 24 rfl rfl
theorem dX0_put_0 : decode cX0_put 0 = .ok (.aload_n 0, 1) := dk_42 (dk_at dksX0_put_0 0 rfl rfl)
theorem dX0_put_1 : decode cX0_put 1 = .ok (.iload_n 1, 1) := dk_27 (dk_at dksX0_put_0 1 rfl rfl)
theorem dX0_put_2 : decode cX0_put 2 = .ok (.i2l, 1) := dk_133 (dk_at dksX0_put_0 2 rfl rfl)
theorem dX0_put_3 : decode cX0_put 3 = .ok (.lconst 1, 1) := dk_10 (dk_at dksX0_put_0 3 rfl rfl)
theorem dX0_put_4 : decode cX0_put 4 = .ok (.ldc2_w 265, 3) := dk_20 1 9 (dk_at dksX0_put_0 4 rfl rfl)
theorem dX0_put_7 : decode cX0_put 7 = .ok (.invokestatic 194, 3) := dk_184 0 194 (dk_at dksX0_put_0 7 rfl rfl)
theorem dX0_put_10 : decode cX0_put 10 = .ok (.ifCond .eq 17, 3) := dk_153 0 17 (dk_at dksX0_put_0 10 rfl rfl)
theorem dX0_put_13 : decode cX0_put 13 = .ok (.iload_n 2, 1) := dk_28 (dk_at dksX0_put_0 13 rfl rfl)
theorem dX0_put_14 : decode cX0_put 14 = .ok (.iload_n 3, 1) := dk_29 (dk_at dksX0_put_0 14 rfl rfl)
theorem dX0_put_15 : decode cX0_put 15 = .ok (.iload 4, 2) := dk_21 4 (dk_at dksX0_put_0 15 rfl rfl)
theorem dX0_put_17 : decode cX0_put 17 = .ok (.invokestatic 267, 3) := dk_184 1 11 (dk_at dksX0_put_0 17 rfl rfl)
theorem dX0_put_20 : decode cX0_put 20 = .ok (.ifCond .eq 7, 3) := dk_153 0 7 (dk_at dksX0_put_0 20 rfl rfl)
theorem dX0_put_23 : decode cX0_put 23 = .ok (.iconst 1, 1) := dk_4 (dk_at dksX0_put_0 23 rfl rfl)
theorem dX0_put_24 : decode cX0_put 24 = .ok (.goto 4, 3) := dk_167 0 4 (dk_at dksX0_put_1 0 rfl rfl)
theorem dX0_put_27 : decode cX0_put 27 = .ok (.iconst 0, 1) := dk_3 (dk_at dksX0_put_1 3 rfl rfl)
theorem dX0_put_28 : decode cX0_put 28 = .ok (.invokevirtual 224, 3) := dk_182 0 224 (dk_at dksX0_put_1 4 rfl rfl)
theorem dX0_put_31 : decode cX0_put 31 = .ok (.pop, 1) := dk_87 (dk_at dksX0_put_1 7 rfl rfl)
theorem dX0_put_32 : decode cX0_put 32 = .ok (.aload_n 0, 1) := dk_42 (dk_at dksX0_put_1 8 rfl rfl)
theorem dX0_put_33 : decode cX0_put 33 = .ok (.aload_n 0, 1) := dk_42 (dk_at dksX0_put_1 9 rfl rfl)
theorem dX0_put_34 : decode cX0_put 34 = .ok (.getfield 134, 3) := dk_180 0 134 (dk_at dksX0_put_1 10 rfl rfl)
theorem dX0_put_37 : decode cX0_put 37 = .ok (.getfield 187, 3) := dk_180 0 187 (dk_at dksX0_put_1 13 rfl rfl)
theorem dX0_put_40 : decode cX0_put 40 = .ok (.bipush 12, 2) := dk_16 12 (dk_at dksX0_put_1 16 rfl rfl)
theorem dX0_put_42 : decode cX0_put 42 = .ok (.if_icmp .ge 7, 3) := dk_162 0 7 (dk_at dksX0_put_1 18 rfl rfl)
theorem dX0_put_45 : decode cX0_put 45 = .ok (.iconst 1, 1) := dk_4 (dk_at dksX0_put_1 21 rfl rfl)
theorem dX0_put_46 : decode cX0_put 46 = .ok (.goto 4, 3) := dk_167 0 4 (dk_at dksX0_put_2 0 rfl rfl)
theorem dX0_put_49 : decode cX0_put 49 = .ok (.iconst 0, 1) := dk_3 (dk_at dksX0_put_2 3 rfl rfl)
theorem dX0_put_50 : decode cX0_put 50 = .ok (.iconst 4, 1) := dk_7 (dk_at dksX0_put_2 4 rfl rfl)
theorem dX0_put_51 : decode cX0_put 51 = .ok (.invokevirtual 254, 3) := dk_182 0 254 (dk_at dksX0_put_2 5 rfl rfl)
theorem dX0_put_54 : decode cX0_put 54 = .ok (.pop, 1) := dk_87 (dk_at dksX0_put_2 8 rfl rfl)
theorem dX0_put_55 : decode cX0_put 55 = .ok (.aload_n 0, 1) := dk_42 (dk_at dksX0_put_2 9 rfl rfl)
theorem dX0_put_56 : decode cX0_put 56 = .ok (.aload_n 0, 1) := dk_42 (dk_at dksX0_put_2 10 rfl rfl)
theorem dX0_put_57 : decode cX0_put 57 = .ok (.getfield 134, 3) := dk_180 0 134 (dk_at dksX0_put_2 11 rfl rfl)
theorem dX0_put_60 : decode cX0_put 60 = .ok (.iload_n 2, 1) := dk_28 (dk_at dksX0_put_2 14 rfl rfl)
theorem dX0_put_61 : decode cX0_put 61 = .ok (.iload_n 3, 1) := dk_29 (dk_at dksX0_put_2 15 rfl rfl)
theorem dX0_put_62 : decode cX0_put 62 = .ok (.iload 4, 2) := dk_21 4 (dk_at dksX0_put_2 16 rfl rfl)
theorem dX0_put_64 : decode cX0_put 64 = .ok (.invokevirtual 271, 3) := dk_182 1 15 (dk_at dksX0_put_2 18 rfl rfl)
theorem dX0_put_67 : decode cX0_put 67 = .ok (.ifCond .ge 7, 3) := dk_156 0 7 (dk_at dksX0_put_2 21 rfl rfl)
theorem dX0_put_70 : decode cX0_put 70 = .ok (.iconst 1, 1) := dk_4 (dk_at dksX0_put_3 0 rfl rfl)
theorem dX0_put_71 : decode cX0_put 71 = .ok (.goto 4, 3) := dk_167 0 4 (dk_at dksX0_put_3 1 rfl rfl)
theorem dX0_put_74 : decode cX0_put 74 = .ok (.iconst 0, 1) := dk_3 (dk_at dksX0_put_3 4 rfl rfl)
theorem dX0_put_75 : decode cX0_put 75 = .ok (.iconst 5, 1) := dk_8 (dk_at dksX0_put_3 5 rfl rfl)
theorem dX0_put_76 : decode cX0_put 76 = .ok (.invokevirtual 254, 3) := dk_182 0 254 (dk_at dksX0_put_3 6 rfl rfl)
theorem dX0_put_79 : decode cX0_put 79 = .ok (.ifCond .ne 5, 3) := dk_154 0 5 (dk_at dksX0_put_3 9 rfl rfl)
theorem dX0_put_82 : decode cX0_put 82 = .ok (.iconst (-1), 1) := dk_2 (dk_at dksX0_put_3 12 rfl rfl)
theorem dX0_put_83 : decode cX0_put 83 = .ok (.ireturn, 1) := dk_172 (dk_at dksX0_put_3 13 rfl rfl)
theorem dX0_put_84 : decode cX0_put 84 = .ok (.aload_n 0, 1) := dk_42 (dk_at dksX0_put_3 14 rfl rfl)
theorem dX0_put_85 : decode cX0_put 85 = .ok (.invokevirtual 245, 3) := dk_182 0 245 (dk_at dksX0_put_3 15 rfl rfl)
theorem dX0_put_88 : decode cX0_put 88 = .ok (.aload_n 0, 1) := dk_42 (dk_at dksX0_put_3 18 rfl rfl)
theorem dX0_put_89 : decode cX0_put 89 = .ok (.getfield 134, 3) := dk_180 0 134 (dk_at dksX0_put_3 19 rfl rfl)
theorem dX0_put_92 : decode cX0_put 92 = .ok (.iload_n 1, 1) := dk_27 (dk_at dksX0_put_3 22 rfl rfl)
theorem dX0_put_93 : decode cX0_put 93 = .ok (.iload_n 2, 1) := dk_28 (dk_at dksX0_put_3 23 rfl rfl)
theorem dX0_put_94 : decode cX0_put 94 = .ok (.iload_n 3, 1) := dk_29 (dk_at dksX0_put_4 0 rfl rfl)
theorem dX0_put_95 : decode cX0_put 95 = .ok (.iload 4, 2) := dk_21 4 (dk_at dksX0_put_4 1 rfl rfl)
theorem dX0_put_97 : decode cX0_put 97 = .ok (.invokevirtual 275, 3) := dk_182 1 19 (dk_at dksX0_put_4 3 rfl rfl)
theorem dX0_put_100 : decode cX0_put 100 = .ok (.aload_n 0, 1) := dk_42 (dk_at dksX0_put_4 6 rfl rfl)
theorem dX0_put_101 : decode cX0_put 101 = .ok (.getfield 134, 3) := dk_180 0 134 (dk_at dksX0_put_4 7 rfl rfl)
theorem dX0_put_104 : decode cX0_put 104 = .ok (.getfield 187, 3) := dk_180 0 187 (dk_at dksX0_put_4 10 rfl rfl)
theorem dX0_put_107 : decode cX0_put 107 = .ok (.iconst 1, 1) := dk_4 (dk_at dksX0_put_4 13 rfl rfl)
theorem dX0_put_108 : decode cX0_put 108 = .ok (.isub, 1) := dk_100 (dk_at dksX0_put_4 14 rfl rfl)
theorem dX0_put_109 : decode cX0_put 109 = .ok (.ireturn, 1) := dk_172 (dk_at dksX0_put_4 15 rfl rfl)
abbrev cX0_isPlace : ByteArray := prog_1_method_16_code
def yX0_isPlace : MethodName := ⟨RX0, "isPlace", "(III)Z"⟩
def dkwX0_isPlace_2 : List UInt8 := [3, 172]
abbrev dktX0_isPlace_2 : List UInt8 := dkwX0_isPlace_2 ++ []
def dkwX0_isPlace_1 : List UInt8 := [184, 0, 194, 153, 0, 21, 28, 133, 20, 0, 190, 20, 0, 192, 184, 0, 194, 153, 0, 7, 4, 167, 0, 4]
abbrev dktX0_isPlace_1 : List UInt8 := dkwX0_isPlace_1 ++ dktX0_isPlace_2
def dkwX0_isPlace_0 : List UInt8 := [26, 133, 20, 0, 190, 20, 0, 192, 184, 0, 194, 153, 0, 35, 27, 133, 20, 0, 190, 20, 0, 192]
abbrev dktX0_isPlace_0 : List UInt8 := dkwX0_isPlace_0 ++ dktX0_isPlace_1
theorem dksX0_isPlace_0 : cX0_isPlace.data.toList.drop 0 = dktX0_isPlace_0 := by decide +kernel
theorem dksX0_isPlace_1 : cX0_isPlace.data.toList.drop 22 = dktX0_isPlace_1 := dk_seg dksX0_isPlace_0 22 rfl rfl
theorem dksX0_isPlace_2 : cX0_isPlace.data.toList.drop 46 = dktX0_isPlace_2 := dk_seg dksX0_isPlace_1 24 rfl rfl
theorem dX0_isPlace_0 : decode cX0_isPlace 0 = .ok (.iload_n 0, 1) := dk_26 (dk_at dksX0_isPlace_0 0 rfl rfl)
theorem dX0_isPlace_1 : decode cX0_isPlace 1 = .ok (.i2l, 1) := dk_133 (dk_at dksX0_isPlace_0 1 rfl rfl)
theorem dX0_isPlace_2 : decode cX0_isPlace 2 = .ok (.ldc2_w 190, 3) := dk_20 0 190 (dk_at dksX0_isPlace_0 2 rfl rfl)
theorem dX0_isPlace_5 : decode cX0_isPlace 5 = .ok (.ldc2_w 192, 3) := dk_20 0 192 (dk_at dksX0_isPlace_0 5 rfl rfl)
theorem dX0_isPlace_8 : decode cX0_isPlace 8 = .ok (.invokestatic 194, 3) := dk_184 0 194 (dk_at dksX0_isPlace_0 8 rfl rfl)
theorem dX0_isPlace_11 : decode cX0_isPlace 11 = .ok (.ifCond .eq 35, 3) := dk_153 0 35 (dk_at dksX0_isPlace_0 11 rfl rfl)
theorem dX0_isPlace_14 : decode cX0_isPlace 14 = .ok (.iload_n 1, 1) := dk_27 (dk_at dksX0_isPlace_0 14 rfl rfl)
theorem dX0_isPlace_15 : decode cX0_isPlace 15 = .ok (.i2l, 1) := dk_133 (dk_at dksX0_isPlace_0 15 rfl rfl)
theorem dX0_isPlace_16 : decode cX0_isPlace 16 = .ok (.ldc2_w 190, 3) := dk_20 0 190 (dk_at dksX0_isPlace_0 16 rfl rfl)
theorem dX0_isPlace_19 : decode cX0_isPlace 19 = .ok (.ldc2_w 192, 3) := dk_20 0 192 (dk_at dksX0_isPlace_0 19 rfl rfl)
theorem dX0_isPlace_22 : decode cX0_isPlace 22 = .ok (.invokestatic 194, 3) := dk_184 0 194 (dk_at dksX0_isPlace_1 0 rfl rfl)
theorem dX0_isPlace_25 : decode cX0_isPlace 25 = .ok (.ifCond .eq 21, 3) := dk_153 0 21 (dk_at dksX0_isPlace_1 3 rfl rfl)
theorem dX0_isPlace_28 : decode cX0_isPlace 28 = .ok (.iload_n 2, 1) := dk_28 (dk_at dksX0_isPlace_1 6 rfl rfl)
theorem dX0_isPlace_29 : decode cX0_isPlace 29 = .ok (.i2l, 1) := dk_133 (dk_at dksX0_isPlace_1 7 rfl rfl)
theorem dX0_isPlace_30 : decode cX0_isPlace 30 = .ok (.ldc2_w 190, 3) := dk_20 0 190 (dk_at dksX0_isPlace_1 8 rfl rfl)
theorem dX0_isPlace_33 : decode cX0_isPlace 33 = .ok (.ldc2_w 192, 3) := dk_20 0 192 (dk_at dksX0_isPlace_1 11 rfl rfl)
theorem dX0_isPlace_36 : decode cX0_isPlace 36 = .ok (.invokestatic 194, 3) := dk_184 0 194 (dk_at dksX0_isPlace_1 14 rfl rfl)
theorem dX0_isPlace_39 : decode cX0_isPlace 39 = .ok (.ifCond .eq 7, 3) := dk_153 0 7 (dk_at dksX0_isPlace_1 17 rfl rfl)
theorem dX0_isPlace_42 : decode cX0_isPlace 42 = .ok (.iconst 1, 1) := dk_4 (dk_at dksX0_isPlace_1 20 rfl rfl)
theorem dX0_isPlace_43 : decode cX0_isPlace 43 = .ok (.goto 4, 3) := dk_167 0 4 (dk_at dksX0_isPlace_1 21 rfl rfl)
theorem dX0_isPlace_46 : decode cX0_isPlace 46 = .ok (.iconst 0, 1) := dk_3 (dk_at dksX0_isPlace_2 0 rfl rfl)
theorem dX0_isPlace_47 : decode cX0_isPlace 47 = .ok (.ireturn, 1) := dk_172 (dk_at dksX0_isPlace_2 1 rfl rfl)
abbrev cX0_drop : ByteArray := prog_1_method_27_code
def yX0_drop : MethodName := ⟨RX0, "drop", "(I)I"⟩
def dkwX0_drop_2 : List UInt8 := [180, 0, 187, 172]
abbrev dktX0_drop_2 : List UInt8 := dkwX0_drop_2 ++ []
def dkwX0_drop_1 : List UInt8 := [182, 0, 254, 154, 0, 5, 2, 172, 42, 182, 0, 245, 42, 180, 0, 134, 27, 182, 1, 23, 42, 180, 0, 134]
abbrev dktX0_drop_1 : List UInt8 := dkwX0_drop_1 ++ dktX0_drop_2
def dkwX0_drop_0 : List UInt8 := [42, 27, 155, 0, 7, 4, 167, 0, 4, 3, 182, 0, 224, 153, 0, 16, 42, 42, 27, 182, 0, 250, 6]
abbrev dktX0_drop_0 : List UInt8 := dkwX0_drop_0 ++ dktX0_drop_1
theorem dksX0_drop_0 : cX0_drop.data.toList.drop 0 = dktX0_drop_0 := by decide +kernel
theorem dksX0_drop_1 : cX0_drop.data.toList.drop 23 = dktX0_drop_1 := dk_seg dksX0_drop_0 23 rfl rfl
theorem dksX0_drop_2 : cX0_drop.data.toList.drop 47 = dktX0_drop_2 := dk_seg dksX0_drop_1 24 rfl rfl
theorem dX0_drop_0 : decode cX0_drop 0 = .ok (.aload_n 0, 1) := dk_42 (dk_at dksX0_drop_0 0 rfl rfl)
theorem dX0_drop_1 : decode cX0_drop 1 = .ok (.iload_n 1, 1) := dk_27 (dk_at dksX0_drop_0 1 rfl rfl)
theorem dX0_drop_2 : decode cX0_drop 2 = .ok (.ifCond .lt 7, 3) := dk_155 0 7 (dk_at dksX0_drop_0 2 rfl rfl)
theorem dX0_drop_5 : decode cX0_drop 5 = .ok (.iconst 1, 1) := dk_4 (dk_at dksX0_drop_0 5 rfl rfl)
theorem dX0_drop_6 : decode cX0_drop 6 = .ok (.goto 4, 3) := dk_167 0 4 (dk_at dksX0_drop_0 6 rfl rfl)
theorem dX0_drop_9 : decode cX0_drop 9 = .ok (.iconst 0, 1) := dk_3 (dk_at dksX0_drop_0 9 rfl rfl)
theorem dX0_drop_10 : decode cX0_drop 10 = .ok (.invokevirtual 224, 3) := dk_182 0 224 (dk_at dksX0_drop_0 10 rfl rfl)
theorem dX0_drop_13 : decode cX0_drop 13 = .ok (.ifCond .eq 16, 3) := dk_153 0 16 (dk_at dksX0_drop_0 13 rfl rfl)
theorem dX0_drop_16 : decode cX0_drop 16 = .ok (.aload_n 0, 1) := dk_42 (dk_at dksX0_drop_0 16 rfl rfl)
theorem dX0_drop_17 : decode cX0_drop 17 = .ok (.aload_n 0, 1) := dk_42 (dk_at dksX0_drop_0 17 rfl rfl)
theorem dX0_drop_18 : decode cX0_drop 18 = .ok (.iload_n 1, 1) := dk_27 (dk_at dksX0_drop_0 18 rfl rfl)
theorem dX0_drop_19 : decode cX0_drop 19 = .ok (.invokevirtual 250, 3) := dk_182 0 250 (dk_at dksX0_drop_0 19 rfl rfl)
theorem dX0_drop_22 : decode cX0_drop 22 = .ok (.iconst 3, 1) := dk_6 (dk_at dksX0_drop_0 22 rfl rfl)
theorem dX0_drop_23 : decode cX0_drop 23 = .ok (.invokevirtual 254, 3) := dk_182 0 254 (dk_at dksX0_drop_1 0 rfl rfl)
theorem dX0_drop_26 : decode cX0_drop 26 = .ok (.ifCond .ne 5, 3) := dk_154 0 5 (dk_at dksX0_drop_1 3 rfl rfl)
theorem dX0_drop_29 : decode cX0_drop 29 = .ok (.iconst (-1), 1) := dk_2 (dk_at dksX0_drop_1 6 rfl rfl)
theorem dX0_drop_30 : decode cX0_drop 30 = .ok (.ireturn, 1) := dk_172 (dk_at dksX0_drop_1 7 rfl rfl)
theorem dX0_drop_31 : decode cX0_drop 31 = .ok (.aload_n 0, 1) := dk_42 (dk_at dksX0_drop_1 8 rfl rfl)
theorem dX0_drop_32 : decode cX0_drop 32 = .ok (.invokevirtual 245, 3) := dk_182 0 245 (dk_at dksX0_drop_1 9 rfl rfl)
theorem dX0_drop_35 : decode cX0_drop 35 = .ok (.aload_n 0, 1) := dk_42 (dk_at dksX0_drop_1 12 rfl rfl)
theorem dX0_drop_36 : decode cX0_drop 36 = .ok (.getfield 134, 3) := dk_180 0 134 (dk_at dksX0_drop_1 13 rfl rfl)
theorem dX0_drop_39 : decode cX0_drop 39 = .ok (.iload_n 1, 1) := dk_27 (dk_at dksX0_drop_1 16 rfl rfl)
theorem dX0_drop_40 : decode cX0_drop 40 = .ok (.invokevirtual 279, 3) := dk_182 1 23 (dk_at dksX0_drop_1 17 rfl rfl)
theorem dX0_drop_43 : decode cX0_drop 43 = .ok (.aload_n 0, 1) := dk_42 (dk_at dksX0_drop_1 20 rfl rfl)
theorem dX0_drop_44 : decode cX0_drop 44 = .ok (.getfield 134, 3) := dk_180 0 134 (dk_at dksX0_drop_1 21 rfl rfl)
theorem dX0_drop_47 : decode cX0_drop 47 = .ok (.getfield 187, 3) := dk_180 0 187 (dk_at dksX0_drop_2 0 rfl rfl)
theorem dX0_drop_50 : decode cX0_drop 50 = .ok (.ireturn, 1) := dk_172 (dk_at dksX0_drop_2 3 rfl rfl)
abbrev cX0_move : ByteArray := prog_1_method_28_code
def yX0_move : MethodName := ⟨RX0, "move", "(IIII)Z"⟩
def dkwX0_move_3 : List UInt8 := [180, 0, 134, 27, 28, 29, 21, 4, 182, 1, 26, 4, 172]
abbrev dktX0_move_3 : List UInt8 := dkwX0_move_3 ++ []
def dkwX0_move_2 : List UInt8 := [156, 0, 7, 4, 167, 0, 4, 3, 8, 182, 0, 254, 154, 0, 5, 3, 172, 42, 182, 0, 245, 42]
abbrev dktX0_move_2 : List UInt8 := dkwX0_move_2 ++ dktX0_move_3
def dkwX0_move_1 : List UInt8 := [42, 42, 27, 182, 0, 250, 6, 182, 0, 254, 87, 42, 42, 180, 0, 134, 28, 29, 21, 4, 182, 1, 15]
abbrev dktX0_move_1 : List UInt8 := dkwX0_move_1 ++ dktX0_move_2
def dkwX0_move_0 : List UInt8 := [42, 27, 155, 0, 17, 28, 29, 21, 4, 184, 1, 11, 153, 0, 7, 4, 167, 0, 4, 3, 182, 0, 224, 87]
abbrev dktX0_move_0 : List UInt8 := dkwX0_move_0 ++ dktX0_move_1
theorem dksX0_move_0 : cX0_move.data.toList.drop 0 = dktX0_move_0 := by decide +kernel
theorem dksX0_move_1 : cX0_move.data.toList.drop 24 = dktX0_move_1 := dk_seg dksX0_move_0 24 rfl rfl
theorem dksX0_move_2 : cX0_move.data.toList.drop 47 = dktX0_move_2 := dk_seg dksX0_move_1 23 rfl rfl
theorem dksX0_move_3 : cX0_move.data.toList.drop 69 = dktX0_move_3 := dk_seg dksX0_move_2 22 rfl rfl
theorem dX0_move_0 : decode cX0_move 0 = .ok (.aload_n 0, 1) := dk_42 (dk_at dksX0_move_0 0 rfl rfl)
theorem dX0_move_1 : decode cX0_move 1 = .ok (.iload_n 1, 1) := dk_27 (dk_at dksX0_move_0 1 rfl rfl)
theorem dX0_move_2 : decode cX0_move 2 = .ok (.ifCond .lt 17, 3) := dk_155 0 17 (dk_at dksX0_move_0 2 rfl rfl)
theorem dX0_move_5 : decode cX0_move 5 = .ok (.iload_n 2, 1) := dk_28 (dk_at dksX0_move_0 5 rfl rfl)
theorem dX0_move_6 : decode cX0_move 6 = .ok (.iload_n 3, 1) := dk_29 (dk_at dksX0_move_0 6 rfl rfl)
theorem dX0_move_7 : decode cX0_move 7 = .ok (.iload 4, 2) := dk_21 4 (dk_at dksX0_move_0 7 rfl rfl)
theorem dX0_move_9 : decode cX0_move 9 = .ok (.invokestatic 267, 3) := dk_184 1 11 (dk_at dksX0_move_0 9 rfl rfl)
theorem dX0_move_12 : decode cX0_move 12 = .ok (.ifCond .eq 7, 3) := dk_153 0 7 (dk_at dksX0_move_0 12 rfl rfl)
theorem dX0_move_15 : decode cX0_move 15 = .ok (.iconst 1, 1) := dk_4 (dk_at dksX0_move_0 15 rfl rfl)
theorem dX0_move_16 : decode cX0_move 16 = .ok (.goto 4, 3) := dk_167 0 4 (dk_at dksX0_move_0 16 rfl rfl)
theorem dX0_move_19 : decode cX0_move 19 = .ok (.iconst 0, 1) := dk_3 (dk_at dksX0_move_0 19 rfl rfl)
theorem dX0_move_20 : decode cX0_move 20 = .ok (.invokevirtual 224, 3) := dk_182 0 224 (dk_at dksX0_move_0 20 rfl rfl)
theorem dX0_move_23 : decode cX0_move 23 = .ok (.pop, 1) := dk_87 (dk_at dksX0_move_0 23 rfl rfl)
theorem dX0_move_24 : decode cX0_move 24 = .ok (.aload_n 0, 1) := dk_42 (dk_at dksX0_move_1 0 rfl rfl)
theorem dX0_move_25 : decode cX0_move 25 = .ok (.aload_n 0, 1) := dk_42 (dk_at dksX0_move_1 1 rfl rfl)
theorem dX0_move_26 : decode cX0_move 26 = .ok (.iload_n 1, 1) := dk_27 (dk_at dksX0_move_1 2 rfl rfl)
theorem dX0_move_27 : decode cX0_move 27 = .ok (.invokevirtual 250, 3) := dk_182 0 250 (dk_at dksX0_move_1 3 rfl rfl)
theorem dX0_move_30 : decode cX0_move 30 = .ok (.iconst 3, 1) := dk_6 (dk_at dksX0_move_1 6 rfl rfl)
theorem dX0_move_31 : decode cX0_move 31 = .ok (.invokevirtual 254, 3) := dk_182 0 254 (dk_at dksX0_move_1 7 rfl rfl)
theorem dX0_move_34 : decode cX0_move 34 = .ok (.pop, 1) := dk_87 (dk_at dksX0_move_1 10 rfl rfl)
theorem dX0_move_35 : decode cX0_move 35 = .ok (.aload_n 0, 1) := dk_42 (dk_at dksX0_move_1 11 rfl rfl)
theorem dX0_move_36 : decode cX0_move 36 = .ok (.aload_n 0, 1) := dk_42 (dk_at dksX0_move_1 12 rfl rfl)
theorem dX0_move_37 : decode cX0_move 37 = .ok (.getfield 134, 3) := dk_180 0 134 (dk_at dksX0_move_1 13 rfl rfl)
theorem dX0_move_40 : decode cX0_move 40 = .ok (.iload_n 2, 1) := dk_28 (dk_at dksX0_move_1 16 rfl rfl)
theorem dX0_move_41 : decode cX0_move 41 = .ok (.iload_n 3, 1) := dk_29 (dk_at dksX0_move_1 17 rfl rfl)
theorem dX0_move_42 : decode cX0_move 42 = .ok (.iload 4, 2) := dk_21 4 (dk_at dksX0_move_1 18 rfl rfl)
theorem dX0_move_44 : decode cX0_move 44 = .ok (.invokevirtual 271, 3) := dk_182 1 15 (dk_at dksX0_move_1 20 rfl rfl)
theorem dX0_move_47 : decode cX0_move 47 = .ok (.ifCond .ge 7, 3) := dk_156 0 7 (dk_at dksX0_move_2 0 rfl rfl)
theorem dX0_move_50 : decode cX0_move 50 = .ok (.iconst 1, 1) := dk_4 (dk_at dksX0_move_2 3 rfl rfl)
theorem dX0_move_51 : decode cX0_move 51 = .ok (.goto 4, 3) := dk_167 0 4 (dk_at dksX0_move_2 4 rfl rfl)
theorem dX0_move_54 : decode cX0_move 54 = .ok (.iconst 0, 1) := dk_3 (dk_at dksX0_move_2 7 rfl rfl)
theorem dX0_move_55 : decode cX0_move 55 = .ok (.iconst 5, 1) := dk_8 (dk_at dksX0_move_2 8 rfl rfl)
theorem dX0_move_56 : decode cX0_move 56 = .ok (.invokevirtual 254, 3) := dk_182 0 254 (dk_at dksX0_move_2 9 rfl rfl)
theorem dX0_move_59 : decode cX0_move 59 = .ok (.ifCond .ne 5, 3) := dk_154 0 5 (dk_at dksX0_move_2 12 rfl rfl)
theorem dX0_move_62 : decode cX0_move 62 = .ok (.iconst 0, 1) := dk_3 (dk_at dksX0_move_2 15 rfl rfl)
theorem dX0_move_63 : decode cX0_move 63 = .ok (.ireturn, 1) := dk_172 (dk_at dksX0_move_2 16 rfl rfl)
theorem dX0_move_64 : decode cX0_move 64 = .ok (.aload_n 0, 1) := dk_42 (dk_at dksX0_move_2 17 rfl rfl)
theorem dX0_move_65 : decode cX0_move 65 = .ok (.invokevirtual 245, 3) := dk_182 0 245 (dk_at dksX0_move_2 18 rfl rfl)
theorem dX0_move_68 : decode cX0_move 68 = .ok (.aload_n 0, 1) := dk_42 (dk_at dksX0_move_2 21 rfl rfl)
theorem dX0_move_69 : decode cX0_move 69 = .ok (.getfield 134, 3) := dk_180 0 134 (dk_at dksX0_move_3 0 rfl rfl)
theorem dX0_move_72 : decode cX0_move 72 = .ok (.iload_n 1, 1) := dk_27 (dk_at dksX0_move_3 3 rfl rfl)
theorem dX0_move_73 : decode cX0_move 73 = .ok (.iload_n 2, 1) := dk_28 (dk_at dksX0_move_3 4 rfl rfl)
theorem dX0_move_74 : decode cX0_move 74 = .ok (.iload_n 3, 1) := dk_29 (dk_at dksX0_move_3 5 rfl rfl)
theorem dX0_move_75 : decode cX0_move 75 = .ok (.iload 4, 2) := dk_21 4 (dk_at dksX0_move_3 6 rfl rfl)
theorem dX0_move_77 : decode cX0_move 77 = .ok (.invokevirtual 282, 3) := dk_182 1 26 (dk_at dksX0_move_3 8 rfl rfl)
theorem dX0_move_80 : decode cX0_move 80 = .ok (.iconst 1, 1) := dk_4 (dk_at dksX0_move_3 11 rfl rfl)
theorem dX0_move_81 : decode cX0_move 81 = .ok (.ireturn, 1) := dk_172 (dk_at dksX0_move_3 12 rfl rfl)
abbrev cX0_swap : ByteArray := prog_1_method_29_code
def yX0_swap : MethodName := ⟨RX0, "swap", "(II)I"⟩
def dkwX0_swap_4 : List UInt8 := [29, 172]
abbrev dktX0_swap_4 : List UInt8 := dkwX0_swap_4 ++ []
def dkwX0_swap_3 : List UInt8 := [42, 180, 0, 134, 180, 1, 2, 27, 46, 62, 42, 182, 0, 245, 42, 180, 0, 134, 180, 1, 2, 27, 28, 79]
abbrev dktX0_swap_3 : List UInt8 := dkwX0_swap_3 ++ dktX0_swap_4
def dkwX0_swap_2 : List UInt8 := [180, 1, 2, 27, 46, 28, 159, 0, 7, 4, 167, 0, 4, 3, 16, 6, 182, 0, 254, 154, 0, 5, 2, 172]
abbrev dktX0_swap_2 : List UInt8 := dkwX0_swap_2 ++ dktX0_swap_3
def dkwX0_swap_1 : List UInt8 := [182, 0, 224, 153, 0, 43, 42, 42, 27, 182, 0, 250, 6, 182, 0, 254, 153, 0, 30, 42, 42, 180, 0, 134]
abbrev dktX0_swap_1 : List UInt8 := dkwX0_swap_1 ++ dktX0_swap_2
def dkwX0_swap_0 : List UInt8 := [42, 27, 155, 0, 19, 28, 133, 10, 20, 1, 9, 184, 0, 194, 153, 0, 7, 4, 167, 0, 4, 3]
abbrev dktX0_swap_0 : List UInt8 := dkwX0_swap_0 ++ dktX0_swap_1
theorem dksX0_swap_0 : cX0_swap.data.toList.drop 0 = dktX0_swap_0 := by decide +kernel
theorem dksX0_swap_1 : cX0_swap.data.toList.drop 22 = dktX0_swap_1 := dk_seg dksX0_swap_0 22 rfl rfl
theorem dksX0_swap_2 : cX0_swap.data.toList.drop 46 = dktX0_swap_2 := dk_seg dksX0_swap_1 24 rfl rfl
theorem dksX0_swap_3 : cX0_swap.data.toList.drop 70 = dktX0_swap_3 := dk_seg dksX0_swap_2 24 rfl rfl
theorem dksX0_swap_4 : cX0_swap.data.toList.drop 94 = dktX0_swap_4 := dk_seg dksX0_swap_3 24 rfl rfl
theorem dX0_swap_0 : decode cX0_swap 0 = .ok (.aload_n 0, 1) := dk_42 (dk_at dksX0_swap_0 0 rfl rfl)
theorem dX0_swap_1 : decode cX0_swap 1 = .ok (.iload_n 1, 1) := dk_27 (dk_at dksX0_swap_0 1 rfl rfl)
theorem dX0_swap_2 : decode cX0_swap 2 = .ok (.ifCond .lt 19, 3) := dk_155 0 19 (dk_at dksX0_swap_0 2 rfl rfl)
theorem dX0_swap_5 : decode cX0_swap 5 = .ok (.iload_n 2, 1) := dk_28 (dk_at dksX0_swap_0 5 rfl rfl)
theorem dX0_swap_6 : decode cX0_swap 6 = .ok (.i2l, 1) := dk_133 (dk_at dksX0_swap_0 6 rfl rfl)
theorem dX0_swap_7 : decode cX0_swap 7 = .ok (.lconst 1, 1) := dk_10 (dk_at dksX0_swap_0 7 rfl rfl)
theorem dX0_swap_8 : decode cX0_swap 8 = .ok (.ldc2_w 265, 3) := dk_20 1 9 (dk_at dksX0_swap_0 8 rfl rfl)
theorem dX0_swap_11 : decode cX0_swap 11 = .ok (.invokestatic 194, 3) := dk_184 0 194 (dk_at dksX0_swap_0 11 rfl rfl)
theorem dX0_swap_14 : decode cX0_swap 14 = .ok (.ifCond .eq 7, 3) := dk_153 0 7 (dk_at dksX0_swap_0 14 rfl rfl)
theorem dX0_swap_17 : decode cX0_swap 17 = .ok (.iconst 1, 1) := dk_4 (dk_at dksX0_swap_0 17 rfl rfl)
theorem dX0_swap_18 : decode cX0_swap 18 = .ok (.goto 4, 3) := dk_167 0 4 (dk_at dksX0_swap_0 18 rfl rfl)
theorem dX0_swap_21 : decode cX0_swap 21 = .ok (.iconst 0, 1) := dk_3 (dk_at dksX0_swap_0 21 rfl rfl)
theorem dX0_swap_22 : decode cX0_swap 22 = .ok (.invokevirtual 224, 3) := dk_182 0 224 (dk_at dksX0_swap_1 0 rfl rfl)
theorem dX0_swap_25 : decode cX0_swap 25 = .ok (.ifCond .eq 43, 3) := dk_153 0 43 (dk_at dksX0_swap_1 3 rfl rfl)
theorem dX0_swap_28 : decode cX0_swap 28 = .ok (.aload_n 0, 1) := dk_42 (dk_at dksX0_swap_1 6 rfl rfl)
theorem dX0_swap_29 : decode cX0_swap 29 = .ok (.aload_n 0, 1) := dk_42 (dk_at dksX0_swap_1 7 rfl rfl)
theorem dX0_swap_30 : decode cX0_swap 30 = .ok (.iload_n 1, 1) := dk_27 (dk_at dksX0_swap_1 8 rfl rfl)
theorem dX0_swap_31 : decode cX0_swap 31 = .ok (.invokevirtual 250, 3) := dk_182 0 250 (dk_at dksX0_swap_1 9 rfl rfl)
theorem dX0_swap_34 : decode cX0_swap 34 = .ok (.iconst 3, 1) := dk_6 (dk_at dksX0_swap_1 12 rfl rfl)
theorem dX0_swap_35 : decode cX0_swap 35 = .ok (.invokevirtual 254, 3) := dk_182 0 254 (dk_at dksX0_swap_1 13 rfl rfl)
theorem dX0_swap_38 : decode cX0_swap 38 = .ok (.ifCond .eq 30, 3) := dk_153 0 30 (dk_at dksX0_swap_1 16 rfl rfl)
theorem dX0_swap_41 : decode cX0_swap 41 = .ok (.aload_n 0, 1) := dk_42 (dk_at dksX0_swap_1 19 rfl rfl)
theorem dX0_swap_42 : decode cX0_swap 42 = .ok (.aload_n 0, 1) := dk_42 (dk_at dksX0_swap_1 20 rfl rfl)
theorem dX0_swap_43 : decode cX0_swap 43 = .ok (.getfield 134, 3) := dk_180 0 134 (dk_at dksX0_swap_1 21 rfl rfl)
theorem dX0_swap_46 : decode cX0_swap 46 = .ok (.getfield 258, 3) := dk_180 1 2 (dk_at dksX0_swap_2 0 rfl rfl)
theorem dX0_swap_49 : decode cX0_swap 49 = .ok (.iload_n 1, 1) := dk_27 (dk_at dksX0_swap_2 3 rfl rfl)
theorem dX0_swap_50 : decode cX0_swap 50 = .ok (.iaload, 1) := dk_46 (dk_at dksX0_swap_2 4 rfl rfl)
theorem dX0_swap_51 : decode cX0_swap 51 = .ok (.iload_n 2, 1) := dk_28 (dk_at dksX0_swap_2 5 rfl rfl)
theorem dX0_swap_52 : decode cX0_swap 52 = .ok (.if_icmp .eq 7, 3) := dk_159 0 7 (dk_at dksX0_swap_2 6 rfl rfl)
theorem dX0_swap_55 : decode cX0_swap 55 = .ok (.iconst 1, 1) := dk_4 (dk_at dksX0_swap_2 9 rfl rfl)
theorem dX0_swap_56 : decode cX0_swap 56 = .ok (.goto 4, 3) := dk_167 0 4 (dk_at dksX0_swap_2 10 rfl rfl)
theorem dX0_swap_59 : decode cX0_swap 59 = .ok (.iconst 0, 1) := dk_3 (dk_at dksX0_swap_2 13 rfl rfl)
theorem dX0_swap_60 : decode cX0_swap 60 = .ok (.bipush 6, 2) := dk_16 6 (dk_at dksX0_swap_2 14 rfl rfl)
theorem dX0_swap_62 : decode cX0_swap 62 = .ok (.invokevirtual 254, 3) := dk_182 0 254 (dk_at dksX0_swap_2 16 rfl rfl)
theorem dX0_swap_65 : decode cX0_swap 65 = .ok (.ifCond .ne 5, 3) := dk_154 0 5 (dk_at dksX0_swap_2 19 rfl rfl)
theorem dX0_swap_68 : decode cX0_swap 68 = .ok (.iconst (-1), 1) := dk_2 (dk_at dksX0_swap_2 22 rfl rfl)
theorem dX0_swap_69 : decode cX0_swap 69 = .ok (.ireturn, 1) := dk_172 (dk_at dksX0_swap_2 23 rfl rfl)
theorem dX0_swap_70 : decode cX0_swap 70 = .ok (.aload_n 0, 1) := dk_42 (dk_at dksX0_swap_3 0 rfl rfl)
theorem dX0_swap_71 : decode cX0_swap 71 = .ok (.getfield 134, 3) := dk_180 0 134 (dk_at dksX0_swap_3 1 rfl rfl)
theorem dX0_swap_74 : decode cX0_swap 74 = .ok (.getfield 258, 3) := dk_180 1 2 (dk_at dksX0_swap_3 4 rfl rfl)
theorem dX0_swap_77 : decode cX0_swap 77 = .ok (.iload_n 1, 1) := dk_27 (dk_at dksX0_swap_3 7 rfl rfl)
theorem dX0_swap_78 : decode cX0_swap 78 = .ok (.iaload, 1) := dk_46 (dk_at dksX0_swap_3 8 rfl rfl)
theorem dX0_swap_79 : decode cX0_swap 79 = .ok (.istore_n 3, 1) := dk_62 (dk_at dksX0_swap_3 9 rfl rfl)
theorem dX0_swap_80 : decode cX0_swap 80 = .ok (.aload_n 0, 1) := dk_42 (dk_at dksX0_swap_3 10 rfl rfl)
theorem dX0_swap_81 : decode cX0_swap 81 = .ok (.invokevirtual 245, 3) := dk_182 0 245 (dk_at dksX0_swap_3 11 rfl rfl)
theorem dX0_swap_84 : decode cX0_swap 84 = .ok (.aload_n 0, 1) := dk_42 (dk_at dksX0_swap_3 14 rfl rfl)
theorem dX0_swap_85 : decode cX0_swap 85 = .ok (.getfield 134, 3) := dk_180 0 134 (dk_at dksX0_swap_3 15 rfl rfl)
theorem dX0_swap_88 : decode cX0_swap 88 = .ok (.getfield 258, 3) := dk_180 1 2 (dk_at dksX0_swap_3 18 rfl rfl)
theorem dX0_swap_91 : decode cX0_swap 91 = .ok (.iload_n 1, 1) := dk_27 (dk_at dksX0_swap_3 21 rfl rfl)
theorem dX0_swap_92 : decode cX0_swap 92 = .ok (.iload_n 2, 1) := dk_28 (dk_at dksX0_swap_3 22 rfl rfl)
theorem dX0_swap_93 : decode cX0_swap 93 = .ok (.iastore, 1) := dk_79 (dk_at dksX0_swap_3 23 rfl rfl)
theorem dX0_swap_94 : decode cX0_swap 94 = .ok (.iload_n 3, 1) := dk_29 (dk_at dksX0_swap_4 0 rfl rfl)
theorem dX0_swap_95 : decode cX0_swap 95 = .ok (.ireturn, 1) := dk_172 (dk_at dksX0_swap_4 1 rfl rfl)
abbrev cX0_image : ByteArray := prog_1_method_30_code
def yX0_image : MethodName := ⟨RX0, "image", "(I)I"⟩
def dkwX0_image_2 : List UInt8 := [7, 182, 0, 254, 154, 0, 5, 2, 172, 42, 182, 0, 245, 42, 180, 0, 134, 27, 182, 1, 35, 28, 172]
abbrev dktX0_image_2 : List UInt8 := dkwX0_image_2 ++ []
def dkwX0_image_1 : List UInt8 := [182, 1, 31, 61, 42, 42, 180, 0, 134, 180, 0, 187, 28, 96, 16, 12, 163, 0, 7, 4, 167, 0, 4, 3]
abbrev dktX0_image_1 : List UInt8 := dkwX0_image_1 ++ dktX0_image_2
def dkwX0_image_0 : List UInt8 := [42, 27, 133, 9, 20, 1, 29, 184, 0, 194, 182, 0, 224, 154, 0, 5, 2, 172, 42, 180, 0, 134, 27]
abbrev dktX0_image_0 : List UInt8 := dkwX0_image_0 ++ dktX0_image_1
theorem dksX0_image_0 : cX0_image.data.toList.drop 0 = dktX0_image_0 := by decide +kernel
theorem dksX0_image_1 : cX0_image.data.toList.drop 23 = dktX0_image_1 := dk_seg dksX0_image_0 23 rfl rfl
theorem dksX0_image_2 : cX0_image.data.toList.drop 47 = dktX0_image_2 := dk_seg dksX0_image_1 24 rfl rfl
theorem dX0_image_0 : decode cX0_image 0 = .ok (.aload_n 0, 1) := dk_42 (dk_at dksX0_image_0 0 rfl rfl)
theorem dX0_image_1 : decode cX0_image 1 = .ok (.iload_n 1, 1) := dk_27 (dk_at dksX0_image_0 1 rfl rfl)
theorem dX0_image_2 : decode cX0_image 2 = .ok (.i2l, 1) := dk_133 (dk_at dksX0_image_0 2 rfl rfl)
theorem dX0_image_3 : decode cX0_image 3 = .ok (.lconst 0, 1) := dk_9 (dk_at dksX0_image_0 3 rfl rfl)
theorem dX0_image_4 : decode cX0_image 4 = .ok (.ldc2_w 285, 3) := dk_20 1 29 (dk_at dksX0_image_0 4 rfl rfl)
theorem dX0_image_7 : decode cX0_image 7 = .ok (.invokestatic 194, 3) := dk_184 0 194 (dk_at dksX0_image_0 7 rfl rfl)
theorem dX0_image_10 : decode cX0_image 10 = .ok (.invokevirtual 224, 3) := dk_182 0 224 (dk_at dksX0_image_0 10 rfl rfl)
theorem dX0_image_13 : decode cX0_image 13 = .ok (.ifCond .ne 5, 3) := dk_154 0 5 (dk_at dksX0_image_0 13 rfl rfl)
theorem dX0_image_16 : decode cX0_image 16 = .ok (.iconst (-1), 1) := dk_2 (dk_at dksX0_image_0 16 rfl rfl)
theorem dX0_image_17 : decode cX0_image 17 = .ok (.ireturn, 1) := dk_172 (dk_at dksX0_image_0 17 rfl rfl)
theorem dX0_image_18 : decode cX0_image 18 = .ok (.aload_n 0, 1) := dk_42 (dk_at dksX0_image_0 18 rfl rfl)
theorem dX0_image_19 : decode cX0_image 19 = .ok (.getfield 134, 3) := dk_180 0 134 (dk_at dksX0_image_0 19 rfl rfl)
theorem dX0_image_22 : decode cX0_image 22 = .ok (.iload_n 1, 1) := dk_27 (dk_at dksX0_image_0 22 rfl rfl)
theorem dX0_image_23 : decode cX0_image 23 = .ok (.invokevirtual 287, 3) := dk_182 1 31 (dk_at dksX0_image_1 0 rfl rfl)
theorem dX0_image_26 : decode cX0_image 26 = .ok (.istore_n 2, 1) := dk_61 (dk_at dksX0_image_1 3 rfl rfl)
theorem dX0_image_27 : decode cX0_image 27 = .ok (.aload_n 0, 1) := dk_42 (dk_at dksX0_image_1 4 rfl rfl)
theorem dX0_image_28 : decode cX0_image 28 = .ok (.aload_n 0, 1) := dk_42 (dk_at dksX0_image_1 5 rfl rfl)
theorem dX0_image_29 : decode cX0_image 29 = .ok (.getfield 134, 3) := dk_180 0 134 (dk_at dksX0_image_1 6 rfl rfl)
theorem dX0_image_32 : decode cX0_image 32 = .ok (.getfield 187, 3) := dk_180 0 187 (dk_at dksX0_image_1 9 rfl rfl)
theorem dX0_image_35 : decode cX0_image 35 = .ok (.iload_n 2, 1) := dk_28 (dk_at dksX0_image_1 12 rfl rfl)
theorem dX0_image_36 : decode cX0_image 36 = .ok (.iadd, 1) := dk_96 (dk_at dksX0_image_1 13 rfl rfl)
theorem dX0_image_37 : decode cX0_image 37 = .ok (.bipush 12, 2) := dk_16 12 (dk_at dksX0_image_1 14 rfl rfl)
theorem dX0_image_39 : decode cX0_image 39 = .ok (.if_icmp .gt 7, 3) := dk_163 0 7 (dk_at dksX0_image_1 16 rfl rfl)
theorem dX0_image_42 : decode cX0_image 42 = .ok (.iconst 1, 1) := dk_4 (dk_at dksX0_image_1 19 rfl rfl)
theorem dX0_image_43 : decode cX0_image 43 = .ok (.goto 4, 3) := dk_167 0 4 (dk_at dksX0_image_1 20 rfl rfl)
theorem dX0_image_46 : decode cX0_image 46 = .ok (.iconst 0, 1) := dk_3 (dk_at dksX0_image_1 23 rfl rfl)
theorem dX0_image_47 : decode cX0_image 47 = .ok (.iconst 4, 1) := dk_7 (dk_at dksX0_image_2 0 rfl rfl)
theorem dX0_image_48 : decode cX0_image 48 = .ok (.invokevirtual 254, 3) := dk_182 0 254 (dk_at dksX0_image_2 1 rfl rfl)
theorem dX0_image_51 : decode cX0_image 51 = .ok (.ifCond .ne 5, 3) := dk_154 0 5 (dk_at dksX0_image_2 4 rfl rfl)
theorem dX0_image_54 : decode cX0_image 54 = .ok (.iconst (-1), 1) := dk_2 (dk_at dksX0_image_2 7 rfl rfl)
theorem dX0_image_55 : decode cX0_image 55 = .ok (.ireturn, 1) := dk_172 (dk_at dksX0_image_2 8 rfl rfl)
theorem dX0_image_56 : decode cX0_image 56 = .ok (.aload_n 0, 1) := dk_42 (dk_at dksX0_image_2 9 rfl rfl)
theorem dX0_image_57 : decode cX0_image 57 = .ok (.invokevirtual 245, 3) := dk_182 0 245 (dk_at dksX0_image_2 10 rfl rfl)
theorem dX0_image_60 : decode cX0_image 60 = .ok (.aload_n 0, 1) := dk_42 (dk_at dksX0_image_2 13 rfl rfl)
theorem dX0_image_61 : decode cX0_image 61 = .ok (.getfield 134, 3) := dk_180 0 134 (dk_at dksX0_image_2 14 rfl rfl)
theorem dX0_image_64 : decode cX0_image 64 = .ok (.iload_n 1, 1) := dk_27 (dk_at dksX0_image_2 17 rfl rfl)
theorem dX0_image_65 : decode cX0_image 65 = .ok (.invokevirtual 291, 3) := dk_182 1 35 (dk_at dksX0_image_2 18 rfl rfl)
theorem dX0_image_68 : decode cX0_image 68 = .ok (.iload_n 2, 1) := dk_28 (dk_at dksX0_image_2 21 rfl rfl)
theorem dX0_image_69 : decode cX0_image 69 = .ok (.ireturn, 1) := dk_172 (dk_at dksX0_image_2 22 rfl rfl)
abbrev cX0_shift : ByteArray := prog_1_method_31_code
def yX0_shift : MethodName := ⟨RX0, "shift", "(III)Z"⟩
def dkwX0_shift_5 : List UInt8 := [182, 1, 46, 42, 180, 0, 134, 4, 28, 182, 1, 46, 42, 180, 0, 134, 5, 29, 182, 1, 46, 4, 172]
abbrev dktX0_shift_5 : List UInt8 := dkwX0_shift_5 ++ []
def dkwX0_shift_4 : List UInt8 := [167, 0, 4, 3, 16, 6, 182, 0, 254, 154, 0, 5, 3, 172, 42, 182, 0, 245, 42, 180, 0, 134, 3, 27]
abbrev dktX0_shift_4 : List UInt8 := dkwX0_shift_4 ++ dktX0_shift_5
def dkwX0_shift_3 : List UInt8 := [180, 0, 134, 4, 28, 182, 1, 42, 153, 0, 19, 42, 180, 0, 134, 5, 29, 182, 1, 42, 153, 0, 7, 4]
abbrev dktX0_shift_3 : List UInt8 := dkwX0_shift_3 ++ dktX0_shift_4
def dkwX0_shift_2 : List UInt8 := [3, 182, 0, 224, 154, 0, 5, 3, 172, 42, 42, 180, 0, 134, 3, 27, 182, 1, 42, 153, 0, 31, 42]
abbrev dktX0_shift_2 : List UInt8 := dkwX0_shift_2 ++ dktX0_shift_3
def dkwX0_shift_1 : List UInt8 := [184, 0, 194, 153, 0, 21, 29, 133, 20, 1, 38, 20, 1, 40, 184, 0, 194, 153, 0, 7, 4, 167, 0, 4]
abbrev dktX0_shift_1 : List UInt8 := dkwX0_shift_1 ++ dktX0_shift_2
def dkwX0_shift_0 : List UInt8 := [42, 27, 133, 20, 1, 38, 20, 1, 40, 184, 0, 194, 153, 0, 35, 28, 133, 20, 1, 38, 20, 1, 40]
abbrev dktX0_shift_0 : List UInt8 := dkwX0_shift_0 ++ dktX0_shift_1
theorem dksX0_shift_0 : cX0_shift.data.toList.drop 0 = dktX0_shift_0 := by decide +kernel
theorem dksX0_shift_1 : cX0_shift.data.toList.drop 23 = dktX0_shift_1 := dk_seg dksX0_shift_0 23 rfl rfl
theorem dksX0_shift_2 : cX0_shift.data.toList.drop 47 = dktX0_shift_2 := dk_seg dksX0_shift_1 24 rfl rfl
theorem dksX0_shift_3 : cX0_shift.data.toList.drop 70 = dktX0_shift_3 := dk_seg dksX0_shift_2 23 rfl rfl
theorem dksX0_shift_4 : cX0_shift.data.toList.drop 94 = dktX0_shift_4 := dk_seg dksX0_shift_3 24 rfl rfl
theorem dksX0_shift_5 : cX0_shift.data.toList.drop 118 = dktX0_shift_5 := dk_seg dksX0_shift_4 24 rfl rfl
theorem dX0_shift_0 : decode cX0_shift 0 = .ok (.aload_n 0, 1) := dk_42 (dk_at dksX0_shift_0 0 rfl rfl)
theorem dX0_shift_1 : decode cX0_shift 1 = .ok (.iload_n 1, 1) := dk_27 (dk_at dksX0_shift_0 1 rfl rfl)
theorem dX0_shift_2 : decode cX0_shift 2 = .ok (.i2l, 1) := dk_133 (dk_at dksX0_shift_0 2 rfl rfl)
theorem dX0_shift_3 : decode cX0_shift 3 = .ok (.ldc2_w 294, 3) := dk_20 1 38 (dk_at dksX0_shift_0 3 rfl rfl)
theorem dX0_shift_6 : decode cX0_shift 6 = .ok (.ldc2_w 296, 3) := dk_20 1 40 (dk_at dksX0_shift_0 6 rfl rfl)
theorem dX0_shift_9 : decode cX0_shift 9 = .ok (.invokestatic 194, 3) := dk_184 0 194 (dk_at dksX0_shift_0 9 rfl rfl)
theorem dX0_shift_12 : decode cX0_shift 12 = .ok (.ifCond .eq 35, 3) := dk_153 0 35 (dk_at dksX0_shift_0 12 rfl rfl)
theorem dX0_shift_15 : decode cX0_shift 15 = .ok (.iload_n 2, 1) := dk_28 (dk_at dksX0_shift_0 15 rfl rfl)
theorem dX0_shift_16 : decode cX0_shift 16 = .ok (.i2l, 1) := dk_133 (dk_at dksX0_shift_0 16 rfl rfl)
theorem dX0_shift_17 : decode cX0_shift 17 = .ok (.ldc2_w 294, 3) := dk_20 1 38 (dk_at dksX0_shift_0 17 rfl rfl)
theorem dX0_shift_20 : decode cX0_shift 20 = .ok (.ldc2_w 296, 3) := dk_20 1 40 (dk_at dksX0_shift_0 20 rfl rfl)
theorem dX0_shift_23 : decode cX0_shift 23 = .ok (.invokestatic 194, 3) := dk_184 0 194 (dk_at dksX0_shift_1 0 rfl rfl)
theorem dX0_shift_26 : decode cX0_shift 26 = .ok (.ifCond .eq 21, 3) := dk_153 0 21 (dk_at dksX0_shift_1 3 rfl rfl)
theorem dX0_shift_29 : decode cX0_shift 29 = .ok (.iload_n 3, 1) := dk_29 (dk_at dksX0_shift_1 6 rfl rfl)
theorem dX0_shift_30 : decode cX0_shift 30 = .ok (.i2l, 1) := dk_133 (dk_at dksX0_shift_1 7 rfl rfl)
theorem dX0_shift_31 : decode cX0_shift 31 = .ok (.ldc2_w 294, 3) := dk_20 1 38 (dk_at dksX0_shift_1 8 rfl rfl)
theorem dX0_shift_34 : decode cX0_shift 34 = .ok (.ldc2_w 296, 3) := dk_20 1 40 (dk_at dksX0_shift_1 11 rfl rfl)
theorem dX0_shift_37 : decode cX0_shift 37 = .ok (.invokestatic 194, 3) := dk_184 0 194 (dk_at dksX0_shift_1 14 rfl rfl)
theorem dX0_shift_40 : decode cX0_shift 40 = .ok (.ifCond .eq 7, 3) := dk_153 0 7 (dk_at dksX0_shift_1 17 rfl rfl)
theorem dX0_shift_43 : decode cX0_shift 43 = .ok (.iconst 1, 1) := dk_4 (dk_at dksX0_shift_1 20 rfl rfl)
theorem dX0_shift_44 : decode cX0_shift 44 = .ok (.goto 4, 3) := dk_167 0 4 (dk_at dksX0_shift_1 21 rfl rfl)
theorem dX0_shift_47 : decode cX0_shift 47 = .ok (.iconst 0, 1) := dk_3 (dk_at dksX0_shift_2 0 rfl rfl)
theorem dX0_shift_48 : decode cX0_shift 48 = .ok (.invokevirtual 224, 3) := dk_182 0 224 (dk_at dksX0_shift_2 1 rfl rfl)
theorem dX0_shift_51 : decode cX0_shift 51 = .ok (.ifCond .ne 5, 3) := dk_154 0 5 (dk_at dksX0_shift_2 4 rfl rfl)
theorem dX0_shift_54 : decode cX0_shift 54 = .ok (.iconst 0, 1) := dk_3 (dk_at dksX0_shift_2 7 rfl rfl)
theorem dX0_shift_55 : decode cX0_shift 55 = .ok (.ireturn, 1) := dk_172 (dk_at dksX0_shift_2 8 rfl rfl)
theorem dX0_shift_56 : decode cX0_shift 56 = .ok (.aload_n 0, 1) := dk_42 (dk_at dksX0_shift_2 9 rfl rfl)
theorem dX0_shift_57 : decode cX0_shift 57 = .ok (.aload_n 0, 1) := dk_42 (dk_at dksX0_shift_2 10 rfl rfl)
theorem dX0_shift_58 : decode cX0_shift 58 = .ok (.getfield 134, 3) := dk_180 0 134 (dk_at dksX0_shift_2 11 rfl rfl)
theorem dX0_shift_61 : decode cX0_shift 61 = .ok (.iconst 0, 1) := dk_3 (dk_at dksX0_shift_2 14 rfl rfl)
theorem dX0_shift_62 : decode cX0_shift 62 = .ok (.iload_n 1, 1) := dk_27 (dk_at dksX0_shift_2 15 rfl rfl)
theorem dX0_shift_63 : decode cX0_shift 63 = .ok (.invokevirtual 298, 3) := dk_182 1 42 (dk_at dksX0_shift_2 16 rfl rfl)
theorem dX0_shift_66 : decode cX0_shift 66 = .ok (.ifCond .eq 31, 3) := dk_153 0 31 (dk_at dksX0_shift_2 19 rfl rfl)
theorem dX0_shift_69 : decode cX0_shift 69 = .ok (.aload_n 0, 1) := dk_42 (dk_at dksX0_shift_2 22 rfl rfl)
theorem dX0_shift_70 : decode cX0_shift 70 = .ok (.getfield 134, 3) := dk_180 0 134 (dk_at dksX0_shift_3 0 rfl rfl)
theorem dX0_shift_73 : decode cX0_shift 73 = .ok (.iconst 1, 1) := dk_4 (dk_at dksX0_shift_3 3 rfl rfl)
theorem dX0_shift_74 : decode cX0_shift 74 = .ok (.iload_n 2, 1) := dk_28 (dk_at dksX0_shift_3 4 rfl rfl)
theorem dX0_shift_75 : decode cX0_shift 75 = .ok (.invokevirtual 298, 3) := dk_182 1 42 (dk_at dksX0_shift_3 5 rfl rfl)
theorem dX0_shift_78 : decode cX0_shift 78 = .ok (.ifCond .eq 19, 3) := dk_153 0 19 (dk_at dksX0_shift_3 8 rfl rfl)
theorem dX0_shift_81 : decode cX0_shift 81 = .ok (.aload_n 0, 1) := dk_42 (dk_at dksX0_shift_3 11 rfl rfl)
theorem dX0_shift_82 : decode cX0_shift 82 = .ok (.getfield 134, 3) := dk_180 0 134 (dk_at dksX0_shift_3 12 rfl rfl)
theorem dX0_shift_85 : decode cX0_shift 85 = .ok (.iconst 2, 1) := dk_5 (dk_at dksX0_shift_3 15 rfl rfl)
theorem dX0_shift_86 : decode cX0_shift 86 = .ok (.iload_n 3, 1) := dk_29 (dk_at dksX0_shift_3 16 rfl rfl)
theorem dX0_shift_87 : decode cX0_shift 87 = .ok (.invokevirtual 298, 3) := dk_182 1 42 (dk_at dksX0_shift_3 17 rfl rfl)
theorem dX0_shift_90 : decode cX0_shift 90 = .ok (.ifCond .eq 7, 3) := dk_153 0 7 (dk_at dksX0_shift_3 20 rfl rfl)
theorem dX0_shift_93 : decode cX0_shift 93 = .ok (.iconst 1, 1) := dk_4 (dk_at dksX0_shift_3 23 rfl rfl)
theorem dX0_shift_94 : decode cX0_shift 94 = .ok (.goto 4, 3) := dk_167 0 4 (dk_at dksX0_shift_4 0 rfl rfl)
theorem dX0_shift_97 : decode cX0_shift 97 = .ok (.iconst 0, 1) := dk_3 (dk_at dksX0_shift_4 3 rfl rfl)
theorem dX0_shift_98 : decode cX0_shift 98 = .ok (.bipush 6, 2) := dk_16 6 (dk_at dksX0_shift_4 4 rfl rfl)
theorem dX0_shift_100 : decode cX0_shift 100 = .ok (.invokevirtual 254, 3) := dk_182 0 254 (dk_at dksX0_shift_4 6 rfl rfl)
theorem dX0_shift_103 : decode cX0_shift 103 = .ok (.ifCond .ne 5, 3) := dk_154 0 5 (dk_at dksX0_shift_4 9 rfl rfl)
theorem dX0_shift_106 : decode cX0_shift 106 = .ok (.iconst 0, 1) := dk_3 (dk_at dksX0_shift_4 12 rfl rfl)
theorem dX0_shift_107 : decode cX0_shift 107 = .ok (.ireturn, 1) := dk_172 (dk_at dksX0_shift_4 13 rfl rfl)
theorem dX0_shift_108 : decode cX0_shift 108 = .ok (.aload_n 0, 1) := dk_42 (dk_at dksX0_shift_4 14 rfl rfl)
theorem dX0_shift_109 : decode cX0_shift 109 = .ok (.invokevirtual 245, 3) := dk_182 0 245 (dk_at dksX0_shift_4 15 rfl rfl)
theorem dX0_shift_112 : decode cX0_shift 112 = .ok (.aload_n 0, 1) := dk_42 (dk_at dksX0_shift_4 18 rfl rfl)
theorem dX0_shift_113 : decode cX0_shift 113 = .ok (.getfield 134, 3) := dk_180 0 134 (dk_at dksX0_shift_4 19 rfl rfl)
theorem dX0_shift_116 : decode cX0_shift 116 = .ok (.iconst 0, 1) := dk_3 (dk_at dksX0_shift_4 22 rfl rfl)
theorem dX0_shift_117 : decode cX0_shift 117 = .ok (.iload_n 1, 1) := dk_27 (dk_at dksX0_shift_4 23 rfl rfl)
theorem dX0_shift_118 : decode cX0_shift 118 = .ok (.invokevirtual 302, 3) := dk_182 1 46 (dk_at dksX0_shift_5 0 rfl rfl)
theorem dX0_shift_121 : decode cX0_shift 121 = .ok (.aload_n 0, 1) := dk_42 (dk_at dksX0_shift_5 3 rfl rfl)
theorem dX0_shift_122 : decode cX0_shift 122 = .ok (.getfield 134, 3) := dk_180 0 134 (dk_at dksX0_shift_5 4 rfl rfl)
theorem dX0_shift_125 : decode cX0_shift 125 = .ok (.iconst 1, 1) := dk_4 (dk_at dksX0_shift_5 7 rfl rfl)
theorem dX0_shift_126 : decode cX0_shift 126 = .ok (.iload_n 2, 1) := dk_28 (dk_at dksX0_shift_5 8 rfl rfl)
theorem dX0_shift_127 : decode cX0_shift 127 = .ok (.invokevirtual 302, 3) := dk_182 1 46 (dk_at dksX0_shift_5 9 rfl rfl)
theorem dX0_shift_130 : decode cX0_shift 130 = .ok (.aload_n 0, 1) := dk_42 (dk_at dksX0_shift_5 12 rfl rfl)
theorem dX0_shift_131 : decode cX0_shift 131 = .ok (.getfield 134, 3) := dk_180 0 134 (dk_at dksX0_shift_5 13 rfl rfl)
theorem dX0_shift_134 : decode cX0_shift 134 = .ok (.iconst 2, 1) := dk_5 (dk_at dksX0_shift_5 16 rfl rfl)
theorem dX0_shift_135 : decode cX0_shift 135 = .ok (.iload_n 3, 1) := dk_29 (dk_at dksX0_shift_5 17 rfl rfl)
theorem dX0_shift_136 : decode cX0_shift 136 = .ok (.invokevirtual 302, 3) := dk_182 1 46 (dk_at dksX0_shift_5 18 rfl rfl)
theorem dX0_shift_139 : decode cX0_shift 139 = .ok (.iconst 1, 1) := dk_4 (dk_at dksX0_shift_5 21 rfl rfl)
theorem dX0_shift_140 : decode cX0_shift 140 = .ok (.ireturn, 1) := dk_172 (dk_at dksX0_shift_5 22 rfl rfl)
abbrev cX0_stretch : ByteArray := prog_1_method_32_code
def yX0_stretch : MethodName := ⟨RX0, "stretch", "(I)Z"⟩
def dkwX0_stretch_2 : List UInt8 := [182, 1, 53, 4, 172]
abbrev dktX0_stretch_2 : List UInt8 := dkwX0_stretch_2 ++ []
def dkwX0_stretch_1 : List UInt8 := [182, 1, 50, 16, 6, 182, 0, 254, 154, 0, 5, 3, 172, 42, 182, 0, 245, 42, 180, 0, 134, 27]
abbrev dktX0_stretch_1 : List UInt8 := dkwX0_stretch_1 ++ dktX0_stretch_2
def dkwX0_stretch_0 : List UInt8 := [42, 27, 153, 0, 7, 4, 167, 0, 4, 3, 182, 0, 224, 153, 0, 20, 42, 42, 180, 0, 134, 27]
abbrev dktX0_stretch_0 : List UInt8 := dkwX0_stretch_0 ++ dktX0_stretch_1
theorem dksX0_stretch_0 : cX0_stretch.data.toList.drop 0 = dktX0_stretch_0 := by decide +kernel
theorem dksX0_stretch_1 : cX0_stretch.data.toList.drop 22 = dktX0_stretch_1 := dk_seg dksX0_stretch_0 22 rfl rfl
theorem dksX0_stretch_2 : cX0_stretch.data.toList.drop 44 = dktX0_stretch_2 := dk_seg dksX0_stretch_1 22 rfl rfl
theorem dX0_stretch_0 : decode cX0_stretch 0 = .ok (.aload_n 0, 1) := dk_42 (dk_at dksX0_stretch_0 0 rfl rfl)
theorem dX0_stretch_1 : decode cX0_stretch 1 = .ok (.iload_n 1, 1) := dk_27 (dk_at dksX0_stretch_0 1 rfl rfl)
theorem dX0_stretch_2 : decode cX0_stretch 2 = .ok (.ifCond .eq 7, 3) := dk_153 0 7 (dk_at dksX0_stretch_0 2 rfl rfl)
theorem dX0_stretch_5 : decode cX0_stretch 5 = .ok (.iconst 1, 1) := dk_4 (dk_at dksX0_stretch_0 5 rfl rfl)
theorem dX0_stretch_6 : decode cX0_stretch 6 = .ok (.goto 4, 3) := dk_167 0 4 (dk_at dksX0_stretch_0 6 rfl rfl)
theorem dX0_stretch_9 : decode cX0_stretch 9 = .ok (.iconst 0, 1) := dk_3 (dk_at dksX0_stretch_0 9 rfl rfl)
theorem dX0_stretch_10 : decode cX0_stretch 10 = .ok (.invokevirtual 224, 3) := dk_182 0 224 (dk_at dksX0_stretch_0 10 rfl rfl)
theorem dX0_stretch_13 : decode cX0_stretch 13 = .ok (.ifCond .eq 20, 3) := dk_153 0 20 (dk_at dksX0_stretch_0 13 rfl rfl)
theorem dX0_stretch_16 : decode cX0_stretch 16 = .ok (.aload_n 0, 1) := dk_42 (dk_at dksX0_stretch_0 16 rfl rfl)
theorem dX0_stretch_17 : decode cX0_stretch 17 = .ok (.aload_n 0, 1) := dk_42 (dk_at dksX0_stretch_0 17 rfl rfl)
theorem dX0_stretch_18 : decode cX0_stretch 18 = .ok (.getfield 134, 3) := dk_180 0 134 (dk_at dksX0_stretch_0 18 rfl rfl)
theorem dX0_stretch_21 : decode cX0_stretch 21 = .ok (.iload_n 1, 1) := dk_27 (dk_at dksX0_stretch_0 21 rfl rfl)
theorem dX0_stretch_22 : decode cX0_stretch 22 = .ok (.invokevirtual 306, 3) := dk_182 1 50 (dk_at dksX0_stretch_1 0 rfl rfl)
theorem dX0_stretch_25 : decode cX0_stretch 25 = .ok (.bipush 6, 2) := dk_16 6 (dk_at dksX0_stretch_1 3 rfl rfl)
theorem dX0_stretch_27 : decode cX0_stretch 27 = .ok (.invokevirtual 254, 3) := dk_182 0 254 (dk_at dksX0_stretch_1 5 rfl rfl)
theorem dX0_stretch_30 : decode cX0_stretch 30 = .ok (.ifCond .ne 5, 3) := dk_154 0 5 (dk_at dksX0_stretch_1 8 rfl rfl)
theorem dX0_stretch_33 : decode cX0_stretch 33 = .ok (.iconst 0, 1) := dk_3 (dk_at dksX0_stretch_1 11 rfl rfl)
theorem dX0_stretch_34 : decode cX0_stretch 34 = .ok (.ireturn, 1) := dk_172 (dk_at dksX0_stretch_1 12 rfl rfl)
theorem dX0_stretch_35 : decode cX0_stretch 35 = .ok (.aload_n 0, 1) := dk_42 (dk_at dksX0_stretch_1 13 rfl rfl)
theorem dX0_stretch_36 : decode cX0_stretch 36 = .ok (.invokevirtual 245, 3) := dk_182 0 245 (dk_at dksX0_stretch_1 14 rfl rfl)
theorem dX0_stretch_39 : decode cX0_stretch 39 = .ok (.aload_n 0, 1) := dk_42 (dk_at dksX0_stretch_1 17 rfl rfl)
theorem dX0_stretch_40 : decode cX0_stretch 40 = .ok (.getfield 134, 3) := dk_180 0 134 (dk_at dksX0_stretch_1 18 rfl rfl)
theorem dX0_stretch_43 : decode cX0_stretch 43 = .ok (.iload_n 1, 1) := dk_27 (dk_at dksX0_stretch_1 21 rfl rfl)
theorem dX0_stretch_44 : decode cX0_stretch 44 = .ok (.invokevirtual 309, 3) := dk_182 1 53 (dk_at dksX0_stretch_2 0 rfl rfl)
theorem dX0_stretch_47 : decode cX0_stretch 47 = .ok (.iconst 1, 1) := dk_4 (dk_at dksX0_stretch_2 3 rfl rfl)
theorem dX0_stretch_48 : decode cX0_stretch 48 = .ok (.ireturn, 1) := dk_172 (dk_at dksX0_stretch_2 4 rfl rfl)
abbrev cX0_far : ByteArray := prog_1_method_33_code
def yX0_far : MethodName := ⟨RX0, "far", "(II)I"⟩
def dkwX0_far_2 : List UInt8 := [154, 0, 5, 2, 172, 42, 180, 0, 134, 27, 28, 182, 1, 56, 172]
abbrev dktX0_far_2 : List UInt8 := dkwX0_far_2 ++ []
def dkwX0_far_1 : List UInt8 := [182, 0, 250, 153, 0, 15, 42, 28, 182, 0, 250, 153, 0, 7, 4, 167, 0, 4, 3, 6, 182, 0, 254]
abbrev dktX0_far_1 : List UInt8 := dkwX0_far_1 ++ dktX0_far_2
def dkwX0_far_0 : List UInt8 := [42, 27, 155, 0, 11, 28, 155, 0, 7, 4, 167, 0, 4, 3, 182, 0, 224, 153, 0, 32, 42, 42, 27]
abbrev dktX0_far_0 : List UInt8 := dkwX0_far_0 ++ dktX0_far_1
theorem dksX0_far_0 : cX0_far.data.toList.drop 0 = dktX0_far_0 := by decide +kernel
theorem dksX0_far_1 : cX0_far.data.toList.drop 23 = dktX0_far_1 := dk_seg dksX0_far_0 23 rfl rfl
theorem dksX0_far_2 : cX0_far.data.toList.drop 46 = dktX0_far_2 := dk_seg dksX0_far_1 23 rfl rfl
theorem dX0_far_0 : decode cX0_far 0 = .ok (.aload_n 0, 1) := dk_42 (dk_at dksX0_far_0 0 rfl rfl)
theorem dX0_far_1 : decode cX0_far 1 = .ok (.iload_n 1, 1) := dk_27 (dk_at dksX0_far_0 1 rfl rfl)
theorem dX0_far_2 : decode cX0_far 2 = .ok (.ifCond .lt 11, 3) := dk_155 0 11 (dk_at dksX0_far_0 2 rfl rfl)
theorem dX0_far_5 : decode cX0_far 5 = .ok (.iload_n 2, 1) := dk_28 (dk_at dksX0_far_0 5 rfl rfl)
theorem dX0_far_6 : decode cX0_far 6 = .ok (.ifCond .lt 7, 3) := dk_155 0 7 (dk_at dksX0_far_0 6 rfl rfl)
theorem dX0_far_9 : decode cX0_far 9 = .ok (.iconst 1, 1) := dk_4 (dk_at dksX0_far_0 9 rfl rfl)
theorem dX0_far_10 : decode cX0_far 10 = .ok (.goto 4, 3) := dk_167 0 4 (dk_at dksX0_far_0 10 rfl rfl)
theorem dX0_far_13 : decode cX0_far 13 = .ok (.iconst 0, 1) := dk_3 (dk_at dksX0_far_0 13 rfl rfl)
theorem dX0_far_14 : decode cX0_far 14 = .ok (.invokevirtual 224, 3) := dk_182 0 224 (dk_at dksX0_far_0 14 rfl rfl)
theorem dX0_far_17 : decode cX0_far 17 = .ok (.ifCond .eq 32, 3) := dk_153 0 32 (dk_at dksX0_far_0 17 rfl rfl)
theorem dX0_far_20 : decode cX0_far 20 = .ok (.aload_n 0, 1) := dk_42 (dk_at dksX0_far_0 20 rfl rfl)
theorem dX0_far_21 : decode cX0_far 21 = .ok (.aload_n 0, 1) := dk_42 (dk_at dksX0_far_0 21 rfl rfl)
theorem dX0_far_22 : decode cX0_far 22 = .ok (.iload_n 1, 1) := dk_27 (dk_at dksX0_far_0 22 rfl rfl)
theorem dX0_far_23 : decode cX0_far 23 = .ok (.invokevirtual 250, 3) := dk_182 0 250 (dk_at dksX0_far_1 0 rfl rfl)
theorem dX0_far_26 : decode cX0_far 26 = .ok (.ifCond .eq 15, 3) := dk_153 0 15 (dk_at dksX0_far_1 3 rfl rfl)
theorem dX0_far_29 : decode cX0_far 29 = .ok (.aload_n 0, 1) := dk_42 (dk_at dksX0_far_1 6 rfl rfl)
theorem dX0_far_30 : decode cX0_far 30 = .ok (.iload_n 2, 1) := dk_28 (dk_at dksX0_far_1 7 rfl rfl)
theorem dX0_far_31 : decode cX0_far 31 = .ok (.invokevirtual 250, 3) := dk_182 0 250 (dk_at dksX0_far_1 8 rfl rfl)
theorem dX0_far_34 : decode cX0_far 34 = .ok (.ifCond .eq 7, 3) := dk_153 0 7 (dk_at dksX0_far_1 11 rfl rfl)
theorem dX0_far_37 : decode cX0_far 37 = .ok (.iconst 1, 1) := dk_4 (dk_at dksX0_far_1 14 rfl rfl)
theorem dX0_far_38 : decode cX0_far 38 = .ok (.goto 4, 3) := dk_167 0 4 (dk_at dksX0_far_1 15 rfl rfl)
theorem dX0_far_41 : decode cX0_far 41 = .ok (.iconst 0, 1) := dk_3 (dk_at dksX0_far_1 18 rfl rfl)
theorem dX0_far_42 : decode cX0_far 42 = .ok (.iconst 3, 1) := dk_6 (dk_at dksX0_far_1 19 rfl rfl)
theorem dX0_far_43 : decode cX0_far 43 = .ok (.invokevirtual 254, 3) := dk_182 0 254 (dk_at dksX0_far_1 20 rfl rfl)
theorem dX0_far_46 : decode cX0_far 46 = .ok (.ifCond .ne 5, 3) := dk_154 0 5 (dk_at dksX0_far_2 0 rfl rfl)
theorem dX0_far_49 : decode cX0_far 49 = .ok (.iconst (-1), 1) := dk_2 (dk_at dksX0_far_2 3 rfl rfl)
theorem dX0_far_50 : decode cX0_far 50 = .ok (.ireturn, 1) := dk_172 (dk_at dksX0_far_2 4 rfl rfl)
theorem dX0_far_51 : decode cX0_far 51 = .ok (.aload_n 0, 1) := dk_42 (dk_at dksX0_far_2 5 rfl rfl)
theorem dX0_far_52 : decode cX0_far 52 = .ok (.getfield 134, 3) := dk_180 0 134 (dk_at dksX0_far_2 6 rfl rfl)
theorem dX0_far_55 : decode cX0_far 55 = .ok (.iload_n 1, 1) := dk_27 (dk_at dksX0_far_2 9 rfl rfl)
theorem dX0_far_56 : decode cX0_far 56 = .ok (.iload_n 2, 1) := dk_28 (dk_at dksX0_far_2 10 rfl rfl)
theorem dX0_far_57 : decode cX0_far 57 = .ok (.invokevirtual 312, 3) := dk_182 1 56 (dk_at dksX0_far_2 11 rfl rfl)
theorem dX0_far_60 : decode cX0_far 60 = .ok (.ireturn, 1) := dk_172 (dk_at dksX0_far_2 14 rfl rfl)
abbrev cX0_shape : ByteArray := prog_1_method_34_code
def yX0_shape : MethodName := ⟨RX0, "shape", "()I"⟩
def dkwX0_shape_0 : List UInt8 := [42, 3, 181, 0, 177, 42, 180, 0, 134, 182, 1, 60, 172]
abbrev dktX0_shape_0 : List UInt8 := dkwX0_shape_0 ++ []
theorem dksX0_shape_0 : cX0_shape.data.toList.drop 0 = dktX0_shape_0 := by decide +kernel
theorem dX0_shape_0 : decode cX0_shape 0 = .ok (.aload_n 0, 1) := dk_42 (dk_at dksX0_shape_0 0 rfl rfl)
theorem dX0_shape_1 : decode cX0_shape 1 = .ok (.iconst 0, 1) := dk_3 (dk_at dksX0_shape_0 1 rfl rfl)
theorem dX0_shape_2 : decode cX0_shape 2 = .ok (.putfield 177, 3) := dk_181 0 177 (dk_at dksX0_shape_0 2 rfl rfl)
theorem dX0_shape_5 : decode cX0_shape 5 = .ok (.aload_n 0, 1) := dk_42 (dk_at dksX0_shape_0 5 rfl rfl)
theorem dX0_shape_6 : decode cX0_shape 6 = .ok (.getfield 134, 3) := dk_180 0 134 (dk_at dksX0_shape_0 6 rfl rfl)
theorem dX0_shape_9 : decode cX0_shape 9 = .ok (.invokevirtual 316, 3) := dk_182 1 60 (dk_at dksX0_shape_0 9 rfl rfl)
theorem dX0_shape_12 : decode cX0_shape 12 = .ok (.ireturn, 1) := dk_172 (dk_at dksX0_shape_0 12 rfl rfl)
abbrev cX0_crosses : ByteArray := prog_1_method_2_code
def yX0_crosses : MethodName := ⟨RX0, "crosses", "([J[J[J)V"⟩
def dkwX0_crosses_2 : List UInt8 := [43, 3, 47, 105, 101, 80, 177]
abbrev dktX0_crosses_2 : List UInt8 := dkwX0_crosses_2 ++ []
def dkwX0_crosses_1 : List UInt8 := [3, 47, 105, 42, 3, 47, 43, 5, 47, 105, 101, 80, 44, 5, 42, 3, 47, 43, 4, 47, 105, 42, 4, 47]
abbrev dktX0_crosses_1 : List UInt8 := dkwX0_crosses_1 ++ dktX0_crosses_2
def dkwX0_crosses_0 : List UInt8 := [44, 3, 42, 4, 47, 43, 5, 47, 105, 42, 5, 47, 43, 4, 47, 105, 101, 80, 44, 4, 42, 5, 47, 43]
abbrev dktX0_crosses_0 : List UInt8 := dkwX0_crosses_0 ++ dktX0_crosses_1
theorem dksX0_crosses_0 : cX0_crosses.data.toList.drop 0 = dktX0_crosses_0 := by decide +kernel
theorem dksX0_crosses_1 : cX0_crosses.data.toList.drop 24 = dktX0_crosses_1 := dk_seg dksX0_crosses_0 24 rfl rfl
theorem dksX0_crosses_2 : cX0_crosses.data.toList.drop 48 = dktX0_crosses_2 := dk_seg dksX0_crosses_1 24 rfl rfl
theorem dX0_crosses_0 : decode cX0_crosses 0 = .ok (.aload_n 2, 1) := dk_44 (dk_at dksX0_crosses_0 0 rfl rfl)
theorem dX0_crosses_1 : decode cX0_crosses 1 = .ok (.iconst 0, 1) := dk_3 (dk_at dksX0_crosses_0 1 rfl rfl)
theorem dX0_crosses_2 : decode cX0_crosses 2 = .ok (.aload_n 0, 1) := dk_42 (dk_at dksX0_crosses_0 2 rfl rfl)
theorem dX0_crosses_3 : decode cX0_crosses 3 = .ok (.iconst 1, 1) := dk_4 (dk_at dksX0_crosses_0 3 rfl rfl)
theorem dX0_crosses_4 : decode cX0_crosses 4 = .ok (.laload, 1) := dk_47 (dk_at dksX0_crosses_0 4 rfl rfl)
theorem dX0_crosses_5 : decode cX0_crosses 5 = .ok (.aload_n 1, 1) := dk_43 (dk_at dksX0_crosses_0 5 rfl rfl)
theorem dX0_crosses_6 : decode cX0_crosses 6 = .ok (.iconst 2, 1) := dk_5 (dk_at dksX0_crosses_0 6 rfl rfl)
theorem dX0_crosses_7 : decode cX0_crosses 7 = .ok (.laload, 1) := dk_47 (dk_at dksX0_crosses_0 7 rfl rfl)
theorem dX0_crosses_8 : decode cX0_crosses 8 = .ok (.lmul, 1) := dk_105 (dk_at dksX0_crosses_0 8 rfl rfl)
theorem dX0_crosses_9 : decode cX0_crosses 9 = .ok (.aload_n 0, 1) := dk_42 (dk_at dksX0_crosses_0 9 rfl rfl)
theorem dX0_crosses_10 : decode cX0_crosses 10 = .ok (.iconst 2, 1) := dk_5 (dk_at dksX0_crosses_0 10 rfl rfl)
theorem dX0_crosses_11 : decode cX0_crosses 11 = .ok (.laload, 1) := dk_47 (dk_at dksX0_crosses_0 11 rfl rfl)
theorem dX0_crosses_12 : decode cX0_crosses 12 = .ok (.aload_n 1, 1) := dk_43 (dk_at dksX0_crosses_0 12 rfl rfl)
theorem dX0_crosses_13 : decode cX0_crosses 13 = .ok (.iconst 1, 1) := dk_4 (dk_at dksX0_crosses_0 13 rfl rfl)
theorem dX0_crosses_14 : decode cX0_crosses 14 = .ok (.laload, 1) := dk_47 (dk_at dksX0_crosses_0 14 rfl rfl)
theorem dX0_crosses_15 : decode cX0_crosses 15 = .ok (.lmul, 1) := dk_105 (dk_at dksX0_crosses_0 15 rfl rfl)
theorem dX0_crosses_16 : decode cX0_crosses 16 = .ok (.lsub, 1) := dk_101 (dk_at dksX0_crosses_0 16 rfl rfl)
theorem dX0_crosses_17 : decode cX0_crosses 17 = .ok (.lastore, 1) := dk_80 (dk_at dksX0_crosses_0 17 rfl rfl)
theorem dX0_crosses_18 : decode cX0_crosses 18 = .ok (.aload_n 2, 1) := dk_44 (dk_at dksX0_crosses_0 18 rfl rfl)
theorem dX0_crosses_19 : decode cX0_crosses 19 = .ok (.iconst 1, 1) := dk_4 (dk_at dksX0_crosses_0 19 rfl rfl)
theorem dX0_crosses_20 : decode cX0_crosses 20 = .ok (.aload_n 0, 1) := dk_42 (dk_at dksX0_crosses_0 20 rfl rfl)
theorem dX0_crosses_21 : decode cX0_crosses 21 = .ok (.iconst 2, 1) := dk_5 (dk_at dksX0_crosses_0 21 rfl rfl)
theorem dX0_crosses_22 : decode cX0_crosses 22 = .ok (.laload, 1) := dk_47 (dk_at dksX0_crosses_0 22 rfl rfl)
theorem dX0_crosses_23 : decode cX0_crosses 23 = .ok (.aload_n 1, 1) := dk_43 (dk_at dksX0_crosses_0 23 rfl rfl)
theorem dX0_crosses_24 : decode cX0_crosses 24 = .ok (.iconst 0, 1) := dk_3 (dk_at dksX0_crosses_1 0 rfl rfl)
theorem dX0_crosses_25 : decode cX0_crosses 25 = .ok (.laload, 1) := dk_47 (dk_at dksX0_crosses_1 1 rfl rfl)
theorem dX0_crosses_26 : decode cX0_crosses 26 = .ok (.lmul, 1) := dk_105 (dk_at dksX0_crosses_1 2 rfl rfl)
theorem dX0_crosses_27 : decode cX0_crosses 27 = .ok (.aload_n 0, 1) := dk_42 (dk_at dksX0_crosses_1 3 rfl rfl)
theorem dX0_crosses_28 : decode cX0_crosses 28 = .ok (.iconst 0, 1) := dk_3 (dk_at dksX0_crosses_1 4 rfl rfl)
theorem dX0_crosses_29 : decode cX0_crosses 29 = .ok (.laload, 1) := dk_47 (dk_at dksX0_crosses_1 5 rfl rfl)
theorem dX0_crosses_30 : decode cX0_crosses 30 = .ok (.aload_n 1, 1) := dk_43 (dk_at dksX0_crosses_1 6 rfl rfl)
theorem dX0_crosses_31 : decode cX0_crosses 31 = .ok (.iconst 2, 1) := dk_5 (dk_at dksX0_crosses_1 7 rfl rfl)
theorem dX0_crosses_32 : decode cX0_crosses 32 = .ok (.laload, 1) := dk_47 (dk_at dksX0_crosses_1 8 rfl rfl)
theorem dX0_crosses_33 : decode cX0_crosses 33 = .ok (.lmul, 1) := dk_105 (dk_at dksX0_crosses_1 9 rfl rfl)
theorem dX0_crosses_34 : decode cX0_crosses 34 = .ok (.lsub, 1) := dk_101 (dk_at dksX0_crosses_1 10 rfl rfl)
theorem dX0_crosses_35 : decode cX0_crosses 35 = .ok (.lastore, 1) := dk_80 (dk_at dksX0_crosses_1 11 rfl rfl)
theorem dX0_crosses_36 : decode cX0_crosses 36 = .ok (.aload_n 2, 1) := dk_44 (dk_at dksX0_crosses_1 12 rfl rfl)
theorem dX0_crosses_37 : decode cX0_crosses 37 = .ok (.iconst 2, 1) := dk_5 (dk_at dksX0_crosses_1 13 rfl rfl)
theorem dX0_crosses_38 : decode cX0_crosses 38 = .ok (.aload_n 0, 1) := dk_42 (dk_at dksX0_crosses_1 14 rfl rfl)
theorem dX0_crosses_39 : decode cX0_crosses 39 = .ok (.iconst 0, 1) := dk_3 (dk_at dksX0_crosses_1 15 rfl rfl)
theorem dX0_crosses_40 : decode cX0_crosses 40 = .ok (.laload, 1) := dk_47 (dk_at dksX0_crosses_1 16 rfl rfl)
theorem dX0_crosses_41 : decode cX0_crosses 41 = .ok (.aload_n 1, 1) := dk_43 (dk_at dksX0_crosses_1 17 rfl rfl)
theorem dX0_crosses_42 : decode cX0_crosses 42 = .ok (.iconst 1, 1) := dk_4 (dk_at dksX0_crosses_1 18 rfl rfl)
theorem dX0_crosses_43 : decode cX0_crosses 43 = .ok (.laload, 1) := dk_47 (dk_at dksX0_crosses_1 19 rfl rfl)
theorem dX0_crosses_44 : decode cX0_crosses 44 = .ok (.lmul, 1) := dk_105 (dk_at dksX0_crosses_1 20 rfl rfl)
theorem dX0_crosses_45 : decode cX0_crosses 45 = .ok (.aload_n 0, 1) := dk_42 (dk_at dksX0_crosses_1 21 rfl rfl)
theorem dX0_crosses_46 : decode cX0_crosses 46 = .ok (.iconst 1, 1) := dk_4 (dk_at dksX0_crosses_1 22 rfl rfl)
theorem dX0_crosses_47 : decode cX0_crosses 47 = .ok (.laload, 1) := dk_47 (dk_at dksX0_crosses_1 23 rfl rfl)
theorem dX0_crosses_48 : decode cX0_crosses 48 = .ok (.aload_n 1, 1) := dk_43 (dk_at dksX0_crosses_2 0 rfl rfl)
theorem dX0_crosses_49 : decode cX0_crosses 49 = .ok (.iconst 0, 1) := dk_3 (dk_at dksX0_crosses_2 1 rfl rfl)
theorem dX0_crosses_50 : decode cX0_crosses 50 = .ok (.laload, 1) := dk_47 (dk_at dksX0_crosses_2 2 rfl rfl)
theorem dX0_crosses_51 : decode cX0_crosses 51 = .ok (.lmul, 1) := dk_105 (dk_at dksX0_crosses_2 3 rfl rfl)
theorem dX0_crosses_52 : decode cX0_crosses 52 = .ok (.lsub, 1) := dk_101 (dk_at dksX0_crosses_2 4 rfl rfl)
theorem dX0_crosses_53 : decode cX0_crosses 53 = .ok (.lastore, 1) := dk_80 (dk_at dksX0_crosses_2 5 rfl rfl)
theorem dX0_crosses_54 : decode cX0_crosses 54 = .ok (.return_, 1) := dk_177 (dk_at dksX0_crosses_2 6 rfl rfl)
abbrev cX0_dot : ByteArray := prog_1_method_1_code
def yX0_dot : MethodName := ⟨RX0, "dot", "([J[J)J"⟩
def dkwX0_dot_0 : List UInt8 := [42, 3, 47, 43, 3, 47, 105, 42, 4, 47, 43, 4, 47, 105, 97, 42, 5, 47, 43, 5, 47, 105, 97, 173]
abbrev dktX0_dot_0 : List UInt8 := dkwX0_dot_0 ++ []
theorem dksX0_dot_0 : cX0_dot.data.toList.drop 0 = dktX0_dot_0 := by decide +kernel
theorem dX0_dot_0 : decode cX0_dot 0 = .ok (.aload_n 0, 1) := dk_42 (dk_at dksX0_dot_0 0 rfl rfl)
theorem dX0_dot_1 : decode cX0_dot 1 = .ok (.iconst 0, 1) := dk_3 (dk_at dksX0_dot_0 1 rfl rfl)
theorem dX0_dot_2 : decode cX0_dot 2 = .ok (.laload, 1) := dk_47 (dk_at dksX0_dot_0 2 rfl rfl)
theorem dX0_dot_3 : decode cX0_dot 3 = .ok (.aload_n 1, 1) := dk_43 (dk_at dksX0_dot_0 3 rfl rfl)
theorem dX0_dot_4 : decode cX0_dot 4 = .ok (.iconst 0, 1) := dk_3 (dk_at dksX0_dot_0 4 rfl rfl)
theorem dX0_dot_5 : decode cX0_dot 5 = .ok (.laload, 1) := dk_47 (dk_at dksX0_dot_0 5 rfl rfl)
theorem dX0_dot_6 : decode cX0_dot 6 = .ok (.lmul, 1) := dk_105 (dk_at dksX0_dot_0 6 rfl rfl)
theorem dX0_dot_7 : decode cX0_dot 7 = .ok (.aload_n 0, 1) := dk_42 (dk_at dksX0_dot_0 7 rfl rfl)
theorem dX0_dot_8 : decode cX0_dot 8 = .ok (.iconst 1, 1) := dk_4 (dk_at dksX0_dot_0 8 rfl rfl)
theorem dX0_dot_9 : decode cX0_dot 9 = .ok (.laload, 1) := dk_47 (dk_at dksX0_dot_0 9 rfl rfl)
theorem dX0_dot_10 : decode cX0_dot 10 = .ok (.aload_n 1, 1) := dk_43 (dk_at dksX0_dot_0 10 rfl rfl)
theorem dX0_dot_11 : decode cX0_dot 11 = .ok (.iconst 1, 1) := dk_4 (dk_at dksX0_dot_0 11 rfl rfl)
theorem dX0_dot_12 : decode cX0_dot 12 = .ok (.laload, 1) := dk_47 (dk_at dksX0_dot_0 12 rfl rfl)
theorem dX0_dot_13 : decode cX0_dot 13 = .ok (.lmul, 1) := dk_105 (dk_at dksX0_dot_0 13 rfl rfl)
theorem dX0_dot_14 : decode cX0_dot 14 = .ok (.ladd, 1) := dk_97 (dk_at dksX0_dot_0 14 rfl rfl)
theorem dX0_dot_15 : decode cX0_dot 15 = .ok (.aload_n 0, 1) := dk_42 (dk_at dksX0_dot_0 15 rfl rfl)
theorem dX0_dot_16 : decode cX0_dot 16 = .ok (.iconst 2, 1) := dk_5 (dk_at dksX0_dot_0 16 rfl rfl)
theorem dX0_dot_17 : decode cX0_dot 17 = .ok (.laload, 1) := dk_47 (dk_at dksX0_dot_0 17 rfl rfl)
theorem dX0_dot_18 : decode cX0_dot 18 = .ok (.aload_n 1, 1) := dk_43 (dk_at dksX0_dot_0 18 rfl rfl)
theorem dX0_dot_19 : decode cX0_dot 19 = .ok (.iconst 2, 1) := dk_5 (dk_at dksX0_dot_0 19 rfl rfl)
theorem dX0_dot_20 : decode cX0_dot 20 = .ok (.laload, 1) := dk_47 (dk_at dksX0_dot_0 20 rfl rfl)
theorem dX0_dot_21 : decode cX0_dot 21 = .ok (.lmul, 1) := dk_105 (dk_at dksX0_dot_0 21 rfl rfl)
theorem dX0_dot_22 : decode cX0_dot 22 = .ok (.ladd, 1) := dk_97 (dk_at dksX0_dot_0 22 rfl rfl)
theorem dX0_dot_23 : decode cX0_dot 23 = .ok (.lreturn, 1) := dk_173 (dk_at dksX0_dot_0 23 rfl rfl)
abbrev cX0_centre : ByteArray := prog_1_method_35_code
def yX0_centre : MethodName := ⟨RX0, "centre", "(I)Z"⟩
def dkwX0_centre_3 : List UInt8 := [97, 65, 132, 4, 1, 167, 255, 225, 42, 32, 42, 180, 0, 134, 180, 0, 187, 133, 182, 1, 65, 172]
abbrev dktX0_centre_3 : List UInt8 := dkwX0_centre_3 ++ []
def dkwX0_centre_2 : List UInt8 := [42, 180, 0, 134, 180, 0, 187, 162, 0, 25, 32, 42, 180, 0, 134, 180, 1, 5, 27, 50, 21, 4, 46, 133]
abbrev dktX0_centre_2 : List UInt8 := dkwX0_centre_2 ++ dktX0_centre_3
def dkwX0_centre_1 : List UInt8 := [158, 0, 7, 4, 167, 0, 4, 3, 6, 182, 0, 254, 154, 0, 5, 3, 172, 9, 65, 3, 54, 4, 21, 4]
abbrev dktX0_centre_1 : List UInt8 := dkwX0_centre_1 ++ dktX0_centre_2
def dkwX0_centre_0 : List UInt8 := [42, 27, 133, 9, 20, 1, 63, 184, 0, 194, 182, 0, 224, 153, 0, 26, 42, 42, 180, 0, 134, 180, 0, 187]
abbrev dktX0_centre_0 : List UInt8 := dkwX0_centre_0 ++ dktX0_centre_1
theorem dksX0_centre_0 : cX0_centre.data.toList.drop 0 = dktX0_centre_0 := by decide +kernel
theorem dksX0_centre_1 : cX0_centre.data.toList.drop 24 = dktX0_centre_1 := dk_seg dksX0_centre_0 24 rfl rfl
theorem dksX0_centre_2 : cX0_centre.data.toList.drop 48 = dktX0_centre_2 := dk_seg dksX0_centre_1 24 rfl rfl
theorem dksX0_centre_3 : cX0_centre.data.toList.drop 72 = dktX0_centre_3 := dk_seg dksX0_centre_2 24 rfl rfl
theorem dX0_centre_0 : decode cX0_centre 0 = .ok (.aload_n 0, 1) := dk_42 (dk_at dksX0_centre_0 0 rfl rfl)
theorem dX0_centre_1 : decode cX0_centre 1 = .ok (.iload_n 1, 1) := dk_27 (dk_at dksX0_centre_0 1 rfl rfl)
theorem dX0_centre_2 : decode cX0_centre 2 = .ok (.i2l, 1) := dk_133 (dk_at dksX0_centre_0 2 rfl rfl)
theorem dX0_centre_3 : decode cX0_centre 3 = .ok (.lconst 0, 1) := dk_9 (dk_at dksX0_centre_0 3 rfl rfl)
theorem dX0_centre_4 : decode cX0_centre 4 = .ok (.ldc2_w 319, 3) := dk_20 1 63 (dk_at dksX0_centre_0 4 rfl rfl)
theorem dX0_centre_7 : decode cX0_centre 7 = .ok (.invokestatic 194, 3) := dk_184 0 194 (dk_at dksX0_centre_0 7 rfl rfl)
theorem dX0_centre_10 : decode cX0_centre 10 = .ok (.invokevirtual 224, 3) := dk_182 0 224 (dk_at dksX0_centre_0 10 rfl rfl)
theorem dX0_centre_13 : decode cX0_centre 13 = .ok (.ifCond .eq 26, 3) := dk_153 0 26 (dk_at dksX0_centre_0 13 rfl rfl)
theorem dX0_centre_16 : decode cX0_centre 16 = .ok (.aload_n 0, 1) := dk_42 (dk_at dksX0_centre_0 16 rfl rfl)
theorem dX0_centre_17 : decode cX0_centre 17 = .ok (.aload_n 0, 1) := dk_42 (dk_at dksX0_centre_0 17 rfl rfl)
theorem dX0_centre_18 : decode cX0_centre 18 = .ok (.getfield 134, 3) := dk_180 0 134 (dk_at dksX0_centre_0 18 rfl rfl)
theorem dX0_centre_21 : decode cX0_centre 21 = .ok (.getfield 187, 3) := dk_180 0 187 (dk_at dksX0_centre_0 21 rfl rfl)
theorem dX0_centre_24 : decode cX0_centre 24 = .ok (.ifCond .le 7, 3) := dk_158 0 7 (dk_at dksX0_centre_1 0 rfl rfl)
theorem dX0_centre_27 : decode cX0_centre 27 = .ok (.iconst 1, 1) := dk_4 (dk_at dksX0_centre_1 3 rfl rfl)
theorem dX0_centre_28 : decode cX0_centre 28 = .ok (.goto 4, 3) := dk_167 0 4 (dk_at dksX0_centre_1 4 rfl rfl)
theorem dX0_centre_31 : decode cX0_centre 31 = .ok (.iconst 0, 1) := dk_3 (dk_at dksX0_centre_1 7 rfl rfl)
theorem dX0_centre_32 : decode cX0_centre 32 = .ok (.iconst 3, 1) := dk_6 (dk_at dksX0_centre_1 8 rfl rfl)
theorem dX0_centre_33 : decode cX0_centre 33 = .ok (.invokevirtual 254, 3) := dk_182 0 254 (dk_at dksX0_centre_1 9 rfl rfl)
theorem dX0_centre_36 : decode cX0_centre 36 = .ok (.ifCond .ne 5, 3) := dk_154 0 5 (dk_at dksX0_centre_1 12 rfl rfl)
theorem dX0_centre_39 : decode cX0_centre 39 = .ok (.iconst 0, 1) := dk_3 (dk_at dksX0_centre_1 15 rfl rfl)
theorem dX0_centre_40 : decode cX0_centre 40 = .ok (.ireturn, 1) := dk_172 (dk_at dksX0_centre_1 16 rfl rfl)
theorem dX0_centre_41 : decode cX0_centre 41 = .ok (.lconst 0, 1) := dk_9 (dk_at dksX0_centre_1 17 rfl rfl)
theorem dX0_centre_42 : decode cX0_centre 42 = .ok (.lstore_n 2, 1) := dk_65 (dk_at dksX0_centre_1 18 rfl rfl)
theorem dX0_centre_43 : decode cX0_centre 43 = .ok (.iconst 0, 1) := dk_3 (dk_at dksX0_centre_1 19 rfl rfl)
theorem dX0_centre_44 : decode cX0_centre 44 = .ok (.istore 4, 2) := dk_54 4 (dk_at dksX0_centre_1 20 rfl rfl)
theorem dX0_centre_46 : decode cX0_centre 46 = .ok (.iload 4, 2) := dk_21 4 (dk_at dksX0_centre_1 22 rfl rfl)
theorem dX0_centre_48 : decode cX0_centre 48 = .ok (.aload_n 0, 1) := dk_42 (dk_at dksX0_centre_2 0 rfl rfl)
theorem dX0_centre_49 : decode cX0_centre 49 = .ok (.getfield 134, 3) := dk_180 0 134 (dk_at dksX0_centre_2 1 rfl rfl)
theorem dX0_centre_52 : decode cX0_centre 52 = .ok (.getfield 187, 3) := dk_180 0 187 (dk_at dksX0_centre_2 4 rfl rfl)
theorem dX0_centre_55 : decode cX0_centre 55 = .ok (.if_icmp .ge 25, 3) := dk_162 0 25 (dk_at dksX0_centre_2 7 rfl rfl)
theorem dX0_centre_58 : decode cX0_centre 58 = .ok (.lload_n 2, 1) := dk_32 (dk_at dksX0_centre_2 10 rfl rfl)
theorem dX0_centre_59 : decode cX0_centre 59 = .ok (.aload_n 0, 1) := dk_42 (dk_at dksX0_centre_2 11 rfl rfl)
theorem dX0_centre_60 : decode cX0_centre 60 = .ok (.getfield 134, 3) := dk_180 0 134 (dk_at dksX0_centre_2 12 rfl rfl)
theorem dX0_centre_63 : decode cX0_centre 63 = .ok (.getfield 261, 3) := dk_180 1 5 (dk_at dksX0_centre_2 15 rfl rfl)
theorem dX0_centre_66 : decode cX0_centre 66 = .ok (.iload_n 1, 1) := dk_27 (dk_at dksX0_centre_2 18 rfl rfl)
theorem dX0_centre_67 : decode cX0_centre 67 = .ok (.aaload, 1) := dk_50 (dk_at dksX0_centre_2 19 rfl rfl)
theorem dX0_centre_68 : decode cX0_centre 68 = .ok (.iload 4, 2) := dk_21 4 (dk_at dksX0_centre_2 20 rfl rfl)
theorem dX0_centre_70 : decode cX0_centre 70 = .ok (.iaload, 1) := dk_46 (dk_at dksX0_centre_2 22 rfl rfl)
theorem dX0_centre_71 : decode cX0_centre 71 = .ok (.i2l, 1) := dk_133 (dk_at dksX0_centre_2 23 rfl rfl)
theorem dX0_centre_72 : decode cX0_centre 72 = .ok (.ladd, 1) := dk_97 (dk_at dksX0_centre_3 0 rfl rfl)
theorem dX0_centre_73 : decode cX0_centre 73 = .ok (.lstore_n 2, 1) := dk_65 (dk_at dksX0_centre_3 1 rfl rfl)
theorem dX0_centre_74 : decode cX0_centre 74 = .ok (.iinc 4 1, 3) := dk_132 4 1 (dk_at dksX0_centre_3 2 rfl rfl)
theorem dX0_centre_77 : decode cX0_centre 77 = .ok (.goto (-31), 3) := dk_167 255 225 (dk_at dksX0_centre_3 5 rfl rfl)
theorem dX0_centre_80 : decode cX0_centre 80 = .ok (.aload_n 0, 1) := dk_42 (dk_at dksX0_centre_3 8 rfl rfl)
theorem dX0_centre_81 : decode cX0_centre 81 = .ok (.lload_n 2, 1) := dk_32 (dk_at dksX0_centre_3 9 rfl rfl)
theorem dX0_centre_82 : decode cX0_centre 82 = .ok (.aload_n 0, 1) := dk_42 (dk_at dksX0_centre_3 10 rfl rfl)
theorem dX0_centre_83 : decode cX0_centre 83 = .ok (.getfield 134, 3) := dk_180 0 134 (dk_at dksX0_centre_3 11 rfl rfl)
theorem dX0_centre_86 : decode cX0_centre 86 = .ok (.getfield 187, 3) := dk_180 0 187 (dk_at dksX0_centre_3 14 rfl rfl)
theorem dX0_centre_89 : decode cX0_centre 89 = .ok (.i2l, 1) := dk_133 (dk_at dksX0_centre_3 17 rfl rfl)
theorem dX0_centre_90 : decode cX0_centre 90 = .ok (.invokevirtual 321, 3) := dk_182 1 65 (dk_at dksX0_centre_3 18 rfl rfl)
theorem dX0_centre_93 : decode cX0_centre 93 = .ok (.ireturn, 1) := dk_172 (dk_at dksX0_centre_3 21 rfl rfl)
abbrev cX0_tells : ByteArray := prog_1_method_11_code
def yX0_tells : MethodName := ⟨RX0, "tells", "(JJ)Z"⟩
def dkwX0_tells_2 : List UInt8 := [109, 167, 0, 7, 31, 22, 5, 109, 181, 0, 180, 42, 33, 184, 0, 183, 22, 5, 109, 181, 0, 127, 4, 172]
abbrev dktX0_tells_2 : List UInt8 := dkwX0_tells_2 ++ []
def dkwX0_tells_1 : List UInt8 := [55, 9, 22, 7, 55, 5, 22, 9, 55, 7, 167, 255, 234, 42, 33, 9, 148, 156, 0, 11, 31, 117, 22, 5]
abbrev dktX0_tells_1 : List UInt8 := dkwX0_tells_1 ++ dktX0_tells_2
def dkwX0_tells_0 : List UInt8 := [31, 184, 0, 183, 55, 5, 33, 184, 0, 183, 55, 7, 22, 7, 9, 148, 153, 0, 21, 22, 5, 22, 7, 113]
abbrev dktX0_tells_0 : List UInt8 := dkwX0_tells_0 ++ dktX0_tells_1
theorem dksX0_tells_0 : cX0_tells.data.toList.drop 0 = dktX0_tells_0 := by decide +kernel
theorem dksX0_tells_1 : cX0_tells.data.toList.drop 24 = dktX0_tells_1 := dk_seg dksX0_tells_0 24 rfl rfl
theorem dksX0_tells_2 : cX0_tells.data.toList.drop 48 = dktX0_tells_2 := dk_seg dksX0_tells_1 24 rfl rfl
theorem dX0_tells_0 : decode cX0_tells 0 = .ok (.lload_n 1, 1) := dk_31 (dk_at dksX0_tells_0 0 rfl rfl)
theorem dX0_tells_1 : decode cX0_tells 1 = .ok (.invokestatic 183, 3) := dk_184 0 183 (dk_at dksX0_tells_0 1 rfl rfl)
theorem dX0_tells_4 : decode cX0_tells 4 = .ok (.lstore 5, 2) := dk_55 5 (dk_at dksX0_tells_0 4 rfl rfl)
theorem dX0_tells_6 : decode cX0_tells 6 = .ok (.lload_n 3, 1) := dk_33 (dk_at dksX0_tells_0 6 rfl rfl)
theorem dX0_tells_7 : decode cX0_tells 7 = .ok (.invokestatic 183, 3) := dk_184 0 183 (dk_at dksX0_tells_0 7 rfl rfl)
theorem dX0_tells_10 : decode cX0_tells 10 = .ok (.lstore 7, 2) := dk_55 7 (dk_at dksX0_tells_0 10 rfl rfl)
theorem dX0_tells_12 : decode cX0_tells 12 = .ok (.lload 7, 2) := dk_22 7 (dk_at dksX0_tells_0 12 rfl rfl)
theorem dX0_tells_14 : decode cX0_tells 14 = .ok (.lconst 0, 1) := dk_9 (dk_at dksX0_tells_0 14 rfl rfl)
theorem dX0_tells_15 : decode cX0_tells 15 = .ok (.lcmp, 1) := dk_148 (dk_at dksX0_tells_0 15 rfl rfl)
theorem dX0_tells_16 : decode cX0_tells 16 = .ok (.ifCond .eq 21, 3) := dk_153 0 21 (dk_at dksX0_tells_0 16 rfl rfl)
theorem dX0_tells_19 : decode cX0_tells 19 = .ok (.lload 5, 2) := dk_22 5 (dk_at dksX0_tells_0 19 rfl rfl)
theorem dX0_tells_21 : decode cX0_tells 21 = .ok (.lload 7, 2) := dk_22 7 (dk_at dksX0_tells_0 21 rfl rfl)
theorem dX0_tells_23 : decode cX0_tells 23 = .ok (.lrem, 1) := dk_113 (dk_at dksX0_tells_0 23 rfl rfl)
theorem dX0_tells_24 : decode cX0_tells 24 = .ok (.lstore 9, 2) := dk_55 9 (dk_at dksX0_tells_1 0 rfl rfl)
theorem dX0_tells_26 : decode cX0_tells 26 = .ok (.lload 7, 2) := dk_22 7 (dk_at dksX0_tells_1 2 rfl rfl)
theorem dX0_tells_28 : decode cX0_tells 28 = .ok (.lstore 5, 2) := dk_55 5 (dk_at dksX0_tells_1 4 rfl rfl)
theorem dX0_tells_30 : decode cX0_tells 30 = .ok (.lload 9, 2) := dk_22 9 (dk_at dksX0_tells_1 6 rfl rfl)
theorem dX0_tells_32 : decode cX0_tells 32 = .ok (.lstore 7, 2) := dk_55 7 (dk_at dksX0_tells_1 8 rfl rfl)
theorem dX0_tells_34 : decode cX0_tells 34 = .ok (.goto (-22), 3) := dk_167 255 234 (dk_at dksX0_tells_1 10 rfl rfl)
theorem dX0_tells_37 : decode cX0_tells 37 = .ok (.aload_n 0, 1) := dk_42 (dk_at dksX0_tells_1 13 rfl rfl)
theorem dX0_tells_38 : decode cX0_tells 38 = .ok (.lload_n 3, 1) := dk_33 (dk_at dksX0_tells_1 14 rfl rfl)
theorem dX0_tells_39 : decode cX0_tells 39 = .ok (.lconst 0, 1) := dk_9 (dk_at dksX0_tells_1 15 rfl rfl)
theorem dX0_tells_40 : decode cX0_tells 40 = .ok (.lcmp, 1) := dk_148 (dk_at dksX0_tells_1 16 rfl rfl)
theorem dX0_tells_41 : decode cX0_tells 41 = .ok (.ifCond .ge 11, 3) := dk_156 0 11 (dk_at dksX0_tells_1 17 rfl rfl)
theorem dX0_tells_44 : decode cX0_tells 44 = .ok (.lload_n 1, 1) := dk_31 (dk_at dksX0_tells_1 20 rfl rfl)
theorem dX0_tells_45 : decode cX0_tells 45 = .ok (.lneg, 1) := dk_117 (dk_at dksX0_tells_1 21 rfl rfl)
theorem dX0_tells_46 : decode cX0_tells 46 = .ok (.lload 5, 2) := dk_22 5 (dk_at dksX0_tells_1 22 rfl rfl)
theorem dX0_tells_48 : decode cX0_tells 48 = .ok (.ldiv, 1) := dk_109 (dk_at dksX0_tells_2 0 rfl rfl)
theorem dX0_tells_49 : decode cX0_tells 49 = .ok (.goto 7, 3) := dk_167 0 7 (dk_at dksX0_tells_2 1 rfl rfl)
theorem dX0_tells_52 : decode cX0_tells 52 = .ok (.lload_n 1, 1) := dk_31 (dk_at dksX0_tells_2 4 rfl rfl)
theorem dX0_tells_53 : decode cX0_tells 53 = .ok (.lload 5, 2) := dk_22 5 (dk_at dksX0_tells_2 5 rfl rfl)
theorem dX0_tells_55 : decode cX0_tells 55 = .ok (.ldiv, 1) := dk_109 (dk_at dksX0_tells_2 7 rfl rfl)
theorem dX0_tells_56 : decode cX0_tells 56 = .ok (.putfield 180, 3) := dk_181 0 180 (dk_at dksX0_tells_2 8 rfl rfl)
theorem dX0_tells_59 : decode cX0_tells 59 = .ok (.aload_n 0, 1) := dk_42 (dk_at dksX0_tells_2 11 rfl rfl)
theorem dX0_tells_60 : decode cX0_tells 60 = .ok (.lload_n 3, 1) := dk_33 (dk_at dksX0_tells_2 12 rfl rfl)
theorem dX0_tells_61 : decode cX0_tells 61 = .ok (.invokestatic 183, 3) := dk_184 0 183 (dk_at dksX0_tells_2 13 rfl rfl)
theorem dX0_tells_64 : decode cX0_tells 64 = .ok (.lload 5, 2) := dk_22 5 (dk_at dksX0_tells_2 16 rfl rfl)
theorem dX0_tells_66 : decode cX0_tells 66 = .ok (.ldiv, 1) := dk_109 (dk_at dksX0_tells_2 18 rfl rfl)
theorem dX0_tells_67 : decode cX0_tells 67 = .ok (.putfield 127, 3) := dk_181 0 127 (dk_at dksX0_tells_2 19 rfl rfl)
theorem dX0_tells_70 : decode cX0_tells 70 = .ok (.iconst 1, 1) := dk_4 (dk_at dksX0_tells_2 22 rfl rfl)
theorem dX0_tells_71 : decode cX0_tells 71 = .ok (.ireturn, 1) := dk_172 (dk_at dksX0_tells_2 23 rfl rfl)
abbrev cX0_cellMany : ByteArray := prog_1_method_36_code
def yX0_cellMany : MethodName := ⟨RX0, "cellMany", "()I"⟩
def dkwX0_cellMany_0 : List UInt8 := [42, 3, 181, 0, 177, 42, 180, 0, 134, 182, 1, 69, 172]
abbrev dktX0_cellMany_0 : List UInt8 := dkwX0_cellMany_0 ++ []
theorem dksX0_cellMany_0 : cX0_cellMany.data.toList.drop 0 = dktX0_cellMany_0 := by decide +kernel
theorem dX0_cellMany_0 : decode cX0_cellMany 0 = .ok (.aload_n 0, 1) := dk_42 (dk_at dksX0_cellMany_0 0 rfl rfl)
theorem dX0_cellMany_1 : decode cX0_cellMany 1 = .ok (.iconst 0, 1) := dk_3 (dk_at dksX0_cellMany_0 1 rfl rfl)
theorem dX0_cellMany_2 : decode cX0_cellMany 2 = .ok (.putfield 177, 3) := dk_181 0 177 (dk_at dksX0_cellMany_0 2 rfl rfl)
theorem dX0_cellMany_5 : decode cX0_cellMany 5 = .ok (.aload_n 0, 1) := dk_42 (dk_at dksX0_cellMany_0 5 rfl rfl)
theorem dX0_cellMany_6 : decode cX0_cellMany 6 = .ok (.getfield 134, 3) := dk_180 0 134 (dk_at dksX0_cellMany_0 6 rfl rfl)
theorem dX0_cellMany_9 : decode cX0_cellMany 9 = .ok (.invokevirtual 325, 3) := dk_182 1 69 (dk_at dksX0_cellMany_0 9 rfl rfl)
theorem dX0_cellMany_12 : decode cX0_cellMany 12 = .ok (.ireturn, 1) := dk_172 (dk_at dksX0_cellMany_0 12 rfl rfl)
abbrev cX0_cellOf : ByteArray := prog_1_method_37_code
def yX0_cellOf : MethodName := ⟨RX0, "cellOf", "(I)I"⟩
def dkwX0_cellOf_2 : List UInt8 := [46, 172]
abbrev dktX0_cellOf_2 : List UInt8 := dkwX0_cellOf_2 ++ []
def dkwX0_cellOf_1 : List UInt8 := [182, 0, 254, 154, 0, 5, 2, 172, 42, 180, 0, 134, 182, 1, 69, 87, 42, 180, 0, 134, 180, 1, 72, 27]
abbrev dktX0_cellOf_1 : List UInt8 := dkwX0_cellOf_1 ++ dktX0_cellOf_2
def dkwX0_cellOf_0 : List UInt8 := [42, 27, 155, 0, 7, 4, 167, 0, 4, 3, 182, 0, 224, 153, 0, 16, 42, 42, 27, 182, 0, 250, 6]
abbrev dktX0_cellOf_0 : List UInt8 := dkwX0_cellOf_0 ++ dktX0_cellOf_1
theorem dksX0_cellOf_0 : cX0_cellOf.data.toList.drop 0 = dktX0_cellOf_0 := by decide +kernel
theorem dksX0_cellOf_1 : cX0_cellOf.data.toList.drop 23 = dktX0_cellOf_1 := dk_seg dksX0_cellOf_0 23 rfl rfl
theorem dksX0_cellOf_2 : cX0_cellOf.data.toList.drop 47 = dktX0_cellOf_2 := dk_seg dksX0_cellOf_1 24 rfl rfl
theorem dX0_cellOf_0 : decode cX0_cellOf 0 = .ok (.aload_n 0, 1) := dk_42 (dk_at dksX0_cellOf_0 0 rfl rfl)
theorem dX0_cellOf_1 : decode cX0_cellOf 1 = .ok (.iload_n 1, 1) := dk_27 (dk_at dksX0_cellOf_0 1 rfl rfl)
theorem dX0_cellOf_2 : decode cX0_cellOf 2 = .ok (.ifCond .lt 7, 3) := dk_155 0 7 (dk_at dksX0_cellOf_0 2 rfl rfl)
theorem dX0_cellOf_5 : decode cX0_cellOf 5 = .ok (.iconst 1, 1) := dk_4 (dk_at dksX0_cellOf_0 5 rfl rfl)
theorem dX0_cellOf_6 : decode cX0_cellOf 6 = .ok (.goto 4, 3) := dk_167 0 4 (dk_at dksX0_cellOf_0 6 rfl rfl)
theorem dX0_cellOf_9 : decode cX0_cellOf 9 = .ok (.iconst 0, 1) := dk_3 (dk_at dksX0_cellOf_0 9 rfl rfl)
theorem dX0_cellOf_10 : decode cX0_cellOf 10 = .ok (.invokevirtual 224, 3) := dk_182 0 224 (dk_at dksX0_cellOf_0 10 rfl rfl)
theorem dX0_cellOf_13 : decode cX0_cellOf 13 = .ok (.ifCond .eq 16, 3) := dk_153 0 16 (dk_at dksX0_cellOf_0 13 rfl rfl)
theorem dX0_cellOf_16 : decode cX0_cellOf 16 = .ok (.aload_n 0, 1) := dk_42 (dk_at dksX0_cellOf_0 16 rfl rfl)
theorem dX0_cellOf_17 : decode cX0_cellOf 17 = .ok (.aload_n 0, 1) := dk_42 (dk_at dksX0_cellOf_0 17 rfl rfl)
theorem dX0_cellOf_18 : decode cX0_cellOf 18 = .ok (.iload_n 1, 1) := dk_27 (dk_at dksX0_cellOf_0 18 rfl rfl)
theorem dX0_cellOf_19 : decode cX0_cellOf 19 = .ok (.invokevirtual 250, 3) := dk_182 0 250 (dk_at dksX0_cellOf_0 19 rfl rfl)
theorem dX0_cellOf_22 : decode cX0_cellOf 22 = .ok (.iconst 3, 1) := dk_6 (dk_at dksX0_cellOf_0 22 rfl rfl)
theorem dX0_cellOf_23 : decode cX0_cellOf 23 = .ok (.invokevirtual 254, 3) := dk_182 0 254 (dk_at dksX0_cellOf_1 0 rfl rfl)
theorem dX0_cellOf_26 : decode cX0_cellOf 26 = .ok (.ifCond .ne 5, 3) := dk_154 0 5 (dk_at dksX0_cellOf_1 3 rfl rfl)
theorem dX0_cellOf_29 : decode cX0_cellOf 29 = .ok (.iconst (-1), 1) := dk_2 (dk_at dksX0_cellOf_1 6 rfl rfl)
theorem dX0_cellOf_30 : decode cX0_cellOf 30 = .ok (.ireturn, 1) := dk_172 (dk_at dksX0_cellOf_1 7 rfl rfl)
theorem dX0_cellOf_31 : decode cX0_cellOf 31 = .ok (.aload_n 0, 1) := dk_42 (dk_at dksX0_cellOf_1 8 rfl rfl)
theorem dX0_cellOf_32 : decode cX0_cellOf 32 = .ok (.getfield 134, 3) := dk_180 0 134 (dk_at dksX0_cellOf_1 9 rfl rfl)
theorem dX0_cellOf_35 : decode cX0_cellOf 35 = .ok (.invokevirtual 325, 3) := dk_182 1 69 (dk_at dksX0_cellOf_1 12 rfl rfl)
theorem dX0_cellOf_38 : decode cX0_cellOf 38 = .ok (.pop, 1) := dk_87 (dk_at dksX0_cellOf_1 15 rfl rfl)
theorem dX0_cellOf_39 : decode cX0_cellOf 39 = .ok (.aload_n 0, 1) := dk_42 (dk_at dksX0_cellOf_1 16 rfl rfl)
theorem dX0_cellOf_40 : decode cX0_cellOf 40 = .ok (.getfield 134, 3) := dk_180 0 134 (dk_at dksX0_cellOf_1 17 rfl rfl)
theorem dX0_cellOf_43 : decode cX0_cellOf 43 = .ok (.getfield 328, 3) := dk_180 1 72 (dk_at dksX0_cellOf_1 20 rfl rfl)
theorem dX0_cellOf_46 : decode cX0_cellOf 46 = .ok (.iload_n 1, 1) := dk_27 (dk_at dksX0_cellOf_1 23 rfl rfl)
theorem dX0_cellOf_47 : decode cX0_cellOf 47 = .ok (.iaload, 1) := dk_46 (dk_at dksX0_cellOf_2 0 rfl rfl)
theorem dX0_cellOf_48 : decode cX0_cellOf 48 = .ok (.ireturn, 1) := dk_172 (dk_at dksX0_cellOf_2 1 rfl rfl)
abbrev cX0_order : ByteArray := prog_1_method_43_code
def yX0_order : MethodName := ⟨RX0, "order", "()I"⟩
def dkwX0_order_0 : List UInt8 := [42, 4, 182, 1, 85, 153, 0, 13, 42, 180, 0, 148, 180, 1, 88, 167, 0, 4, 2, 172]
abbrev dktX0_order_0 : List UInt8 := dkwX0_order_0 ++ []
theorem dksX0_order_0 : cX0_order.data.toList.drop 0 = dktX0_order_0 := by decide +kernel
theorem dX0_order_0 : decode cX0_order 0 = .ok (.aload_n 0, 1) := dk_42 (dk_at dksX0_order_0 0 rfl rfl)
theorem dX0_order_1 : decode cX0_order 1 = .ok (.iconst 1, 1) := dk_4 (dk_at dksX0_order_0 1 rfl rfl)
theorem dX0_order_2 : decode cX0_order 2 = .ok (.invokevirtual 341, 3) := dk_182 1 85 (dk_at dksX0_order_0 2 rfl rfl)
theorem dX0_order_5 : decode cX0_order 5 = .ok (.ifCond .eq 13, 3) := dk_153 0 13 (dk_at dksX0_order_0 5 rfl rfl)
theorem dX0_order_8 : decode cX0_order 8 = .ok (.aload_n 0, 1) := dk_42 (dk_at dksX0_order_0 8 rfl rfl)
theorem dX0_order_9 : decode cX0_order 9 = .ok (.getfield 148, 3) := dk_180 0 148 (dk_at dksX0_order_0 9 rfl rfl)
theorem dX0_order_12 : decode cX0_order 12 = .ok (.getfield 344, 3) := dk_180 1 88 (dk_at dksX0_order_0 12 rfl rfl)
theorem dX0_order_15 : decode cX0_order 15 = .ok (.goto 4, 3) := dk_167 0 4 (dk_at dksX0_order_0 15 rfl rfl)
theorem dX0_order_18 : decode cX0_order 18 = .ok (.iconst (-1), 1) := dk_2 (dk_at dksX0_order_0 18 rfl rfl)
theorem dX0_order_19 : decode cX0_order 19 = .ok (.ireturn, 1) := dk_172 (dk_at dksX0_order_0 19 rfl rfl)
abbrev cX0_asks : ByteArray := prog_1_method_38_code
def yX0_asks : MethodName := ⟨RX0, "asks", "(Z)Z"⟩
def dkwX0_asks_3 : List UInt8 := [181, 0, 208, 4, 172]
abbrev dktX0_asks_3 : List UInt8 := dkwX0_asks_3 ++ []
def dkwX0_asks_2 : List UInt8 := [182, 1, 75, 42, 180, 0, 148, 182, 1, 78, 42, 42, 180, 0, 148, 182, 1, 81, 181, 0, 166, 42, 4]
abbrev dktX0_asks_2 : List UInt8 := dkwX0_asks_2 ++ dktX0_asks_3
def dkwX0_asks_1 : List UInt8 := [5, 182, 0, 254, 154, 0, 5, 3, 172, 42, 180, 0, 208, 154, 0, 37, 42, 180, 0, 148, 42, 180, 0, 134]
abbrev dktX0_asks_1 : List UInt8 := dkwX0_asks_1 ++ dktX0_asks_2
def dkwX0_asks_0 : List UInt8 := [42, 27, 182, 0, 224, 153, 0, 26, 42, 42, 180, 0, 134, 182, 1, 60, 158, 0, 7, 4, 167, 0, 4, 3]
abbrev dktX0_asks_0 : List UInt8 := dkwX0_asks_0 ++ dktX0_asks_1
theorem dksX0_asks_0 : cX0_asks.data.toList.drop 0 = dktX0_asks_0 := by decide +kernel
theorem dksX0_asks_1 : cX0_asks.data.toList.drop 24 = dktX0_asks_1 := dk_seg dksX0_asks_0 24 rfl rfl
theorem dksX0_asks_2 : cX0_asks.data.toList.drop 48 = dktX0_asks_2 := dk_seg dksX0_asks_1 24 rfl rfl
theorem dksX0_asks_3 : cX0_asks.data.toList.drop 71 = dktX0_asks_3 := dk_seg dksX0_asks_2 23 rfl rfl
theorem dX0_asks_0 : decode cX0_asks 0 = .ok (.aload_n 0, 1) := dk_42 (dk_at dksX0_asks_0 0 rfl rfl)
theorem dX0_asks_1 : decode cX0_asks 1 = .ok (.iload_n 1, 1) := dk_27 (dk_at dksX0_asks_0 1 rfl rfl)
theorem dX0_asks_2 : decode cX0_asks 2 = .ok (.invokevirtual 224, 3) := dk_182 0 224 (dk_at dksX0_asks_0 2 rfl rfl)
theorem dX0_asks_5 : decode cX0_asks 5 = .ok (.ifCond .eq 26, 3) := dk_153 0 26 (dk_at dksX0_asks_0 5 rfl rfl)
theorem dX0_asks_8 : decode cX0_asks 8 = .ok (.aload_n 0, 1) := dk_42 (dk_at dksX0_asks_0 8 rfl rfl)
theorem dX0_asks_9 : decode cX0_asks 9 = .ok (.aload_n 0, 1) := dk_42 (dk_at dksX0_asks_0 9 rfl rfl)
theorem dX0_asks_10 : decode cX0_asks 10 = .ok (.getfield 134, 3) := dk_180 0 134 (dk_at dksX0_asks_0 10 rfl rfl)
theorem dX0_asks_13 : decode cX0_asks 13 = .ok (.invokevirtual 316, 3) := dk_182 1 60 (dk_at dksX0_asks_0 13 rfl rfl)
theorem dX0_asks_16 : decode cX0_asks 16 = .ok (.ifCond .le 7, 3) := dk_158 0 7 (dk_at dksX0_asks_0 16 rfl rfl)
theorem dX0_asks_19 : decode cX0_asks 19 = .ok (.iconst 1, 1) := dk_4 (dk_at dksX0_asks_0 19 rfl rfl)
theorem dX0_asks_20 : decode cX0_asks 20 = .ok (.goto 4, 3) := dk_167 0 4 (dk_at dksX0_asks_0 20 rfl rfl)
theorem dX0_asks_23 : decode cX0_asks 23 = .ok (.iconst 0, 1) := dk_3 (dk_at dksX0_asks_0 23 rfl rfl)
theorem dX0_asks_24 : decode cX0_asks 24 = .ok (.iconst 2, 1) := dk_5 (dk_at dksX0_asks_1 0 rfl rfl)
theorem dX0_asks_25 : decode cX0_asks 25 = .ok (.invokevirtual 254, 3) := dk_182 0 254 (dk_at dksX0_asks_1 1 rfl rfl)
theorem dX0_asks_28 : decode cX0_asks 28 = .ok (.ifCond .ne 5, 3) := dk_154 0 5 (dk_at dksX0_asks_1 4 rfl rfl)
theorem dX0_asks_31 : decode cX0_asks 31 = .ok (.iconst 0, 1) := dk_3 (dk_at dksX0_asks_1 7 rfl rfl)
theorem dX0_asks_32 : decode cX0_asks 32 = .ok (.ireturn, 1) := dk_172 (dk_at dksX0_asks_1 8 rfl rfl)
theorem dX0_asks_33 : decode cX0_asks 33 = .ok (.aload_n 0, 1) := dk_42 (dk_at dksX0_asks_1 9 rfl rfl)
theorem dX0_asks_34 : decode cX0_asks 34 = .ok (.getfield 208, 3) := dk_180 0 208 (dk_at dksX0_asks_1 10 rfl rfl)
theorem dX0_asks_37 : decode cX0_asks 37 = .ok (.ifCond .ne 37, 3) := dk_154 0 37 (dk_at dksX0_asks_1 13 rfl rfl)
theorem dX0_asks_40 : decode cX0_asks 40 = .ok (.aload_n 0, 1) := dk_42 (dk_at dksX0_asks_1 16 rfl rfl)
theorem dX0_asks_41 : decode cX0_asks 41 = .ok (.getfield 148, 3) := dk_180 0 148 (dk_at dksX0_asks_1 17 rfl rfl)
theorem dX0_asks_44 : decode cX0_asks 44 = .ok (.aload_n 0, 1) := dk_42 (dk_at dksX0_asks_1 20 rfl rfl)
theorem dX0_asks_45 : decode cX0_asks 45 = .ok (.getfield 134, 3) := dk_180 0 134 (dk_at dksX0_asks_1 21 rfl rfl)
theorem dX0_asks_48 : decode cX0_asks 48 = .ok (.invokevirtual 331, 3) := dk_182 1 75 (dk_at dksX0_asks_2 0 rfl rfl)
theorem dX0_asks_51 : decode cX0_asks 51 = .ok (.aload_n 0, 1) := dk_42 (dk_at dksX0_asks_2 3 rfl rfl)
theorem dX0_asks_52 : decode cX0_asks 52 = .ok (.getfield 148, 3) := dk_180 0 148 (dk_at dksX0_asks_2 4 rfl rfl)
theorem dX0_asks_55 : decode cX0_asks 55 = .ok (.invokevirtual 334, 3) := dk_182 1 78 (dk_at dksX0_asks_2 7 rfl rfl)
theorem dX0_asks_58 : decode cX0_asks 58 = .ok (.aload_n 0, 1) := dk_42 (dk_at dksX0_asks_2 10 rfl rfl)
theorem dX0_asks_59 : decode cX0_asks 59 = .ok (.aload_n 0, 1) := dk_42 (dk_at dksX0_asks_2 11 rfl rfl)
theorem dX0_asks_60 : decode cX0_asks 60 = .ok (.getfield 148, 3) := dk_180 0 148 (dk_at dksX0_asks_2 12 rfl rfl)
theorem dX0_asks_63 : decode cX0_asks 63 = .ok (.invokevirtual 337, 3) := dk_182 1 81 (dk_at dksX0_asks_2 15 rfl rfl)
theorem dX0_asks_66 : decode cX0_asks 66 = .ok (.putfield 166, 3) := dk_181 0 166 (dk_at dksX0_asks_2 18 rfl rfl)
theorem dX0_asks_69 : decode cX0_asks 69 = .ok (.aload_n 0, 1) := dk_42 (dk_at dksX0_asks_2 21 rfl rfl)
theorem dX0_asks_70 : decode cX0_asks 70 = .ok (.iconst 1, 1) := dk_4 (dk_at dksX0_asks_2 22 rfl rfl)
theorem dX0_asks_71 : decode cX0_asks 71 = .ok (.putfield 208, 3) := dk_181 0 208 (dk_at dksX0_asks_3 0 rfl rfl)
theorem dX0_asks_74 : decode cX0_asks 74 = .ok (.iconst 1, 1) := dk_4 (dk_at dksX0_asks_3 3 rfl rfl)
theorem dX0_asks_75 : decode cX0_asks 75 = .ok (.ireturn, 1) := dk_172 (dk_at dksX0_asks_3 4 rfl rfl)
abbrev cX0_rowAt : ByteArray := prog_1_method_44_code
def yX0_rowAt : MethodName := ⟨RX0, "rowAt", "(II)I"⟩
def dkwX0_rowAt_1 : List UInt8 := [182, 0, 254, 153, 0, 15, 42, 27, 182, 1, 97, 28, 182, 1, 101, 167, 0, 4, 2, 172]
abbrev dktX0_rowAt_1 : List UInt8 := dkwX0_rowAt_1 ++ []
def dkwX0_rowAt_0 : List UInt8 := [42, 27, 28, 155, 0, 7, 4, 167, 0, 4, 3, 182, 1, 93, 153, 0, 28, 42, 42, 28, 182, 0, 250, 6]
abbrev dktX0_rowAt_0 : List UInt8 := dkwX0_rowAt_0 ++ dktX0_rowAt_1
theorem dksX0_rowAt_0 : cX0_rowAt.data.toList.drop 0 = dktX0_rowAt_0 := by decide +kernel
theorem dksX0_rowAt_1 : cX0_rowAt.data.toList.drop 24 = dktX0_rowAt_1 := dk_seg dksX0_rowAt_0 24 rfl rfl
theorem dX0_rowAt_0 : decode cX0_rowAt 0 = .ok (.aload_n 0, 1) := dk_42 (dk_at dksX0_rowAt_0 0 rfl rfl)
theorem dX0_rowAt_1 : decode cX0_rowAt 1 = .ok (.iload_n 1, 1) := dk_27 (dk_at dksX0_rowAt_0 1 rfl rfl)
theorem dX0_rowAt_2 : decode cX0_rowAt 2 = .ok (.iload_n 2, 1) := dk_28 (dk_at dksX0_rowAt_0 2 rfl rfl)
theorem dX0_rowAt_3 : decode cX0_rowAt 3 = .ok (.ifCond .lt 7, 3) := dk_155 0 7 (dk_at dksX0_rowAt_0 3 rfl rfl)
theorem dX0_rowAt_6 : decode cX0_rowAt 6 = .ok (.iconst 1, 1) := dk_4 (dk_at dksX0_rowAt_0 6 rfl rfl)
theorem dX0_rowAt_7 : decode cX0_rowAt 7 = .ok (.goto 4, 3) := dk_167 0 4 (dk_at dksX0_rowAt_0 7 rfl rfl)
theorem dX0_rowAt_10 : decode cX0_rowAt 10 = .ok (.iconst 0, 1) := dk_3 (dk_at dksX0_rowAt_0 10 rfl rfl)
theorem dX0_rowAt_11 : decode cX0_rowAt 11 = .ok (.invokevirtual 349, 3) := dk_182 1 93 (dk_at dksX0_rowAt_0 11 rfl rfl)
theorem dX0_rowAt_14 : decode cX0_rowAt 14 = .ok (.ifCond .eq 28, 3) := dk_153 0 28 (dk_at dksX0_rowAt_0 14 rfl rfl)
theorem dX0_rowAt_17 : decode cX0_rowAt 17 = .ok (.aload_n 0, 1) := dk_42 (dk_at dksX0_rowAt_0 17 rfl rfl)
theorem dX0_rowAt_18 : decode cX0_rowAt 18 = .ok (.aload_n 0, 1) := dk_42 (dk_at dksX0_rowAt_0 18 rfl rfl)
theorem dX0_rowAt_19 : decode cX0_rowAt 19 = .ok (.iload_n 2, 1) := dk_28 (dk_at dksX0_rowAt_0 19 rfl rfl)
theorem dX0_rowAt_20 : decode cX0_rowAt 20 = .ok (.invokevirtual 250, 3) := dk_182 0 250 (dk_at dksX0_rowAt_0 20 rfl rfl)
theorem dX0_rowAt_23 : decode cX0_rowAt 23 = .ok (.iconst 3, 1) := dk_6 (dk_at dksX0_rowAt_0 23 rfl rfl)
theorem dX0_rowAt_24 : decode cX0_rowAt 24 = .ok (.invokevirtual 254, 3) := dk_182 0 254 (dk_at dksX0_rowAt_1 0 rfl rfl)
theorem dX0_rowAt_27 : decode cX0_rowAt 27 = .ok (.ifCond .eq 15, 3) := dk_153 0 15 (dk_at dksX0_rowAt_1 3 rfl rfl)
theorem dX0_rowAt_30 : decode cX0_rowAt 30 = .ok (.aload_n 0, 1) := dk_42 (dk_at dksX0_rowAt_1 6 rfl rfl)
theorem dX0_rowAt_31 : decode cX0_rowAt 31 = .ok (.iload_n 1, 1) := dk_27 (dk_at dksX0_rowAt_1 7 rfl rfl)
theorem dX0_rowAt_32 : decode cX0_rowAt 32 = .ok (.invokevirtual 353, 3) := dk_182 1 97 (dk_at dksX0_rowAt_1 8 rfl rfl)
theorem dX0_rowAt_35 : decode cX0_rowAt 35 = .ok (.iload_n 2, 1) := dk_28 (dk_at dksX0_rowAt_1 11 rfl rfl)
theorem dX0_rowAt_36 : decode cX0_rowAt 36 = .ok (.invokevirtual 357, 3) := dk_182 1 101 (dk_at dksX0_rowAt_1 12 rfl rfl)
theorem dX0_rowAt_39 : decode cX0_rowAt 39 = .ok (.goto 4, 3) := dk_167 0 4 (dk_at dksX0_rowAt_1 15 rfl rfl)
theorem dX0_rowAt_42 : decode cX0_rowAt 42 = .ok (.iconst (-1), 1) := dk_2 (dk_at dksX0_rowAt_1 18 rfl rfl)
theorem dX0_rowAt_43 : decode cX0_rowAt 43 = .ok (.ireturn, 1) := dk_172 (dk_at dksX0_rowAt_1 19 rfl rfl)
abbrev cX0_asksOp : ByteArray := prog_1_method_39_code
def yX0_asksOp : MethodName := ⟨RX0, "asksOp", "(IZ)Z"⟩
def dkwX0_asksOp_2 : List UInt8 := [167, 0, 4, 3, 172]
abbrev dktX0_asksOp_2 : List UInt8 := dkwX0_asksOp_2 ++ []
def dkwX0_asksOp_1 : List UInt8 := [180, 0, 148, 180, 1, 88, 162, 0, 7, 4, 167, 0, 4, 3, 6, 182, 0, 254, 153, 0, 7, 4]
abbrev dktX0_asksOp_1 : List UInt8 := dkwX0_asksOp_1 ++ dktX0_asksOp_2
def dkwX0_asksOp_0 : List UInt8 := [42, 28, 153, 0, 11, 27, 155, 0, 7, 4, 167, 0, 4, 3, 182, 1, 85, 153, 0, 31, 42, 27, 42]
abbrev dktX0_asksOp_0 : List UInt8 := dkwX0_asksOp_0 ++ dktX0_asksOp_1
theorem dksX0_asksOp_0 : cX0_asksOp.data.toList.drop 0 = dktX0_asksOp_0 := by decide +kernel
theorem dksX0_asksOp_1 : cX0_asksOp.data.toList.drop 23 = dktX0_asksOp_1 := dk_seg dksX0_asksOp_0 23 rfl rfl
theorem dksX0_asksOp_2 : cX0_asksOp.data.toList.drop 45 = dktX0_asksOp_2 := dk_seg dksX0_asksOp_1 22 rfl rfl
theorem dX0_asksOp_0 : decode cX0_asksOp 0 = .ok (.aload_n 0, 1) := dk_42 (dk_at dksX0_asksOp_0 0 rfl rfl)
theorem dX0_asksOp_1 : decode cX0_asksOp 1 = .ok (.iload_n 2, 1) := dk_28 (dk_at dksX0_asksOp_0 1 rfl rfl)
theorem dX0_asksOp_2 : decode cX0_asksOp 2 = .ok (.ifCond .eq 11, 3) := dk_153 0 11 (dk_at dksX0_asksOp_0 2 rfl rfl)
theorem dX0_asksOp_5 : decode cX0_asksOp 5 = .ok (.iload_n 1, 1) := dk_27 (dk_at dksX0_asksOp_0 5 rfl rfl)
theorem dX0_asksOp_6 : decode cX0_asksOp 6 = .ok (.ifCond .lt 7, 3) := dk_155 0 7 (dk_at dksX0_asksOp_0 6 rfl rfl)
theorem dX0_asksOp_9 : decode cX0_asksOp 9 = .ok (.iconst 1, 1) := dk_4 (dk_at dksX0_asksOp_0 9 rfl rfl)
theorem dX0_asksOp_10 : decode cX0_asksOp 10 = .ok (.goto 4, 3) := dk_167 0 4 (dk_at dksX0_asksOp_0 10 rfl rfl)
theorem dX0_asksOp_13 : decode cX0_asksOp 13 = .ok (.iconst 0, 1) := dk_3 (dk_at dksX0_asksOp_0 13 rfl rfl)
theorem dX0_asksOp_14 : decode cX0_asksOp 14 = .ok (.invokevirtual 341, 3) := dk_182 1 85 (dk_at dksX0_asksOp_0 14 rfl rfl)
theorem dX0_asksOp_17 : decode cX0_asksOp 17 = .ok (.ifCond .eq 31, 3) := dk_153 0 31 (dk_at dksX0_asksOp_0 17 rfl rfl)
theorem dX0_asksOp_20 : decode cX0_asksOp 20 = .ok (.aload_n 0, 1) := dk_42 (dk_at dksX0_asksOp_0 20 rfl rfl)
theorem dX0_asksOp_21 : decode cX0_asksOp 21 = .ok (.iload_n 1, 1) := dk_27 (dk_at dksX0_asksOp_0 21 rfl rfl)
theorem dX0_asksOp_22 : decode cX0_asksOp 22 = .ok (.aload_n 0, 1) := dk_42 (dk_at dksX0_asksOp_0 22 rfl rfl)
theorem dX0_asksOp_23 : decode cX0_asksOp 23 = .ok (.getfield 148, 3) := dk_180 0 148 (dk_at dksX0_asksOp_1 0 rfl rfl)
theorem dX0_asksOp_26 : decode cX0_asksOp 26 = .ok (.getfield 344, 3) := dk_180 1 88 (dk_at dksX0_asksOp_1 3 rfl rfl)
theorem dX0_asksOp_29 : decode cX0_asksOp 29 = .ok (.if_icmp .ge 7, 3) := dk_162 0 7 (dk_at dksX0_asksOp_1 6 rfl rfl)
theorem dX0_asksOp_32 : decode cX0_asksOp 32 = .ok (.iconst 1, 1) := dk_4 (dk_at dksX0_asksOp_1 9 rfl rfl)
theorem dX0_asksOp_33 : decode cX0_asksOp 33 = .ok (.goto 4, 3) := dk_167 0 4 (dk_at dksX0_asksOp_1 10 rfl rfl)
theorem dX0_asksOp_36 : decode cX0_asksOp 36 = .ok (.iconst 0, 1) := dk_3 (dk_at dksX0_asksOp_1 13 rfl rfl)
theorem dX0_asksOp_37 : decode cX0_asksOp 37 = .ok (.iconst 3, 1) := dk_6 (dk_at dksX0_asksOp_1 14 rfl rfl)
theorem dX0_asksOp_38 : decode cX0_asksOp 38 = .ok (.invokevirtual 254, 3) := dk_182 0 254 (dk_at dksX0_asksOp_1 15 rfl rfl)
theorem dX0_asksOp_41 : decode cX0_asksOp 41 = .ok (.ifCond .eq 7, 3) := dk_153 0 7 (dk_at dksX0_asksOp_1 18 rfl rfl)
theorem dX0_asksOp_44 : decode cX0_asksOp 44 = .ok (.iconst 1, 1) := dk_4 (dk_at dksX0_asksOp_1 21 rfl rfl)
theorem dX0_asksOp_45 : decode cX0_asksOp 45 = .ok (.goto 4, 3) := dk_167 0 4 (dk_at dksX0_asksOp_2 0 rfl rfl)
theorem dX0_asksOp_48 : decode cX0_asksOp 48 = .ok (.iconst 0, 1) := dk_3 (dk_at dksX0_asksOp_2 3 rfl rfl)
theorem dX0_asksOp_49 : decode cX0_asksOp 49 = .ok (.ireturn, 1) := dk_172 (dk_at dksX0_asksOp_2 4 rfl rfl)
abbrev cX0_op : ByteArray := prog_1_method_42_code
def yX0_op : MethodName := ⟨RX0, "op", "(I)LVibrationDesk$Op;"⟩
def dkwX0_op_0 : List UInt8 := [42, 180, 0, 148, 180, 1, 89, 27, 50, 176]
abbrev dktX0_op_0 : List UInt8 := dkwX0_op_0 ++ []
theorem dksX0_op_0 : cX0_op.data.toList.drop 0 = dktX0_op_0 := by decide +kernel
theorem dX0_op_0 : decode cX0_op 0 = .ok (.aload_n 0, 1) := dk_42 (dk_at dksX0_op_0 0 rfl rfl)
theorem dX0_op_1 : decode cX0_op 1 = .ok (.getfield 148, 3) := dk_180 0 148 (dk_at dksX0_op_0 1 rfl rfl)
theorem dX0_op_4 : decode cX0_op 4 = .ok (.getfield 345, 3) := dk_180 1 89 (dk_at dksX0_op_0 4 rfl rfl)
theorem dX0_op_7 : decode cX0_op 7 = .ok (.iload_n 1, 1) := dk_27 (dk_at dksX0_op_0 7 rfl rfl)
theorem dX0_op_8 : decode cX0_op 8 = .ok (.aaload, 1) := dk_50 (dk_at dksX0_op_0 8 rfl rfl)
theorem dX0_op_9 : decode cX0_op 9 = .ok (.areturn, 1) := dk_176 (dk_at dksX0_op_0 9 rfl rfl)
abbrev cX0_sign : ByteArray := prog_1_method_45_code
def yX0_sign : MethodName := ⟨RX0, "sign", "(I)I"⟩
def dkwX0_sign_0 : List UInt8 := [42, 27, 4, 182, 1, 93, 153, 0, 14, 42, 27, 182, 1, 97, 182, 1, 106, 167, 0, 4, 2, 172]
abbrev dktX0_sign_0 : List UInt8 := dkwX0_sign_0 ++ []
theorem dksX0_sign_0 : cX0_sign.data.toList.drop 0 = dktX0_sign_0 := by decide +kernel
theorem dX0_sign_0 : decode cX0_sign 0 = .ok (.aload_n 0, 1) := dk_42 (dk_at dksX0_sign_0 0 rfl rfl)
theorem dX0_sign_1 : decode cX0_sign 1 = .ok (.iload_n 1, 1) := dk_27 (dk_at dksX0_sign_0 1 rfl rfl)
theorem dX0_sign_2 : decode cX0_sign 2 = .ok (.iconst 1, 1) := dk_4 (dk_at dksX0_sign_0 2 rfl rfl)
theorem dX0_sign_3 : decode cX0_sign 3 = .ok (.invokevirtual 349, 3) := dk_182 1 93 (dk_at dksX0_sign_0 3 rfl rfl)
theorem dX0_sign_6 : decode cX0_sign 6 = .ok (.ifCond .eq 14, 3) := dk_153 0 14 (dk_at dksX0_sign_0 6 rfl rfl)
theorem dX0_sign_9 : decode cX0_sign 9 = .ok (.aload_n 0, 1) := dk_42 (dk_at dksX0_sign_0 9 rfl rfl)
theorem dX0_sign_10 : decode cX0_sign 10 = .ok (.iload_n 1, 1) := dk_27 (dk_at dksX0_sign_0 10 rfl rfl)
theorem dX0_sign_11 : decode cX0_sign 11 = .ok (.invokevirtual 353, 3) := dk_182 1 97 (dk_at dksX0_sign_0 11 rfl rfl)
theorem dX0_sign_14 : decode cX0_sign 14 = .ok (.invokevirtual 362, 3) := dk_182 1 106 (dk_at dksX0_sign_0 14 rfl rfl)
theorem dX0_sign_17 : decode cX0_sign 17 = .ok (.goto 4, 3) := dk_167 0 4 (dk_at dksX0_sign_0 17 rfl rfl)
theorem dX0_sign_20 : decode cX0_sign 20 = .ok (.iconst (-1), 1) := dk_2 (dk_at dksX0_sign_0 20 rfl rfl)
theorem dX0_sign_21 : decode cX0_sign 21 = .ok (.ireturn, 1) := dk_172 (dk_at dksX0_sign_0 21 rfl rfl)
abbrev cX0_trace : ByteArray := prog_1_method_46_code
def yX0_trace : MethodName := ⟨RX0, "trace", "(I)I"⟩
def dkwX0_trace_0 : List UInt8 := [42, 27, 4, 182, 1, 93, 153, 0, 14, 42, 27, 182, 1, 97, 180, 1, 109, 167, 0, 4, 2, 172]
abbrev dktX0_trace_0 : List UInt8 := dkwX0_trace_0 ++ []
theorem dksX0_trace_0 : cX0_trace.data.toList.drop 0 = dktX0_trace_0 := by decide +kernel
theorem dX0_trace_0 : decode cX0_trace 0 = .ok (.aload_n 0, 1) := dk_42 (dk_at dksX0_trace_0 0 rfl rfl)
theorem dX0_trace_1 : decode cX0_trace 1 = .ok (.iload_n 1, 1) := dk_27 (dk_at dksX0_trace_0 1 rfl rfl)
theorem dX0_trace_2 : decode cX0_trace 2 = .ok (.iconst 1, 1) := dk_4 (dk_at dksX0_trace_0 2 rfl rfl)
theorem dX0_trace_3 : decode cX0_trace 3 = .ok (.invokevirtual 349, 3) := dk_182 1 93 (dk_at dksX0_trace_0 3 rfl rfl)
theorem dX0_trace_6 : decode cX0_trace 6 = .ok (.ifCond .eq 14, 3) := dk_153 0 14 (dk_at dksX0_trace_0 6 rfl rfl)
theorem dX0_trace_9 : decode cX0_trace 9 = .ok (.aload_n 0, 1) := dk_42 (dk_at dksX0_trace_0 9 rfl rfl)
theorem dX0_trace_10 : decode cX0_trace 10 = .ok (.iload_n 1, 1) := dk_27 (dk_at dksX0_trace_0 10 rfl rfl)
theorem dX0_trace_11 : decode cX0_trace 11 = .ok (.invokevirtual 353, 3) := dk_182 1 97 (dk_at dksX0_trace_0 11 rfl rfl)
theorem dX0_trace_14 : decode cX0_trace 14 = .ok (.getfield 365, 3) := dk_180 1 109 (dk_at dksX0_trace_0 14 rfl rfl)
theorem dX0_trace_17 : decode cX0_trace 17 = .ok (.goto 4, 3) := dk_167 0 4 (dk_at dksX0_trace_0 17 rfl rfl)
theorem dX0_trace_20 : decode cX0_trace 20 = .ok (.iconst (-1), 1) := dk_2 (dk_at dksX0_trace_0 20 rfl rfl)
theorem dX0_trace_21 : decode cX0_trace 21 = .ok (.ireturn, 1) := dk_172 (dk_at dksX0_trace_0 21 rfl rfl)
abbrev cX0_entry : ByteArray := prog_1_method_47_code
def yX0_entry : MethodName := ⟨RX0, "entry", "(III)Z"⟩
def dkwX0_entry_3 : List UInt8 := [180, 1, 112, 180, 1, 126, 182, 1, 65, 172]
abbrev dktX0_entry_3 : List UInt8 := dkwX0_entry_3 ++ []
def dkwX0_entry_2 : List UInt8 := [27, 182, 1, 97, 182, 1, 116, 42, 42, 180, 0, 148, 180, 1, 112, 28, 29, 182, 1, 122, 42, 180, 0, 148]
abbrev dktX0_entry_2 : List UInt8 := dkwX0_entry_2 ++ dktX0_entry_3
def dkwX0_entry_1 : List UInt8 := [153, 0, 7, 4, 167, 0, 4, 3, 182, 1, 93, 154, 0, 5, 3, 172, 42, 180, 0, 148, 180, 1, 112, 42]
abbrev dktX0_entry_1 : List UInt8 := dkwX0_entry_1 ++ dktX0_entry_2
def dkwX0_entry_0 : List UInt8 := [42, 27, 28, 133, 9, 20, 1, 63, 184, 0, 194, 153, 0, 19, 29, 133, 9, 20, 1, 63, 184, 0, 194]
abbrev dktX0_entry_0 : List UInt8 := dkwX0_entry_0 ++ dktX0_entry_1
theorem dksX0_entry_0 : cX0_entry.data.toList.drop 0 = dktX0_entry_0 := by decide +kernel
theorem dksX0_entry_1 : cX0_entry.data.toList.drop 23 = dktX0_entry_1 := dk_seg dksX0_entry_0 23 rfl rfl
theorem dksX0_entry_2 : cX0_entry.data.toList.drop 47 = dktX0_entry_2 := dk_seg dksX0_entry_1 24 rfl rfl
theorem dksX0_entry_3 : cX0_entry.data.toList.drop 71 = dktX0_entry_3 := dk_seg dksX0_entry_2 24 rfl rfl
theorem dX0_entry_0 : decode cX0_entry 0 = .ok (.aload_n 0, 1) := dk_42 (dk_at dksX0_entry_0 0 rfl rfl)
theorem dX0_entry_1 : decode cX0_entry 1 = .ok (.iload_n 1, 1) := dk_27 (dk_at dksX0_entry_0 1 rfl rfl)
theorem dX0_entry_2 : decode cX0_entry 2 = .ok (.iload_n 2, 1) := dk_28 (dk_at dksX0_entry_0 2 rfl rfl)
theorem dX0_entry_3 : decode cX0_entry 3 = .ok (.i2l, 1) := dk_133 (dk_at dksX0_entry_0 3 rfl rfl)
theorem dX0_entry_4 : decode cX0_entry 4 = .ok (.lconst 0, 1) := dk_9 (dk_at dksX0_entry_0 4 rfl rfl)
theorem dX0_entry_5 : decode cX0_entry 5 = .ok (.ldc2_w 319, 3) := dk_20 1 63 (dk_at dksX0_entry_0 5 rfl rfl)
theorem dX0_entry_8 : decode cX0_entry 8 = .ok (.invokestatic 194, 3) := dk_184 0 194 (dk_at dksX0_entry_0 8 rfl rfl)
theorem dX0_entry_11 : decode cX0_entry 11 = .ok (.ifCond .eq 19, 3) := dk_153 0 19 (dk_at dksX0_entry_0 11 rfl rfl)
theorem dX0_entry_14 : decode cX0_entry 14 = .ok (.iload_n 3, 1) := dk_29 (dk_at dksX0_entry_0 14 rfl rfl)
theorem dX0_entry_15 : decode cX0_entry 15 = .ok (.i2l, 1) := dk_133 (dk_at dksX0_entry_0 15 rfl rfl)
theorem dX0_entry_16 : decode cX0_entry 16 = .ok (.lconst 0, 1) := dk_9 (dk_at dksX0_entry_0 16 rfl rfl)
theorem dX0_entry_17 : decode cX0_entry 17 = .ok (.ldc2_w 319, 3) := dk_20 1 63 (dk_at dksX0_entry_0 17 rfl rfl)
theorem dX0_entry_20 : decode cX0_entry 20 = .ok (.invokestatic 194, 3) := dk_184 0 194 (dk_at dksX0_entry_0 20 rfl rfl)
theorem dX0_entry_23 : decode cX0_entry 23 = .ok (.ifCond .eq 7, 3) := dk_153 0 7 (dk_at dksX0_entry_1 0 rfl rfl)
theorem dX0_entry_26 : decode cX0_entry 26 = .ok (.iconst 1, 1) := dk_4 (dk_at dksX0_entry_1 3 rfl rfl)
theorem dX0_entry_27 : decode cX0_entry 27 = .ok (.goto 4, 3) := dk_167 0 4 (dk_at dksX0_entry_1 4 rfl rfl)
theorem dX0_entry_30 : decode cX0_entry 30 = .ok (.iconst 0, 1) := dk_3 (dk_at dksX0_entry_1 7 rfl rfl)
theorem dX0_entry_31 : decode cX0_entry 31 = .ok (.invokevirtual 349, 3) := dk_182 1 93 (dk_at dksX0_entry_1 8 rfl rfl)
theorem dX0_entry_34 : decode cX0_entry 34 = .ok (.ifCond .ne 5, 3) := dk_154 0 5 (dk_at dksX0_entry_1 11 rfl rfl)
theorem dX0_entry_37 : decode cX0_entry 37 = .ok (.iconst 0, 1) := dk_3 (dk_at dksX0_entry_1 14 rfl rfl)
theorem dX0_entry_38 : decode cX0_entry 38 = .ok (.ireturn, 1) := dk_172 (dk_at dksX0_entry_1 15 rfl rfl)
theorem dX0_entry_39 : decode cX0_entry 39 = .ok (.aload_n 0, 1) := dk_42 (dk_at dksX0_entry_1 16 rfl rfl)
theorem dX0_entry_40 : decode cX0_entry 40 = .ok (.getfield 148, 3) := dk_180 0 148 (dk_at dksX0_entry_1 17 rfl rfl)
theorem dX0_entry_43 : decode cX0_entry 43 = .ok (.getfield 368, 3) := dk_180 1 112 (dk_at dksX0_entry_1 20 rfl rfl)
theorem dX0_entry_46 : decode cX0_entry 46 = .ok (.aload_n 0, 1) := dk_42 (dk_at dksX0_entry_1 23 rfl rfl)
theorem dX0_entry_47 : decode cX0_entry 47 = .ok (.iload_n 1, 1) := dk_27 (dk_at dksX0_entry_2 0 rfl rfl)
theorem dX0_entry_48 : decode cX0_entry 48 = .ok (.invokevirtual 353, 3) := dk_182 1 97 (dk_at dksX0_entry_2 1 rfl rfl)
theorem dX0_entry_51 : decode cX0_entry 51 = .ok (.invokevirtual 372, 3) := dk_182 1 116 (dk_at dksX0_entry_2 4 rfl rfl)
theorem dX0_entry_54 : decode cX0_entry 54 = .ok (.aload_n 0, 1) := dk_42 (dk_at dksX0_entry_2 7 rfl rfl)
theorem dX0_entry_55 : decode cX0_entry 55 = .ok (.aload_n 0, 1) := dk_42 (dk_at dksX0_entry_2 8 rfl rfl)
theorem dX0_entry_56 : decode cX0_entry 56 = .ok (.getfield 148, 3) := dk_180 0 148 (dk_at dksX0_entry_2 9 rfl rfl)
theorem dX0_entry_59 : decode cX0_entry 59 = .ok (.getfield 368, 3) := dk_180 1 112 (dk_at dksX0_entry_2 12 rfl rfl)
theorem dX0_entry_62 : decode cX0_entry 62 = .ok (.iload_n 2, 1) := dk_28 (dk_at dksX0_entry_2 15 rfl rfl)
theorem dX0_entry_63 : decode cX0_entry 63 = .ok (.iload_n 3, 1) := dk_29 (dk_at dksX0_entry_2 16 rfl rfl)
theorem dX0_entry_64 : decode cX0_entry 64 = .ok (.invokevirtual 378, 3) := dk_182 1 122 (dk_at dksX0_entry_2 17 rfl rfl)
theorem dX0_entry_67 : decode cX0_entry 67 = .ok (.aload_n 0, 1) := dk_42 (dk_at dksX0_entry_2 20 rfl rfl)
theorem dX0_entry_68 : decode cX0_entry 68 = .ok (.getfield 148, 3) := dk_180 0 148 (dk_at dksX0_entry_2 21 rfl rfl)
theorem dX0_entry_71 : decode cX0_entry 71 = .ok (.getfield 368, 3) := dk_180 1 112 (dk_at dksX0_entry_3 0 rfl rfl)
theorem dX0_entry_74 : decode cX0_entry 74 = .ok (.getfield 382, 3) := dk_180 1 126 (dk_at dksX0_entry_3 3 rfl rfl)
theorem dX0_entry_77 : decode cX0_entry 77 = .ok (.invokevirtual 321, 3) := dk_182 1 65 (dk_at dksX0_entry_3 6 rfl rfl)
theorem dX0_entry_80 : decode cX0_entry 80 = .ok (.ireturn, 1) := dk_172 (dk_at dksX0_entry_3 9 rfl rfl)
abbrev cX0_then : ByteArray := prog_1_method_48_code
def yX0_then : MethodName := ⟨RX0, "then", "(II)I"⟩
def dkwX0_then_1 : List UInt8 := [172]
abbrev dktX0_then_1 : List UInt8 := dkwX0_then_1 ++ []
def dkwX0_then_0 : List UInt8 := [42, 27, 28, 182, 1, 129, 153, 0, 17, 42, 180, 0, 148, 180, 1, 132, 27, 50, 28, 46, 167, 0, 4, 2]
abbrev dktX0_then_0 : List UInt8 := dkwX0_then_0 ++ dktX0_then_1
theorem dksX0_then_0 : cX0_then.data.toList.drop 0 = dktX0_then_0 := by decide +kernel
theorem dksX0_then_1 : cX0_then.data.toList.drop 24 = dktX0_then_1 := dk_seg dksX0_then_0 24 rfl rfl
theorem dX0_then_0 : decode cX0_then 0 = .ok (.aload_n 0, 1) := dk_42 (dk_at dksX0_then_0 0 rfl rfl)
theorem dX0_then_1 : decode cX0_then 1 = .ok (.iload_n 1, 1) := dk_27 (dk_at dksX0_then_0 1 rfl rfl)
theorem dX0_then_2 : decode cX0_then 2 = .ok (.iload_n 2, 1) := dk_28 (dk_at dksX0_then_0 2 rfl rfl)
theorem dX0_then_3 : decode cX0_then 3 = .ok (.invokevirtual 385, 3) := dk_182 1 129 (dk_at dksX0_then_0 3 rfl rfl)
theorem dX0_then_6 : decode cX0_then 6 = .ok (.ifCond .eq 17, 3) := dk_153 0 17 (dk_at dksX0_then_0 6 rfl rfl)
theorem dX0_then_9 : decode cX0_then 9 = .ok (.aload_n 0, 1) := dk_42 (dk_at dksX0_then_0 9 rfl rfl)
theorem dX0_then_10 : decode cX0_then 10 = .ok (.getfield 148, 3) := dk_180 0 148 (dk_at dksX0_then_0 10 rfl rfl)
theorem dX0_then_13 : decode cX0_then 13 = .ok (.getfield 388, 3) := dk_180 1 132 (dk_at dksX0_then_0 13 rfl rfl)
theorem dX0_then_16 : decode cX0_then 16 = .ok (.iload_n 1, 1) := dk_27 (dk_at dksX0_then_0 16 rfl rfl)
theorem dX0_then_17 : decode cX0_then 17 = .ok (.aaload, 1) := dk_50 (dk_at dksX0_then_0 17 rfl rfl)
theorem dX0_then_18 : decode cX0_then 18 = .ok (.iload_n 2, 1) := dk_28 (dk_at dksX0_then_0 18 rfl rfl)
theorem dX0_then_19 : decode cX0_then 19 = .ok (.iaload, 1) := dk_46 (dk_at dksX0_then_0 19 rfl rfl)
theorem dX0_then_20 : decode cX0_then 20 = .ok (.goto 4, 3) := dk_167 0 4 (dk_at dksX0_then_0 20 rfl rfl)
theorem dX0_then_23 : decode cX0_then 23 = .ok (.iconst (-1), 1) := dk_2 (dk_at dksX0_then_0 23 rfl rfl)
theorem dX0_then_24 : decode cX0_then 24 = .ok (.ireturn, 1) := dk_172 (dk_at dksX0_then_1 0 rfl rfl)
abbrev cX0_asksOps : ByteArray := prog_1_method_40_code
def yX0_asksOps : MethodName := ⟨RX0, "asksOps", "(II)Z"⟩
def dkwX0_asksOps_2 : List UInt8 := [3, 6, 182, 0, 254, 153, 0, 7, 4, 167, 0, 4, 3, 172]
abbrev dktX0_asksOps_2 : List UInt8 := dkwX0_asksOps_2 ++ []
def dkwX0_asksOps_1 : List UInt8 := [180, 0, 148, 180, 1, 88, 162, 0, 18, 28, 42, 180, 0, 148, 180, 1, 88, 162, 0, 7, 4, 167, 0, 4]
abbrev dktX0_asksOps_1 : List UInt8 := dkwX0_asksOps_1 ++ dktX0_asksOps_2
def dkwX0_asksOps_0 : List UInt8 := [42, 27, 155, 0, 11, 28, 155, 0, 7, 4, 167, 0, 4, 3, 182, 1, 85, 153, 0, 42, 42, 27, 42]
abbrev dktX0_asksOps_0 : List UInt8 := dkwX0_asksOps_0 ++ dktX0_asksOps_1
theorem dksX0_asksOps_0 : cX0_asksOps.data.toList.drop 0 = dktX0_asksOps_0 := by decide +kernel
theorem dksX0_asksOps_1 : cX0_asksOps.data.toList.drop 23 = dktX0_asksOps_1 := dk_seg dksX0_asksOps_0 23 rfl rfl
theorem dksX0_asksOps_2 : cX0_asksOps.data.toList.drop 47 = dktX0_asksOps_2 := dk_seg dksX0_asksOps_1 24 rfl rfl
theorem dX0_asksOps_0 : decode cX0_asksOps 0 = .ok (.aload_n 0, 1) := dk_42 (dk_at dksX0_asksOps_0 0 rfl rfl)
theorem dX0_asksOps_1 : decode cX0_asksOps 1 = .ok (.iload_n 1, 1) := dk_27 (dk_at dksX0_asksOps_0 1 rfl rfl)
theorem dX0_asksOps_2 : decode cX0_asksOps 2 = .ok (.ifCond .lt 11, 3) := dk_155 0 11 (dk_at dksX0_asksOps_0 2 rfl rfl)
theorem dX0_asksOps_5 : decode cX0_asksOps 5 = .ok (.iload_n 2, 1) := dk_28 (dk_at dksX0_asksOps_0 5 rfl rfl)
theorem dX0_asksOps_6 : decode cX0_asksOps 6 = .ok (.ifCond .lt 7, 3) := dk_155 0 7 (dk_at dksX0_asksOps_0 6 rfl rfl)
theorem dX0_asksOps_9 : decode cX0_asksOps 9 = .ok (.iconst 1, 1) := dk_4 (dk_at dksX0_asksOps_0 9 rfl rfl)
theorem dX0_asksOps_10 : decode cX0_asksOps 10 = .ok (.goto 4, 3) := dk_167 0 4 (dk_at dksX0_asksOps_0 10 rfl rfl)
theorem dX0_asksOps_13 : decode cX0_asksOps 13 = .ok (.iconst 0, 1) := dk_3 (dk_at dksX0_asksOps_0 13 rfl rfl)
theorem dX0_asksOps_14 : decode cX0_asksOps 14 = .ok (.invokevirtual 341, 3) := dk_182 1 85 (dk_at dksX0_asksOps_0 14 rfl rfl)
theorem dX0_asksOps_17 : decode cX0_asksOps 17 = .ok (.ifCond .eq 42, 3) := dk_153 0 42 (dk_at dksX0_asksOps_0 17 rfl rfl)
theorem dX0_asksOps_20 : decode cX0_asksOps 20 = .ok (.aload_n 0, 1) := dk_42 (dk_at dksX0_asksOps_0 20 rfl rfl)
theorem dX0_asksOps_21 : decode cX0_asksOps 21 = .ok (.iload_n 1, 1) := dk_27 (dk_at dksX0_asksOps_0 21 rfl rfl)
theorem dX0_asksOps_22 : decode cX0_asksOps 22 = .ok (.aload_n 0, 1) := dk_42 (dk_at dksX0_asksOps_0 22 rfl rfl)
theorem dX0_asksOps_23 : decode cX0_asksOps 23 = .ok (.getfield 148, 3) := dk_180 0 148 (dk_at dksX0_asksOps_1 0 rfl rfl)
theorem dX0_asksOps_26 : decode cX0_asksOps 26 = .ok (.getfield 344, 3) := dk_180 1 88 (dk_at dksX0_asksOps_1 3 rfl rfl)
theorem dX0_asksOps_29 : decode cX0_asksOps 29 = .ok (.if_icmp .ge 18, 3) := dk_162 0 18 (dk_at dksX0_asksOps_1 6 rfl rfl)
theorem dX0_asksOps_32 : decode cX0_asksOps 32 = .ok (.iload_n 2, 1) := dk_28 (dk_at dksX0_asksOps_1 9 rfl rfl)
theorem dX0_asksOps_33 : decode cX0_asksOps 33 = .ok (.aload_n 0, 1) := dk_42 (dk_at dksX0_asksOps_1 10 rfl rfl)
theorem dX0_asksOps_34 : decode cX0_asksOps 34 = .ok (.getfield 148, 3) := dk_180 0 148 (dk_at dksX0_asksOps_1 11 rfl rfl)
theorem dX0_asksOps_37 : decode cX0_asksOps 37 = .ok (.getfield 344, 3) := dk_180 1 88 (dk_at dksX0_asksOps_1 14 rfl rfl)
theorem dX0_asksOps_40 : decode cX0_asksOps 40 = .ok (.if_icmp .ge 7, 3) := dk_162 0 7 (dk_at dksX0_asksOps_1 17 rfl rfl)
theorem dX0_asksOps_43 : decode cX0_asksOps 43 = .ok (.iconst 1, 1) := dk_4 (dk_at dksX0_asksOps_1 20 rfl rfl)
theorem dX0_asksOps_44 : decode cX0_asksOps 44 = .ok (.goto 4, 3) := dk_167 0 4 (dk_at dksX0_asksOps_1 21 rfl rfl)
theorem dX0_asksOps_47 : decode cX0_asksOps 47 = .ok (.iconst 0, 1) := dk_3 (dk_at dksX0_asksOps_2 0 rfl rfl)
theorem dX0_asksOps_48 : decode cX0_asksOps 48 = .ok (.iconst 3, 1) := dk_6 (dk_at dksX0_asksOps_2 1 rfl rfl)
theorem dX0_asksOps_49 : decode cX0_asksOps 49 = .ok (.invokevirtual 254, 3) := dk_182 0 254 (dk_at dksX0_asksOps_2 2 rfl rfl)
theorem dX0_asksOps_52 : decode cX0_asksOps 52 = .ok (.ifCond .eq 7, 3) := dk_153 0 7 (dk_at dksX0_asksOps_2 5 rfl rfl)
theorem dX0_asksOps_55 : decode cX0_asksOps 55 = .ok (.iconst 1, 1) := dk_4 (dk_at dksX0_asksOps_2 8 rfl rfl)
theorem dX0_asksOps_56 : decode cX0_asksOps 56 = .ok (.goto 4, 3) := dk_167 0 4 (dk_at dksX0_asksOps_2 9 rfl rfl)
theorem dX0_asksOps_59 : decode cX0_asksOps 59 = .ok (.iconst 0, 1) := dk_3 (dk_at dksX0_asksOps_2 12 rfl rfl)
theorem dX0_asksOps_60 : decode cX0_asksOps 60 = .ok (.ireturn, 1) := dk_172 (dk_at dksX0_asksOps_2 13 rfl rfl)
abbrev cX0_inverse : ByteArray := prog_1_method_49_code
def yX0_inverse : MethodName := ⟨RX0, "inverse", "(I)I"⟩
def dkwX0_inverse_0 : List UInt8 := [42, 27, 4, 182, 1, 93, 153, 0, 15, 42, 180, 0, 148, 180, 1, 135, 27, 46, 167, 0, 4, 2, 172]
abbrev dktX0_inverse_0 : List UInt8 := dkwX0_inverse_0 ++ []
theorem dksX0_inverse_0 : cX0_inverse.data.toList.drop 0 = dktX0_inverse_0 := by decide +kernel
theorem dX0_inverse_0 : decode cX0_inverse 0 = .ok (.aload_n 0, 1) := dk_42 (dk_at dksX0_inverse_0 0 rfl rfl)
theorem dX0_inverse_1 : decode cX0_inverse 1 = .ok (.iload_n 1, 1) := dk_27 (dk_at dksX0_inverse_0 1 rfl rfl)
theorem dX0_inverse_2 : decode cX0_inverse 2 = .ok (.iconst 1, 1) := dk_4 (dk_at dksX0_inverse_0 2 rfl rfl)
theorem dX0_inverse_3 : decode cX0_inverse 3 = .ok (.invokevirtual 349, 3) := dk_182 1 93 (dk_at dksX0_inverse_0 3 rfl rfl)
theorem dX0_inverse_6 : decode cX0_inverse 6 = .ok (.ifCond .eq 15, 3) := dk_153 0 15 (dk_at dksX0_inverse_0 6 rfl rfl)
theorem dX0_inverse_9 : decode cX0_inverse 9 = .ok (.aload_n 0, 1) := dk_42 (dk_at dksX0_inverse_0 9 rfl rfl)
theorem dX0_inverse_10 : decode cX0_inverse 10 = .ok (.getfield 148, 3) := dk_180 0 148 (dk_at dksX0_inverse_0 10 rfl rfl)
theorem dX0_inverse_13 : decode cX0_inverse 13 = .ok (.getfield 391, 3) := dk_180 1 135 (dk_at dksX0_inverse_0 13 rfl rfl)
theorem dX0_inverse_16 : decode cX0_inverse 16 = .ok (.iload_n 1, 1) := dk_27 (dk_at dksX0_inverse_0 16 rfl rfl)
theorem dX0_inverse_17 : decode cX0_inverse 17 = .ok (.iaload, 1) := dk_46 (dk_at dksX0_inverse_0 17 rfl rfl)
theorem dX0_inverse_18 : decode cX0_inverse 18 = .ok (.goto 4, 3) := dk_167 0 4 (dk_at dksX0_inverse_0 18 rfl rfl)
theorem dX0_inverse_21 : decode cX0_inverse 21 = .ok (.iconst (-1), 1) := dk_2 (dk_at dksX0_inverse_0 21 rfl rfl)
theorem dX0_inverse_22 : decode cX0_inverse 22 = .ok (.ireturn, 1) := dk_172 (dk_at dksX0_inverse_0 22 rfl rfl)
abbrev cX0_period : ByteArray := prog_1_method_50_code
def yX0_period : MethodName := ⟨RX0, "period", "(I)I"⟩
def dkwX0_period_0 : List UInt8 := [42, 27, 4, 182, 1, 93, 153, 0, 14, 42, 180, 0, 148, 27, 182, 1, 138, 167, 0, 4, 2, 172]
abbrev dktX0_period_0 : List UInt8 := dkwX0_period_0 ++ []
theorem dksX0_period_0 : cX0_period.data.toList.drop 0 = dktX0_period_0 := by decide +kernel
theorem dX0_period_0 : decode cX0_period 0 = .ok (.aload_n 0, 1) := dk_42 (dk_at dksX0_period_0 0 rfl rfl)
theorem dX0_period_1 : decode cX0_period 1 = .ok (.iload_n 1, 1) := dk_27 (dk_at dksX0_period_0 1 rfl rfl)
theorem dX0_period_2 : decode cX0_period 2 = .ok (.iconst 1, 1) := dk_4 (dk_at dksX0_period_0 2 rfl rfl)
theorem dX0_period_3 : decode cX0_period 3 = .ok (.invokevirtual 349, 3) := dk_182 1 93 (dk_at dksX0_period_0 3 rfl rfl)
theorem dX0_period_6 : decode cX0_period 6 = .ok (.ifCond .eq 14, 3) := dk_153 0 14 (dk_at dksX0_period_0 6 rfl rfl)
theorem dX0_period_9 : decode cX0_period 9 = .ok (.aload_n 0, 1) := dk_42 (dk_at dksX0_period_0 9 rfl rfl)
theorem dX0_period_10 : decode cX0_period 10 = .ok (.getfield 148, 3) := dk_180 0 148 (dk_at dksX0_period_0 10 rfl rfl)
theorem dX0_period_13 : decode cX0_period 13 = .ok (.iload_n 1, 1) := dk_27 (dk_at dksX0_period_0 13 rfl rfl)
theorem dX0_period_14 : decode cX0_period 14 = .ok (.invokevirtual 394, 3) := dk_182 1 138 (dk_at dksX0_period_0 14 rfl rfl)
theorem dX0_period_17 : decode cX0_period 17 = .ok (.goto 4, 3) := dk_167 0 4 (dk_at dksX0_period_0 17 rfl rfl)
theorem dX0_period_20 : decode cX0_period 20 = .ok (.iconst (-1), 1) := dk_2 (dk_at dksX0_period_0 20 rfl rfl)
theorem dX0_period_21 : decode cX0_period 21 = .ok (.ireturn, 1) := dk_172 (dk_at dksX0_period_0 21 rfl rfl)
abbrev cX0_power : ByteArray := prog_1_method_51_code
def yX0_power : MethodName := ⟨RX0, "power", "(II)I"⟩
def dkwX0_power_2 : List UInt8 := [29, 172]
abbrev dktX0_power_2 : List UInt8 := dkwX0_power_2 ++ []
def dkwX0_power_1 : List UInt8 := [21, 4, 28, 162, 0, 21, 42, 180, 0, 148, 180, 1, 132, 29, 50, 27, 46, 62, 132, 4, 1, 167, 255, 235]
abbrev dktX0_power_1 : List UInt8 := dkwX0_power_1 ++ dktX0_power_2
def dkwX0_power_0 : List UInt8 := [42, 27, 28, 133, 9, 20, 1, 141, 184, 0, 194, 182, 1, 93, 154, 0, 5, 2, 172, 3, 62, 3, 54, 4]
abbrev dktX0_power_0 : List UInt8 := dkwX0_power_0 ++ dktX0_power_1
theorem dksX0_power_0 : cX0_power.data.toList.drop 0 = dktX0_power_0 := by decide +kernel
theorem dksX0_power_1 : cX0_power.data.toList.drop 24 = dktX0_power_1 := dk_seg dksX0_power_0 24 rfl rfl
theorem dksX0_power_2 : cX0_power.data.toList.drop 48 = dktX0_power_2 := dk_seg dksX0_power_1 24 rfl rfl
theorem dX0_power_0 : decode cX0_power 0 = .ok (.aload_n 0, 1) := dk_42 (dk_at dksX0_power_0 0 rfl rfl)
theorem dX0_power_1 : decode cX0_power 1 = .ok (.iload_n 1, 1) := dk_27 (dk_at dksX0_power_0 1 rfl rfl)
theorem dX0_power_2 : decode cX0_power 2 = .ok (.iload_n 2, 1) := dk_28 (dk_at dksX0_power_0 2 rfl rfl)
theorem dX0_power_3 : decode cX0_power 3 = .ok (.i2l, 1) := dk_133 (dk_at dksX0_power_0 3 rfl rfl)
theorem dX0_power_4 : decode cX0_power 4 = .ok (.lconst 0, 1) := dk_9 (dk_at dksX0_power_0 4 rfl rfl)
theorem dX0_power_5 : decode cX0_power 5 = .ok (.ldc2_w 397, 3) := dk_20 1 141 (dk_at dksX0_power_0 5 rfl rfl)
theorem dX0_power_8 : decode cX0_power 8 = .ok (.invokestatic 194, 3) := dk_184 0 194 (dk_at dksX0_power_0 8 rfl rfl)
theorem dX0_power_11 : decode cX0_power 11 = .ok (.invokevirtual 349, 3) := dk_182 1 93 (dk_at dksX0_power_0 11 rfl rfl)
theorem dX0_power_14 : decode cX0_power 14 = .ok (.ifCond .ne 5, 3) := dk_154 0 5 (dk_at dksX0_power_0 14 rfl rfl)
theorem dX0_power_17 : decode cX0_power 17 = .ok (.iconst (-1), 1) := dk_2 (dk_at dksX0_power_0 17 rfl rfl)
theorem dX0_power_18 : decode cX0_power 18 = .ok (.ireturn, 1) := dk_172 (dk_at dksX0_power_0 18 rfl rfl)
theorem dX0_power_19 : decode cX0_power 19 = .ok (.iconst 0, 1) := dk_3 (dk_at dksX0_power_0 19 rfl rfl)
theorem dX0_power_20 : decode cX0_power 20 = .ok (.istore_n 3, 1) := dk_62 (dk_at dksX0_power_0 20 rfl rfl)
theorem dX0_power_21 : decode cX0_power 21 = .ok (.iconst 0, 1) := dk_3 (dk_at dksX0_power_0 21 rfl rfl)
theorem dX0_power_22 : decode cX0_power 22 = .ok (.istore 4, 2) := dk_54 4 (dk_at dksX0_power_0 22 rfl rfl)
theorem dX0_power_24 : decode cX0_power 24 = .ok (.iload 4, 2) := dk_21 4 (dk_at dksX0_power_1 0 rfl rfl)
theorem dX0_power_26 : decode cX0_power 26 = .ok (.iload_n 2, 1) := dk_28 (dk_at dksX0_power_1 2 rfl rfl)
theorem dX0_power_27 : decode cX0_power 27 = .ok (.if_icmp .ge 21, 3) := dk_162 0 21 (dk_at dksX0_power_1 3 rfl rfl)
theorem dX0_power_30 : decode cX0_power 30 = .ok (.aload_n 0, 1) := dk_42 (dk_at dksX0_power_1 6 rfl rfl)
theorem dX0_power_31 : decode cX0_power 31 = .ok (.getfield 148, 3) := dk_180 0 148 (dk_at dksX0_power_1 7 rfl rfl)
theorem dX0_power_34 : decode cX0_power 34 = .ok (.getfield 388, 3) := dk_180 1 132 (dk_at dksX0_power_1 10 rfl rfl)
theorem dX0_power_37 : decode cX0_power 37 = .ok (.iload_n 3, 1) := dk_29 (dk_at dksX0_power_1 13 rfl rfl)
theorem dX0_power_38 : decode cX0_power 38 = .ok (.aaload, 1) := dk_50 (dk_at dksX0_power_1 14 rfl rfl)
theorem dX0_power_39 : decode cX0_power 39 = .ok (.iload_n 1, 1) := dk_27 (dk_at dksX0_power_1 15 rfl rfl)
theorem dX0_power_40 : decode cX0_power 40 = .ok (.iaload, 1) := dk_46 (dk_at dksX0_power_1 16 rfl rfl)
theorem dX0_power_41 : decode cX0_power 41 = .ok (.istore_n 3, 1) := dk_62 (dk_at dksX0_power_1 17 rfl rfl)
theorem dX0_power_42 : decode cX0_power 42 = .ok (.iinc 4 1, 3) := dk_132 4 1 (dk_at dksX0_power_1 18 rfl rfl)
theorem dX0_power_45 : decode cX0_power 45 = .ok (.goto (-21), 3) := dk_167 255 235 (dk_at dksX0_power_1 21 rfl rfl)
theorem dX0_power_48 : decode cX0_power 48 = .ok (.iload_n 3, 1) := dk_29 (dk_at dksX0_power_2 0 rfl rfl)
theorem dX0_power_49 : decode cX0_power 49 = .ok (.ireturn, 1) := dk_172 (dk_at dksX0_power_2 1 rfl rfl)
abbrev cX0_fixed : ByteArray := prog_1_method_52_code
def yX0_fixed : MethodName := ⟨RX0, "fixed", "(I)I"⟩
def dkwX0_fixed_0 : List UInt8 := [42, 27, 4, 182, 1, 93, 153, 0, 14, 42, 27, 182, 1, 97, 182, 1, 143, 167, 0, 4, 2, 172]
abbrev dktX0_fixed_0 : List UInt8 := dkwX0_fixed_0 ++ []
theorem dksX0_fixed_0 : cX0_fixed.data.toList.drop 0 = dktX0_fixed_0 := by decide +kernel
theorem dX0_fixed_0 : decode cX0_fixed 0 = .ok (.aload_n 0, 1) := dk_42 (dk_at dksX0_fixed_0 0 rfl rfl)
theorem dX0_fixed_1 : decode cX0_fixed 1 = .ok (.iload_n 1, 1) := dk_27 (dk_at dksX0_fixed_0 1 rfl rfl)
theorem dX0_fixed_2 : decode cX0_fixed 2 = .ok (.iconst 1, 1) := dk_4 (dk_at dksX0_fixed_0 2 rfl rfl)
theorem dX0_fixed_3 : decode cX0_fixed 3 = .ok (.invokevirtual 349, 3) := dk_182 1 93 (dk_at dksX0_fixed_0 3 rfl rfl)
theorem dX0_fixed_6 : decode cX0_fixed 6 = .ok (.ifCond .eq 14, 3) := dk_153 0 14 (dk_at dksX0_fixed_0 6 rfl rfl)
theorem dX0_fixed_9 : decode cX0_fixed 9 = .ok (.aload_n 0, 1) := dk_42 (dk_at dksX0_fixed_0 9 rfl rfl)
theorem dX0_fixed_10 : decode cX0_fixed 10 = .ok (.iload_n 1, 1) := dk_27 (dk_at dksX0_fixed_0 10 rfl rfl)
theorem dX0_fixed_11 : decode cX0_fixed 11 = .ok (.invokevirtual 353, 3) := dk_182 1 97 (dk_at dksX0_fixed_0 11 rfl rfl)
theorem dX0_fixed_14 : decode cX0_fixed 14 = .ok (.invokevirtual 399, 3) := dk_182 1 143 (dk_at dksX0_fixed_0 14 rfl rfl)
theorem dX0_fixed_17 : decode cX0_fixed 17 = .ok (.goto 4, 3) := dk_167 0 4 (dk_at dksX0_fixed_0 17 rfl rfl)
theorem dX0_fixed_20 : decode cX0_fixed 20 = .ok (.iconst (-1), 1) := dk_2 (dk_at dksX0_fixed_0 20 rfl rfl)
theorem dX0_fixed_21 : decode cX0_fixed 21 = .ok (.ireturn, 1) := dk_172 (dk_at dksX0_fixed_0 21 rfl rfl)
abbrev cX0_cycles : ByteArray := prog_1_method_53_code
def yX0_cycles : MethodName := ⟨RX0, "cycles", "(I)I"⟩
def dkwX0_cycles_1 : List UInt8 := [2, 172]
abbrev dktX0_cycles_1 : List UInt8 := dkwX0_cycles_1 ++ []
def dkwX0_cycles_0 : List UInt8 := [42, 27, 4, 182, 1, 93, 153, 0, 18, 42, 27, 182, 1, 97, 42, 180, 0, 170, 182, 1, 146, 167, 0, 4]
abbrev dktX0_cycles_0 : List UInt8 := dkwX0_cycles_0 ++ dktX0_cycles_1
theorem dksX0_cycles_0 : cX0_cycles.data.toList.drop 0 = dktX0_cycles_0 := by decide +kernel
theorem dksX0_cycles_1 : cX0_cycles.data.toList.drop 24 = dktX0_cycles_1 := dk_seg dksX0_cycles_0 24 rfl rfl
theorem dX0_cycles_0 : decode cX0_cycles 0 = .ok (.aload_n 0, 1) := dk_42 (dk_at dksX0_cycles_0 0 rfl rfl)
theorem dX0_cycles_1 : decode cX0_cycles 1 = .ok (.iload_n 1, 1) := dk_27 (dk_at dksX0_cycles_0 1 rfl rfl)
theorem dX0_cycles_2 : decode cX0_cycles 2 = .ok (.iconst 1, 1) := dk_4 (dk_at dksX0_cycles_0 2 rfl rfl)
theorem dX0_cycles_3 : decode cX0_cycles 3 = .ok (.invokevirtual 349, 3) := dk_182 1 93 (dk_at dksX0_cycles_0 3 rfl rfl)
theorem dX0_cycles_6 : decode cX0_cycles 6 = .ok (.ifCond .eq 18, 3) := dk_153 0 18 (dk_at dksX0_cycles_0 6 rfl rfl)
theorem dX0_cycles_9 : decode cX0_cycles 9 = .ok (.aload_n 0, 1) := dk_42 (dk_at dksX0_cycles_0 9 rfl rfl)
theorem dX0_cycles_10 : decode cX0_cycles 10 = .ok (.iload_n 1, 1) := dk_27 (dk_at dksX0_cycles_0 10 rfl rfl)
theorem dX0_cycles_11 : decode cX0_cycles 11 = .ok (.invokevirtual 353, 3) := dk_182 1 97 (dk_at dksX0_cycles_0 11 rfl rfl)
theorem dX0_cycles_14 : decode cX0_cycles 14 = .ok (.aload_n 0, 1) := dk_42 (dk_at dksX0_cycles_0 14 rfl rfl)
theorem dX0_cycles_15 : decode cX0_cycles 15 = .ok (.getfield 170, 3) := dk_180 0 170 (dk_at dksX0_cycles_0 15 rfl rfl)
theorem dX0_cycles_18 : decode cX0_cycles 18 = .ok (.invokevirtual 402, 3) := dk_182 1 146 (dk_at dksX0_cycles_0 18 rfl rfl)
theorem dX0_cycles_21 : decode cX0_cycles 21 = .ok (.goto 4, 3) := dk_167 0 4 (dk_at dksX0_cycles_0 21 rfl rfl)
theorem dX0_cycles_24 : decode cX0_cycles 24 = .ok (.iconst (-1), 1) := dk_2 (dk_at dksX0_cycles_1 0 rfl rfl)
theorem dX0_cycles_25 : decode cX0_cycles 25 = .ok (.ireturn, 1) := dk_172 (dk_at dksX0_cycles_1 1 rfl rfl)
abbrev cX0_find : ByteArray := prog_1_method_55_code
def yX0_find : MethodName := ⟨RX0, "find", "(II)I"⟩
def dkwX0_find_2 : List UInt8 := [160, 0, 5, 29, 172, 132, 3, 1, 167, 255, 216, 42, 6, 181, 0, 177, 2, 172]
abbrev dktX0_find_2 : List UInt8 := dkwX0_find_2 ++ []
def dkwX0_find_1 : List UInt8 := [162, 0, 35, 42, 29, 182, 1, 97, 180, 1, 155, 27, 160, 0, 17, 42, 29, 182, 1, 97, 180, 1, 109, 28]
abbrev dktX0_find_1 : List UInt8 := dkwX0_find_1 ++ dktX0_find_2
def dkwX0_find_0 : List UInt8 := [42, 27, 28, 184, 1, 152, 182, 1, 85, 154, 0, 5, 2, 172, 3, 62, 29, 42, 180, 0, 148, 180, 1, 88]
abbrev dktX0_find_0 : List UInt8 := dkwX0_find_0 ++ dktX0_find_1
theorem dksX0_find_0 : cX0_find.data.toList.drop 0 = dktX0_find_0 := by decide +kernel
theorem dksX0_find_1 : cX0_find.data.toList.drop 24 = dktX0_find_1 := dk_seg dksX0_find_0 24 rfl rfl
theorem dksX0_find_2 : cX0_find.data.toList.drop 48 = dktX0_find_2 := dk_seg dksX0_find_1 24 rfl rfl
theorem dX0_find_0 : decode cX0_find 0 = .ok (.aload_n 0, 1) := dk_42 (dk_at dksX0_find_0 0 rfl rfl)
theorem dX0_find_1 : decode cX0_find 1 = .ok (.iload_n 1, 1) := dk_27 (dk_at dksX0_find_0 1 rfl rfl)
theorem dX0_find_2 : decode cX0_find 2 = .ok (.iload_n 2, 1) := dk_28 (dk_at dksX0_find_0 2 rfl rfl)
theorem dX0_find_3 : decode cX0_find 3 = .ok (.invokestatic 408, 3) := dk_184 1 152 (dk_at dksX0_find_0 3 rfl rfl)
theorem dX0_find_6 : decode cX0_find 6 = .ok (.invokevirtual 341, 3) := dk_182 1 85 (dk_at dksX0_find_0 6 rfl rfl)
theorem dX0_find_9 : decode cX0_find 9 = .ok (.ifCond .ne 5, 3) := dk_154 0 5 (dk_at dksX0_find_0 9 rfl rfl)
theorem dX0_find_12 : decode cX0_find 12 = .ok (.iconst (-1), 1) := dk_2 (dk_at dksX0_find_0 12 rfl rfl)
theorem dX0_find_13 : decode cX0_find 13 = .ok (.ireturn, 1) := dk_172 (dk_at dksX0_find_0 13 rfl rfl)
theorem dX0_find_14 : decode cX0_find 14 = .ok (.iconst 0, 1) := dk_3 (dk_at dksX0_find_0 14 rfl rfl)
theorem dX0_find_15 : decode cX0_find 15 = .ok (.istore_n 3, 1) := dk_62 (dk_at dksX0_find_0 15 rfl rfl)
theorem dX0_find_16 : decode cX0_find 16 = .ok (.iload_n 3, 1) := dk_29 (dk_at dksX0_find_0 16 rfl rfl)
theorem dX0_find_17 : decode cX0_find 17 = .ok (.aload_n 0, 1) := dk_42 (dk_at dksX0_find_0 17 rfl rfl)
theorem dX0_find_18 : decode cX0_find 18 = .ok (.getfield 148, 3) := dk_180 0 148 (dk_at dksX0_find_0 18 rfl rfl)
theorem dX0_find_21 : decode cX0_find 21 = .ok (.getfield 344, 3) := dk_180 1 88 (dk_at dksX0_find_0 21 rfl rfl)
theorem dX0_find_24 : decode cX0_find 24 = .ok (.if_icmp .ge 35, 3) := dk_162 0 35 (dk_at dksX0_find_1 0 rfl rfl)
theorem dX0_find_27 : decode cX0_find 27 = .ok (.aload_n 0, 1) := dk_42 (dk_at dksX0_find_1 3 rfl rfl)
theorem dX0_find_28 : decode cX0_find 28 = .ok (.iload_n 3, 1) := dk_29 (dk_at dksX0_find_1 4 rfl rfl)
theorem dX0_find_29 : decode cX0_find 29 = .ok (.invokevirtual 353, 3) := dk_182 1 97 (dk_at dksX0_find_1 5 rfl rfl)
theorem dX0_find_32 : decode cX0_find 32 = .ok (.getfield 411, 3) := dk_180 1 155 (dk_at dksX0_find_1 8 rfl rfl)
theorem dX0_find_35 : decode cX0_find 35 = .ok (.iload_n 1, 1) := dk_27 (dk_at dksX0_find_1 11 rfl rfl)
theorem dX0_find_36 : decode cX0_find 36 = .ok (.if_icmp .ne 17, 3) := dk_160 0 17 (dk_at dksX0_find_1 12 rfl rfl)
theorem dX0_find_39 : decode cX0_find 39 = .ok (.aload_n 0, 1) := dk_42 (dk_at dksX0_find_1 15 rfl rfl)
theorem dX0_find_40 : decode cX0_find 40 = .ok (.iload_n 3, 1) := dk_29 (dk_at dksX0_find_1 16 rfl rfl)
theorem dX0_find_41 : decode cX0_find 41 = .ok (.invokevirtual 353, 3) := dk_182 1 97 (dk_at dksX0_find_1 17 rfl rfl)
theorem dX0_find_44 : decode cX0_find 44 = .ok (.getfield 365, 3) := dk_180 1 109 (dk_at dksX0_find_1 20 rfl rfl)
theorem dX0_find_47 : decode cX0_find 47 = .ok (.iload_n 2, 1) := dk_28 (dk_at dksX0_find_1 23 rfl rfl)
theorem dX0_find_48 : decode cX0_find 48 = .ok (.if_icmp .ne 5, 3) := dk_160 0 5 (dk_at dksX0_find_2 0 rfl rfl)
theorem dX0_find_51 : decode cX0_find 51 = .ok (.iload_n 3, 1) := dk_29 (dk_at dksX0_find_2 3 rfl rfl)
theorem dX0_find_52 : decode cX0_find 52 = .ok (.ireturn, 1) := dk_172 (dk_at dksX0_find_2 4 rfl rfl)
theorem dX0_find_53 : decode cX0_find 53 = .ok (.iinc 3 1, 3) := dk_132 3 1 (dk_at dksX0_find_2 5 rfl rfl)
theorem dX0_find_56 : decode cX0_find 56 = .ok (.goto (-40), 3) := dk_167 255 216 (dk_at dksX0_find_2 8 rfl rfl)
theorem dX0_find_59 : decode cX0_find 59 = .ok (.aload_n 0, 1) := dk_42 (dk_at dksX0_find_2 11 rfl rfl)
theorem dX0_find_60 : decode cX0_find 60 = .ok (.iconst 3, 1) := dk_6 (dk_at dksX0_find_2 12 rfl rfl)
theorem dX0_find_61 : decode cX0_find 61 = .ok (.putfield 177, 3) := dk_181 0 177 (dk_at dksX0_find_2 13 rfl rfl)
theorem dX0_find_64 : decode cX0_find 64 = .ok (.iconst (-1), 1) := dk_2 (dk_at dksX0_find_2 16 rfl rfl)
theorem dX0_find_65 : decode cX0_find 65 = .ok (.ireturn, 1) := dk_172 (dk_at dksX0_find_2 17 rfl rfl)
abbrev cX0_isSort : ByteArray := prog_1_method_54_code
def yX0_isSort : MethodName := ⟨RX0, "isSort", "(II)Z"⟩
def dkwX0_isSort_1 : List UInt8 := [4, 167, 0, 4, 3, 172]
abbrev dktX0_isSort_1 : List UInt8 := dkwX0_isSort_1 ++ []
def dkwX0_isSort_0 : List UInt8 := [26, 4, 159, 0, 8, 26, 2, 160, 0, 21, 27, 133, 20, 1, 150, 20, 0, 248, 184, 0, 194, 153, 0, 7]
abbrev dktX0_isSort_0 : List UInt8 := dkwX0_isSort_0 ++ dktX0_isSort_1
theorem dksX0_isSort_0 : cX0_isSort.data.toList.drop 0 = dktX0_isSort_0 := by decide +kernel
theorem dksX0_isSort_1 : cX0_isSort.data.toList.drop 24 = dktX0_isSort_1 := dk_seg dksX0_isSort_0 24 rfl rfl
theorem dX0_isSort_0 : decode cX0_isSort 0 = .ok (.iload_n 0, 1) := dk_26 (dk_at dksX0_isSort_0 0 rfl rfl)
theorem dX0_isSort_1 : decode cX0_isSort 1 = .ok (.iconst 1, 1) := dk_4 (dk_at dksX0_isSort_0 1 rfl rfl)
theorem dX0_isSort_2 : decode cX0_isSort 2 = .ok (.if_icmp .eq 8, 3) := dk_159 0 8 (dk_at dksX0_isSort_0 2 rfl rfl)
theorem dX0_isSort_5 : decode cX0_isSort 5 = .ok (.iload_n 0, 1) := dk_26 (dk_at dksX0_isSort_0 5 rfl rfl)
theorem dX0_isSort_6 : decode cX0_isSort 6 = .ok (.iconst (-1), 1) := dk_2 (dk_at dksX0_isSort_0 6 rfl rfl)
theorem dX0_isSort_7 : decode cX0_isSort 7 = .ok (.if_icmp .ne 21, 3) := dk_160 0 21 (dk_at dksX0_isSort_0 7 rfl rfl)
theorem dX0_isSort_10 : decode cX0_isSort 10 = .ok (.iload_n 1, 1) := dk_27 (dk_at dksX0_isSort_0 10 rfl rfl)
theorem dX0_isSort_11 : decode cX0_isSort 11 = .ok (.i2l, 1) := dk_133 (dk_at dksX0_isSort_0 11 rfl rfl)
theorem dX0_isSort_12 : decode cX0_isSort 12 = .ok (.ldc2_w 406, 3) := dk_20 1 150 (dk_at dksX0_isSort_0 12 rfl rfl)
theorem dX0_isSort_15 : decode cX0_isSort 15 = .ok (.ldc2_w 248, 3) := dk_20 0 248 (dk_at dksX0_isSort_0 15 rfl rfl)
theorem dX0_isSort_18 : decode cX0_isSort 18 = .ok (.invokestatic 194, 3) := dk_184 0 194 (dk_at dksX0_isSort_0 18 rfl rfl)
theorem dX0_isSort_21 : decode cX0_isSort 21 = .ok (.ifCond .eq 7, 3) := dk_153 0 7 (dk_at dksX0_isSort_0 21 rfl rfl)
theorem dX0_isSort_24 : decode cX0_isSort 24 = .ok (.iconst 1, 1) := dk_4 (dk_at dksX0_isSort_1 0 rfl rfl)
theorem dX0_isSort_25 : decode cX0_isSort 25 = .ok (.goto 4, 3) := dk_167 0 4 (dk_at dksX0_isSort_1 1 rfl rfl)
theorem dX0_isSort_28 : decode cX0_isSort 28 = .ok (.iconst 0, 1) := dk_3 (dk_at dksX0_isSort_1 4 rfl rfl)
theorem dX0_isSort_29 : decode cX0_isSort 29 = .ok (.ireturn, 1) := dk_172 (dk_at dksX0_isSort_1 5 rfl rfl)
abbrev cX0_count : ByteArray := prog_1_method_56_code
def yX0_count : MethodName := ⟨RX0, "count", "(II)I"⟩
def dkwX0_count_1 : List UInt8 := [2, 172]
abbrev dktX0_count_1 : List UInt8 := dkwX0_count_1 ++ []
def dkwX0_count_0 : List UInt8 := [42, 27, 28, 184, 1, 152, 182, 1, 85, 153, 0, 15, 42, 180, 0, 148, 27, 28, 182, 1, 157, 167, 0, 4]
abbrev dktX0_count_0 : List UInt8 := dkwX0_count_0 ++ dktX0_count_1
theorem dksX0_count_0 : cX0_count.data.toList.drop 0 = dktX0_count_0 := by decide +kernel
theorem dksX0_count_1 : cX0_count.data.toList.drop 24 = dktX0_count_1 := dk_seg dksX0_count_0 24 rfl rfl
theorem dX0_count_0 : decode cX0_count 0 = .ok (.aload_n 0, 1) := dk_42 (dk_at dksX0_count_0 0 rfl rfl)
theorem dX0_count_1 : decode cX0_count 1 = .ok (.iload_n 1, 1) := dk_27 (dk_at dksX0_count_0 1 rfl rfl)
theorem dX0_count_2 : decode cX0_count 2 = .ok (.iload_n 2, 1) := dk_28 (dk_at dksX0_count_0 2 rfl rfl)
theorem dX0_count_3 : decode cX0_count 3 = .ok (.invokestatic 408, 3) := dk_184 1 152 (dk_at dksX0_count_0 3 rfl rfl)
theorem dX0_count_6 : decode cX0_count 6 = .ok (.invokevirtual 341, 3) := dk_182 1 85 (dk_at dksX0_count_0 6 rfl rfl)
theorem dX0_count_9 : decode cX0_count 9 = .ok (.ifCond .eq 15, 3) := dk_153 0 15 (dk_at dksX0_count_0 9 rfl rfl)
theorem dX0_count_12 : decode cX0_count 12 = .ok (.aload_n 0, 1) := dk_42 (dk_at dksX0_count_0 12 rfl rfl)
theorem dX0_count_13 : decode cX0_count 13 = .ok (.getfield 148, 3) := dk_180 0 148 (dk_at dksX0_count_0 13 rfl rfl)
theorem dX0_count_16 : decode cX0_count 16 = .ok (.iload_n 1, 1) := dk_27 (dk_at dksX0_count_0 16 rfl rfl)
theorem dX0_count_17 : decode cX0_count 17 = .ok (.iload_n 2, 1) := dk_28 (dk_at dksX0_count_0 17 rfl rfl)
theorem dX0_count_18 : decode cX0_count 18 = .ok (.invokevirtual 413, 3) := dk_182 1 157 (dk_at dksX0_count_0 18 rfl rfl)
theorem dX0_count_21 : decode cX0_count 21 = .ok (.goto 4, 3) := dk_167 0 4 (dk_at dksX0_count_0 21 rfl rfl)
theorem dX0_count_24 : decode cX0_count 24 = .ok (.iconst (-1), 1) := dk_2 (dk_at dksX0_count_1 0 rfl rfl)
theorem dX0_count_25 : decode cX0_count 25 = .ok (.ireturn, 1) := dk_172 (dk_at dksX0_count_1 1 rfl rfl)
abbrev cX0_classes : ByteArray := prog_1_method_58_code
def yX0_classes : MethodName := ⟨RX0, "classes", "()I"⟩
def dkwX0_classes_0 : List UInt8 := [42, 4, 182, 1, 85, 153, 0, 13, 42, 180, 0, 148, 180, 1, 160, 167, 0, 4, 2, 172]
abbrev dktX0_classes_0 : List UInt8 := dkwX0_classes_0 ++ []
theorem dksX0_classes_0 : cX0_classes.data.toList.drop 0 = dktX0_classes_0 := by decide +kernel
theorem dX0_classes_0 : decode cX0_classes 0 = .ok (.aload_n 0, 1) := dk_42 (dk_at dksX0_classes_0 0 rfl rfl)
theorem dX0_classes_1 : decode cX0_classes 1 = .ok (.iconst 1, 1) := dk_4 (dk_at dksX0_classes_0 1 rfl rfl)
theorem dX0_classes_2 : decode cX0_classes 2 = .ok (.invokevirtual 341, 3) := dk_182 1 85 (dk_at dksX0_classes_0 2 rfl rfl)
theorem dX0_classes_5 : decode cX0_classes 5 = .ok (.ifCond .eq 13, 3) := dk_153 0 13 (dk_at dksX0_classes_0 5 rfl rfl)
theorem dX0_classes_8 : decode cX0_classes 8 = .ok (.aload_n 0, 1) := dk_42 (dk_at dksX0_classes_0 8 rfl rfl)
theorem dX0_classes_9 : decode cX0_classes 9 = .ok (.getfield 148, 3) := dk_180 0 148 (dk_at dksX0_classes_0 9 rfl rfl)
theorem dX0_classes_12 : decode cX0_classes 12 = .ok (.getfield 416, 3) := dk_180 1 160 (dk_at dksX0_classes_0 12 rfl rfl)
theorem dX0_classes_15 : decode cX0_classes 15 = .ok (.goto 4, 3) := dk_167 0 4 (dk_at dksX0_classes_0 15 rfl rfl)
theorem dX0_classes_18 : decode cX0_classes 18 = .ok (.iconst (-1), 1) := dk_2 (dk_at dksX0_classes_0 18 rfl rfl)
theorem dX0_classes_19 : decode cX0_classes 19 = .ok (.ireturn, 1) := dk_172 (dk_at dksX0_classes_0 19 rfl rfl)
abbrev cX0_classOf : ByteArray := prog_1_method_59_code
def yX0_classOf : MethodName := ⟨RX0, "classOf", "(I)I"⟩
def dkwX0_classOf_0 : List UInt8 := [42, 27, 4, 182, 1, 93, 153, 0, 15, 42, 180, 0, 148, 180, 1, 163, 27, 46, 167, 0, 4, 2, 172]
abbrev dktX0_classOf_0 : List UInt8 := dkwX0_classOf_0 ++ []
theorem dksX0_classOf_0 : cX0_classOf.data.toList.drop 0 = dktX0_classOf_0 := by decide +kernel
theorem dX0_classOf_0 : decode cX0_classOf 0 = .ok (.aload_n 0, 1) := dk_42 (dk_at dksX0_classOf_0 0 rfl rfl)
theorem dX0_classOf_1 : decode cX0_classOf 1 = .ok (.iload_n 1, 1) := dk_27 (dk_at dksX0_classOf_0 1 rfl rfl)
theorem dX0_classOf_2 : decode cX0_classOf 2 = .ok (.iconst 1, 1) := dk_4 (dk_at dksX0_classOf_0 2 rfl rfl)
theorem dX0_classOf_3 : decode cX0_classOf 3 = .ok (.invokevirtual 349, 3) := dk_182 1 93 (dk_at dksX0_classOf_0 3 rfl rfl)
theorem dX0_classOf_6 : decode cX0_classOf 6 = .ok (.ifCond .eq 15, 3) := dk_153 0 15 (dk_at dksX0_classOf_0 6 rfl rfl)
theorem dX0_classOf_9 : decode cX0_classOf 9 = .ok (.aload_n 0, 1) := dk_42 (dk_at dksX0_classOf_0 9 rfl rfl)
theorem dX0_classOf_10 : decode cX0_classOf 10 = .ok (.getfield 148, 3) := dk_180 0 148 (dk_at dksX0_classOf_0 10 rfl rfl)
theorem dX0_classOf_13 : decode cX0_classOf 13 = .ok (.getfield 419, 3) := dk_180 1 163 (dk_at dksX0_classOf_0 13 rfl rfl)
theorem dX0_classOf_16 : decode cX0_classOf 16 = .ok (.iload_n 1, 1) := dk_27 (dk_at dksX0_classOf_0 16 rfl rfl)
theorem dX0_classOf_17 : decode cX0_classOf 17 = .ok (.iaload, 1) := dk_46 (dk_at dksX0_classOf_0 17 rfl rfl)
theorem dX0_classOf_18 : decode cX0_classOf 18 = .ok (.goto 4, 3) := dk_167 0 4 (dk_at dksX0_classOf_0 18 rfl rfl)
theorem dX0_classOf_21 : decode cX0_classOf 21 = .ok (.iconst (-1), 1) := dk_2 (dk_at dksX0_classOf_0 21 rfl rfl)
theorem dX0_classOf_22 : decode cX0_classOf 22 = .ok (.ireturn, 1) := dk_172 (dk_at dksX0_classOf_0 22 rfl rfl)
abbrev cX0_classAt : ByteArray := prog_1_method_60_code
def yX0_classAt : MethodName := ⟨RX0, "classAt", "(II)I"⟩
def dkwX0_classAt_3 : List UInt8 := [180, 1, 172, 27, 46, 167, 0, 12, 42, 180, 0, 148, 180, 1, 175, 27, 46, 172]
abbrev dktX0_classAt_3 : List UInt8 := dkwX0_classAt_3 ++ []
def dkwX0_classAt_2 : List UInt8 := [154, 0, 15, 42, 180, 0, 148, 180, 1, 169, 27, 46, 167, 0, 29, 28, 4, 160, 0, 15, 42, 180, 0, 148]
abbrev dktX0_classAt_2 : List UInt8 := dkwX0_classAt_2 ++ dktX0_classAt_3
def dkwX0_classAt_1 : List UInt8 := [182, 1, 85, 153, 0, 16, 42, 42, 27, 182, 1, 166, 6, 182, 0, 254, 154, 0, 5, 2, 172, 28]
abbrev dktX0_classAt_1 : List UInt8 := dkwX0_classAt_1 ++ dktX0_classAt_2
def dkwX0_classAt_0 : List UInt8 := [42, 27, 155, 0, 19, 28, 133, 9, 20, 1, 63, 184, 0, 194, 153, 0, 7, 4, 167, 0, 4, 3]
abbrev dktX0_classAt_0 : List UInt8 := dkwX0_classAt_0 ++ dktX0_classAt_1
theorem dksX0_classAt_0 : cX0_classAt.data.toList.drop 0 = dktX0_classAt_0 := by decide +kernel
theorem dksX0_classAt_1 : cX0_classAt.data.toList.drop 22 = dktX0_classAt_1 := dk_seg dksX0_classAt_0 22 rfl rfl
theorem dksX0_classAt_2 : cX0_classAt.data.toList.drop 44 = dktX0_classAt_2 := dk_seg dksX0_classAt_1 22 rfl rfl
theorem dksX0_classAt_3 : cX0_classAt.data.toList.drop 68 = dktX0_classAt_3 := dk_seg dksX0_classAt_2 24 rfl rfl
theorem dX0_classAt_0 : decode cX0_classAt 0 = .ok (.aload_n 0, 1) := dk_42 (dk_at dksX0_classAt_0 0 rfl rfl)
theorem dX0_classAt_1 : decode cX0_classAt 1 = .ok (.iload_n 1, 1) := dk_27 (dk_at dksX0_classAt_0 1 rfl rfl)
theorem dX0_classAt_2 : decode cX0_classAt 2 = .ok (.ifCond .lt 19, 3) := dk_155 0 19 (dk_at dksX0_classAt_0 2 rfl rfl)
theorem dX0_classAt_5 : decode cX0_classAt 5 = .ok (.iload_n 2, 1) := dk_28 (dk_at dksX0_classAt_0 5 rfl rfl)
theorem dX0_classAt_6 : decode cX0_classAt 6 = .ok (.i2l, 1) := dk_133 (dk_at dksX0_classAt_0 6 rfl rfl)
theorem dX0_classAt_7 : decode cX0_classAt 7 = .ok (.lconst 0, 1) := dk_9 (dk_at dksX0_classAt_0 7 rfl rfl)
theorem dX0_classAt_8 : decode cX0_classAt 8 = .ok (.ldc2_w 319, 3) := dk_20 1 63 (dk_at dksX0_classAt_0 8 rfl rfl)
theorem dX0_classAt_11 : decode cX0_classAt 11 = .ok (.invokestatic 194, 3) := dk_184 0 194 (dk_at dksX0_classAt_0 11 rfl rfl)
theorem dX0_classAt_14 : decode cX0_classAt 14 = .ok (.ifCond .eq 7, 3) := dk_153 0 7 (dk_at dksX0_classAt_0 14 rfl rfl)
theorem dX0_classAt_17 : decode cX0_classAt 17 = .ok (.iconst 1, 1) := dk_4 (dk_at dksX0_classAt_0 17 rfl rfl)
theorem dX0_classAt_18 : decode cX0_classAt 18 = .ok (.goto 4, 3) := dk_167 0 4 (dk_at dksX0_classAt_0 18 rfl rfl)
theorem dX0_classAt_21 : decode cX0_classAt 21 = .ok (.iconst 0, 1) := dk_3 (dk_at dksX0_classAt_0 21 rfl rfl)
theorem dX0_classAt_22 : decode cX0_classAt 22 = .ok (.invokevirtual 341, 3) := dk_182 1 85 (dk_at dksX0_classAt_1 0 rfl rfl)
theorem dX0_classAt_25 : decode cX0_classAt 25 = .ok (.ifCond .eq 16, 3) := dk_153 0 16 (dk_at dksX0_classAt_1 3 rfl rfl)
theorem dX0_classAt_28 : decode cX0_classAt 28 = .ok (.aload_n 0, 1) := dk_42 (dk_at dksX0_classAt_1 6 rfl rfl)
theorem dX0_classAt_29 : decode cX0_classAt 29 = .ok (.aload_n 0, 1) := dk_42 (dk_at dksX0_classAt_1 7 rfl rfl)
theorem dX0_classAt_30 : decode cX0_classAt 30 = .ok (.iload_n 1, 1) := dk_27 (dk_at dksX0_classAt_1 8 rfl rfl)
theorem dX0_classAt_31 : decode cX0_classAt 31 = .ok (.invokevirtual 422, 3) := dk_182 1 166 (dk_at dksX0_classAt_1 9 rfl rfl)
theorem dX0_classAt_34 : decode cX0_classAt 34 = .ok (.iconst 3, 1) := dk_6 (dk_at dksX0_classAt_1 12 rfl rfl)
theorem dX0_classAt_35 : decode cX0_classAt 35 = .ok (.invokevirtual 254, 3) := dk_182 0 254 (dk_at dksX0_classAt_1 13 rfl rfl)
theorem dX0_classAt_38 : decode cX0_classAt 38 = .ok (.ifCond .ne 5, 3) := dk_154 0 5 (dk_at dksX0_classAt_1 16 rfl rfl)
theorem dX0_classAt_41 : decode cX0_classAt 41 = .ok (.iconst (-1), 1) := dk_2 (dk_at dksX0_classAt_1 19 rfl rfl)
theorem dX0_classAt_42 : decode cX0_classAt 42 = .ok (.ireturn, 1) := dk_172 (dk_at dksX0_classAt_1 20 rfl rfl)
theorem dX0_classAt_43 : decode cX0_classAt 43 = .ok (.iload_n 2, 1) := dk_28 (dk_at dksX0_classAt_1 21 rfl rfl)
theorem dX0_classAt_44 : decode cX0_classAt 44 = .ok (.ifCond .ne 15, 3) := dk_154 0 15 (dk_at dksX0_classAt_2 0 rfl rfl)
theorem dX0_classAt_47 : decode cX0_classAt 47 = .ok (.aload_n 0, 1) := dk_42 (dk_at dksX0_classAt_2 3 rfl rfl)
theorem dX0_classAt_48 : decode cX0_classAt 48 = .ok (.getfield 148, 3) := dk_180 0 148 (dk_at dksX0_classAt_2 4 rfl rfl)
theorem dX0_classAt_51 : decode cX0_classAt 51 = .ok (.getfield 425, 3) := dk_180 1 169 (dk_at dksX0_classAt_2 7 rfl rfl)
theorem dX0_classAt_54 : decode cX0_classAt 54 = .ok (.iload_n 1, 1) := dk_27 (dk_at dksX0_classAt_2 10 rfl rfl)
theorem dX0_classAt_55 : decode cX0_classAt 55 = .ok (.iaload, 1) := dk_46 (dk_at dksX0_classAt_2 11 rfl rfl)
theorem dX0_classAt_56 : decode cX0_classAt 56 = .ok (.goto 29, 3) := dk_167 0 29 (dk_at dksX0_classAt_2 12 rfl rfl)
theorem dX0_classAt_59 : decode cX0_classAt 59 = .ok (.iload_n 2, 1) := dk_28 (dk_at dksX0_classAt_2 15 rfl rfl)
theorem dX0_classAt_60 : decode cX0_classAt 60 = .ok (.iconst 1, 1) := dk_4 (dk_at dksX0_classAt_2 16 rfl rfl)
theorem dX0_classAt_61 : decode cX0_classAt 61 = .ok (.if_icmp .ne 15, 3) := dk_160 0 15 (dk_at dksX0_classAt_2 17 rfl rfl)
theorem dX0_classAt_64 : decode cX0_classAt 64 = .ok (.aload_n 0, 1) := dk_42 (dk_at dksX0_classAt_2 20 rfl rfl)
theorem dX0_classAt_65 : decode cX0_classAt 65 = .ok (.getfield 148, 3) := dk_180 0 148 (dk_at dksX0_classAt_2 21 rfl rfl)
theorem dX0_classAt_68 : decode cX0_classAt 68 = .ok (.getfield 428, 3) := dk_180 1 172 (dk_at dksX0_classAt_3 0 rfl rfl)
theorem dX0_classAt_71 : decode cX0_classAt 71 = .ok (.iload_n 1, 1) := dk_27 (dk_at dksX0_classAt_3 3 rfl rfl)
theorem dX0_classAt_72 : decode cX0_classAt 72 = .ok (.iaload, 1) := dk_46 (dk_at dksX0_classAt_3 4 rfl rfl)
theorem dX0_classAt_73 : decode cX0_classAt 73 = .ok (.goto 12, 3) := dk_167 0 12 (dk_at dksX0_classAt_3 5 rfl rfl)
theorem dX0_classAt_76 : decode cX0_classAt 76 = .ok (.aload_n 0, 1) := dk_42 (dk_at dksX0_classAt_3 8 rfl rfl)
theorem dX0_classAt_77 : decode cX0_classAt 77 = .ok (.getfield 148, 3) := dk_180 0 148 (dk_at dksX0_classAt_3 9 rfl rfl)
theorem dX0_classAt_80 : decode cX0_classAt 80 = .ok (.getfield 431, 3) := dk_180 1 175 (dk_at dksX0_classAt_3 12 rfl rfl)
theorem dX0_classAt_83 : decode cX0_classAt 83 = .ok (.iload_n 1, 1) := dk_27 (dk_at dksX0_classAt_3 15 rfl rfl)
theorem dX0_classAt_84 : decode cX0_classAt 84 = .ok (.iaload, 1) := dk_46 (dk_at dksX0_classAt_3 16 rfl rfl)
theorem dX0_classAt_85 : decode cX0_classAt 85 = .ok (.ireturn, 1) := dk_172 (dk_at dksX0_classAt_3 17 rfl rfl)
abbrev cX0_isClass : ByteArray := prog_1_method_57_code
def yX0_isClass : MethodName := ⟨RX0, "isClass", "(I)Z"⟩
def dkwX0_isClass_0 : List UInt8 := [27, 42, 180, 0, 148, 180, 1, 160, 162, 0, 7, 4, 167, 0, 4, 3, 172]
abbrev dktX0_isClass_0 : List UInt8 := dkwX0_isClass_0 ++ []
theorem dksX0_isClass_0 : cX0_isClass.data.toList.drop 0 = dktX0_isClass_0 := by decide +kernel
theorem dX0_isClass_0 : decode cX0_isClass 0 = .ok (.iload_n 1, 1) := dk_27 (dk_at dksX0_isClass_0 0 rfl rfl)
theorem dX0_isClass_1 : decode cX0_isClass 1 = .ok (.aload_n 0, 1) := dk_42 (dk_at dksX0_isClass_0 1 rfl rfl)
theorem dX0_isClass_2 : decode cX0_isClass 2 = .ok (.getfield 148, 3) := dk_180 0 148 (dk_at dksX0_isClass_0 2 rfl rfl)
theorem dX0_isClass_5 : decode cX0_isClass 5 = .ok (.getfield 416, 3) := dk_180 1 160 (dk_at dksX0_isClass_0 5 rfl rfl)
theorem dX0_isClass_8 : decode cX0_isClass 8 = .ok (.if_icmp .ge 7, 3) := dk_162 0 7 (dk_at dksX0_isClass_0 8 rfl rfl)
theorem dX0_isClass_11 : decode cX0_isClass 11 = .ok (.iconst 1, 1) := dk_4 (dk_at dksX0_isClass_0 11 rfl rfl)
theorem dX0_isClass_12 : decode cX0_isClass 12 = .ok (.goto 4, 3) := dk_167 0 4 (dk_at dksX0_isClass_0 12 rfl rfl)
theorem dX0_isClass_15 : decode cX0_isClass 15 = .ok (.iconst 0, 1) := dk_3 (dk_at dksX0_isClass_0 15 rfl rfl)
theorem dX0_isClass_16 : decode cX0_isClass 16 = .ok (.ireturn, 1) := dk_172 (dk_at dksX0_isClass_0 16 rfl rfl)
abbrev cX0_joins : ByteArray := prog_1_method_61_code
def yX0_joins : MethodName := ⟨RX0, "joins", "(III)I"⟩
def dkwX0_joins_3 : List UInt8 := [42, 180, 0, 148, 27, 28, 29, 182, 1, 181, 46, 172]
abbrev dktX0_joins_3 : List UInt8 := dkwX0_joins_3 ++ []
def dkwX0_joins_2 : List UInt8 := [153, 0, 7, 4, 167, 0, 4, 3, 6, 182, 0, 254, 154, 0, 5, 2, 172, 42, 180, 0, 148, 180, 1, 178]
abbrev dktX0_joins_2 : List UInt8 := dkwX0_joins_2 ++ dktX0_joins_3
def dkwX0_joins_1 : List UInt8 := [42, 42, 27, 182, 1, 166, 153, 0, 23, 42, 28, 182, 1, 166, 153, 0, 15, 42, 29, 182, 1, 166]
abbrev dktX0_joins_1 : List UInt8 := dkwX0_joins_1 ++ dktX0_joins_2
def dkwX0_joins_0 : List UInt8 := [42, 27, 155, 0, 15, 28, 155, 0, 11, 29, 155, 0, 7, 4, 167, 0, 4, 3, 182, 1, 85, 153, 0, 40]
abbrev dktX0_joins_0 : List UInt8 := dkwX0_joins_0 ++ dktX0_joins_1
theorem dksX0_joins_0 : cX0_joins.data.toList.drop 0 = dktX0_joins_0 := by decide +kernel
theorem dksX0_joins_1 : cX0_joins.data.toList.drop 24 = dktX0_joins_1 := dk_seg dksX0_joins_0 24 rfl rfl
theorem dksX0_joins_2 : cX0_joins.data.toList.drop 46 = dktX0_joins_2 := dk_seg dksX0_joins_1 22 rfl rfl
theorem dksX0_joins_3 : cX0_joins.data.toList.drop 70 = dktX0_joins_3 := dk_seg dksX0_joins_2 24 rfl rfl
theorem dX0_joins_0 : decode cX0_joins 0 = .ok (.aload_n 0, 1) := dk_42 (dk_at dksX0_joins_0 0 rfl rfl)
theorem dX0_joins_1 : decode cX0_joins 1 = .ok (.iload_n 1, 1) := dk_27 (dk_at dksX0_joins_0 1 rfl rfl)
theorem dX0_joins_2 : decode cX0_joins 2 = .ok (.ifCond .lt 15, 3) := dk_155 0 15 (dk_at dksX0_joins_0 2 rfl rfl)
theorem dX0_joins_5 : decode cX0_joins 5 = .ok (.iload_n 2, 1) := dk_28 (dk_at dksX0_joins_0 5 rfl rfl)
theorem dX0_joins_6 : decode cX0_joins 6 = .ok (.ifCond .lt 11, 3) := dk_155 0 11 (dk_at dksX0_joins_0 6 rfl rfl)
theorem dX0_joins_9 : decode cX0_joins 9 = .ok (.iload_n 3, 1) := dk_29 (dk_at dksX0_joins_0 9 rfl rfl)
theorem dX0_joins_10 : decode cX0_joins 10 = .ok (.ifCond .lt 7, 3) := dk_155 0 7 (dk_at dksX0_joins_0 10 rfl rfl)
theorem dX0_joins_13 : decode cX0_joins 13 = .ok (.iconst 1, 1) := dk_4 (dk_at dksX0_joins_0 13 rfl rfl)
theorem dX0_joins_14 : decode cX0_joins 14 = .ok (.goto 4, 3) := dk_167 0 4 (dk_at dksX0_joins_0 14 rfl rfl)
theorem dX0_joins_17 : decode cX0_joins 17 = .ok (.iconst 0, 1) := dk_3 (dk_at dksX0_joins_0 17 rfl rfl)
theorem dX0_joins_18 : decode cX0_joins 18 = .ok (.invokevirtual 341, 3) := dk_182 1 85 (dk_at dksX0_joins_0 18 rfl rfl)
theorem dX0_joins_21 : decode cX0_joins 21 = .ok (.ifCond .eq 40, 3) := dk_153 0 40 (dk_at dksX0_joins_0 21 rfl rfl)
theorem dX0_joins_24 : decode cX0_joins 24 = .ok (.aload_n 0, 1) := dk_42 (dk_at dksX0_joins_1 0 rfl rfl)
theorem dX0_joins_25 : decode cX0_joins 25 = .ok (.aload_n 0, 1) := dk_42 (dk_at dksX0_joins_1 1 rfl rfl)
theorem dX0_joins_26 : decode cX0_joins 26 = .ok (.iload_n 1, 1) := dk_27 (dk_at dksX0_joins_1 2 rfl rfl)
theorem dX0_joins_27 : decode cX0_joins 27 = .ok (.invokevirtual 422, 3) := dk_182 1 166 (dk_at dksX0_joins_1 3 rfl rfl)
theorem dX0_joins_30 : decode cX0_joins 30 = .ok (.ifCond .eq 23, 3) := dk_153 0 23 (dk_at dksX0_joins_1 6 rfl rfl)
theorem dX0_joins_33 : decode cX0_joins 33 = .ok (.aload_n 0, 1) := dk_42 (dk_at dksX0_joins_1 9 rfl rfl)
theorem dX0_joins_34 : decode cX0_joins 34 = .ok (.iload_n 2, 1) := dk_28 (dk_at dksX0_joins_1 10 rfl rfl)
theorem dX0_joins_35 : decode cX0_joins 35 = .ok (.invokevirtual 422, 3) := dk_182 1 166 (dk_at dksX0_joins_1 11 rfl rfl)
theorem dX0_joins_38 : decode cX0_joins 38 = .ok (.ifCond .eq 15, 3) := dk_153 0 15 (dk_at dksX0_joins_1 14 rfl rfl)
theorem dX0_joins_41 : decode cX0_joins 41 = .ok (.aload_n 0, 1) := dk_42 (dk_at dksX0_joins_1 17 rfl rfl)
theorem dX0_joins_42 : decode cX0_joins 42 = .ok (.iload_n 3, 1) := dk_29 (dk_at dksX0_joins_1 18 rfl rfl)
theorem dX0_joins_43 : decode cX0_joins 43 = .ok (.invokevirtual 422, 3) := dk_182 1 166 (dk_at dksX0_joins_1 19 rfl rfl)
theorem dX0_joins_46 : decode cX0_joins 46 = .ok (.ifCond .eq 7, 3) := dk_153 0 7 (dk_at dksX0_joins_2 0 rfl rfl)
theorem dX0_joins_49 : decode cX0_joins 49 = .ok (.iconst 1, 1) := dk_4 (dk_at dksX0_joins_2 3 rfl rfl)
theorem dX0_joins_50 : decode cX0_joins 50 = .ok (.goto 4, 3) := dk_167 0 4 (dk_at dksX0_joins_2 4 rfl rfl)
theorem dX0_joins_53 : decode cX0_joins 53 = .ok (.iconst 0, 1) := dk_3 (dk_at dksX0_joins_2 7 rfl rfl)
theorem dX0_joins_54 : decode cX0_joins 54 = .ok (.iconst 3, 1) := dk_6 (dk_at dksX0_joins_2 8 rfl rfl)
theorem dX0_joins_55 : decode cX0_joins 55 = .ok (.invokevirtual 254, 3) := dk_182 0 254 (dk_at dksX0_joins_2 9 rfl rfl)
theorem dX0_joins_58 : decode cX0_joins 58 = .ok (.ifCond .ne 5, 3) := dk_154 0 5 (dk_at dksX0_joins_2 12 rfl rfl)
theorem dX0_joins_61 : decode cX0_joins 61 = .ok (.iconst (-1), 1) := dk_2 (dk_at dksX0_joins_2 15 rfl rfl)
theorem dX0_joins_62 : decode cX0_joins 62 = .ok (.ireturn, 1) := dk_172 (dk_at dksX0_joins_2 16 rfl rfl)
theorem dX0_joins_63 : decode cX0_joins 63 = .ok (.aload_n 0, 1) := dk_42 (dk_at dksX0_joins_2 17 rfl rfl)
theorem dX0_joins_64 : decode cX0_joins 64 = .ok (.getfield 148, 3) := dk_180 0 148 (dk_at dksX0_joins_2 18 rfl rfl)
theorem dX0_joins_67 : decode cX0_joins 67 = .ok (.getfield 434, 3) := dk_180 1 178 (dk_at dksX0_joins_2 21 rfl rfl)
theorem dX0_joins_70 : decode cX0_joins 70 = .ok (.aload_n 0, 1) := dk_42 (dk_at dksX0_joins_3 0 rfl rfl)
theorem dX0_joins_71 : decode cX0_joins 71 = .ok (.getfield 148, 3) := dk_180 0 148 (dk_at dksX0_joins_3 1 rfl rfl)
theorem dX0_joins_74 : decode cX0_joins 74 = .ok (.iload_n 1, 1) := dk_27 (dk_at dksX0_joins_3 4 rfl rfl)
theorem dX0_joins_75 : decode cX0_joins 75 = .ok (.iload_n 2, 1) := dk_28 (dk_at dksX0_joins_3 5 rfl rfl)
theorem dX0_joins_76 : decode cX0_joins 76 = .ok (.iload_n 3, 1) := dk_29 (dk_at dksX0_joins_3 6 rfl rfl)
theorem dX0_joins_77 : decode cX0_joins 77 = .ok (.invokevirtual 437, 3) := dk_182 1 181 (dk_at dksX0_joins_3 7 rfl rfl)
theorem dX0_joins_80 : decode cX0_joins 80 = .ok (.iaload, 1) := dk_46 (dk_at dksX0_joins_3 10 rfl rfl)
theorem dX0_joins_81 : decode cX0_joins 81 = .ok (.ireturn, 1) := dk_172 (dk_at dksX0_joins_3 11 rfl rfl)
abbrev cX0_orbits : ByteArray := prog_1_method_62_code
def yX0_orbits : MethodName := ⟨RX0, "orbits", "()I"⟩
def dkwX0_orbits_1 : List UInt8 := [167, 0, 4, 2, 172]
abbrev dktX0_orbits_1 : List UInt8 := dkwX0_orbits_1 ++ []
def dkwX0_orbits_0 : List UInt8 := [42, 4, 182, 1, 85, 153, 0, 20, 42, 180, 0, 148, 42, 180, 0, 148, 182, 1, 183, 182, 1, 186]
abbrev dktX0_orbits_0 : List UInt8 := dkwX0_orbits_0 ++ dktX0_orbits_1
theorem dksX0_orbits_0 : cX0_orbits.data.toList.drop 0 = dktX0_orbits_0 := by decide +kernel
theorem dksX0_orbits_1 : cX0_orbits.data.toList.drop 22 = dktX0_orbits_1 := dk_seg dksX0_orbits_0 22 rfl rfl
theorem dX0_orbits_0 : decode cX0_orbits 0 = .ok (.aload_n 0, 1) := dk_42 (dk_at dksX0_orbits_0 0 rfl rfl)
theorem dX0_orbits_1 : decode cX0_orbits 1 = .ok (.iconst 1, 1) := dk_4 (dk_at dksX0_orbits_0 1 rfl rfl)
theorem dX0_orbits_2 : decode cX0_orbits 2 = .ok (.invokevirtual 341, 3) := dk_182 1 85 (dk_at dksX0_orbits_0 2 rfl rfl)
theorem dX0_orbits_5 : decode cX0_orbits 5 = .ok (.ifCond .eq 20, 3) := dk_153 0 20 (dk_at dksX0_orbits_0 5 rfl rfl)
theorem dX0_orbits_8 : decode cX0_orbits 8 = .ok (.aload_n 0, 1) := dk_42 (dk_at dksX0_orbits_0 8 rfl rfl)
theorem dX0_orbits_9 : decode cX0_orbits 9 = .ok (.getfield 148, 3) := dk_180 0 148 (dk_at dksX0_orbits_0 9 rfl rfl)
theorem dX0_orbits_12 : decode cX0_orbits 12 = .ok (.aload_n 0, 1) := dk_42 (dk_at dksX0_orbits_0 12 rfl rfl)
theorem dX0_orbits_13 : decode cX0_orbits 13 = .ok (.getfield 148, 3) := dk_180 0 148 (dk_at dksX0_orbits_0 13 rfl rfl)
theorem dX0_orbits_16 : decode cX0_orbits 16 = .ok (.invokevirtual 439, 3) := dk_182 1 183 (dk_at dksX0_orbits_0 16 rfl rfl)
theorem dX0_orbits_19 : decode cX0_orbits 19 = .ok (.invokevirtual 442, 3) := dk_182 1 186 (dk_at dksX0_orbits_0 19 rfl rfl)
theorem dX0_orbits_22 : decode cX0_orbits 22 = .ok (.goto 4, 3) := dk_167 0 4 (dk_at dksX0_orbits_1 0 rfl rfl)
theorem dX0_orbits_25 : decode cX0_orbits 25 = .ok (.iconst (-1), 1) := dk_2 (dk_at dksX0_orbits_1 3 rfl rfl)
theorem dX0_orbits_26 : decode cX0_orbits 26 = .ok (.ireturn, 1) := dk_172 (dk_at dksX0_orbits_1 4 rfl rfl)
abbrev cX0_orbitOf : ByteArray := prog_1_method_63_code
def yX0_orbitOf : MethodName := ⟨RX0, "orbitOf", "(I)I"⟩
def dkwX0_orbitOf_1 : List UInt8 := [167, 0, 4, 2, 172]
abbrev dktX0_orbitOf_1 : List UInt8 := dkwX0_orbitOf_1 ++ []
def dkwX0_orbitOf_0 : List UInt8 := [42, 27, 182, 1, 190, 153, 0, 21, 42, 180, 0, 148, 42, 180, 0, 148, 182, 1, 183, 27, 182, 1, 193]
abbrev dktX0_orbitOf_0 : List UInt8 := dkwX0_orbitOf_0 ++ dktX0_orbitOf_1
theorem dksX0_orbitOf_0 : cX0_orbitOf.data.toList.drop 0 = dktX0_orbitOf_0 := by decide +kernel
theorem dksX0_orbitOf_1 : cX0_orbitOf.data.toList.drop 23 = dktX0_orbitOf_1 := dk_seg dksX0_orbitOf_0 23 rfl rfl
theorem dX0_orbitOf_0 : decode cX0_orbitOf 0 = .ok (.aload_n 0, 1) := dk_42 (dk_at dksX0_orbitOf_0 0 rfl rfl)
theorem dX0_orbitOf_1 : decode cX0_orbitOf 1 = .ok (.iload_n 1, 1) := dk_27 (dk_at dksX0_orbitOf_0 1 rfl rfl)
theorem dX0_orbitOf_2 : decode cX0_orbitOf 2 = .ok (.invokevirtual 446, 3) := dk_182 1 190 (dk_at dksX0_orbitOf_0 2 rfl rfl)
theorem dX0_orbitOf_5 : decode cX0_orbitOf 5 = .ok (.ifCond .eq 21, 3) := dk_153 0 21 (dk_at dksX0_orbitOf_0 5 rfl rfl)
theorem dX0_orbitOf_8 : decode cX0_orbitOf 8 = .ok (.aload_n 0, 1) := dk_42 (dk_at dksX0_orbitOf_0 8 rfl rfl)
theorem dX0_orbitOf_9 : decode cX0_orbitOf 9 = .ok (.getfield 148, 3) := dk_180 0 148 (dk_at dksX0_orbitOf_0 9 rfl rfl)
theorem dX0_orbitOf_12 : decode cX0_orbitOf 12 = .ok (.aload_n 0, 1) := dk_42 (dk_at dksX0_orbitOf_0 12 rfl rfl)
theorem dX0_orbitOf_13 : decode cX0_orbitOf 13 = .ok (.getfield 148, 3) := dk_180 0 148 (dk_at dksX0_orbitOf_0 13 rfl rfl)
theorem dX0_orbitOf_16 : decode cX0_orbitOf 16 = .ok (.invokevirtual 439, 3) := dk_182 1 183 (dk_at dksX0_orbitOf_0 16 rfl rfl)
theorem dX0_orbitOf_19 : decode cX0_orbitOf 19 = .ok (.iload_n 1, 1) := dk_27 (dk_at dksX0_orbitOf_0 19 rfl rfl)
theorem dX0_orbitOf_20 : decode cX0_orbitOf 20 = .ok (.invokevirtual 449, 3) := dk_182 1 193 (dk_at dksX0_orbitOf_0 20 rfl rfl)
theorem dX0_orbitOf_23 : decode cX0_orbitOf 23 = .ok (.goto 4, 3) := dk_167 0 4 (dk_at dksX0_orbitOf_1 0 rfl rfl)
theorem dX0_orbitOf_26 : decode cX0_orbitOf 26 = .ok (.iconst (-1), 1) := dk_2 (dk_at dksX0_orbitOf_1 3 rfl rfl)
theorem dX0_orbitOf_27 : decode cX0_orbitOf 27 = .ok (.ireturn, 1) := dk_172 (dk_at dksX0_orbitOf_1 4 rfl rfl)
abbrev cX0_asksAtom : ByteArray := prog_1_method_41_code
def yX0_asksAtom : MethodName := ⟨RX0, "asksAtom", "(I)Z"⟩
def dkwX0_asksAtom_1 : List UInt8 := [182, 0, 254, 153, 0, 7, 4, 167, 0, 4, 3, 172]
abbrev dktX0_asksAtom_1 : List UInt8 := dkwX0_asksAtom_1 ++ []
def dkwX0_asksAtom_0 : List UInt8 := [42, 27, 155, 0, 7, 4, 167, 0, 4, 3, 182, 1, 85, 153, 0, 20, 42, 42, 27, 182, 0, 250, 6]
abbrev dktX0_asksAtom_0 : List UInt8 := dkwX0_asksAtom_0 ++ dktX0_asksAtom_1
theorem dksX0_asksAtom_0 : cX0_asksAtom.data.toList.drop 0 = dktX0_asksAtom_0 := by decide +kernel
theorem dksX0_asksAtom_1 : cX0_asksAtom.data.toList.drop 23 = dktX0_asksAtom_1 := dk_seg dksX0_asksAtom_0 23 rfl rfl
theorem dX0_asksAtom_0 : decode cX0_asksAtom 0 = .ok (.aload_n 0, 1) := dk_42 (dk_at dksX0_asksAtom_0 0 rfl rfl)
theorem dX0_asksAtom_1 : decode cX0_asksAtom 1 = .ok (.iload_n 1, 1) := dk_27 (dk_at dksX0_asksAtom_0 1 rfl rfl)
theorem dX0_asksAtom_2 : decode cX0_asksAtom 2 = .ok (.ifCond .lt 7, 3) := dk_155 0 7 (dk_at dksX0_asksAtom_0 2 rfl rfl)
theorem dX0_asksAtom_5 : decode cX0_asksAtom 5 = .ok (.iconst 1, 1) := dk_4 (dk_at dksX0_asksAtom_0 5 rfl rfl)
theorem dX0_asksAtom_6 : decode cX0_asksAtom 6 = .ok (.goto 4, 3) := dk_167 0 4 (dk_at dksX0_asksAtom_0 6 rfl rfl)
theorem dX0_asksAtom_9 : decode cX0_asksAtom 9 = .ok (.iconst 0, 1) := dk_3 (dk_at dksX0_asksAtom_0 9 rfl rfl)
theorem dX0_asksAtom_10 : decode cX0_asksAtom 10 = .ok (.invokevirtual 341, 3) := dk_182 1 85 (dk_at dksX0_asksAtom_0 10 rfl rfl)
theorem dX0_asksAtom_13 : decode cX0_asksAtom 13 = .ok (.ifCond .eq 20, 3) := dk_153 0 20 (dk_at dksX0_asksAtom_0 13 rfl rfl)
theorem dX0_asksAtom_16 : decode cX0_asksAtom 16 = .ok (.aload_n 0, 1) := dk_42 (dk_at dksX0_asksAtom_0 16 rfl rfl)
theorem dX0_asksAtom_17 : decode cX0_asksAtom 17 = .ok (.aload_n 0, 1) := dk_42 (dk_at dksX0_asksAtom_0 17 rfl rfl)
theorem dX0_asksAtom_18 : decode cX0_asksAtom 18 = .ok (.iload_n 1, 1) := dk_27 (dk_at dksX0_asksAtom_0 18 rfl rfl)
theorem dX0_asksAtom_19 : decode cX0_asksAtom 19 = .ok (.invokevirtual 250, 3) := dk_182 0 250 (dk_at dksX0_asksAtom_0 19 rfl rfl)
theorem dX0_asksAtom_22 : decode cX0_asksAtom 22 = .ok (.iconst 3, 1) := dk_6 (dk_at dksX0_asksAtom_0 22 rfl rfl)
theorem dX0_asksAtom_23 : decode cX0_asksAtom 23 = .ok (.invokevirtual 254, 3) := dk_182 0 254 (dk_at dksX0_asksAtom_1 0 rfl rfl)
theorem dX0_asksAtom_26 : decode cX0_asksAtom 26 = .ok (.ifCond .eq 7, 3) := dk_153 0 7 (dk_at dksX0_asksAtom_1 3 rfl rfl)
theorem dX0_asksAtom_29 : decode cX0_asksAtom 29 = .ok (.iconst 1, 1) := dk_4 (dk_at dksX0_asksAtom_1 6 rfl rfl)
theorem dX0_asksAtom_30 : decode cX0_asksAtom 30 = .ok (.goto 4, 3) := dk_167 0 4 (dk_at dksX0_asksAtom_1 7 rfl rfl)
theorem dX0_asksAtom_33 : decode cX0_asksAtom 33 = .ok (.iconst 0, 1) := dk_3 (dk_at dksX0_asksAtom_1 10 rfl rfl)
theorem dX0_asksAtom_34 : decode cX0_asksAtom 34 = .ok (.ireturn, 1) := dk_172 (dk_at dksX0_asksAtom_1 11 rfl rfl)
abbrev cX0_orbitSize : ByteArray := prog_1_method_64_code
def yX0_orbitSize : MethodName := ⟨RX0, "orbitSize", "(I)I"⟩
def dkwX0_orbitSize_3 : List UInt8 := [167, 255, 201, 28, 172]
abbrev dktX0_orbitSize_3 : List UInt8 := dkwX0_orbitSize_3 ++ []
def dkwX0_orbitSize_2 : List UInt8 := [180, 0, 148, 182, 1, 183, 27, 182, 1, 193, 160, 0, 7, 4, 167, 0, 4, 3, 96, 61, 132, 3, 1]
abbrev dktX0_orbitSize_2 : List UInt8 := dkwX0_orbitSize_2 ++ dktX0_orbitSize_3
def dkwX0_orbitSize_1 : List UInt8 := [162, 0, 50, 28, 42, 180, 0, 148, 42, 180, 0, 148, 182, 1, 183, 29, 182, 1, 193, 42, 180, 0, 148, 42]
abbrev dktX0_orbitSize_1 : List UInt8 := dkwX0_orbitSize_1 ++ dktX0_orbitSize_2
def dkwX0_orbitSize_0 : List UInt8 := [42, 27, 182, 1, 190, 154, 0, 5, 2, 172, 3, 61, 3, 62, 29, 42, 180, 0, 134, 180, 0, 187]
abbrev dktX0_orbitSize_0 : List UInt8 := dkwX0_orbitSize_0 ++ dktX0_orbitSize_1
theorem dksX0_orbitSize_0 : cX0_orbitSize.data.toList.drop 0 = dktX0_orbitSize_0 := by decide +kernel
theorem dksX0_orbitSize_1 : cX0_orbitSize.data.toList.drop 22 = dktX0_orbitSize_1 := dk_seg dksX0_orbitSize_0 22 rfl rfl
theorem dksX0_orbitSize_2 : cX0_orbitSize.data.toList.drop 46 = dktX0_orbitSize_2 := dk_seg dksX0_orbitSize_1 24 rfl rfl
theorem dksX0_orbitSize_3 : cX0_orbitSize.data.toList.drop 69 = dktX0_orbitSize_3 := dk_seg dksX0_orbitSize_2 23 rfl rfl
theorem dX0_orbitSize_0 : decode cX0_orbitSize 0 = .ok (.aload_n 0, 1) := dk_42 (dk_at dksX0_orbitSize_0 0 rfl rfl)
theorem dX0_orbitSize_1 : decode cX0_orbitSize 1 = .ok (.iload_n 1, 1) := dk_27 (dk_at dksX0_orbitSize_0 1 rfl rfl)
theorem dX0_orbitSize_2 : decode cX0_orbitSize 2 = .ok (.invokevirtual 446, 3) := dk_182 1 190 (dk_at dksX0_orbitSize_0 2 rfl rfl)
theorem dX0_orbitSize_5 : decode cX0_orbitSize 5 = .ok (.ifCond .ne 5, 3) := dk_154 0 5 (dk_at dksX0_orbitSize_0 5 rfl rfl)
theorem dX0_orbitSize_8 : decode cX0_orbitSize 8 = .ok (.iconst (-1), 1) := dk_2 (dk_at dksX0_orbitSize_0 8 rfl rfl)
theorem dX0_orbitSize_9 : decode cX0_orbitSize 9 = .ok (.ireturn, 1) := dk_172 (dk_at dksX0_orbitSize_0 9 rfl rfl)
theorem dX0_orbitSize_10 : decode cX0_orbitSize 10 = .ok (.iconst 0, 1) := dk_3 (dk_at dksX0_orbitSize_0 10 rfl rfl)
theorem dX0_orbitSize_11 : decode cX0_orbitSize 11 = .ok (.istore_n 2, 1) := dk_61 (dk_at dksX0_orbitSize_0 11 rfl rfl)
theorem dX0_orbitSize_12 : decode cX0_orbitSize 12 = .ok (.iconst 0, 1) := dk_3 (dk_at dksX0_orbitSize_0 12 rfl rfl)
theorem dX0_orbitSize_13 : decode cX0_orbitSize 13 = .ok (.istore_n 3, 1) := dk_62 (dk_at dksX0_orbitSize_0 13 rfl rfl)
theorem dX0_orbitSize_14 : decode cX0_orbitSize 14 = .ok (.iload_n 3, 1) := dk_29 (dk_at dksX0_orbitSize_0 14 rfl rfl)
theorem dX0_orbitSize_15 : decode cX0_orbitSize 15 = .ok (.aload_n 0, 1) := dk_42 (dk_at dksX0_orbitSize_0 15 rfl rfl)
theorem dX0_orbitSize_16 : decode cX0_orbitSize 16 = .ok (.getfield 134, 3) := dk_180 0 134 (dk_at dksX0_orbitSize_0 16 rfl rfl)
theorem dX0_orbitSize_19 : decode cX0_orbitSize 19 = .ok (.getfield 187, 3) := dk_180 0 187 (dk_at dksX0_orbitSize_0 19 rfl rfl)
theorem dX0_orbitSize_22 : decode cX0_orbitSize 22 = .ok (.if_icmp .ge 50, 3) := dk_162 0 50 (dk_at dksX0_orbitSize_1 0 rfl rfl)
theorem dX0_orbitSize_25 : decode cX0_orbitSize 25 = .ok (.iload_n 2, 1) := dk_28 (dk_at dksX0_orbitSize_1 3 rfl rfl)
theorem dX0_orbitSize_26 : decode cX0_orbitSize 26 = .ok (.aload_n 0, 1) := dk_42 (dk_at dksX0_orbitSize_1 4 rfl rfl)
theorem dX0_orbitSize_27 : decode cX0_orbitSize 27 = .ok (.getfield 148, 3) := dk_180 0 148 (dk_at dksX0_orbitSize_1 5 rfl rfl)
theorem dX0_orbitSize_30 : decode cX0_orbitSize 30 = .ok (.aload_n 0, 1) := dk_42 (dk_at dksX0_orbitSize_1 8 rfl rfl)
theorem dX0_orbitSize_31 : decode cX0_orbitSize 31 = .ok (.getfield 148, 3) := dk_180 0 148 (dk_at dksX0_orbitSize_1 9 rfl rfl)
theorem dX0_orbitSize_34 : decode cX0_orbitSize 34 = .ok (.invokevirtual 439, 3) := dk_182 1 183 (dk_at dksX0_orbitSize_1 12 rfl rfl)
theorem dX0_orbitSize_37 : decode cX0_orbitSize 37 = .ok (.iload_n 3, 1) := dk_29 (dk_at dksX0_orbitSize_1 15 rfl rfl)
theorem dX0_orbitSize_38 : decode cX0_orbitSize 38 = .ok (.invokevirtual 449, 3) := dk_182 1 193 (dk_at dksX0_orbitSize_1 16 rfl rfl)
theorem dX0_orbitSize_41 : decode cX0_orbitSize 41 = .ok (.aload_n 0, 1) := dk_42 (dk_at dksX0_orbitSize_1 19 rfl rfl)
theorem dX0_orbitSize_42 : decode cX0_orbitSize 42 = .ok (.getfield 148, 3) := dk_180 0 148 (dk_at dksX0_orbitSize_1 20 rfl rfl)
theorem dX0_orbitSize_45 : decode cX0_orbitSize 45 = .ok (.aload_n 0, 1) := dk_42 (dk_at dksX0_orbitSize_1 23 rfl rfl)
theorem dX0_orbitSize_46 : decode cX0_orbitSize 46 = .ok (.getfield 148, 3) := dk_180 0 148 (dk_at dksX0_orbitSize_2 0 rfl rfl)
theorem dX0_orbitSize_49 : decode cX0_orbitSize 49 = .ok (.invokevirtual 439, 3) := dk_182 1 183 (dk_at dksX0_orbitSize_2 3 rfl rfl)
theorem dX0_orbitSize_52 : decode cX0_orbitSize 52 = .ok (.iload_n 1, 1) := dk_27 (dk_at dksX0_orbitSize_2 6 rfl rfl)
theorem dX0_orbitSize_53 : decode cX0_orbitSize 53 = .ok (.invokevirtual 449, 3) := dk_182 1 193 (dk_at dksX0_orbitSize_2 7 rfl rfl)
theorem dX0_orbitSize_56 : decode cX0_orbitSize 56 = .ok (.if_icmp .ne 7, 3) := dk_160 0 7 (dk_at dksX0_orbitSize_2 10 rfl rfl)
theorem dX0_orbitSize_59 : decode cX0_orbitSize 59 = .ok (.iconst 1, 1) := dk_4 (dk_at dksX0_orbitSize_2 13 rfl rfl)
theorem dX0_orbitSize_60 : decode cX0_orbitSize 60 = .ok (.goto 4, 3) := dk_167 0 4 (dk_at dksX0_orbitSize_2 14 rfl rfl)
theorem dX0_orbitSize_63 : decode cX0_orbitSize 63 = .ok (.iconst 0, 1) := dk_3 (dk_at dksX0_orbitSize_2 17 rfl rfl)
theorem dX0_orbitSize_64 : decode cX0_orbitSize 64 = .ok (.iadd, 1) := dk_96 (dk_at dksX0_orbitSize_2 18 rfl rfl)
theorem dX0_orbitSize_65 : decode cX0_orbitSize 65 = .ok (.istore_n 2, 1) := dk_61 (dk_at dksX0_orbitSize_2 19 rfl rfl)
theorem dX0_orbitSize_66 : decode cX0_orbitSize 66 = .ok (.iinc 3 1, 3) := dk_132 3 1 (dk_at dksX0_orbitSize_2 20 rfl rfl)
theorem dX0_orbitSize_69 : decode cX0_orbitSize 69 = .ok (.goto (-55), 3) := dk_167 255 201 (dk_at dksX0_orbitSize_3 0 rfl rfl)
theorem dX0_orbitSize_72 : decode cX0_orbitSize 72 = .ok (.iload_n 2, 1) := dk_28 (dk_at dksX0_orbitSize_3 3 rfl rfl)
theorem dX0_orbitSize_73 : decode cX0_orbitSize 73 = .ok (.ireturn, 1) := dk_172 (dk_at dksX0_orbitSize_3 4 rfl rfl)
abbrev cX0_keeps : ByteArray := prog_1_method_65_code
def yX0_keeps : MethodName := ⟨RX0, "keeps", "(II)I"⟩
def dkwX0_keeps_4 : List UInt8 := [153, 0, 7, 4, 167, 0, 4, 3, 96, 62, 132, 4, 1, 167, 255, 207, 29, 172]
abbrev dktX0_keeps_4 : List UInt8 := dkwX0_keeps_4 ++ []
def dkwX0_keeps_3 : List UInt8 := [21, 4, 182, 1, 97, 27, 182, 1, 197, 153, 0, 20, 42, 21, 4, 182, 1, 97, 28, 182, 1, 197]
abbrev dktX0_keeps_3 : List UInt8 := dkwX0_keeps_3 ++ dktX0_keeps_4
def dkwX0_keeps_2 : List UInt8 := [154, 0, 5, 2, 172, 3, 62, 3, 54, 4, 21, 4, 42, 180, 0, 148, 180, 1, 88, 162, 0, 43, 29, 42]
abbrev dktX0_keeps_2 : List UInt8 := dkwX0_keeps_2 ++ dktX0_keeps_3
def dkwX0_keeps_1 : List UInt8 := [182, 0, 250, 153, 0, 15, 42, 28, 182, 0, 250, 153, 0, 7, 4, 167, 0, 4, 3, 6, 182, 0, 254]
abbrev dktX0_keeps_1 : List UInt8 := dkwX0_keeps_1 ++ dktX0_keeps_2
def dkwX0_keeps_0 : List UInt8 := [42, 27, 155, 0, 11, 28, 155, 0, 7, 4, 167, 0, 4, 3, 182, 1, 85, 153, 0, 32, 42, 42, 27]
abbrev dktX0_keeps_0 : List UInt8 := dkwX0_keeps_0 ++ dktX0_keeps_1
theorem dksX0_keeps_0 : cX0_keeps.data.toList.drop 0 = dktX0_keeps_0 := by decide +kernel
theorem dksX0_keeps_1 : cX0_keeps.data.toList.drop 23 = dktX0_keeps_1 := dk_seg dksX0_keeps_0 23 rfl rfl
theorem dksX0_keeps_2 : cX0_keeps.data.toList.drop 46 = dktX0_keeps_2 := dk_seg dksX0_keeps_1 23 rfl rfl
theorem dksX0_keeps_3 : cX0_keeps.data.toList.drop 70 = dktX0_keeps_3 := dk_seg dksX0_keeps_2 24 rfl rfl
theorem dksX0_keeps_4 : cX0_keeps.data.toList.drop 92 = dktX0_keeps_4 := dk_seg dksX0_keeps_3 22 rfl rfl
theorem dX0_keeps_0 : decode cX0_keeps 0 = .ok (.aload_n 0, 1) := dk_42 (dk_at dksX0_keeps_0 0 rfl rfl)
theorem dX0_keeps_1 : decode cX0_keeps 1 = .ok (.iload_n 1, 1) := dk_27 (dk_at dksX0_keeps_0 1 rfl rfl)
theorem dX0_keeps_2 : decode cX0_keeps 2 = .ok (.ifCond .lt 11, 3) := dk_155 0 11 (dk_at dksX0_keeps_0 2 rfl rfl)
theorem dX0_keeps_5 : decode cX0_keeps 5 = .ok (.iload_n 2, 1) := dk_28 (dk_at dksX0_keeps_0 5 rfl rfl)
theorem dX0_keeps_6 : decode cX0_keeps 6 = .ok (.ifCond .lt 7, 3) := dk_155 0 7 (dk_at dksX0_keeps_0 6 rfl rfl)
theorem dX0_keeps_9 : decode cX0_keeps 9 = .ok (.iconst 1, 1) := dk_4 (dk_at dksX0_keeps_0 9 rfl rfl)
theorem dX0_keeps_10 : decode cX0_keeps 10 = .ok (.goto 4, 3) := dk_167 0 4 (dk_at dksX0_keeps_0 10 rfl rfl)
theorem dX0_keeps_13 : decode cX0_keeps 13 = .ok (.iconst 0, 1) := dk_3 (dk_at dksX0_keeps_0 13 rfl rfl)
theorem dX0_keeps_14 : decode cX0_keeps 14 = .ok (.invokevirtual 341, 3) := dk_182 1 85 (dk_at dksX0_keeps_0 14 rfl rfl)
theorem dX0_keeps_17 : decode cX0_keeps 17 = .ok (.ifCond .eq 32, 3) := dk_153 0 32 (dk_at dksX0_keeps_0 17 rfl rfl)
theorem dX0_keeps_20 : decode cX0_keeps 20 = .ok (.aload_n 0, 1) := dk_42 (dk_at dksX0_keeps_0 20 rfl rfl)
theorem dX0_keeps_21 : decode cX0_keeps 21 = .ok (.aload_n 0, 1) := dk_42 (dk_at dksX0_keeps_0 21 rfl rfl)
theorem dX0_keeps_22 : decode cX0_keeps 22 = .ok (.iload_n 1, 1) := dk_27 (dk_at dksX0_keeps_0 22 rfl rfl)
theorem dX0_keeps_23 : decode cX0_keeps 23 = .ok (.invokevirtual 250, 3) := dk_182 0 250 (dk_at dksX0_keeps_1 0 rfl rfl)
theorem dX0_keeps_26 : decode cX0_keeps 26 = .ok (.ifCond .eq 15, 3) := dk_153 0 15 (dk_at dksX0_keeps_1 3 rfl rfl)
theorem dX0_keeps_29 : decode cX0_keeps 29 = .ok (.aload_n 0, 1) := dk_42 (dk_at dksX0_keeps_1 6 rfl rfl)
theorem dX0_keeps_30 : decode cX0_keeps 30 = .ok (.iload_n 2, 1) := dk_28 (dk_at dksX0_keeps_1 7 rfl rfl)
theorem dX0_keeps_31 : decode cX0_keeps 31 = .ok (.invokevirtual 250, 3) := dk_182 0 250 (dk_at dksX0_keeps_1 8 rfl rfl)
theorem dX0_keeps_34 : decode cX0_keeps 34 = .ok (.ifCond .eq 7, 3) := dk_153 0 7 (dk_at dksX0_keeps_1 11 rfl rfl)
theorem dX0_keeps_37 : decode cX0_keeps 37 = .ok (.iconst 1, 1) := dk_4 (dk_at dksX0_keeps_1 14 rfl rfl)
theorem dX0_keeps_38 : decode cX0_keeps 38 = .ok (.goto 4, 3) := dk_167 0 4 (dk_at dksX0_keeps_1 15 rfl rfl)
theorem dX0_keeps_41 : decode cX0_keeps 41 = .ok (.iconst 0, 1) := dk_3 (dk_at dksX0_keeps_1 18 rfl rfl)
theorem dX0_keeps_42 : decode cX0_keeps 42 = .ok (.iconst 3, 1) := dk_6 (dk_at dksX0_keeps_1 19 rfl rfl)
theorem dX0_keeps_43 : decode cX0_keeps 43 = .ok (.invokevirtual 254, 3) := dk_182 0 254 (dk_at dksX0_keeps_1 20 rfl rfl)
theorem dX0_keeps_46 : decode cX0_keeps 46 = .ok (.ifCond .ne 5, 3) := dk_154 0 5 (dk_at dksX0_keeps_2 0 rfl rfl)
theorem dX0_keeps_49 : decode cX0_keeps 49 = .ok (.iconst (-1), 1) := dk_2 (dk_at dksX0_keeps_2 3 rfl rfl)
theorem dX0_keeps_50 : decode cX0_keeps 50 = .ok (.ireturn, 1) := dk_172 (dk_at dksX0_keeps_2 4 rfl rfl)
theorem dX0_keeps_51 : decode cX0_keeps 51 = .ok (.iconst 0, 1) := dk_3 (dk_at dksX0_keeps_2 5 rfl rfl)
theorem dX0_keeps_52 : decode cX0_keeps 52 = .ok (.istore_n 3, 1) := dk_62 (dk_at dksX0_keeps_2 6 rfl rfl)
theorem dX0_keeps_53 : decode cX0_keeps 53 = .ok (.iconst 0, 1) := dk_3 (dk_at dksX0_keeps_2 7 rfl rfl)
theorem dX0_keeps_54 : decode cX0_keeps 54 = .ok (.istore 4, 2) := dk_54 4 (dk_at dksX0_keeps_2 8 rfl rfl)
theorem dX0_keeps_56 : decode cX0_keeps 56 = .ok (.iload 4, 2) := dk_21 4 (dk_at dksX0_keeps_2 10 rfl rfl)
theorem dX0_keeps_58 : decode cX0_keeps 58 = .ok (.aload_n 0, 1) := dk_42 (dk_at dksX0_keeps_2 12 rfl rfl)
theorem dX0_keeps_59 : decode cX0_keeps 59 = .ok (.getfield 148, 3) := dk_180 0 148 (dk_at dksX0_keeps_2 13 rfl rfl)
theorem dX0_keeps_62 : decode cX0_keeps 62 = .ok (.getfield 344, 3) := dk_180 1 88 (dk_at dksX0_keeps_2 16 rfl rfl)
theorem dX0_keeps_65 : decode cX0_keeps 65 = .ok (.if_icmp .ge 43, 3) := dk_162 0 43 (dk_at dksX0_keeps_2 19 rfl rfl)
theorem dX0_keeps_68 : decode cX0_keeps 68 = .ok (.iload_n 3, 1) := dk_29 (dk_at dksX0_keeps_2 22 rfl rfl)
theorem dX0_keeps_69 : decode cX0_keeps 69 = .ok (.aload_n 0, 1) := dk_42 (dk_at dksX0_keeps_2 23 rfl rfl)
theorem dX0_keeps_70 : decode cX0_keeps 70 = .ok (.iload 4, 2) := dk_21 4 (dk_at dksX0_keeps_3 0 rfl rfl)
theorem dX0_keeps_72 : decode cX0_keeps 72 = .ok (.invokevirtual 353, 3) := dk_182 1 97 (dk_at dksX0_keeps_3 2 rfl rfl)
theorem dX0_keeps_75 : decode cX0_keeps 75 = .ok (.iload_n 1, 1) := dk_27 (dk_at dksX0_keeps_3 5 rfl rfl)
theorem dX0_keeps_76 : decode cX0_keeps 76 = .ok (.invokevirtual 453, 3) := dk_182 1 197 (dk_at dksX0_keeps_3 6 rfl rfl)
theorem dX0_keeps_79 : decode cX0_keeps 79 = .ok (.ifCond .eq 20, 3) := dk_153 0 20 (dk_at dksX0_keeps_3 9 rfl rfl)
theorem dX0_keeps_82 : decode cX0_keeps 82 = .ok (.aload_n 0, 1) := dk_42 (dk_at dksX0_keeps_3 12 rfl rfl)
theorem dX0_keeps_83 : decode cX0_keeps 83 = .ok (.iload 4, 2) := dk_21 4 (dk_at dksX0_keeps_3 13 rfl rfl)
theorem dX0_keeps_85 : decode cX0_keeps 85 = .ok (.invokevirtual 353, 3) := dk_182 1 97 (dk_at dksX0_keeps_3 15 rfl rfl)
theorem dX0_keeps_88 : decode cX0_keeps 88 = .ok (.iload_n 2, 1) := dk_28 (dk_at dksX0_keeps_3 18 rfl rfl)
theorem dX0_keeps_89 : decode cX0_keeps 89 = .ok (.invokevirtual 453, 3) := dk_182 1 197 (dk_at dksX0_keeps_3 19 rfl rfl)
theorem dX0_keeps_92 : decode cX0_keeps 92 = .ok (.ifCond .eq 7, 3) := dk_153 0 7 (dk_at dksX0_keeps_4 0 rfl rfl)
theorem dX0_keeps_95 : decode cX0_keeps 95 = .ok (.iconst 1, 1) := dk_4 (dk_at dksX0_keeps_4 3 rfl rfl)
theorem dX0_keeps_96 : decode cX0_keeps 96 = .ok (.goto 4, 3) := dk_167 0 4 (dk_at dksX0_keeps_4 4 rfl rfl)
theorem dX0_keeps_99 : decode cX0_keeps 99 = .ok (.iconst 0, 1) := dk_3 (dk_at dksX0_keeps_4 7 rfl rfl)
theorem dX0_keeps_100 : decode cX0_keeps 100 = .ok (.iadd, 1) := dk_96 (dk_at dksX0_keeps_4 8 rfl rfl)
theorem dX0_keeps_101 : decode cX0_keeps 101 = .ok (.istore_n 3, 1) := dk_62 (dk_at dksX0_keeps_4 9 rfl rfl)
theorem dX0_keeps_102 : decode cX0_keeps 102 = .ok (.iinc 4 1, 3) := dk_132 4 1 (dk_at dksX0_keeps_4 10 rfl rfl)
theorem dX0_keeps_105 : decode cX0_keeps 105 = .ok (.goto (-49), 3) := dk_167 255 207 (dk_at dksX0_keeps_4 13 rfl rfl)
theorem dX0_keeps_108 : decode cX0_keeps 108 = .ok (.iload_n 3, 1) := dk_29 (dk_at dksX0_keeps_4 16 rfl rfl)
theorem dX0_keeps_109 : decode cX0_keeps 109 = .ok (.ireturn, 1) := dk_172 (dk_at dksX0_keeps_4 17 rfl rfl)
abbrev cX0_pairOrbits : ByteArray := prog_1_method_66_code
def yX0_pairOrbits : MethodName := ⟨RX0, "pairOrbits", "()I"⟩
def dkwX0_pairOrbits_0 : List UInt8 := [42, 4, 182, 1, 85, 153, 0, 13, 42, 180, 0, 148, 182, 1, 200, 167, 0, 4, 2, 172]
abbrev dktX0_pairOrbits_0 : List UInt8 := dkwX0_pairOrbits_0 ++ []
theorem dksX0_pairOrbits_0 : cX0_pairOrbits.data.toList.drop 0 = dktX0_pairOrbits_0 := by decide +kernel
theorem dX0_pairOrbits_0 : decode cX0_pairOrbits 0 = .ok (.aload_n 0, 1) := dk_42 (dk_at dksX0_pairOrbits_0 0 rfl rfl)
theorem dX0_pairOrbits_1 : decode cX0_pairOrbits 1 = .ok (.iconst 1, 1) := dk_4 (dk_at dksX0_pairOrbits_0 1 rfl rfl)
theorem dX0_pairOrbits_2 : decode cX0_pairOrbits 2 = .ok (.invokevirtual 341, 3) := dk_182 1 85 (dk_at dksX0_pairOrbits_0 2 rfl rfl)
theorem dX0_pairOrbits_5 : decode cX0_pairOrbits 5 = .ok (.ifCond .eq 13, 3) := dk_153 0 13 (dk_at dksX0_pairOrbits_0 5 rfl rfl)
theorem dX0_pairOrbits_8 : decode cX0_pairOrbits 8 = .ok (.aload_n 0, 1) := dk_42 (dk_at dksX0_pairOrbits_0 8 rfl rfl)
theorem dX0_pairOrbits_9 : decode cX0_pairOrbits 9 = .ok (.getfield 148, 3) := dk_180 0 148 (dk_at dksX0_pairOrbits_0 9 rfl rfl)
theorem dX0_pairOrbits_12 : decode cX0_pairOrbits 12 = .ok (.invokevirtual 456, 3) := dk_182 1 200 (dk_at dksX0_pairOrbits_0 12 rfl rfl)
theorem dX0_pairOrbits_15 : decode cX0_pairOrbits 15 = .ok (.goto 4, 3) := dk_167 0 4 (dk_at dksX0_pairOrbits_0 15 rfl rfl)
theorem dX0_pairOrbits_18 : decode cX0_pairOrbits 18 = .ok (.iconst (-1), 1) := dk_2 (dk_at dksX0_pairOrbits_0 18 rfl rfl)
theorem dX0_pairOrbits_19 : decode cX0_pairOrbits 19 = .ok (.ireturn, 1) := dk_172 (dk_at dksX0_pairOrbits_0 19 rfl rfl)
abbrev cX0_middle : ByteArray := prog_1_method_67_code
def yX0_middle : MethodName := ⟨RX0, "middle", "()I"⟩
def dkwX0_middle_2 : List UInt8 := [132, 2, 1, 167, 255, 221, 27, 172]
abbrev dktX0_middle_2 : List UInt8 := dkwX0_middle_2 ++ []
def dkwX0_middle_1 : List UInt8 := [162, 0, 30, 27, 42, 180, 0, 148, 180, 1, 169, 28, 46, 4, 160, 0, 7, 4, 167, 0, 4, 3, 96, 60]
abbrev dktX0_middle_1 : List UInt8 := dkwX0_middle_1 ++ dktX0_middle_2
def dkwX0_middle_0 : List UInt8 := [42, 4, 182, 1, 85, 154, 0, 5, 2, 172, 3, 60, 3, 61, 28, 42, 180, 0, 148, 180, 1, 160]
abbrev dktX0_middle_0 : List UInt8 := dkwX0_middle_0 ++ dktX0_middle_1
theorem dksX0_middle_0 : cX0_middle.data.toList.drop 0 = dktX0_middle_0 := by decide +kernel
theorem dksX0_middle_1 : cX0_middle.data.toList.drop 22 = dktX0_middle_1 := dk_seg dksX0_middle_0 22 rfl rfl
theorem dksX0_middle_2 : cX0_middle.data.toList.drop 46 = dktX0_middle_2 := dk_seg dksX0_middle_1 24 rfl rfl
theorem dX0_middle_0 : decode cX0_middle 0 = .ok (.aload_n 0, 1) := dk_42 (dk_at dksX0_middle_0 0 rfl rfl)
theorem dX0_middle_1 : decode cX0_middle 1 = .ok (.iconst 1, 1) := dk_4 (dk_at dksX0_middle_0 1 rfl rfl)
theorem dX0_middle_2 : decode cX0_middle 2 = .ok (.invokevirtual 341, 3) := dk_182 1 85 (dk_at dksX0_middle_0 2 rfl rfl)
theorem dX0_middle_5 : decode cX0_middle 5 = .ok (.ifCond .ne 5, 3) := dk_154 0 5 (dk_at dksX0_middle_0 5 rfl rfl)
theorem dX0_middle_8 : decode cX0_middle 8 = .ok (.iconst (-1), 1) := dk_2 (dk_at dksX0_middle_0 8 rfl rfl)
theorem dX0_middle_9 : decode cX0_middle 9 = .ok (.ireturn, 1) := dk_172 (dk_at dksX0_middle_0 9 rfl rfl)
theorem dX0_middle_10 : decode cX0_middle 10 = .ok (.iconst 0, 1) := dk_3 (dk_at dksX0_middle_0 10 rfl rfl)
theorem dX0_middle_11 : decode cX0_middle 11 = .ok (.istore_n 1, 1) := dk_60 (dk_at dksX0_middle_0 11 rfl rfl)
theorem dX0_middle_12 : decode cX0_middle 12 = .ok (.iconst 0, 1) := dk_3 (dk_at dksX0_middle_0 12 rfl rfl)
theorem dX0_middle_13 : decode cX0_middle 13 = .ok (.istore_n 2, 1) := dk_61 (dk_at dksX0_middle_0 13 rfl rfl)
theorem dX0_middle_14 : decode cX0_middle 14 = .ok (.iload_n 2, 1) := dk_28 (dk_at dksX0_middle_0 14 rfl rfl)
theorem dX0_middle_15 : decode cX0_middle 15 = .ok (.aload_n 0, 1) := dk_42 (dk_at dksX0_middle_0 15 rfl rfl)
theorem dX0_middle_16 : decode cX0_middle 16 = .ok (.getfield 148, 3) := dk_180 0 148 (dk_at dksX0_middle_0 16 rfl rfl)
theorem dX0_middle_19 : decode cX0_middle 19 = .ok (.getfield 416, 3) := dk_180 1 160 (dk_at dksX0_middle_0 19 rfl rfl)
theorem dX0_middle_22 : decode cX0_middle 22 = .ok (.if_icmp .ge 30, 3) := dk_162 0 30 (dk_at dksX0_middle_1 0 rfl rfl)
theorem dX0_middle_25 : decode cX0_middle 25 = .ok (.iload_n 1, 1) := dk_27 (dk_at dksX0_middle_1 3 rfl rfl)
theorem dX0_middle_26 : decode cX0_middle 26 = .ok (.aload_n 0, 1) := dk_42 (dk_at dksX0_middle_1 4 rfl rfl)
theorem dX0_middle_27 : decode cX0_middle 27 = .ok (.getfield 148, 3) := dk_180 0 148 (dk_at dksX0_middle_1 5 rfl rfl)
theorem dX0_middle_30 : decode cX0_middle 30 = .ok (.getfield 425, 3) := dk_180 1 169 (dk_at dksX0_middle_1 8 rfl rfl)
theorem dX0_middle_33 : decode cX0_middle 33 = .ok (.iload_n 2, 1) := dk_28 (dk_at dksX0_middle_1 11 rfl rfl)
theorem dX0_middle_34 : decode cX0_middle 34 = .ok (.iaload, 1) := dk_46 (dk_at dksX0_middle_1 12 rfl rfl)
theorem dX0_middle_35 : decode cX0_middle 35 = .ok (.iconst 1, 1) := dk_4 (dk_at dksX0_middle_1 13 rfl rfl)
theorem dX0_middle_36 : decode cX0_middle 36 = .ok (.if_icmp .ne 7, 3) := dk_160 0 7 (dk_at dksX0_middle_1 14 rfl rfl)
theorem dX0_middle_39 : decode cX0_middle 39 = .ok (.iconst 1, 1) := dk_4 (dk_at dksX0_middle_1 17 rfl rfl)
theorem dX0_middle_40 : decode cX0_middle 40 = .ok (.goto 4, 3) := dk_167 0 4 (dk_at dksX0_middle_1 18 rfl rfl)
theorem dX0_middle_43 : decode cX0_middle 43 = .ok (.iconst 0, 1) := dk_3 (dk_at dksX0_middle_1 21 rfl rfl)
theorem dX0_middle_44 : decode cX0_middle 44 = .ok (.iadd, 1) := dk_96 (dk_at dksX0_middle_1 22 rfl rfl)
theorem dX0_middle_45 : decode cX0_middle 45 = .ok (.istore_n 1, 1) := dk_60 (dk_at dksX0_middle_1 23 rfl rfl)
theorem dX0_middle_46 : decode cX0_middle 46 = .ok (.iinc 2 1, 3) := dk_132 2 1 (dk_at dksX0_middle_2 0 rfl rfl)
theorem dX0_middle_49 : decode cX0_middle 49 = .ok (.goto (-35), 3) := dk_167 255 221 (dk_at dksX0_middle_2 3 rfl rfl)
theorem dX0_middle_52 : decode cX0_middle 52 = .ok (.iload_n 1, 1) := dk_27 (dk_at dksX0_middle_2 6 rfl rfl)
theorem dX0_middle_53 : decode cX0_middle 53 = .ok (.ireturn, 1) := dk_172 (dk_at dksX0_middle_2 7 rfl rfl)
abbrev cX0_derived : ByteArray := prog_1_method_68_code
def yX0_derived : MethodName := ⟨RX0, "derived", "()I"⟩
def dkwX0_derived_4 : List UInt8 := [132, 4, 1, 167, 255, 187, 132, 3, 1, 167, 255, 167, 42, 180, 0, 148, 31, 182, 1, 203, 184, 1, 206, 172]
abbrev dktX0_derived_4 : List UInt8 := dkwX0_derived_4 ++ []
def dkwX0_derived_3 : List UInt8 := [180, 1, 135, 21, 4, 46, 46, 50, 42, 180, 0, 148, 180, 1, 132, 29, 50, 21, 4, 46, 46, 121, 129, 64]
abbrev dktX0_derived_3 : List UInt8 := dkwX0_derived_3 ++ dktX0_derived_4
def dkwX0_derived_2 : List UInt8 := [180, 1, 132, 42, 180, 0, 148, 180, 1, 132, 42, 180, 0, 148, 180, 1, 135, 29, 46, 50, 42, 180, 0, 148]
abbrev dktX0_derived_2 : List UInt8 := dkwX0_derived_2 ++ dktX0_derived_3
def dkwX0_derived_1 : List UInt8 := [162, 0, 84, 3, 54, 4, 21, 4, 42, 180, 0, 148, 180, 1, 88, 162, 0, 63, 31, 10, 42, 180, 0, 148]
abbrev dktX0_derived_1 : List UInt8 := dkwX0_derived_1 ++ dktX0_derived_2
def dkwX0_derived_0 : List UInt8 := [42, 4, 182, 1, 85, 154, 0, 5, 2, 172, 10, 64, 3, 62, 29, 42, 180, 0, 148, 180, 1, 88]
abbrev dktX0_derived_0 : List UInt8 := dkwX0_derived_0 ++ dktX0_derived_1
theorem dksX0_derived_0 : cX0_derived.data.toList.drop 0 = dktX0_derived_0 := by decide +kernel
theorem dksX0_derived_1 : cX0_derived.data.toList.drop 22 = dktX0_derived_1 := dk_seg dksX0_derived_0 22 rfl rfl
theorem dksX0_derived_2 : cX0_derived.data.toList.drop 46 = dktX0_derived_2 := dk_seg dksX0_derived_1 24 rfl rfl
theorem dksX0_derived_3 : cX0_derived.data.toList.drop 70 = dktX0_derived_3 := dk_seg dksX0_derived_2 24 rfl rfl
theorem dksX0_derived_4 : cX0_derived.data.toList.drop 94 = dktX0_derived_4 := dk_seg dksX0_derived_3 24 rfl rfl
theorem dX0_derived_0 : decode cX0_derived 0 = .ok (.aload_n 0, 1) := dk_42 (dk_at dksX0_derived_0 0 rfl rfl)
theorem dX0_derived_1 : decode cX0_derived 1 = .ok (.iconst 1, 1) := dk_4 (dk_at dksX0_derived_0 1 rfl rfl)
theorem dX0_derived_2 : decode cX0_derived 2 = .ok (.invokevirtual 341, 3) := dk_182 1 85 (dk_at dksX0_derived_0 2 rfl rfl)
theorem dX0_derived_5 : decode cX0_derived 5 = .ok (.ifCond .ne 5, 3) := dk_154 0 5 (dk_at dksX0_derived_0 5 rfl rfl)
theorem dX0_derived_8 : decode cX0_derived 8 = .ok (.iconst (-1), 1) := dk_2 (dk_at dksX0_derived_0 8 rfl rfl)
theorem dX0_derived_9 : decode cX0_derived 9 = .ok (.ireturn, 1) := dk_172 (dk_at dksX0_derived_0 9 rfl rfl)
theorem dX0_derived_10 : decode cX0_derived 10 = .ok (.lconst 1, 1) := dk_10 (dk_at dksX0_derived_0 10 rfl rfl)
theorem dX0_derived_11 : decode cX0_derived 11 = .ok (.lstore_n 1, 1) := dk_64 (dk_at dksX0_derived_0 11 rfl rfl)
theorem dX0_derived_12 : decode cX0_derived 12 = .ok (.iconst 0, 1) := dk_3 (dk_at dksX0_derived_0 12 rfl rfl)
theorem dX0_derived_13 : decode cX0_derived 13 = .ok (.istore_n 3, 1) := dk_62 (dk_at dksX0_derived_0 13 rfl rfl)
theorem dX0_derived_14 : decode cX0_derived 14 = .ok (.iload_n 3, 1) := dk_29 (dk_at dksX0_derived_0 14 rfl rfl)
theorem dX0_derived_15 : decode cX0_derived 15 = .ok (.aload_n 0, 1) := dk_42 (dk_at dksX0_derived_0 15 rfl rfl)
theorem dX0_derived_16 : decode cX0_derived 16 = .ok (.getfield 148, 3) := dk_180 0 148 (dk_at dksX0_derived_0 16 rfl rfl)
theorem dX0_derived_19 : decode cX0_derived 19 = .ok (.getfield 344, 3) := dk_180 1 88 (dk_at dksX0_derived_0 19 rfl rfl)
theorem dX0_derived_22 : decode cX0_derived 22 = .ok (.if_icmp .ge 84, 3) := dk_162 0 84 (dk_at dksX0_derived_1 0 rfl rfl)
theorem dX0_derived_25 : decode cX0_derived 25 = .ok (.iconst 0, 1) := dk_3 (dk_at dksX0_derived_1 3 rfl rfl)
theorem dX0_derived_26 : decode cX0_derived 26 = .ok (.istore 4, 2) := dk_54 4 (dk_at dksX0_derived_1 4 rfl rfl)
theorem dX0_derived_28 : decode cX0_derived 28 = .ok (.iload 4, 2) := dk_21 4 (dk_at dksX0_derived_1 6 rfl rfl)
theorem dX0_derived_30 : decode cX0_derived 30 = .ok (.aload_n 0, 1) := dk_42 (dk_at dksX0_derived_1 8 rfl rfl)
theorem dX0_derived_31 : decode cX0_derived 31 = .ok (.getfield 148, 3) := dk_180 0 148 (dk_at dksX0_derived_1 9 rfl rfl)
theorem dX0_derived_34 : decode cX0_derived 34 = .ok (.getfield 344, 3) := dk_180 1 88 (dk_at dksX0_derived_1 12 rfl rfl)
theorem dX0_derived_37 : decode cX0_derived 37 = .ok (.if_icmp .ge 63, 3) := dk_162 0 63 (dk_at dksX0_derived_1 15 rfl rfl)
theorem dX0_derived_40 : decode cX0_derived 40 = .ok (.lload_n 1, 1) := dk_31 (dk_at dksX0_derived_1 18 rfl rfl)
theorem dX0_derived_41 : decode cX0_derived 41 = .ok (.lconst 1, 1) := dk_10 (dk_at dksX0_derived_1 19 rfl rfl)
theorem dX0_derived_42 : decode cX0_derived 42 = .ok (.aload_n 0, 1) := dk_42 (dk_at dksX0_derived_1 20 rfl rfl)
theorem dX0_derived_43 : decode cX0_derived 43 = .ok (.getfield 148, 3) := dk_180 0 148 (dk_at dksX0_derived_1 21 rfl rfl)
theorem dX0_derived_46 : decode cX0_derived 46 = .ok (.getfield 388, 3) := dk_180 1 132 (dk_at dksX0_derived_2 0 rfl rfl)
theorem dX0_derived_49 : decode cX0_derived 49 = .ok (.aload_n 0, 1) := dk_42 (dk_at dksX0_derived_2 3 rfl rfl)
theorem dX0_derived_50 : decode cX0_derived 50 = .ok (.getfield 148, 3) := dk_180 0 148 (dk_at dksX0_derived_2 4 rfl rfl)
theorem dX0_derived_53 : decode cX0_derived 53 = .ok (.getfield 388, 3) := dk_180 1 132 (dk_at dksX0_derived_2 7 rfl rfl)
theorem dX0_derived_56 : decode cX0_derived 56 = .ok (.aload_n 0, 1) := dk_42 (dk_at dksX0_derived_2 10 rfl rfl)
theorem dX0_derived_57 : decode cX0_derived 57 = .ok (.getfield 148, 3) := dk_180 0 148 (dk_at dksX0_derived_2 11 rfl rfl)
theorem dX0_derived_60 : decode cX0_derived 60 = .ok (.getfield 391, 3) := dk_180 1 135 (dk_at dksX0_derived_2 14 rfl rfl)
theorem dX0_derived_63 : decode cX0_derived 63 = .ok (.iload_n 3, 1) := dk_29 (dk_at dksX0_derived_2 17 rfl rfl)
theorem dX0_derived_64 : decode cX0_derived 64 = .ok (.iaload, 1) := dk_46 (dk_at dksX0_derived_2 18 rfl rfl)
theorem dX0_derived_65 : decode cX0_derived 65 = .ok (.aaload, 1) := dk_50 (dk_at dksX0_derived_2 19 rfl rfl)
theorem dX0_derived_66 : decode cX0_derived 66 = .ok (.aload_n 0, 1) := dk_42 (dk_at dksX0_derived_2 20 rfl rfl)
theorem dX0_derived_67 : decode cX0_derived 67 = .ok (.getfield 148, 3) := dk_180 0 148 (dk_at dksX0_derived_2 21 rfl rfl)
theorem dX0_derived_70 : decode cX0_derived 70 = .ok (.getfield 391, 3) := dk_180 1 135 (dk_at dksX0_derived_3 0 rfl rfl)
theorem dX0_derived_73 : decode cX0_derived 73 = .ok (.iload 4, 2) := dk_21 4 (dk_at dksX0_derived_3 3 rfl rfl)
theorem dX0_derived_75 : decode cX0_derived 75 = .ok (.iaload, 1) := dk_46 (dk_at dksX0_derived_3 5 rfl rfl)
theorem dX0_derived_76 : decode cX0_derived 76 = .ok (.iaload, 1) := dk_46 (dk_at dksX0_derived_3 6 rfl rfl)
theorem dX0_derived_77 : decode cX0_derived 77 = .ok (.aaload, 1) := dk_50 (dk_at dksX0_derived_3 7 rfl rfl)
theorem dX0_derived_78 : decode cX0_derived 78 = .ok (.aload_n 0, 1) := dk_42 (dk_at dksX0_derived_3 8 rfl rfl)
theorem dX0_derived_79 : decode cX0_derived 79 = .ok (.getfield 148, 3) := dk_180 0 148 (dk_at dksX0_derived_3 9 rfl rfl)
theorem dX0_derived_82 : decode cX0_derived 82 = .ok (.getfield 388, 3) := dk_180 1 132 (dk_at dksX0_derived_3 12 rfl rfl)
theorem dX0_derived_85 : decode cX0_derived 85 = .ok (.iload_n 3, 1) := dk_29 (dk_at dksX0_derived_3 15 rfl rfl)
theorem dX0_derived_86 : decode cX0_derived 86 = .ok (.aaload, 1) := dk_50 (dk_at dksX0_derived_3 16 rfl rfl)
theorem dX0_derived_87 : decode cX0_derived 87 = .ok (.iload 4, 2) := dk_21 4 (dk_at dksX0_derived_3 17 rfl rfl)
theorem dX0_derived_89 : decode cX0_derived 89 = .ok (.iaload, 1) := dk_46 (dk_at dksX0_derived_3 19 rfl rfl)
theorem dX0_derived_90 : decode cX0_derived 90 = .ok (.iaload, 1) := dk_46 (dk_at dksX0_derived_3 20 rfl rfl)
theorem dX0_derived_91 : decode cX0_derived 91 = .ok (.lshl, 1) := dk_121 (dk_at dksX0_derived_3 21 rfl rfl)
theorem dX0_derived_92 : decode cX0_derived 92 = .ok (.lor, 1) := dk_129 (dk_at dksX0_derived_3 22 rfl rfl)
theorem dX0_derived_93 : decode cX0_derived 93 = .ok (.lstore_n 1, 1) := dk_64 (dk_at dksX0_derived_3 23 rfl rfl)
theorem dX0_derived_94 : decode cX0_derived 94 = .ok (.iinc 4 1, 3) := dk_132 4 1 (dk_at dksX0_derived_4 0 rfl rfl)
theorem dX0_derived_97 : decode cX0_derived 97 = .ok (.goto (-69), 3) := dk_167 255 187 (dk_at dksX0_derived_4 3 rfl rfl)
theorem dX0_derived_100 : decode cX0_derived 100 = .ok (.iinc 3 1, 3) := dk_132 3 1 (dk_at dksX0_derived_4 6 rfl rfl)
theorem dX0_derived_103 : decode cX0_derived 103 = .ok (.goto (-89), 3) := dk_167 255 167 (dk_at dksX0_derived_4 9 rfl rfl)
theorem dX0_derived_106 : decode cX0_derived 106 = .ok (.aload_n 0, 1) := dk_42 (dk_at dksX0_derived_4 12 rfl rfl)
theorem dX0_derived_107 : decode cX0_derived 107 = .ok (.getfield 148, 3) := dk_180 0 148 (dk_at dksX0_derived_4 13 rfl rfl)
theorem dX0_derived_110 : decode cX0_derived 110 = .ok (.lload_n 1, 1) := dk_31 (dk_at dksX0_derived_4 16 rfl rfl)
theorem dX0_derived_111 : decode cX0_derived 111 = .ok (.invokevirtual 459, 3) := dk_182 1 203 (dk_at dksX0_derived_4 17 rfl rfl)
theorem dX0_derived_114 : decode cX0_derived 114 = .ok (.invokestatic 462, 3) := dk_184 1 206 (dk_at dksX0_derived_4 20 rfl rfl)
theorem dX0_derived_117 : decode cX0_derived 117 = .ok (.ireturn, 1) := dk_172 (dk_at dksX0_derived_4 23 rfl rfl)
abbrev cX0_generated : ByteArray := prog_1_method_69_code
def yX0_generated : MethodName := ⟨RX0, "generated", "(II)I"⟩
def dkwX0_generated_1 : List UInt8 := [184, 1, 206, 167, 0, 4, 2, 172]
abbrev dktX0_generated_1 : List UInt8 := dkwX0_generated_1 ++ []
def dkwX0_generated_0 : List UInt8 := [42, 27, 28, 182, 1, 129, 153, 0, 23, 42, 180, 0, 148, 10, 27, 121, 10, 28, 121, 129, 182, 1, 203]
abbrev dktX0_generated_0 : List UInt8 := dkwX0_generated_0 ++ dktX0_generated_1
theorem dksX0_generated_0 : cX0_generated.data.toList.drop 0 = dktX0_generated_0 := by decide +kernel
theorem dksX0_generated_1 : cX0_generated.data.toList.drop 23 = dktX0_generated_1 := dk_seg dksX0_generated_0 23 rfl rfl
theorem dX0_generated_0 : decode cX0_generated 0 = .ok (.aload_n 0, 1) := dk_42 (dk_at dksX0_generated_0 0 rfl rfl)
theorem dX0_generated_1 : decode cX0_generated 1 = .ok (.iload_n 1, 1) := dk_27 (dk_at dksX0_generated_0 1 rfl rfl)
theorem dX0_generated_2 : decode cX0_generated 2 = .ok (.iload_n 2, 1) := dk_28 (dk_at dksX0_generated_0 2 rfl rfl)
theorem dX0_generated_3 : decode cX0_generated 3 = .ok (.invokevirtual 385, 3) := dk_182 1 129 (dk_at dksX0_generated_0 3 rfl rfl)
theorem dX0_generated_6 : decode cX0_generated 6 = .ok (.ifCond .eq 23, 3) := dk_153 0 23 (dk_at dksX0_generated_0 6 rfl rfl)
theorem dX0_generated_9 : decode cX0_generated 9 = .ok (.aload_n 0, 1) := dk_42 (dk_at dksX0_generated_0 9 rfl rfl)
theorem dX0_generated_10 : decode cX0_generated 10 = .ok (.getfield 148, 3) := dk_180 0 148 (dk_at dksX0_generated_0 10 rfl rfl)
theorem dX0_generated_13 : decode cX0_generated 13 = .ok (.lconst 1, 1) := dk_10 (dk_at dksX0_generated_0 13 rfl rfl)
theorem dX0_generated_14 : decode cX0_generated 14 = .ok (.iload_n 1, 1) := dk_27 (dk_at dksX0_generated_0 14 rfl rfl)
theorem dX0_generated_15 : decode cX0_generated 15 = .ok (.lshl, 1) := dk_121 (dk_at dksX0_generated_0 15 rfl rfl)
theorem dX0_generated_16 : decode cX0_generated 16 = .ok (.lconst 1, 1) := dk_10 (dk_at dksX0_generated_0 16 rfl rfl)
theorem dX0_generated_17 : decode cX0_generated 17 = .ok (.iload_n 2, 1) := dk_28 (dk_at dksX0_generated_0 17 rfl rfl)
theorem dX0_generated_18 : decode cX0_generated 18 = .ok (.lshl, 1) := dk_121 (dk_at dksX0_generated_0 18 rfl rfl)
theorem dX0_generated_19 : decode cX0_generated 19 = .ok (.lor, 1) := dk_129 (dk_at dksX0_generated_0 19 rfl rfl)
theorem dX0_generated_20 : decode cX0_generated 20 = .ok (.invokevirtual 459, 3) := dk_182 1 203 (dk_at dksX0_generated_0 20 rfl rfl)
theorem dX0_generated_23 : decode cX0_generated 23 = .ok (.invokestatic 462, 3) := dk_184 1 206 (dk_at dksX0_generated_1 0 rfl rfl)
theorem dX0_generated_26 : decode cX0_generated 26 = .ok (.goto 4, 3) := dk_167 0 4 (dk_at dksX0_generated_1 3 rfl rfl)
theorem dX0_generated_29 : decode cX0_generated 29 = .ok (.iconst (-1), 1) := dk_2 (dk_at dksX0_generated_1 6 rfl rfl)
theorem dX0_generated_30 : decode cX0_generated 30 = .ok (.ireturn, 1) := dk_172 (dk_at dksX0_generated_1 7 rfl rfl)
abbrev cX0_fewest : ByteArray := prog_1_method_70_code
def yX0_fewest : MethodName := ⟨RX0, "fewest", "()I"⟩
def dkwX0_fewest_0 : List UInt8 := [42, 4, 182, 1, 85, 153, 0, 13, 42, 180, 0, 148, 182, 1, 211, 167, 0, 4, 2, 172]
abbrev dktX0_fewest_0 : List UInt8 := dkwX0_fewest_0 ++ []
theorem dksX0_fewest_0 : cX0_fewest.data.toList.drop 0 = dktX0_fewest_0 := by decide +kernel
theorem dX0_fewest_0 : decode cX0_fewest 0 = .ok (.aload_n 0, 1) := dk_42 (dk_at dksX0_fewest_0 0 rfl rfl)
theorem dX0_fewest_1 : decode cX0_fewest 1 = .ok (.iconst 1, 1) := dk_4 (dk_at dksX0_fewest_0 1 rfl rfl)
theorem dX0_fewest_2 : decode cX0_fewest 2 = .ok (.invokevirtual 341, 3) := dk_182 1 85 (dk_at dksX0_fewest_0 2 rfl rfl)
theorem dX0_fewest_5 : decode cX0_fewest 5 = .ok (.ifCond .eq 13, 3) := dk_153 0 13 (dk_at dksX0_fewest_0 5 rfl rfl)
theorem dX0_fewest_8 : decode cX0_fewest 8 = .ok (.aload_n 0, 1) := dk_42 (dk_at dksX0_fewest_0 8 rfl rfl)
theorem dX0_fewest_9 : decode cX0_fewest 9 = .ok (.getfield 148, 3) := dk_180 0 148 (dk_at dksX0_fewest_0 9 rfl rfl)
theorem dX0_fewest_12 : decode cX0_fewest 12 = .ok (.invokevirtual 467, 3) := dk_182 1 211 (dk_at dksX0_fewest_0 12 rfl rfl)
theorem dX0_fewest_15 : decode cX0_fewest 15 = .ok (.goto 4, 3) := dk_167 0 4 (dk_at dksX0_fewest_0 15 rfl rfl)
theorem dX0_fewest_18 : decode cX0_fewest 18 = .ok (.iconst (-1), 1) := dk_2 (dk_at dksX0_fewest_0 18 rfl rfl)
theorem dX0_fewest_19 : decode cX0_fewest 19 = .ok (.ireturn, 1) := dk_172 (dk_at dksX0_fewest_0 19 rfl rfl)
abbrev cX0_subgroups : ByteArray := prog_1_method_73_code
def yX0_subgroups : MethodName := ⟨RX0, "subgroups", "()I"⟩
def dkwX0_subgroups_0 : List UInt8 := [42, 4, 182, 1, 217, 153, 0, 13, 42, 180, 0, 148, 180, 1, 220, 167, 0, 4, 2, 172]
abbrev dktX0_subgroups_0 : List UInt8 := dkwX0_subgroups_0 ++ []
theorem dksX0_subgroups_0 : cX0_subgroups.data.toList.drop 0 = dktX0_subgroups_0 := by decide +kernel
theorem dX0_subgroups_0 : decode cX0_subgroups 0 = .ok (.aload_n 0, 1) := dk_42 (dk_at dksX0_subgroups_0 0 rfl rfl)
theorem dX0_subgroups_1 : decode cX0_subgroups 1 = .ok (.iconst 1, 1) := dk_4 (dk_at dksX0_subgroups_0 1 rfl rfl)
theorem dX0_subgroups_2 : decode cX0_subgroups 2 = .ok (.invokevirtual 473, 3) := dk_182 1 217 (dk_at dksX0_subgroups_0 2 rfl rfl)
theorem dX0_subgroups_5 : decode cX0_subgroups 5 = .ok (.ifCond .eq 13, 3) := dk_153 0 13 (dk_at dksX0_subgroups_0 5 rfl rfl)
theorem dX0_subgroups_8 : decode cX0_subgroups 8 = .ok (.aload_n 0, 1) := dk_42 (dk_at dksX0_subgroups_0 8 rfl rfl)
theorem dX0_subgroups_9 : decode cX0_subgroups 9 = .ok (.getfield 148, 3) := dk_180 0 148 (dk_at dksX0_subgroups_0 9 rfl rfl)
theorem dX0_subgroups_12 : decode cX0_subgroups 12 = .ok (.getfield 476, 3) := dk_180 1 220 (dk_at dksX0_subgroups_0 12 rfl rfl)
theorem dX0_subgroups_15 : decode cX0_subgroups 15 = .ok (.goto 4, 3) := dk_167 0 4 (dk_at dksX0_subgroups_0 15 rfl rfl)
theorem dX0_subgroups_18 : decode cX0_subgroups 18 = .ok (.iconst (-1), 1) := dk_2 (dk_at dksX0_subgroups_0 18 rfl rfl)
theorem dX0_subgroups_19 : decode cX0_subgroups 19 = .ok (.ireturn, 1) := dk_172 (dk_at dksX0_subgroups_0 19 rfl rfl)
abbrev cX0_asksSets : ByteArray := prog_1_method_71_code
def yX0_asksSets : MethodName := ⟨RX0, "asksSets", "(Z)Z"⟩
def dkwX0_asksSets_1 : List UInt8 := [42, 4, 181, 0, 215, 4, 172]
abbrev dktX0_asksSets_1 : List UInt8 := dkwX0_asksSets_1 ++ []
def dkwX0_asksSets_0 : List UInt8 := [42, 27, 182, 1, 85, 154, 0, 5, 3, 172, 42, 180, 0, 215, 154, 0, 10, 42, 180, 0, 148, 182, 1, 214]
abbrev dktX0_asksSets_0 : List UInt8 := dkwX0_asksSets_0 ++ dktX0_asksSets_1
theorem dksX0_asksSets_0 : cX0_asksSets.data.toList.drop 0 = dktX0_asksSets_0 := by decide +kernel
theorem dksX0_asksSets_1 : cX0_asksSets.data.toList.drop 24 = dktX0_asksSets_1 := dk_seg dksX0_asksSets_0 24 rfl rfl
theorem dX0_asksSets_0 : decode cX0_asksSets 0 = .ok (.aload_n 0, 1) := dk_42 (dk_at dksX0_asksSets_0 0 rfl rfl)
theorem dX0_asksSets_1 : decode cX0_asksSets 1 = .ok (.iload_n 1, 1) := dk_27 (dk_at dksX0_asksSets_0 1 rfl rfl)
theorem dX0_asksSets_2 : decode cX0_asksSets 2 = .ok (.invokevirtual 341, 3) := dk_182 1 85 (dk_at dksX0_asksSets_0 2 rfl rfl)
theorem dX0_asksSets_5 : decode cX0_asksSets 5 = .ok (.ifCond .ne 5, 3) := dk_154 0 5 (dk_at dksX0_asksSets_0 5 rfl rfl)
theorem dX0_asksSets_8 : decode cX0_asksSets 8 = .ok (.iconst 0, 1) := dk_3 (dk_at dksX0_asksSets_0 8 rfl rfl)
theorem dX0_asksSets_9 : decode cX0_asksSets 9 = .ok (.ireturn, 1) := dk_172 (dk_at dksX0_asksSets_0 9 rfl rfl)
theorem dX0_asksSets_10 : decode cX0_asksSets 10 = .ok (.aload_n 0, 1) := dk_42 (dk_at dksX0_asksSets_0 10 rfl rfl)
theorem dX0_asksSets_11 : decode cX0_asksSets 11 = .ok (.getfield 215, 3) := dk_180 0 215 (dk_at dksX0_asksSets_0 11 rfl rfl)
theorem dX0_asksSets_14 : decode cX0_asksSets 14 = .ok (.ifCond .ne 10, 3) := dk_154 0 10 (dk_at dksX0_asksSets_0 14 rfl rfl)
theorem dX0_asksSets_17 : decode cX0_asksSets 17 = .ok (.aload_n 0, 1) := dk_42 (dk_at dksX0_asksSets_0 17 rfl rfl)
theorem dX0_asksSets_18 : decode cX0_asksSets 18 = .ok (.getfield 148, 3) := dk_180 0 148 (dk_at dksX0_asksSets_0 18 rfl rfl)
theorem dX0_asksSets_21 : decode cX0_asksSets 21 = .ok (.invokevirtual 470, 3) := dk_182 1 214 (dk_at dksX0_asksSets_0 21 rfl rfl)
theorem dX0_asksSets_24 : decode cX0_asksSets 24 = .ok (.aload_n 0, 1) := dk_42 (dk_at dksX0_asksSets_1 0 rfl rfl)
theorem dX0_asksSets_25 : decode cX0_asksSets 25 = .ok (.iconst 1, 1) := dk_4 (dk_at dksX0_asksSets_1 1 rfl rfl)
theorem dX0_asksSets_26 : decode cX0_asksSets 26 = .ok (.putfield 215, 3) := dk_181 0 215 (dk_at dksX0_asksSets_1 2 rfl rfl)
theorem dX0_asksSets_29 : decode cX0_asksSets 29 = .ok (.iconst 1, 1) := dk_4 (dk_at dksX0_asksSets_1 5 rfl rfl)
theorem dX0_asksSets_30 : decode cX0_asksSets 30 = .ok (.ireturn, 1) := dk_172 (dk_at dksX0_asksSets_1 6 rfl rfl)
abbrev cX0_subgroup : ByteArray := prog_1_method_74_code
def yX0_subgroup : MethodName := ⟨RX0, "subgroup", "(I)J"⟩
def dkwX0_subgroup_1 : List UInt8 := [173]
abbrev dktX0_subgroup_1 : List UInt8 := dkwX0_subgroup_1 ++ []
def dkwX0_subgroup_0 : List UInt8 := [42, 27, 4, 182, 1, 223, 153, 0, 15, 42, 180, 0, 148, 180, 1, 226, 27, 47, 167, 0, 6, 20, 1, 230]
abbrev dktX0_subgroup_0 : List UInt8 := dkwX0_subgroup_0 ++ dktX0_subgroup_1
theorem dksX0_subgroup_0 : cX0_subgroup.data.toList.drop 0 = dktX0_subgroup_0 := by decide +kernel
theorem dksX0_subgroup_1 : cX0_subgroup.data.toList.drop 24 = dktX0_subgroup_1 := dk_seg dksX0_subgroup_0 24 rfl rfl
theorem dX0_subgroup_0 : decode cX0_subgroup 0 = .ok (.aload_n 0, 1) := dk_42 (dk_at dksX0_subgroup_0 0 rfl rfl)
theorem dX0_subgroup_1 : decode cX0_subgroup 1 = .ok (.iload_n 1, 1) := dk_27 (dk_at dksX0_subgroup_0 1 rfl rfl)
theorem dX0_subgroup_2 : decode cX0_subgroup 2 = .ok (.iconst 1, 1) := dk_4 (dk_at dksX0_subgroup_0 2 rfl rfl)
theorem dX0_subgroup_3 : decode cX0_subgroup 3 = .ok (.invokevirtual 479, 3) := dk_182 1 223 (dk_at dksX0_subgroup_0 3 rfl rfl)
theorem dX0_subgroup_6 : decode cX0_subgroup 6 = .ok (.ifCond .eq 15, 3) := dk_153 0 15 (dk_at dksX0_subgroup_0 6 rfl rfl)
theorem dX0_subgroup_9 : decode cX0_subgroup 9 = .ok (.aload_n 0, 1) := dk_42 (dk_at dksX0_subgroup_0 9 rfl rfl)
theorem dX0_subgroup_10 : decode cX0_subgroup 10 = .ok (.getfield 148, 3) := dk_180 0 148 (dk_at dksX0_subgroup_0 10 rfl rfl)
theorem dX0_subgroup_13 : decode cX0_subgroup 13 = .ok (.getfield 482, 3) := dk_180 1 226 (dk_at dksX0_subgroup_0 13 rfl rfl)
theorem dX0_subgroup_16 : decode cX0_subgroup 16 = .ok (.iload_n 1, 1) := dk_27 (dk_at dksX0_subgroup_0 16 rfl rfl)
theorem dX0_subgroup_17 : decode cX0_subgroup 17 = .ok (.laload, 1) := dk_47 (dk_at dksX0_subgroup_0 17 rfl rfl)
theorem dX0_subgroup_18 : decode cX0_subgroup 18 = .ok (.goto 6, 3) := dk_167 0 6 (dk_at dksX0_subgroup_0 18 rfl rfl)
theorem dX0_subgroup_21 : decode cX0_subgroup 21 = .ok (.ldc2_w 486, 3) := dk_20 1 230 (dk_at dksX0_subgroup_0 21 rfl rfl)
theorem dX0_subgroup_24 : decode cX0_subgroup 24 = .ok (.lreturn, 1) := dk_173 (dk_at dksX0_subgroup_1 0 rfl rfl)
abbrev cX0_asksSet : ByteArray := prog_1_method_72_code
def yX0_asksSet : MethodName := ⟨RX0, "asksSet", "(IZ)Z"⟩
def dkwX0_asksSet_2 : List UInt8 := [167, 0, 4, 3, 172]
abbrev dktX0_asksSet_2 : List UInt8 := dkwX0_asksSet_2 ++ []
def dkwX0_asksSet_1 : List UInt8 := [180, 0, 148, 180, 1, 220, 162, 0, 7, 4, 167, 0, 4, 3, 6, 182, 0, 254, 153, 0, 7, 4]
abbrev dktX0_asksSet_1 : List UInt8 := dkwX0_asksSet_1 ++ dktX0_asksSet_2
def dkwX0_asksSet_0 : List UInt8 := [42, 28, 153, 0, 11, 27, 155, 0, 7, 4, 167, 0, 4, 3, 182, 1, 217, 153, 0, 31, 42, 27, 42]
abbrev dktX0_asksSet_0 : List UInt8 := dkwX0_asksSet_0 ++ dktX0_asksSet_1
theorem dksX0_asksSet_0 : cX0_asksSet.data.toList.drop 0 = dktX0_asksSet_0 := by decide +kernel
theorem dksX0_asksSet_1 : cX0_asksSet.data.toList.drop 23 = dktX0_asksSet_1 := dk_seg dksX0_asksSet_0 23 rfl rfl
theorem dksX0_asksSet_2 : cX0_asksSet.data.toList.drop 45 = dktX0_asksSet_2 := dk_seg dksX0_asksSet_1 22 rfl rfl
theorem dX0_asksSet_0 : decode cX0_asksSet 0 = .ok (.aload_n 0, 1) := dk_42 (dk_at dksX0_asksSet_0 0 rfl rfl)
theorem dX0_asksSet_1 : decode cX0_asksSet 1 = .ok (.iload_n 2, 1) := dk_28 (dk_at dksX0_asksSet_0 1 rfl rfl)
theorem dX0_asksSet_2 : decode cX0_asksSet 2 = .ok (.ifCond .eq 11, 3) := dk_153 0 11 (dk_at dksX0_asksSet_0 2 rfl rfl)
theorem dX0_asksSet_5 : decode cX0_asksSet 5 = .ok (.iload_n 1, 1) := dk_27 (dk_at dksX0_asksSet_0 5 rfl rfl)
theorem dX0_asksSet_6 : decode cX0_asksSet 6 = .ok (.ifCond .lt 7, 3) := dk_155 0 7 (dk_at dksX0_asksSet_0 6 rfl rfl)
theorem dX0_asksSet_9 : decode cX0_asksSet 9 = .ok (.iconst 1, 1) := dk_4 (dk_at dksX0_asksSet_0 9 rfl rfl)
theorem dX0_asksSet_10 : decode cX0_asksSet 10 = .ok (.goto 4, 3) := dk_167 0 4 (dk_at dksX0_asksSet_0 10 rfl rfl)
theorem dX0_asksSet_13 : decode cX0_asksSet 13 = .ok (.iconst 0, 1) := dk_3 (dk_at dksX0_asksSet_0 13 rfl rfl)
theorem dX0_asksSet_14 : decode cX0_asksSet 14 = .ok (.invokevirtual 473, 3) := dk_182 1 217 (dk_at dksX0_asksSet_0 14 rfl rfl)
theorem dX0_asksSet_17 : decode cX0_asksSet 17 = .ok (.ifCond .eq 31, 3) := dk_153 0 31 (dk_at dksX0_asksSet_0 17 rfl rfl)
theorem dX0_asksSet_20 : decode cX0_asksSet 20 = .ok (.aload_n 0, 1) := dk_42 (dk_at dksX0_asksSet_0 20 rfl rfl)
theorem dX0_asksSet_21 : decode cX0_asksSet 21 = .ok (.iload_n 1, 1) := dk_27 (dk_at dksX0_asksSet_0 21 rfl rfl)
theorem dX0_asksSet_22 : decode cX0_asksSet 22 = .ok (.aload_n 0, 1) := dk_42 (dk_at dksX0_asksSet_0 22 rfl rfl)
theorem dX0_asksSet_23 : decode cX0_asksSet 23 = .ok (.getfield 148, 3) := dk_180 0 148 (dk_at dksX0_asksSet_1 0 rfl rfl)
theorem dX0_asksSet_26 : decode cX0_asksSet 26 = .ok (.getfield 476, 3) := dk_180 1 220 (dk_at dksX0_asksSet_1 3 rfl rfl)
theorem dX0_asksSet_29 : decode cX0_asksSet 29 = .ok (.if_icmp .ge 7, 3) := dk_162 0 7 (dk_at dksX0_asksSet_1 6 rfl rfl)
theorem dX0_asksSet_32 : decode cX0_asksSet 32 = .ok (.iconst 1, 1) := dk_4 (dk_at dksX0_asksSet_1 9 rfl rfl)
theorem dX0_asksSet_33 : decode cX0_asksSet 33 = .ok (.goto 4, 3) := dk_167 0 4 (dk_at dksX0_asksSet_1 10 rfl rfl)
theorem dX0_asksSet_36 : decode cX0_asksSet 36 = .ok (.iconst 0, 1) := dk_3 (dk_at dksX0_asksSet_1 13 rfl rfl)
theorem dX0_asksSet_37 : decode cX0_asksSet 37 = .ok (.iconst 3, 1) := dk_6 (dk_at dksX0_asksSet_1 14 rfl rfl)
theorem dX0_asksSet_38 : decode cX0_asksSet 38 = .ok (.invokevirtual 254, 3) := dk_182 0 254 (dk_at dksX0_asksSet_1 15 rfl rfl)
theorem dX0_asksSet_41 : decode cX0_asksSet 41 = .ok (.ifCond .eq 7, 3) := dk_153 0 7 (dk_at dksX0_asksSet_1 18 rfl rfl)
theorem dX0_asksSet_44 : decode cX0_asksSet 44 = .ok (.iconst 1, 1) := dk_4 (dk_at dksX0_asksSet_1 21 rfl rfl)
theorem dX0_asksSet_45 : decode cX0_asksSet 45 = .ok (.goto 4, 3) := dk_167 0 4 (dk_at dksX0_asksSet_2 0 rfl rfl)
theorem dX0_asksSet_48 : decode cX0_asksSet 48 = .ok (.iconst 0, 1) := dk_3 (dk_at dksX0_asksSet_2 3 rfl rfl)
theorem dX0_asksSet_49 : decode cX0_asksSet 49 = .ok (.ireturn, 1) := dk_172 (dk_at dksX0_asksSet_2 4 rfl rfl)
abbrev cX0_subgroupAt : ByteArray := prog_1_method_76_code
def yX0_subgroupAt : MethodName := ⟨RX0, "subgroupAt", "(II)I"⟩
def dkwX0_subgroupAt_5 : List UInt8 := [180, 0, 148, 33, 182, 1, 240, 172]
abbrev dktX0_subgroupAt_5 : List UInt8 := dkwX0_subgroupAt_5 ++ []
def dkwX0_subgroupAt_4 : List UInt8 := [167, 0, 30, 42, 33, 182, 1, 243, 167, 0, 22, 42, 180, 0, 148, 33, 182, 1, 186, 167, 0, 11, 42]
abbrev dktX0_subgroupAt_4 : List UInt8 := dkwX0_subgroupAt_4 ++ dktX0_subgroupAt_5
def dkwX0_subgroupAt_3 : List UInt8 := [33, 184, 1, 206, 167, 0, 50, 42, 180, 0, 148, 33, 182, 1, 240, 4, 160, 0, 7, 4, 167, 0, 34, 3]
abbrev dktX0_subgroupAt_3 : List UInt8 := dkwX0_subgroupAt_3 ++ dktX0_subgroupAt_4
def dkwX0_subgroupAt_2 : List UInt8 := [170, 0, 0, 0, 0, 76, 0, 0, 0, 0, 0, 0, 0, 3, 0, 0, 0, 30, 0, 0, 0, 37, 0, 0, 0, 57, 0, 0, 0, 65]
abbrev dktX0_subgroupAt_2 : List UInt8 := dkwX0_subgroupAt_2 ++ dktX0_subgroupAt_3
def dkwX0_subgroupAt_1 : List UInt8 := [180, 1, 226, 27, 47, 66, 28]
abbrev dktX0_subgroupAt_1 : List UInt8 := dkwX0_subgroupAt_1 ++ dktX0_subgroupAt_2
def dkwX0_subgroupAt_0 : List UInt8 := [42, 27, 28, 133, 9, 20, 1, 238, 184, 0, 194, 182, 1, 223, 154, 0, 5, 2, 172, 42, 180, 0, 148]
abbrev dktX0_subgroupAt_0 : List UInt8 := dkwX0_subgroupAt_0 ++ dktX0_subgroupAt_1
theorem dksX0_subgroupAt_0 : cX0_subgroupAt.data.toList.drop 0 = dktX0_subgroupAt_0 := by decide +kernel
theorem dksX0_subgroupAt_1 : cX0_subgroupAt.data.toList.drop 23 = dktX0_subgroupAt_1 := dk_seg dksX0_subgroupAt_0 23 rfl rfl
theorem dksX0_subgroupAt_2 : cX0_subgroupAt.data.toList.drop 30 = dktX0_subgroupAt_2 := dk_seg dksX0_subgroupAt_1 7 rfl rfl
theorem dksX0_subgroupAt_3 : cX0_subgroupAt.data.toList.drop 60 = dktX0_subgroupAt_3 := dk_seg dksX0_subgroupAt_2 30 rfl rfl
theorem dksX0_subgroupAt_4 : cX0_subgroupAt.data.toList.drop 84 = dktX0_subgroupAt_4 := dk_seg dksX0_subgroupAt_3 24 rfl rfl
theorem dksX0_subgroupAt_5 : cX0_subgroupAt.data.toList.drop 107 = dktX0_subgroupAt_5 := dk_seg dksX0_subgroupAt_4 23 rfl rfl
theorem dX0_subgroupAt_0 : decode cX0_subgroupAt 0 = .ok (.aload_n 0, 1) := dk_42 (dk_at dksX0_subgroupAt_0 0 rfl rfl)
theorem dX0_subgroupAt_1 : decode cX0_subgroupAt 1 = .ok (.iload_n 1, 1) := dk_27 (dk_at dksX0_subgroupAt_0 1 rfl rfl)
theorem dX0_subgroupAt_2 : decode cX0_subgroupAt 2 = .ok (.iload_n 2, 1) := dk_28 (dk_at dksX0_subgroupAt_0 2 rfl rfl)
theorem dX0_subgroupAt_3 : decode cX0_subgroupAt 3 = .ok (.i2l, 1) := dk_133 (dk_at dksX0_subgroupAt_0 3 rfl rfl)
theorem dX0_subgroupAt_4 : decode cX0_subgroupAt 4 = .ok (.lconst 0, 1) := dk_9 (dk_at dksX0_subgroupAt_0 4 rfl rfl)
theorem dX0_subgroupAt_5 : decode cX0_subgroupAt 5 = .ok (.ldc2_w 494, 3) := dk_20 1 238 (dk_at dksX0_subgroupAt_0 5 rfl rfl)
theorem dX0_subgroupAt_8 : decode cX0_subgroupAt 8 = .ok (.invokestatic 194, 3) := dk_184 0 194 (dk_at dksX0_subgroupAt_0 8 rfl rfl)
theorem dX0_subgroupAt_11 : decode cX0_subgroupAt 11 = .ok (.invokevirtual 479, 3) := dk_182 1 223 (dk_at dksX0_subgroupAt_0 11 rfl rfl)
theorem dX0_subgroupAt_14 : decode cX0_subgroupAt 14 = .ok (.ifCond .ne 5, 3) := dk_154 0 5 (dk_at dksX0_subgroupAt_0 14 rfl rfl)
theorem dX0_subgroupAt_17 : decode cX0_subgroupAt 17 = .ok (.iconst (-1), 1) := dk_2 (dk_at dksX0_subgroupAt_0 17 rfl rfl)
theorem dX0_subgroupAt_18 : decode cX0_subgroupAt 18 = .ok (.ireturn, 1) := dk_172 (dk_at dksX0_subgroupAt_0 18 rfl rfl)
theorem dX0_subgroupAt_19 : decode cX0_subgroupAt 19 = .ok (.aload_n 0, 1) := dk_42 (dk_at dksX0_subgroupAt_0 19 rfl rfl)
theorem dX0_subgroupAt_20 : decode cX0_subgroupAt 20 = .ok (.getfield 148, 3) := dk_180 0 148 (dk_at dksX0_subgroupAt_0 20 rfl rfl)
theorem dX0_subgroupAt_23 : decode cX0_subgroupAt 23 = .ok (.getfield 482, 3) := dk_180 1 226 (dk_at dksX0_subgroupAt_1 0 rfl rfl)
theorem dX0_subgroupAt_26 : decode cX0_subgroupAt 26 = .ok (.iload_n 1, 1) := dk_27 (dk_at dksX0_subgroupAt_1 3 rfl rfl)
theorem dX0_subgroupAt_27 : decode cX0_subgroupAt 27 = .ok (.laload, 1) := dk_47 (dk_at dksX0_subgroupAt_1 4 rfl rfl)
theorem dX0_subgroupAt_28 : decode cX0_subgroupAt 28 = .ok (.lstore_n 3, 1) := dk_66 (dk_at dksX0_subgroupAt_1 5 rfl rfl)
theorem dX0_subgroupAt_29 : decode cX0_subgroupAt 29 = .ok (.iload_n 2, 1) := dk_28 (dk_at dksX0_subgroupAt_1 6 rfl rfl)
theorem dX0_subgroupAt_30 : decode cX0_subgroupAt 30 = .ok (.tableswitch 76 0 3 #[30, 37, 57, 65], 30) := by decide +kernel
theorem dX0_subgroupAt_60 : decode cX0_subgroupAt 60 = .ok (.lload_n 3, 1) := dk_33 (dk_at dksX0_subgroupAt_3 0 rfl rfl)
theorem dX0_subgroupAt_61 : decode cX0_subgroupAt 61 = .ok (.invokestatic 462, 3) := dk_184 1 206 (dk_at dksX0_subgroupAt_3 1 rfl rfl)
theorem dX0_subgroupAt_64 : decode cX0_subgroupAt 64 = .ok (.goto 50, 3) := dk_167 0 50 (dk_at dksX0_subgroupAt_3 4 rfl rfl)
theorem dX0_subgroupAt_67 : decode cX0_subgroupAt 67 = .ok (.aload_n 0, 1) := dk_42 (dk_at dksX0_subgroupAt_3 7 rfl rfl)
theorem dX0_subgroupAt_68 : decode cX0_subgroupAt 68 = .ok (.getfield 148, 3) := dk_180 0 148 (dk_at dksX0_subgroupAt_3 8 rfl rfl)
theorem dX0_subgroupAt_71 : decode cX0_subgroupAt 71 = .ok (.lload_n 3, 1) := dk_33 (dk_at dksX0_subgroupAt_3 11 rfl rfl)
theorem dX0_subgroupAt_72 : decode cX0_subgroupAt 72 = .ok (.invokevirtual 496, 3) := dk_182 1 240 (dk_at dksX0_subgroupAt_3 12 rfl rfl)
theorem dX0_subgroupAt_75 : decode cX0_subgroupAt 75 = .ok (.iconst 1, 1) := dk_4 (dk_at dksX0_subgroupAt_3 15 rfl rfl)
theorem dX0_subgroupAt_76 : decode cX0_subgroupAt 76 = .ok (.if_icmp .ne 7, 3) := dk_160 0 7 (dk_at dksX0_subgroupAt_3 16 rfl rfl)
theorem dX0_subgroupAt_79 : decode cX0_subgroupAt 79 = .ok (.iconst 1, 1) := dk_4 (dk_at dksX0_subgroupAt_3 19 rfl rfl)
theorem dX0_subgroupAt_80 : decode cX0_subgroupAt 80 = .ok (.goto 34, 3) := dk_167 0 34 (dk_at dksX0_subgroupAt_3 20 rfl rfl)
theorem dX0_subgroupAt_83 : decode cX0_subgroupAt 83 = .ok (.iconst 0, 1) := dk_3 (dk_at dksX0_subgroupAt_3 23 rfl rfl)
theorem dX0_subgroupAt_84 : decode cX0_subgroupAt 84 = .ok (.goto 30, 3) := dk_167 0 30 (dk_at dksX0_subgroupAt_4 0 rfl rfl)
theorem dX0_subgroupAt_87 : decode cX0_subgroupAt 87 = .ok (.aload_n 0, 1) := dk_42 (dk_at dksX0_subgroupAt_4 3 rfl rfl)
theorem dX0_subgroupAt_88 : decode cX0_subgroupAt 88 = .ok (.lload_n 3, 1) := dk_33 (dk_at dksX0_subgroupAt_4 4 rfl rfl)
theorem dX0_subgroupAt_89 : decode cX0_subgroupAt 89 = .ok (.invokevirtual 499, 3) := dk_182 1 243 (dk_at dksX0_subgroupAt_4 5 rfl rfl)
theorem dX0_subgroupAt_92 : decode cX0_subgroupAt 92 = .ok (.goto 22, 3) := dk_167 0 22 (dk_at dksX0_subgroupAt_4 8 rfl rfl)
theorem dX0_subgroupAt_95 : decode cX0_subgroupAt 95 = .ok (.aload_n 0, 1) := dk_42 (dk_at dksX0_subgroupAt_4 11 rfl rfl)
theorem dX0_subgroupAt_96 : decode cX0_subgroupAt 96 = .ok (.getfield 148, 3) := dk_180 0 148 (dk_at dksX0_subgroupAt_4 12 rfl rfl)
theorem dX0_subgroupAt_99 : decode cX0_subgroupAt 99 = .ok (.lload_n 3, 1) := dk_33 (dk_at dksX0_subgroupAt_4 15 rfl rfl)
theorem dX0_subgroupAt_100 : decode cX0_subgroupAt 100 = .ok (.invokevirtual 442, 3) := dk_182 1 186 (dk_at dksX0_subgroupAt_4 16 rfl rfl)
theorem dX0_subgroupAt_103 : decode cX0_subgroupAt 103 = .ok (.goto 11, 3) := dk_167 0 11 (dk_at dksX0_subgroupAt_4 19 rfl rfl)
theorem dX0_subgroupAt_106 : decode cX0_subgroupAt 106 = .ok (.aload_n 0, 1) := dk_42 (dk_at dksX0_subgroupAt_4 22 rfl rfl)
theorem dX0_subgroupAt_107 : decode cX0_subgroupAt 107 = .ok (.getfield 148, 3) := dk_180 0 148 (dk_at dksX0_subgroupAt_5 0 rfl rfl)
theorem dX0_subgroupAt_110 : decode cX0_subgroupAt 110 = .ok (.lload_n 3, 1) := dk_33 (dk_at dksX0_subgroupAt_5 3 rfl rfl)
theorem dX0_subgroupAt_111 : decode cX0_subgroupAt 111 = .ok (.invokevirtual 496, 3) := dk_182 1 240 (dk_at dksX0_subgroupAt_5 4 rfl rfl)
theorem dX0_subgroupAt_114 : decode cX0_subgroupAt 114 = .ok (.ireturn, 1) := dk_172 (dk_at dksX0_subgroupAt_5 7 rfl rfl)
abbrev cX0_steady : ByteArray := prog_1_method_75_code
def yX0_steady : MethodName := ⟨RX0, "steady", "(J)I"⟩
def dkwX0_steady_2 : List UInt8 := [167, 255, 215, 29, 31, 184, 1, 206, 108, 172]
abbrev dktX0_steady_2 : List UInt8 := dkwX0_steady_2 ++ []
def dkwX0_steady_1 : List UInt8 := [153, 0, 16, 42, 180, 0, 148, 6, 21, 4, 182, 1, 235, 167, 0, 4, 3, 96, 62, 132, 4, 1]
abbrev dktX0_steady_1 : List UInt8 := dkwX0_steady_1 ++ dktX0_steady_2
def dkwX0_steady_0 : List UInt8 := [3, 62, 3, 54, 4, 21, 4, 42, 180, 0, 148, 180, 1, 88, 162, 0, 35, 29, 31, 21, 4, 184, 1, 232]
abbrev dktX0_steady_0 : List UInt8 := dkwX0_steady_0 ++ dktX0_steady_1
theorem dksX0_steady_0 : cX0_steady.data.toList.drop 0 = dktX0_steady_0 := by decide +kernel
theorem dksX0_steady_1 : cX0_steady.data.toList.drop 24 = dktX0_steady_1 := dk_seg dksX0_steady_0 24 rfl rfl
theorem dksX0_steady_2 : cX0_steady.data.toList.drop 46 = dktX0_steady_2 := dk_seg dksX0_steady_1 22 rfl rfl
theorem dX0_steady_0 : decode cX0_steady 0 = .ok (.iconst 0, 1) := dk_3 (dk_at dksX0_steady_0 0 rfl rfl)
theorem dX0_steady_1 : decode cX0_steady 1 = .ok (.istore_n 3, 1) := dk_62 (dk_at dksX0_steady_0 1 rfl rfl)
theorem dX0_steady_2 : decode cX0_steady 2 = .ok (.iconst 0, 1) := dk_3 (dk_at dksX0_steady_0 2 rfl rfl)
theorem dX0_steady_3 : decode cX0_steady 3 = .ok (.istore 4, 2) := dk_54 4 (dk_at dksX0_steady_0 3 rfl rfl)
theorem dX0_steady_5 : decode cX0_steady 5 = .ok (.iload 4, 2) := dk_21 4 (dk_at dksX0_steady_0 5 rfl rfl)
theorem dX0_steady_7 : decode cX0_steady 7 = .ok (.aload_n 0, 1) := dk_42 (dk_at dksX0_steady_0 7 rfl rfl)
theorem dX0_steady_8 : decode cX0_steady 8 = .ok (.getfield 148, 3) := dk_180 0 148 (dk_at dksX0_steady_0 8 rfl rfl)
theorem dX0_steady_11 : decode cX0_steady 11 = .ok (.getfield 344, 3) := dk_180 1 88 (dk_at dksX0_steady_0 11 rfl rfl)
theorem dX0_steady_14 : decode cX0_steady 14 = .ok (.if_icmp .ge 35, 3) := dk_162 0 35 (dk_at dksX0_steady_0 14 rfl rfl)
theorem dX0_steady_17 : decode cX0_steady 17 = .ok (.iload_n 3, 1) := dk_29 (dk_at dksX0_steady_0 17 rfl rfl)
theorem dX0_steady_18 : decode cX0_steady 18 = .ok (.lload_n 1, 1) := dk_31 (dk_at dksX0_steady_0 18 rfl rfl)
theorem dX0_steady_19 : decode cX0_steady 19 = .ok (.iload 4, 2) := dk_21 4 (dk_at dksX0_steady_0 19 rfl rfl)
theorem dX0_steady_21 : decode cX0_steady 21 = .ok (.invokestatic 488, 3) := dk_184 1 232 (dk_at dksX0_steady_0 21 rfl rfl)
theorem dX0_steady_24 : decode cX0_steady 24 = .ok (.ifCond .eq 16, 3) := dk_153 0 16 (dk_at dksX0_steady_1 0 rfl rfl)
theorem dX0_steady_27 : decode cX0_steady 27 = .ok (.aload_n 0, 1) := dk_42 (dk_at dksX0_steady_1 3 rfl rfl)
theorem dX0_steady_28 : decode cX0_steady 28 = .ok (.getfield 148, 3) := dk_180 0 148 (dk_at dksX0_steady_1 4 rfl rfl)
theorem dX0_steady_31 : decode cX0_steady 31 = .ok (.iconst 3, 1) := dk_6 (dk_at dksX0_steady_1 7 rfl rfl)
theorem dX0_steady_32 : decode cX0_steady 32 = .ok (.iload 4, 2) := dk_21 4 (dk_at dksX0_steady_1 8 rfl rfl)
theorem dX0_steady_34 : decode cX0_steady 34 = .ok (.invokevirtual 491, 3) := dk_182 1 235 (dk_at dksX0_steady_1 10 rfl rfl)
theorem dX0_steady_37 : decode cX0_steady 37 = .ok (.goto 4, 3) := dk_167 0 4 (dk_at dksX0_steady_1 13 rfl rfl)
theorem dX0_steady_40 : decode cX0_steady 40 = .ok (.iconst 0, 1) := dk_3 (dk_at dksX0_steady_1 16 rfl rfl)
theorem dX0_steady_41 : decode cX0_steady 41 = .ok (.iadd, 1) := dk_96 (dk_at dksX0_steady_1 17 rfl rfl)
theorem dX0_steady_42 : decode cX0_steady 42 = .ok (.istore_n 3, 1) := dk_62 (dk_at dksX0_steady_1 18 rfl rfl)
theorem dX0_steady_43 : decode cX0_steady 43 = .ok (.iinc 4 1, 3) := dk_132 4 1 (dk_at dksX0_steady_1 19 rfl rfl)
theorem dX0_steady_46 : decode cX0_steady 46 = .ok (.goto (-41), 3) := dk_167 255 215 (dk_at dksX0_steady_2 0 rfl rfl)
theorem dX0_steady_49 : decode cX0_steady 49 = .ok (.iload_n 3, 1) := dk_29 (dk_at dksX0_steady_2 3 rfl rfl)
theorem dX0_steady_50 : decode cX0_steady 50 = .ok (.lload_n 1, 1) := dk_31 (dk_at dksX0_steady_2 4 rfl rfl)
theorem dX0_steady_51 : decode cX0_steady 51 = .ok (.invokestatic 462, 3) := dk_184 1 206 (dk_at dksX0_steady_2 5 rfl rfl)
theorem dX0_steady_54 : decode cX0_steady 54 = .ok (.idiv, 1) := dk_108 (dk_at dksX0_steady_2 8 rfl rfl)
theorem dX0_steady_55 : decode cX0_steady 55 = .ok (.ireturn, 1) := dk_172 (dk_at dksX0_steady_2 9 rfl rfl)
abbrev cX0_nameLength : ByteArray := prog_1_method_77_code
def yX0_nameLength : MethodName := ⟨RX0, "nameLength", "()I"⟩
def dkwX0_nameLength_0 : List UInt8 := [42, 4, 182, 1, 85, 153, 0, 13, 42, 180, 0, 166, 182, 1, 246, 167, 0, 4, 2, 172]
abbrev dktX0_nameLength_0 : List UInt8 := dkwX0_nameLength_0 ++ []
theorem dksX0_nameLength_0 : cX0_nameLength.data.toList.drop 0 = dktX0_nameLength_0 := by decide +kernel
theorem dX0_nameLength_0 : decode cX0_nameLength 0 = .ok (.aload_n 0, 1) := dk_42 (dk_at dksX0_nameLength_0 0 rfl rfl)
theorem dX0_nameLength_1 : decode cX0_nameLength 1 = .ok (.iconst 1, 1) := dk_4 (dk_at dksX0_nameLength_0 1 rfl rfl)
theorem dX0_nameLength_2 : decode cX0_nameLength 2 = .ok (.invokevirtual 341, 3) := dk_182 1 85 (dk_at dksX0_nameLength_0 2 rfl rfl)
theorem dX0_nameLength_5 : decode cX0_nameLength 5 = .ok (.ifCond .eq 13, 3) := dk_153 0 13 (dk_at dksX0_nameLength_0 5 rfl rfl)
theorem dX0_nameLength_8 : decode cX0_nameLength 8 = .ok (.aload_n 0, 1) := dk_42 (dk_at dksX0_nameLength_0 8 rfl rfl)
theorem dX0_nameLength_9 : decode cX0_nameLength 9 = .ok (.getfield 166, 3) := dk_180 0 166 (dk_at dksX0_nameLength_0 9 rfl rfl)
theorem dX0_nameLength_12 : decode cX0_nameLength 12 = .ok (.invokevirtual 502, 3) := dk_182 1 246 (dk_at dksX0_nameLength_0 12 rfl rfl)
theorem dX0_nameLength_15 : decode cX0_nameLength 15 = .ok (.goto 4, 3) := dk_167 0 4 (dk_at dksX0_nameLength_0 15 rfl rfl)
theorem dX0_nameLength_18 : decode cX0_nameLength 18 = .ok (.iconst (-1), 1) := dk_2 (dk_at dksX0_nameLength_0 18 rfl rfl)
theorem dX0_nameLength_19 : decode cX0_nameLength 19 = .ok (.ireturn, 1) := dk_172 (dk_at dksX0_nameLength_0 19 rfl rfl)
abbrev cX0_nameAt : ByteArray := prog_1_method_78_code
def yX0_nameAt : MethodName := ⟨RX0, "nameAt", "(I)I"⟩
def dkwX0_nameAt_2 : List UInt8 := [182, 1, 247, 167, 0, 4, 2, 172]
abbrev dktX0_nameAt_2 : List UInt8 := dkwX0_nameAt_2 ++ []
def dkwX0_nameAt_1 : List UInt8 := [182, 1, 246, 162, 0, 7, 4, 167, 0, 4, 3, 6, 182, 0, 254, 153, 0, 14, 42, 180, 0, 166, 27]
abbrev dktX0_nameAt_1 : List UInt8 := dkwX0_nameAt_1 ++ dktX0_nameAt_2
def dkwX0_nameAt_0 : List UInt8 := [42, 27, 155, 0, 7, 4, 167, 0, 4, 3, 182, 1, 85, 153, 0, 38, 42, 27, 42, 180, 0, 166]
abbrev dktX0_nameAt_0 : List UInt8 := dkwX0_nameAt_0 ++ dktX0_nameAt_1
theorem dksX0_nameAt_0 : cX0_nameAt.data.toList.drop 0 = dktX0_nameAt_0 := by decide +kernel
theorem dksX0_nameAt_1 : cX0_nameAt.data.toList.drop 22 = dktX0_nameAt_1 := dk_seg dksX0_nameAt_0 22 rfl rfl
theorem dksX0_nameAt_2 : cX0_nameAt.data.toList.drop 45 = dktX0_nameAt_2 := dk_seg dksX0_nameAt_1 23 rfl rfl
theorem dX0_nameAt_0 : decode cX0_nameAt 0 = .ok (.aload_n 0, 1) := dk_42 (dk_at dksX0_nameAt_0 0 rfl rfl)
theorem dX0_nameAt_1 : decode cX0_nameAt 1 = .ok (.iload_n 1, 1) := dk_27 (dk_at dksX0_nameAt_0 1 rfl rfl)
theorem dX0_nameAt_2 : decode cX0_nameAt 2 = .ok (.ifCond .lt 7, 3) := dk_155 0 7 (dk_at dksX0_nameAt_0 2 rfl rfl)
theorem dX0_nameAt_5 : decode cX0_nameAt 5 = .ok (.iconst 1, 1) := dk_4 (dk_at dksX0_nameAt_0 5 rfl rfl)
theorem dX0_nameAt_6 : decode cX0_nameAt 6 = .ok (.goto 4, 3) := dk_167 0 4 (dk_at dksX0_nameAt_0 6 rfl rfl)
theorem dX0_nameAt_9 : decode cX0_nameAt 9 = .ok (.iconst 0, 1) := dk_3 (dk_at dksX0_nameAt_0 9 rfl rfl)
theorem dX0_nameAt_10 : decode cX0_nameAt 10 = .ok (.invokevirtual 341, 3) := dk_182 1 85 (dk_at dksX0_nameAt_0 10 rfl rfl)
theorem dX0_nameAt_13 : decode cX0_nameAt 13 = .ok (.ifCond .eq 38, 3) := dk_153 0 38 (dk_at dksX0_nameAt_0 13 rfl rfl)
theorem dX0_nameAt_16 : decode cX0_nameAt 16 = .ok (.aload_n 0, 1) := dk_42 (dk_at dksX0_nameAt_0 16 rfl rfl)
theorem dX0_nameAt_17 : decode cX0_nameAt 17 = .ok (.iload_n 1, 1) := dk_27 (dk_at dksX0_nameAt_0 17 rfl rfl)
theorem dX0_nameAt_18 : decode cX0_nameAt 18 = .ok (.aload_n 0, 1) := dk_42 (dk_at dksX0_nameAt_0 18 rfl rfl)
theorem dX0_nameAt_19 : decode cX0_nameAt 19 = .ok (.getfield 166, 3) := dk_180 0 166 (dk_at dksX0_nameAt_0 19 rfl rfl)
theorem dX0_nameAt_22 : decode cX0_nameAt 22 = .ok (.invokevirtual 502, 3) := dk_182 1 246 (dk_at dksX0_nameAt_1 0 rfl rfl)
theorem dX0_nameAt_25 : decode cX0_nameAt 25 = .ok (.if_icmp .ge 7, 3) := dk_162 0 7 (dk_at dksX0_nameAt_1 3 rfl rfl)
theorem dX0_nameAt_28 : decode cX0_nameAt 28 = .ok (.iconst 1, 1) := dk_4 (dk_at dksX0_nameAt_1 6 rfl rfl)
theorem dX0_nameAt_29 : decode cX0_nameAt 29 = .ok (.goto 4, 3) := dk_167 0 4 (dk_at dksX0_nameAt_1 7 rfl rfl)
theorem dX0_nameAt_32 : decode cX0_nameAt 32 = .ok (.iconst 0, 1) := dk_3 (dk_at dksX0_nameAt_1 10 rfl rfl)
theorem dX0_nameAt_33 : decode cX0_nameAt 33 = .ok (.iconst 3, 1) := dk_6 (dk_at dksX0_nameAt_1 11 rfl rfl)
theorem dX0_nameAt_34 : decode cX0_nameAt 34 = .ok (.invokevirtual 254, 3) := dk_182 0 254 (dk_at dksX0_nameAt_1 12 rfl rfl)
theorem dX0_nameAt_37 : decode cX0_nameAt 37 = .ok (.ifCond .eq 14, 3) := dk_153 0 14 (dk_at dksX0_nameAt_1 15 rfl rfl)
theorem dX0_nameAt_40 : decode cX0_nameAt 40 = .ok (.aload_n 0, 1) := dk_42 (dk_at dksX0_nameAt_1 18 rfl rfl)
theorem dX0_nameAt_41 : decode cX0_nameAt 41 = .ok (.getfield 166, 3) := dk_180 0 166 (dk_at dksX0_nameAt_1 19 rfl rfl)
theorem dX0_nameAt_44 : decode cX0_nameAt 44 = .ok (.iload_n 1, 1) := dk_27 (dk_at dksX0_nameAt_1 22 rfl rfl)
theorem dX0_nameAt_45 : decode cX0_nameAt 45 = .ok (.invokevirtual 503, 3) := dk_182 1 247 (dk_at dksX0_nameAt_2 0 rfl rfl)
theorem dX0_nameAt_48 : decode cX0_nameAt 48 = .ok (.goto 4, 3) := dk_167 0 4 (dk_at dksX0_nameAt_2 3 rfl rfl)
theorem dX0_nameAt_51 : decode cX0_nameAt 51 = .ok (.iconst (-1), 1) := dk_2 (dk_at dksX0_nameAt_2 6 rfl rfl)
theorem dX0_nameAt_52 : decode cX0_nameAt 52 = .ok (.ireturn, 1) := dk_172 (dk_at dksX0_nameAt_2 7 rfl rfl)
abbrev cX0_isNamed : ByteArray := prog_1_method_80_code
def yX0_isNamed : MethodName := ⟨RX0, "isNamed", "(I)I"⟩
def dkwX0_isNamed_2 : List UInt8 := [167, 0, 4, 3, 172]
abbrev dktX0_isNamed_2 : List UInt8 := dkwX0_isNamed_2 ++ []
def dkwX0_isNamed_1 : List UInt8 := [182, 1, 255, 42, 3, 181, 0, 218, 42, 180, 0, 123, 42, 180, 0, 166, 184, 2, 2, 153, 0, 7, 4]
abbrev dktX0_isNamed_1 : List UInt8 := dkwX0_isNamed_1 ++ dktX0_isNamed_2
def dkwX0_isNamed_0 : List UInt8 := [42, 27, 133, 9, 42, 180, 0, 218, 133, 184, 0, 194, 182, 1, 85, 154, 0, 5, 2, 172, 42, 27]
abbrev dktX0_isNamed_0 : List UInt8 := dkwX0_isNamed_0 ++ dktX0_isNamed_1
theorem dksX0_isNamed_0 : cX0_isNamed.data.toList.drop 0 = dktX0_isNamed_0 := by decide +kernel
theorem dksX0_isNamed_1 : cX0_isNamed.data.toList.drop 22 = dktX0_isNamed_1 := dk_seg dksX0_isNamed_0 22 rfl rfl
theorem dksX0_isNamed_2 : cX0_isNamed.data.toList.drop 45 = dktX0_isNamed_2 := dk_seg dksX0_isNamed_1 23 rfl rfl
theorem dX0_isNamed_0 : decode cX0_isNamed 0 = .ok (.aload_n 0, 1) := dk_42 (dk_at dksX0_isNamed_0 0 rfl rfl)
theorem dX0_isNamed_1 : decode cX0_isNamed 1 = .ok (.iload_n 1, 1) := dk_27 (dk_at dksX0_isNamed_0 1 rfl rfl)
theorem dX0_isNamed_2 : decode cX0_isNamed 2 = .ok (.i2l, 1) := dk_133 (dk_at dksX0_isNamed_0 2 rfl rfl)
theorem dX0_isNamed_3 : decode cX0_isNamed 3 = .ok (.lconst 0, 1) := dk_9 (dk_at dksX0_isNamed_0 3 rfl rfl)
theorem dX0_isNamed_4 : decode cX0_isNamed 4 = .ok (.aload_n 0, 1) := dk_42 (dk_at dksX0_isNamed_0 4 rfl rfl)
theorem dX0_isNamed_5 : decode cX0_isNamed 5 = .ok (.getfield 218, 3) := dk_180 0 218 (dk_at dksX0_isNamed_0 5 rfl rfl)
theorem dX0_isNamed_8 : decode cX0_isNamed 8 = .ok (.i2l, 1) := dk_133 (dk_at dksX0_isNamed_0 8 rfl rfl)
theorem dX0_isNamed_9 : decode cX0_isNamed 9 = .ok (.invokestatic 194, 3) := dk_184 0 194 (dk_at dksX0_isNamed_0 9 rfl rfl)
theorem dX0_isNamed_12 : decode cX0_isNamed 12 = .ok (.invokevirtual 341, 3) := dk_182 1 85 (dk_at dksX0_isNamed_0 12 rfl rfl)
theorem dX0_isNamed_15 : decode cX0_isNamed 15 = .ok (.ifCond .ne 5, 3) := dk_154 0 5 (dk_at dksX0_isNamed_0 15 rfl rfl)
theorem dX0_isNamed_18 : decode cX0_isNamed 18 = .ok (.iconst (-1), 1) := dk_2 (dk_at dksX0_isNamed_0 18 rfl rfl)
theorem dX0_isNamed_19 : decode cX0_isNamed 19 = .ok (.ireturn, 1) := dk_172 (dk_at dksX0_isNamed_0 19 rfl rfl)
theorem dX0_isNamed_20 : decode cX0_isNamed 20 = .ok (.aload_n 0, 1) := dk_42 (dk_at dksX0_isNamed_0 20 rfl rfl)
theorem dX0_isNamed_21 : decode cX0_isNamed 21 = .ok (.iload_n 1, 1) := dk_27 (dk_at dksX0_isNamed_0 21 rfl rfl)
theorem dX0_isNamed_22 : decode cX0_isNamed 22 = .ok (.invokevirtual 511, 3) := dk_182 1 255 (dk_at dksX0_isNamed_1 0 rfl rfl)
theorem dX0_isNamed_25 : decode cX0_isNamed 25 = .ok (.aload_n 0, 1) := dk_42 (dk_at dksX0_isNamed_1 3 rfl rfl)
theorem dX0_isNamed_26 : decode cX0_isNamed 26 = .ok (.iconst 0, 1) := dk_3 (dk_at dksX0_isNamed_1 4 rfl rfl)
theorem dX0_isNamed_27 : decode cX0_isNamed 27 = .ok (.putfield 218, 3) := dk_181 0 218 (dk_at dksX0_isNamed_1 5 rfl rfl)
theorem dX0_isNamed_30 : decode cX0_isNamed 30 = .ok (.aload_n 0, 1) := dk_42 (dk_at dksX0_isNamed_1 8 rfl rfl)
theorem dX0_isNamed_31 : decode cX0_isNamed 31 = .ok (.getfield 123, 3) := dk_180 0 123 (dk_at dksX0_isNamed_1 9 rfl rfl)
theorem dX0_isNamed_34 : decode cX0_isNamed 34 = .ok (.aload_n 0, 1) := dk_42 (dk_at dksX0_isNamed_1 12 rfl rfl)
theorem dX0_isNamed_35 : decode cX0_isNamed 35 = .ok (.getfield 166, 3) := dk_180 0 166 (dk_at dksX0_isNamed_1 13 rfl rfl)
theorem dX0_isNamed_38 : decode cX0_isNamed 38 = .ok (.invokestatic 514, 3) := dk_184 2 2 (dk_at dksX0_isNamed_1 16 rfl rfl)
theorem dX0_isNamed_41 : decode cX0_isNamed 41 = .ok (.ifCond .eq 7, 3) := dk_153 0 7 (dk_at dksX0_isNamed_1 19 rfl rfl)
theorem dX0_isNamed_44 : decode cX0_isNamed 44 = .ok (.iconst 1, 1) := dk_4 (dk_at dksX0_isNamed_1 22 rfl rfl)
theorem dX0_isNamed_45 : decode cX0_isNamed 45 = .ok (.goto 4, 3) := dk_167 0 4 (dk_at dksX0_isNamed_2 0 rfl rfl)
theorem dX0_isNamed_48 : decode cX0_isNamed 48 = .ok (.iconst 0, 1) := dk_3 (dk_at dksX0_isNamed_2 3 rfl rfl)
theorem dX0_isNamed_49 : decode cX0_isNamed 49 = .ok (.ireturn, 1) := dk_172 (dk_at dksX0_isNamed_2 4 rfl rfl)
abbrev cX0_spells : ByteArray := prog_1_method_79_code
def yX0_spells : MethodName := ⟨RX0, "spells", "(I)V"⟩
def dkwX0_spells_2 : List UInt8 := [132, 2, 1, 167, 255, 217, 177]
abbrev dktX0_spells_2 : List UInt8 := dkwX0_spells_2 ++ []
def dkwX0_spells_1 : List UInt8 := [51, 16, 32, 164, 0, 13, 42, 180, 0, 100, 28, 51, 146, 167, 0, 5, 16, 32, 182, 1, 251, 87]
abbrev dktX0_spells_1 : List UInt8 := dkwX0_spells_1 ++ dktX0_spells_2
def dkwX0_spells_0 : List UInt8 := [42, 180, 0, 123, 3, 182, 1, 248, 3, 61, 28, 27, 162, 0, 40, 42, 180, 0, 123, 42, 180, 0, 100, 28]
abbrev dktX0_spells_0 : List UInt8 := dkwX0_spells_0 ++ dktX0_spells_1
theorem dksX0_spells_0 : cX0_spells.data.toList.drop 0 = dktX0_spells_0 := by decide +kernel
theorem dksX0_spells_1 : cX0_spells.data.toList.drop 24 = dktX0_spells_1 := dk_seg dksX0_spells_0 24 rfl rfl
theorem dksX0_spells_2 : cX0_spells.data.toList.drop 46 = dktX0_spells_2 := dk_seg dksX0_spells_1 22 rfl rfl
theorem dX0_spells_0 : decode cX0_spells 0 = .ok (.aload_n 0, 1) := dk_42 (dk_at dksX0_spells_0 0 rfl rfl)
theorem dX0_spells_1 : decode cX0_spells 1 = .ok (.getfield 123, 3) := dk_180 0 123 (dk_at dksX0_spells_0 1 rfl rfl)
theorem dX0_spells_4 : decode cX0_spells 4 = .ok (.iconst 0, 1) := dk_3 (dk_at dksX0_spells_0 4 rfl rfl)
theorem dX0_spells_5 : decode cX0_spells 5 = .ok (.invokevirtual 504, 3) := dk_182 1 248 (dk_at dksX0_spells_0 5 rfl rfl)
theorem dX0_spells_8 : decode cX0_spells 8 = .ok (.iconst 0, 1) := dk_3 (dk_at dksX0_spells_0 8 rfl rfl)
theorem dX0_spells_9 : decode cX0_spells 9 = .ok (.istore_n 2, 1) := dk_61 (dk_at dksX0_spells_0 9 rfl rfl)
theorem dX0_spells_10 : decode cX0_spells 10 = .ok (.iload_n 2, 1) := dk_28 (dk_at dksX0_spells_0 10 rfl rfl)
theorem dX0_spells_11 : decode cX0_spells 11 = .ok (.iload_n 1, 1) := dk_27 (dk_at dksX0_spells_0 11 rfl rfl)
theorem dX0_spells_12 : decode cX0_spells 12 = .ok (.if_icmp .ge 40, 3) := dk_162 0 40 (dk_at dksX0_spells_0 12 rfl rfl)
theorem dX0_spells_15 : decode cX0_spells 15 = .ok (.aload_n 0, 1) := dk_42 (dk_at dksX0_spells_0 15 rfl rfl)
theorem dX0_spells_16 : decode cX0_spells 16 = .ok (.getfield 123, 3) := dk_180 0 123 (dk_at dksX0_spells_0 16 rfl rfl)
theorem dX0_spells_19 : decode cX0_spells 19 = .ok (.aload_n 0, 1) := dk_42 (dk_at dksX0_spells_0 19 rfl rfl)
theorem dX0_spells_20 : decode cX0_spells 20 = .ok (.getfield 100, 3) := dk_180 0 100 (dk_at dksX0_spells_0 20 rfl rfl)
theorem dX0_spells_23 : decode cX0_spells 23 = .ok (.iload_n 2, 1) := dk_28 (dk_at dksX0_spells_0 23 rfl rfl)
theorem dX0_spells_24 : decode cX0_spells 24 = .ok (.baload, 1) := dk_51 (dk_at dksX0_spells_1 0 rfl rfl)
theorem dX0_spells_25 : decode cX0_spells 25 = .ok (.bipush 32, 2) := dk_16 32 (dk_at dksX0_spells_1 1 rfl rfl)
theorem dX0_spells_27 : decode cX0_spells 27 = .ok (.if_icmp .le 13, 3) := dk_164 0 13 (dk_at dksX0_spells_1 3 rfl rfl)
theorem dX0_spells_30 : decode cX0_spells 30 = .ok (.aload_n 0, 1) := dk_42 (dk_at dksX0_spells_1 6 rfl rfl)
theorem dX0_spells_31 : decode cX0_spells 31 = .ok (.getfield 100, 3) := dk_180 0 100 (dk_at dksX0_spells_1 7 rfl rfl)
theorem dX0_spells_34 : decode cX0_spells 34 = .ok (.iload_n 2, 1) := dk_28 (dk_at dksX0_spells_1 10 rfl rfl)
theorem dX0_spells_35 : decode cX0_spells 35 = .ok (.baload, 1) := dk_51 (dk_at dksX0_spells_1 11 rfl rfl)
theorem dX0_spells_36 : decode cX0_spells 36 = .ok (.i2c, 1) := dk_146 (dk_at dksX0_spells_1 12 rfl rfl)
theorem dX0_spells_37 : decode cX0_spells 37 = .ok (.goto 5, 3) := dk_167 0 5 (dk_at dksX0_spells_1 13 rfl rfl)
theorem dX0_spells_40 : decode cX0_spells 40 = .ok (.bipush 32, 2) := dk_16 32 (dk_at dksX0_spells_1 16 rfl rfl)
theorem dX0_spells_42 : decode cX0_spells 42 = .ok (.invokevirtual 507, 3) := dk_182 1 251 (dk_at dksX0_spells_1 18 rfl rfl)
theorem dX0_spells_45 : decode cX0_spells 45 = .ok (.pop, 1) := dk_87 (dk_at dksX0_spells_1 21 rfl rfl)
theorem dX0_spells_46 : decode cX0_spells 46 = .ok (.iinc 2 1, 3) := dk_132 2 1 (dk_at dksX0_spells_2 0 rfl rfl)
theorem dX0_spells_49 : decode cX0_spells 49 = .ok (.goto (-39), 3) := dk_167 255 217 (dk_at dksX0_spells_2 3 rfl rfl)
theorem dX0_spells_52 : decode cX0_spells 52 = .ok (.return_, 1) := dk_177 (dk_at dksX0_spells_2 6 rfl rfl)
abbrev cX0_isSame : ByteArray := prog_1_method_3_code
def yX0_isSame : MethodName := ⟨RX0, "isSame", "(Ljava/lang/CharSequence;Ljava/lang/CharSequence;)Z"⟩
def dkwX0_isSame_2 : List UInt8 := [159, 0, 5, 3, 172, 132, 2, 1, 167, 255, 224, 4, 172]
abbrev dktX0_isSame_2 : List UInt8 := dkwX0_isSame_2 ++ []
def dkwX0_isSame_1 : List UInt8 := [185, 0, 1, 1, 0, 162, 0, 28, 42, 28, 185, 0, 7, 2, 0, 43, 28, 185, 0, 7, 2, 0]
abbrev dktX0_isSame_1 : List UInt8 := dkwX0_isSame_1 ++ dktX0_isSame_2
def dkwX0_isSame_0 : List UInt8 := [42, 185, 0, 1, 1, 0, 43, 185, 0, 1, 1, 0, 159, 0, 5, 3, 172, 3, 61, 28, 42]
abbrev dktX0_isSame_0 : List UInt8 := dkwX0_isSame_0 ++ dktX0_isSame_1
theorem dksX0_isSame_0 : cX0_isSame.data.toList.drop 0 = dktX0_isSame_0 := by decide +kernel
theorem dksX0_isSame_1 : cX0_isSame.data.toList.drop 21 = dktX0_isSame_1 := dk_seg dksX0_isSame_0 21 rfl rfl
theorem dksX0_isSame_2 : cX0_isSame.data.toList.drop 43 = dktX0_isSame_2 := dk_seg dksX0_isSame_1 22 rfl rfl
theorem dX0_isSame_0 : decode cX0_isSame 0 = .ok (.aload_n 0, 1) := dk_42 (dk_at dksX0_isSame_0 0 rfl rfl)
theorem dX0_isSame_1 : decode cX0_isSame 1 = .ok (.invokeinterface 1 1, 5) := by decide +kernel
theorem dX0_isSame_6 : decode cX0_isSame 6 = .ok (.aload_n 1, 1) := dk_43 (dk_at dksX0_isSame_0 6 rfl rfl)
theorem dX0_isSame_7 : decode cX0_isSame 7 = .ok (.invokeinterface 1 1, 5) := by decide +kernel
theorem dX0_isSame_12 : decode cX0_isSame 12 = .ok (.if_icmp .eq 5, 3) := dk_159 0 5 (dk_at dksX0_isSame_0 12 rfl rfl)
theorem dX0_isSame_15 : decode cX0_isSame 15 = .ok (.iconst 0, 1) := dk_3 (dk_at dksX0_isSame_0 15 rfl rfl)
theorem dX0_isSame_16 : decode cX0_isSame 16 = .ok (.ireturn, 1) := dk_172 (dk_at dksX0_isSame_0 16 rfl rfl)
theorem dX0_isSame_17 : decode cX0_isSame 17 = .ok (.iconst 0, 1) := dk_3 (dk_at dksX0_isSame_0 17 rfl rfl)
theorem dX0_isSame_18 : decode cX0_isSame 18 = .ok (.istore_n 2, 1) := dk_61 (dk_at dksX0_isSame_0 18 rfl rfl)
theorem dX0_isSame_19 : decode cX0_isSame 19 = .ok (.iload_n 2, 1) := dk_28 (dk_at dksX0_isSame_0 19 rfl rfl)
theorem dX0_isSame_20 : decode cX0_isSame 20 = .ok (.aload_n 0, 1) := dk_42 (dk_at dksX0_isSame_0 20 rfl rfl)
theorem dX0_isSame_21 : decode cX0_isSame 21 = .ok (.invokeinterface 1 1, 5) := by decide +kernel
theorem dX0_isSame_26 : decode cX0_isSame 26 = .ok (.if_icmp .ge 28, 3) := dk_162 0 28 (dk_at dksX0_isSame_1 5 rfl rfl)
theorem dX0_isSame_29 : decode cX0_isSame 29 = .ok (.aload_n 0, 1) := dk_42 (dk_at dksX0_isSame_1 8 rfl rfl)
theorem dX0_isSame_30 : decode cX0_isSame 30 = .ok (.iload_n 2, 1) := dk_28 (dk_at dksX0_isSame_1 9 rfl rfl)
theorem dX0_isSame_31 : decode cX0_isSame 31 = .ok (.invokeinterface 7 2, 5) := by decide +kernel
theorem dX0_isSame_36 : decode cX0_isSame 36 = .ok (.aload_n 1, 1) := dk_43 (dk_at dksX0_isSame_1 15 rfl rfl)
theorem dX0_isSame_37 : decode cX0_isSame 37 = .ok (.iload_n 2, 1) := dk_28 (dk_at dksX0_isSame_1 16 rfl rfl)
theorem dX0_isSame_38 : decode cX0_isSame 38 = .ok (.invokeinterface 7 2, 5) := by decide +kernel
theorem dX0_isSame_43 : decode cX0_isSame 43 = .ok (.if_icmp .eq 5, 3) := dk_159 0 5 (dk_at dksX0_isSame_2 0 rfl rfl)
theorem dX0_isSame_46 : decode cX0_isSame 46 = .ok (.iconst 0, 1) := dk_3 (dk_at dksX0_isSame_2 3 rfl rfl)
theorem dX0_isSame_47 : decode cX0_isSame 47 = .ok (.ireturn, 1) := dk_172 (dk_at dksX0_isSame_2 4 rfl rfl)
theorem dX0_isSame_48 : decode cX0_isSame 48 = .ok (.iinc 2 1, 3) := dk_132 2 1 (dk_at dksX0_isSame_2 5 rfl rfl)
theorem dX0_isSame_51 : decode cX0_isSame 51 = .ok (.goto (-32), 3) := dk_167 255 224 (dk_at dksX0_isSame_2 8 rfl rfl)
theorem dX0_isSame_54 : decode cX0_isSame 54 = .ok (.iconst 1, 1) := dk_4 (dk_at dksX0_isSame_2 11 rfl rfl)
theorem dX0_isSame_55 : decode cX0_isSame 55 = .ok (.ireturn, 1) := dk_172 (dk_at dksX0_isSame_2 12 rfl rfl)
abbrev cX0_orderNamed : ByteArray := prog_1_method_81_code
def yX0_orderNamed : MethodName := ⟨RX0, "orderNamed", "(I)I"⟩
def dkwX0_orderNamed_2 : List UInt8 := [167, 0, 4, 3, 6, 182, 0, 254, 154, 0, 5, 2, 172, 42, 3, 181, 0, 218, 28, 172]
abbrev dktX0_orderNamed_2 : List UInt8 := dkwX0_orderNamed_2 ++ []
def dkwX0_orderNamed_1 : List UInt8 := [184, 2, 6, 182, 1, 255, 42, 180, 0, 123, 182, 2, 9, 184, 2, 12, 61, 42, 28, 158, 0, 7, 4]
abbrev dktX0_orderNamed_1 : List UInt8 := dkwX0_orderNamed_1 ++ dktX0_orderNamed_2
def dkwX0_orderNamed_0 : List UInt8 := [42, 27, 133, 9, 42, 180, 0, 218, 133, 184, 0, 194, 182, 0, 224, 154, 0, 5, 2, 172, 42, 27, 7]
abbrev dktX0_orderNamed_0 : List UInt8 := dkwX0_orderNamed_0 ++ dktX0_orderNamed_1
theorem dksX0_orderNamed_0 : cX0_orderNamed.data.toList.drop 0 = dktX0_orderNamed_0 := by decide +kernel
theorem dksX0_orderNamed_1 : cX0_orderNamed.data.toList.drop 23 = dktX0_orderNamed_1 := dk_seg dksX0_orderNamed_0 23 rfl rfl
theorem dksX0_orderNamed_2 : cX0_orderNamed.data.toList.drop 46 = dktX0_orderNamed_2 := dk_seg dksX0_orderNamed_1 23 rfl rfl
theorem dX0_orderNamed_0 : decode cX0_orderNamed 0 = .ok (.aload_n 0, 1) := dk_42 (dk_at dksX0_orderNamed_0 0 rfl rfl)
theorem dX0_orderNamed_1 : decode cX0_orderNamed 1 = .ok (.iload_n 1, 1) := dk_27 (dk_at dksX0_orderNamed_0 1 rfl rfl)
theorem dX0_orderNamed_2 : decode cX0_orderNamed 2 = .ok (.i2l, 1) := dk_133 (dk_at dksX0_orderNamed_0 2 rfl rfl)
theorem dX0_orderNamed_3 : decode cX0_orderNamed 3 = .ok (.lconst 0, 1) := dk_9 (dk_at dksX0_orderNamed_0 3 rfl rfl)
theorem dX0_orderNamed_4 : decode cX0_orderNamed 4 = .ok (.aload_n 0, 1) := dk_42 (dk_at dksX0_orderNamed_0 4 rfl rfl)
theorem dX0_orderNamed_5 : decode cX0_orderNamed 5 = .ok (.getfield 218, 3) := dk_180 0 218 (dk_at dksX0_orderNamed_0 5 rfl rfl)
theorem dX0_orderNamed_8 : decode cX0_orderNamed 8 = .ok (.i2l, 1) := dk_133 (dk_at dksX0_orderNamed_0 8 rfl rfl)
theorem dX0_orderNamed_9 : decode cX0_orderNamed 9 = .ok (.invokestatic 194, 3) := dk_184 0 194 (dk_at dksX0_orderNamed_0 9 rfl rfl)
theorem dX0_orderNamed_12 : decode cX0_orderNamed 12 = .ok (.invokevirtual 224, 3) := dk_182 0 224 (dk_at dksX0_orderNamed_0 12 rfl rfl)
theorem dX0_orderNamed_15 : decode cX0_orderNamed 15 = .ok (.ifCond .ne 5, 3) := dk_154 0 5 (dk_at dksX0_orderNamed_0 15 rfl rfl)
theorem dX0_orderNamed_18 : decode cX0_orderNamed 18 = .ok (.iconst (-1), 1) := dk_2 (dk_at dksX0_orderNamed_0 18 rfl rfl)
theorem dX0_orderNamed_19 : decode cX0_orderNamed 19 = .ok (.ireturn, 1) := dk_172 (dk_at dksX0_orderNamed_0 19 rfl rfl)
theorem dX0_orderNamed_20 : decode cX0_orderNamed 20 = .ok (.aload_n 0, 1) := dk_42 (dk_at dksX0_orderNamed_0 20 rfl rfl)
theorem dX0_orderNamed_21 : decode cX0_orderNamed 21 = .ok (.iload_n 1, 1) := dk_27 (dk_at dksX0_orderNamed_0 21 rfl rfl)
theorem dX0_orderNamed_22 : decode cX0_orderNamed 22 = .ok (.iconst 4, 1) := dk_7 (dk_at dksX0_orderNamed_0 22 rfl rfl)
theorem dX0_orderNamed_23 : decode cX0_orderNamed 23 = .ok (.invokestatic 518, 3) := dk_184 2 6 (dk_at dksX0_orderNamed_1 0 rfl rfl)
theorem dX0_orderNamed_26 : decode cX0_orderNamed 26 = .ok (.invokevirtual 511, 3) := dk_182 1 255 (dk_at dksX0_orderNamed_1 3 rfl rfl)
theorem dX0_orderNamed_29 : decode cX0_orderNamed 29 = .ok (.aload_n 0, 1) := dk_42 (dk_at dksX0_orderNamed_1 6 rfl rfl)
theorem dX0_orderNamed_30 : decode cX0_orderNamed 30 = .ok (.getfield 123, 3) := dk_180 0 123 (dk_at dksX0_orderNamed_1 7 rfl rfl)
theorem dX0_orderNamed_33 : decode cX0_orderNamed 33 = .ok (.invokevirtual 521, 3) := dk_182 2 9 (dk_at dksX0_orderNamed_1 10 rfl rfl)
theorem dX0_orderNamed_36 : decode cX0_orderNamed 36 = .ok (.invokestatic 524, 3) := dk_184 2 12 (dk_at dksX0_orderNamed_1 13 rfl rfl)
theorem dX0_orderNamed_39 : decode cX0_orderNamed 39 = .ok (.istore_n 2, 1) := dk_61 (dk_at dksX0_orderNamed_1 16 rfl rfl)
theorem dX0_orderNamed_40 : decode cX0_orderNamed 40 = .ok (.aload_n 0, 1) := dk_42 (dk_at dksX0_orderNamed_1 17 rfl rfl)
theorem dX0_orderNamed_41 : decode cX0_orderNamed 41 = .ok (.iload_n 2, 1) := dk_28 (dk_at dksX0_orderNamed_1 18 rfl rfl)
theorem dX0_orderNamed_42 : decode cX0_orderNamed 42 = .ok (.ifCond .le 7, 3) := dk_158 0 7 (dk_at dksX0_orderNamed_1 19 rfl rfl)
theorem dX0_orderNamed_45 : decode cX0_orderNamed 45 = .ok (.iconst 1, 1) := dk_4 (dk_at dksX0_orderNamed_1 22 rfl rfl)
theorem dX0_orderNamed_46 : decode cX0_orderNamed 46 = .ok (.goto 4, 3) := dk_167 0 4 (dk_at dksX0_orderNamed_2 0 rfl rfl)
theorem dX0_orderNamed_49 : decode cX0_orderNamed 49 = .ok (.iconst 0, 1) := dk_3 (dk_at dksX0_orderNamed_2 3 rfl rfl)
theorem dX0_orderNamed_50 : decode cX0_orderNamed 50 = .ok (.iconst 3, 1) := dk_6 (dk_at dksX0_orderNamed_2 4 rfl rfl)
theorem dX0_orderNamed_51 : decode cX0_orderNamed 51 = .ok (.invokevirtual 254, 3) := dk_182 0 254 (dk_at dksX0_orderNamed_2 5 rfl rfl)
theorem dX0_orderNamed_54 : decode cX0_orderNamed 54 = .ok (.ifCond .ne 5, 3) := dk_154 0 5 (dk_at dksX0_orderNamed_2 8 rfl rfl)
theorem dX0_orderNamed_57 : decode cX0_orderNamed 57 = .ok (.iconst (-1), 1) := dk_2 (dk_at dksX0_orderNamed_2 11 rfl rfl)
theorem dX0_orderNamed_58 : decode cX0_orderNamed 58 = .ok (.ireturn, 1) := dk_172 (dk_at dksX0_orderNamed_2 12 rfl rfl)
theorem dX0_orderNamed_59 : decode cX0_orderNamed 59 = .ok (.aload_n 0, 1) := dk_42 (dk_at dksX0_orderNamed_2 13 rfl rfl)
theorem dX0_orderNamed_60 : decode cX0_orderNamed 60 = .ok (.iconst 0, 1) := dk_3 (dk_at dksX0_orderNamed_2 14 rfl rfl)
theorem dX0_orderNamed_61 : decode cX0_orderNamed 61 = .ok (.putfield 218, 3) := dk_181 0 218 (dk_at dksX0_orderNamed_2 15 rfl rfl)
theorem dX0_orderNamed_64 : decode cX0_orderNamed 64 = .ok (.iload_n 2, 1) := dk_28 (dk_at dksX0_orderNamed_2 18 rfl rfl)
theorem dX0_orderNamed_65 : decode cX0_orderNamed 65 = .ok (.ireturn, 1) := dk_172 (dk_at dksX0_orderNamed_2 19 rfl rfl)
abbrev cX0_orderBy : ByteArray := prog_1_method_4_code
def yX0_orderBy : MethodName := ⟨RX0, "orderBy", "(Ljava/lang/String;)I"⟩
def dkwX0_orderBy_25 : List UInt8 := [172]
abbrev dktX0_orderBy_25 : List UInt8 := dkwX0_orderBy_25 ++ []
def dkwX0_orderBy_24 : List UInt8 := [167, 0, 24, 16, 12, 167, 0, 19, 16, 16, 167, 0, 14, 16, 24, 167, 0, 9, 16, 48, 167, 0, 4, 3]
abbrev dktX0_orderBy_24 : List UInt8 := dkwX0_orderBy_24 ++ dktX0_orderBy_25
def dkwX0_orderBy_23 : List UInt8 := [4, 167, 0, 46, 5, 167, 0, 42, 6, 167, 0, 38, 7, 167, 0, 34, 16, 6, 167, 0, 29, 16, 8]
abbrev dktX0_orderBy_23 : List UInt8 := dkwX0_orderBy_23 ++ dktX0_orderBy_24
def dkwX0_orderBy_22 : List UInt8 := [170, 0, 0, 0, 0, 0, 0, 190, 0, 0, 0, 0, 0, 0, 0, 31, 0, 0, 0, 144, 0, 0, 0, 148, 0, 0, 0, 148, 0, 0, 0, 148, 0, 0, 0, 152, 0, 0, 0, 156, 0, 0, 0, 156, 0, 0, 0, 156, 0, 0, 0, 156, 0, 0, 0, 156, 0, 0, 0, 160, 0, 0, 0, 160, 0, 0, 0, 160, 0, 0, 0, 160, 0, 0, 0, 160, 0, 0, 0, 165, 0, 0, 0, 165, 0, 0, 0, 165, 0, 0, 0, 165, 0, 0, 0, 165, 0, 0, 0, 170, 0, 0, 0, 170, 0, 0, 0, 170, 0, 0, 0, 170, 0, 0, 0, 170, 0, 0, 0, 170, 0, 0, 0, 175, 0, 0, 0, 180, 0, 0, 0, 180, 0, 0, 0, 180, 0, 0, 0, 180, 0, 0, 0, 185]
abbrev dktX0_orderBy_22 : List UInt8 := dkwX0_orderBy_22 ++ dktX0_orderBy_23
def dkwX0_orderBy_21 : List UInt8 := [16, 30, 61, 167, 0, 15, 43, 18, 82, 182, 0, 18, 153, 0, 6, 16, 31, 61, 28]
abbrev dktX0_orderBy_21 : List UInt8 := dkwX0_orderBy_21 ++ dktX0_orderBy_22
def dkwX0_orderBy_20 : List UInt8 := [43, 18, 78, 182, 0, 18, 153, 0, 36, 16, 29, 61, 167, 0, 30, 43, 18, 80, 182, 0, 18, 153, 0, 21]
abbrev dktX0_orderBy_20 : List UInt8 := dkwX0_orderBy_20 ++ dktX0_orderBy_21
def dkwX0_orderBy_19 : List UInt8 := [153, 0, 66, 16, 27, 61, 167, 0, 60, 43, 18, 76, 182, 0, 18, 153, 0, 51, 16, 28, 61, 167, 0, 45]
abbrev dktX0_orderBy_19 : List UInt8 := dkwX0_orderBy_19 ++ dktX0_orderBy_20
def dkwX0_orderBy_18 : List UInt8 := [167, 0, 90, 43, 18, 72, 182, 0, 18, 153, 0, 81, 16, 26, 61, 167, 0, 75, 43, 18, 74, 182, 0, 18]
abbrev dktX0_orderBy_18 : List UInt8 := dkwX0_orderBy_18 ++ dktX0_orderBy_19
def dkwX0_orderBy_17 : List UInt8 := [182, 0, 18, 153, 0, 111, 16, 24, 61, 167, 0, 105, 43, 18, 70, 182, 0, 18, 153, 0, 96, 16, 25, 61]
abbrev dktX0_orderBy_17 : List UInt8 := dkwX0_orderBy_17 ++ dktX0_orderBy_18
def dkwX0_orderBy_16 : List UInt8 := [16, 22, 61, 167, 0, 135, 43, 18, 66, 182, 0, 18, 153, 0, 126, 16, 23, 61, 167, 0, 120, 43, 18, 68]
abbrev dktX0_orderBy_16 : List UInt8 := dkwX0_orderBy_16 ++ dktX0_orderBy_17
def dkwX0_orderBy_15 : List UInt8 := [43, 18, 62, 182, 0, 18, 153, 0, 156, 16, 21, 61, 167, 0, 150, 43, 18, 64, 182, 0, 18, 153, 0, 141]
abbrev dktX0_orderBy_15 : List UInt8 := dkwX0_orderBy_15 ++ dktX0_orderBy_16
def dkwX0_orderBy_14 : List UInt8 := [153, 0, 186, 16, 19, 61, 167, 0, 180, 43, 18, 60, 182, 0, 18, 153, 0, 171, 16, 20, 61, 167, 0, 165]
abbrev dktX0_orderBy_14 : List UInt8 := dkwX0_orderBy_14 ++ dktX0_orderBy_15
def dkwX0_orderBy_13 : List UInt8 := [167, 0, 210, 43, 18, 56, 182, 0, 18, 153, 0, 201, 16, 18, 61, 167, 0, 195, 43, 18, 58, 182, 0, 18]
abbrev dktX0_orderBy_13 : List UInt8 := dkwX0_orderBy_13 ++ dktX0_orderBy_14
def dkwX0_orderBy_12 : List UInt8 := [182, 0, 18, 153, 0, 231, 16, 16, 61, 167, 0, 225, 43, 18, 54, 182, 0, 18, 153, 0, 216, 16, 17, 61]
abbrev dktX0_orderBy_12 : List UInt8 := dkwX0_orderBy_12 ++ dktX0_orderBy_13
def dkwX0_orderBy_11 : List UInt8 := [16, 14, 61, 167, 0, 255, 43, 18, 50, 182, 0, 18, 153, 0, 246, 16, 15, 61, 167, 0, 240, 43, 18, 52]
abbrev dktX0_orderBy_11 : List UInt8 := dkwX0_orderBy_11 ++ dktX0_orderBy_12
def dkwX0_orderBy_10 : List UInt8 := [43, 18, 46, 182, 0, 18, 153, 1, 20, 16, 13, 61, 167, 1, 14, 43, 18, 48, 182, 0, 18, 153, 1, 5]
abbrev dktX0_orderBy_10 : List UInt8 := dkwX0_orderBy_10 ++ dktX0_orderBy_11
def dkwX0_orderBy_9 : List UInt8 := [153, 1, 50, 16, 11, 61, 167, 1, 44, 43, 18, 44, 182, 0, 18, 153, 1, 35, 16, 12, 61, 167, 1, 29]
abbrev dktX0_orderBy_9 : List UInt8 := dkwX0_orderBy_9 ++ dktX0_orderBy_10
def dkwX0_orderBy_8 : List UInt8 := [167, 1, 74, 43, 18, 40, 182, 0, 18, 153, 1, 65, 16, 10, 61, 167, 1, 59, 43, 18, 42, 182, 0, 18]
abbrev dktX0_orderBy_8 : List UInt8 := dkwX0_orderBy_8 ++ dktX0_orderBy_9
def dkwX0_orderBy_7 : List UInt8 := [182, 0, 18, 153, 1, 95, 16, 8, 61, 167, 1, 89, 43, 18, 38, 182, 0, 18, 153, 1, 80, 16, 9, 61]
abbrev dktX0_orderBy_7 : List UInt8 := dkwX0_orderBy_7 ++ dktX0_orderBy_8
def dkwX0_orderBy_6 : List UInt8 := [61, 167, 1, 119, 43, 18, 34, 182, 0, 18, 153, 1, 110, 16, 7, 61, 167, 1, 104, 43, 18, 36]
abbrev dktX0_orderBy_6 : List UInt8 := dkwX0_orderBy_6 ++ dktX0_orderBy_7
def dkwX0_orderBy_5 : List UInt8 := [18, 30, 182, 0, 18, 153, 1, 139, 8, 61, 167, 1, 134, 43, 18, 32, 182, 0, 18, 153, 1, 125, 16, 6]
abbrev dktX0_orderBy_5 : List UInt8 := dkwX0_orderBy_5 ++ dktX0_orderBy_6
def dkwX0_orderBy_4 : List UInt8 := [153, 1, 167, 6, 61, 167, 1, 162, 43, 18, 28, 182, 0, 18, 153, 1, 153, 7, 61, 167, 1, 148, 43]
abbrev dktX0_orderBy_4 : List UInt8 := dkwX0_orderBy_4 ++ dktX0_orderBy_5
def dkwX0_orderBy_3 : List UInt8 := [61, 167, 1, 190, 43, 18, 24, 182, 0, 18, 153, 1, 181, 5, 61, 167, 1, 176, 43, 18, 26, 182, 0, 18]
abbrev dktX0_orderBy_3 : List UInt8 := dkwX0_orderBy_3 ++ dktX0_orderBy_4
def dkwX0_orderBy_2 : List UInt8 := [43, 18, 16, 182, 0, 18, 153, 1, 209, 3, 61, 167, 1, 204, 43, 18, 22, 182, 0, 18, 153, 1, 195, 4]
abbrev dktX0_orderBy_2 : List UInt8 := dkwX0_orderBy_2 ++ dktX0_orderBy_3
def dkwX0_orderBy_1 : List UInt8 := [171, 0, 0, 0, 0, 0, 2, 227, 0, 0, 0, 32, 0, 0, 0, 79, 0, 0, 2, 200, 0, 0, 0, 84, 0, 0, 2, 125, 0, 0, 8, 78, 0, 0, 1, 12, 0, 0, 8, 79, 0, 0, 1, 54, 0, 0, 8, 80, 0, 0, 1, 68, 0, 0, 8, 81, 0, 0, 1, 82, 0, 0, 8, 83, 0, 0, 1, 156, 0, 0, 8, 110, 0, 0, 1, 141, 0, 0, 8, 111, 0, 0, 1, 216, 0, 0, 8, 112, 0, 0, 2, 5, 0, 0, 8, 114, 0, 0, 2, 80, 0, 0, 8, 134, 0, 0, 1, 26, 0, 0, 8, 144, 0, 0, 1, 40, 0, 0, 9, 249, 0, 0, 2, 215, 0, 0, 10, 65, 0, 0, 1, 96, 0, 0, 10, 67, 0, 0, 1, 171, 0, 0, 10, 144, 0, 0, 2, 185, 0, 0, 10, 148, 0, 0, 2, 170, 0, 1, 1, 249, 0, 0, 1, 111, 0, 1, 2, 7, 0, 0, 1, 126, 0, 1, 2, 24, 0, 0, 1, 186, 0, 1, 2, 38, 0, 0, 1, 201, 0, 1, 2, 55, 0, 0, 1, 231, 0, 1, 2, 69, 0, 0, 1, 246, 0, 1, 2, 117, 0, 0, 2, 50, 0, 1, 2, 131, 0, 0, 2, 65, 0, 1, 5, 182, 0, 0, 2, 35, 0, 1, 5, 186, 0, 0, 2, 20, 0, 1, 5, 213, 0, 0, 2, 110, 0, 1, 5, 217, 0, 0, 2, 95, 0, 1, 5, 248, 0, 0, 2, 140, 0, 1, 6, 54, 0, 0, 2, 155]
abbrev dktX0_orderBy_1 : List UInt8 := dkwX0_orderBy_1 ++ dktX0_orderBy_2
def dkwX0_orderBy_0 : List UInt8 := [42, 76, 2, 61, 43, 182, 0, 11]
abbrev dktX0_orderBy_0 : List UInt8 := dkwX0_orderBy_0 ++ dktX0_orderBy_1
theorem dksX0_orderBy_0 : cX0_orderBy.data.toList.drop 0 = dktX0_orderBy_0 := by decide +kernel
theorem dksX0_orderBy_1 : cX0_orderBy.data.toList.drop 8 = dktX0_orderBy_1 := dk_seg dksX0_orderBy_0 8 rfl rfl
theorem dksX0_orderBy_2 : cX0_orderBy.data.toList.drop 276 = dktX0_orderBy_2 := dk_seg dksX0_orderBy_1 268 rfl rfl
theorem dksX0_orderBy_3 : cX0_orderBy.data.toList.drop 300 = dktX0_orderBy_3 := dk_seg dksX0_orderBy_2 24 rfl rfl
theorem dksX0_orderBy_4 : cX0_orderBy.data.toList.drop 324 = dktX0_orderBy_4 := dk_seg dksX0_orderBy_3 24 rfl rfl
theorem dksX0_orderBy_5 : cX0_orderBy.data.toList.drop 347 = dktX0_orderBy_5 := dk_seg dksX0_orderBy_4 23 rfl rfl
theorem dksX0_orderBy_6 : cX0_orderBy.data.toList.drop 371 = dktX0_orderBy_6 := dk_seg dksX0_orderBy_5 24 rfl rfl
theorem dksX0_orderBy_7 : cX0_orderBy.data.toList.drop 393 = dktX0_orderBy_7 := dk_seg dksX0_orderBy_6 22 rfl rfl
theorem dksX0_orderBy_8 : cX0_orderBy.data.toList.drop 417 = dktX0_orderBy_8 := dk_seg dksX0_orderBy_7 24 rfl rfl
theorem dksX0_orderBy_9 : cX0_orderBy.data.toList.drop 441 = dktX0_orderBy_9 := dk_seg dksX0_orderBy_8 24 rfl rfl
theorem dksX0_orderBy_10 : cX0_orderBy.data.toList.drop 465 = dktX0_orderBy_10 := dk_seg dksX0_orderBy_9 24 rfl rfl
theorem dksX0_orderBy_11 : cX0_orderBy.data.toList.drop 489 = dktX0_orderBy_11 := dk_seg dksX0_orderBy_10 24 rfl rfl
theorem dksX0_orderBy_12 : cX0_orderBy.data.toList.drop 513 = dktX0_orderBy_12 := dk_seg dksX0_orderBy_11 24 rfl rfl
theorem dksX0_orderBy_13 : cX0_orderBy.data.toList.drop 537 = dktX0_orderBy_13 := dk_seg dksX0_orderBy_12 24 rfl rfl
theorem dksX0_orderBy_14 : cX0_orderBy.data.toList.drop 561 = dktX0_orderBy_14 := dk_seg dksX0_orderBy_13 24 rfl rfl
theorem dksX0_orderBy_15 : cX0_orderBy.data.toList.drop 585 = dktX0_orderBy_15 := dk_seg dksX0_orderBy_14 24 rfl rfl
theorem dksX0_orderBy_16 : cX0_orderBy.data.toList.drop 609 = dktX0_orderBy_16 := dk_seg dksX0_orderBy_15 24 rfl rfl
theorem dksX0_orderBy_17 : cX0_orderBy.data.toList.drop 633 = dktX0_orderBy_17 := dk_seg dksX0_orderBy_16 24 rfl rfl
theorem dksX0_orderBy_18 : cX0_orderBy.data.toList.drop 657 = dktX0_orderBy_18 := dk_seg dksX0_orderBy_17 24 rfl rfl
theorem dksX0_orderBy_19 : cX0_orderBy.data.toList.drop 681 = dktX0_orderBy_19 := dk_seg dksX0_orderBy_18 24 rfl rfl
theorem dksX0_orderBy_20 : cX0_orderBy.data.toList.drop 705 = dktX0_orderBy_20 := dk_seg dksX0_orderBy_19 24 rfl rfl
theorem dksX0_orderBy_21 : cX0_orderBy.data.toList.drop 729 = dktX0_orderBy_21 := dk_seg dksX0_orderBy_20 24 rfl rfl
theorem dksX0_orderBy_22 : cX0_orderBy.data.toList.drop 748 = dktX0_orderBy_22 := dk_seg dksX0_orderBy_21 19 rfl rfl
theorem dksX0_orderBy_23 : cX0_orderBy.data.toList.drop 892 = dktX0_orderBy_23 := dk_seg dksX0_orderBy_22 144 rfl rfl
theorem dksX0_orderBy_24 : cX0_orderBy.data.toList.drop 915 = dktX0_orderBy_24 := dk_seg dksX0_orderBy_23 23 rfl rfl
theorem dksX0_orderBy_25 : cX0_orderBy.data.toList.drop 939 = dktX0_orderBy_25 := dk_seg dksX0_orderBy_24 24 rfl rfl
theorem dX0_orderBy_0 : decode cX0_orderBy 0 = .ok (.aload_n 0, 1) := dk_42 (dk_at dksX0_orderBy_0 0 rfl rfl)
theorem dX0_orderBy_1 : decode cX0_orderBy 1 = .ok (.astore_n 1, 1) := dk_76 (dk_at dksX0_orderBy_0 1 rfl rfl)
theorem dX0_orderBy_2 : decode cX0_orderBy 2 = .ok (.iconst (-1), 1) := dk_2 (dk_at dksX0_orderBy_0 2 rfl rfl)
theorem dX0_orderBy_3 : decode cX0_orderBy 3 = .ok (.istore_n 2, 1) := dk_61 (dk_at dksX0_orderBy_0 3 rfl rfl)
theorem dX0_orderBy_4 : decode cX0_orderBy 4 = .ok (.aload_n 1, 1) := dk_43 (dk_at dksX0_orderBy_0 4 rfl rfl)
theorem dX0_orderBy_5 : decode cX0_orderBy 5 = .ok (.invokevirtual 11, 3) := dk_182 0 11 (dk_at dksX0_orderBy_0 5 rfl rfl)
theorem dX0_orderBy_8 : decode cX0_orderBy 8 = .ok (.lookupswitch 739 #[(79, 712), (84, 637), (2126, 268), (2127, 310), (2128, 324), (2129, 338), (2131, 412), (2158, 397), (2159, 472), (2160, 517), (2162, 592), (2182, 282), (2192, 296), (2553, 727), (2625, 352), (2627, 427), (2704, 697), (2708, 682), (66041, 367), (66055, 382), (66072, 442), (66086, 457), (66103, 487), (66117, 502), (66165, 562), (66179, 577), (66998, 547), (67002, 532), (67029, 622), (67033, 607), (67064, 652), (67126, 667)], 268) := by decide +kernel
theorem dX0_orderBy_276 : decode cX0_orderBy 276 = .ok (.aload_n 1, 1) := dk_43 (dk_at dksX0_orderBy_2 0 rfl rfl)
theorem dX0_orderBy_277 : decode cX0_orderBy 277 = .ok (.ldc 16, 2) := dk_18 16 (dk_at dksX0_orderBy_2 1 rfl rfl)
theorem dX0_orderBy_279 : decode cX0_orderBy 279 = .ok (.invokevirtual 18, 3) := dk_182 0 18 (dk_at dksX0_orderBy_2 3 rfl rfl)
theorem dX0_orderBy_282 : decode cX0_orderBy 282 = .ok (.ifCond .eq 465, 3) := dk_153 1 209 (dk_at dksX0_orderBy_2 6 rfl rfl)
theorem dX0_orderBy_285 : decode cX0_orderBy 285 = .ok (.iconst 0, 1) := dk_3 (dk_at dksX0_orderBy_2 9 rfl rfl)
theorem dX0_orderBy_286 : decode cX0_orderBy 286 = .ok (.istore_n 2, 1) := dk_61 (dk_at dksX0_orderBy_2 10 rfl rfl)
theorem dX0_orderBy_287 : decode cX0_orderBy 287 = .ok (.goto 460, 3) := dk_167 1 204 (dk_at dksX0_orderBy_2 11 rfl rfl)
theorem dX0_orderBy_290 : decode cX0_orderBy 290 = .ok (.aload_n 1, 1) := dk_43 (dk_at dksX0_orderBy_2 14 rfl rfl)
theorem dX0_orderBy_291 : decode cX0_orderBy 291 = .ok (.ldc 22, 2) := dk_18 22 (dk_at dksX0_orderBy_2 15 rfl rfl)
theorem dX0_orderBy_293 : decode cX0_orderBy 293 = .ok (.invokevirtual 18, 3) := dk_182 0 18 (dk_at dksX0_orderBy_2 17 rfl rfl)
theorem dX0_orderBy_296 : decode cX0_orderBy 296 = .ok (.ifCond .eq 451, 3) := dk_153 1 195 (dk_at dksX0_orderBy_2 20 rfl rfl)
theorem dX0_orderBy_299 : decode cX0_orderBy 299 = .ok (.iconst 1, 1) := dk_4 (dk_at dksX0_orderBy_2 23 rfl rfl)
theorem dX0_orderBy_300 : decode cX0_orderBy 300 = .ok (.istore_n 2, 1) := dk_61 (dk_at dksX0_orderBy_3 0 rfl rfl)
theorem dX0_orderBy_301 : decode cX0_orderBy 301 = .ok (.goto 446, 3) := dk_167 1 190 (dk_at dksX0_orderBy_3 1 rfl rfl)
theorem dX0_orderBy_304 : decode cX0_orderBy 304 = .ok (.aload_n 1, 1) := dk_43 (dk_at dksX0_orderBy_3 4 rfl rfl)
theorem dX0_orderBy_305 : decode cX0_orderBy 305 = .ok (.ldc 24, 2) := dk_18 24 (dk_at dksX0_orderBy_3 5 rfl rfl)
theorem dX0_orderBy_307 : decode cX0_orderBy 307 = .ok (.invokevirtual 18, 3) := dk_182 0 18 (dk_at dksX0_orderBy_3 7 rfl rfl)
theorem dX0_orderBy_310 : decode cX0_orderBy 310 = .ok (.ifCond .eq 437, 3) := dk_153 1 181 (dk_at dksX0_orderBy_3 10 rfl rfl)
theorem dX0_orderBy_313 : decode cX0_orderBy 313 = .ok (.iconst 2, 1) := dk_5 (dk_at dksX0_orderBy_3 13 rfl rfl)
theorem dX0_orderBy_314 : decode cX0_orderBy 314 = .ok (.istore_n 2, 1) := dk_61 (dk_at dksX0_orderBy_3 14 rfl rfl)
theorem dX0_orderBy_315 : decode cX0_orderBy 315 = .ok (.goto 432, 3) := dk_167 1 176 (dk_at dksX0_orderBy_3 15 rfl rfl)
theorem dX0_orderBy_318 : decode cX0_orderBy 318 = .ok (.aload_n 1, 1) := dk_43 (dk_at dksX0_orderBy_3 18 rfl rfl)
theorem dX0_orderBy_319 : decode cX0_orderBy 319 = .ok (.ldc 26, 2) := dk_18 26 (dk_at dksX0_orderBy_3 19 rfl rfl)
theorem dX0_orderBy_321 : decode cX0_orderBy 321 = .ok (.invokevirtual 18, 3) := dk_182 0 18 (dk_at dksX0_orderBy_3 21 rfl rfl)
theorem dX0_orderBy_324 : decode cX0_orderBy 324 = .ok (.ifCond .eq 423, 3) := dk_153 1 167 (dk_at dksX0_orderBy_4 0 rfl rfl)
theorem dX0_orderBy_327 : decode cX0_orderBy 327 = .ok (.iconst 3, 1) := dk_6 (dk_at dksX0_orderBy_4 3 rfl rfl)
theorem dX0_orderBy_328 : decode cX0_orderBy 328 = .ok (.istore_n 2, 1) := dk_61 (dk_at dksX0_orderBy_4 4 rfl rfl)
theorem dX0_orderBy_329 : decode cX0_orderBy 329 = .ok (.goto 418, 3) := dk_167 1 162 (dk_at dksX0_orderBy_4 5 rfl rfl)
theorem dX0_orderBy_332 : decode cX0_orderBy 332 = .ok (.aload_n 1, 1) := dk_43 (dk_at dksX0_orderBy_4 8 rfl rfl)
theorem dX0_orderBy_333 : decode cX0_orderBy 333 = .ok (.ldc 28, 2) := dk_18 28 (dk_at dksX0_orderBy_4 9 rfl rfl)
theorem dX0_orderBy_335 : decode cX0_orderBy 335 = .ok (.invokevirtual 18, 3) := dk_182 0 18 (dk_at dksX0_orderBy_4 11 rfl rfl)
theorem dX0_orderBy_338 : decode cX0_orderBy 338 = .ok (.ifCond .eq 409, 3) := dk_153 1 153 (dk_at dksX0_orderBy_4 14 rfl rfl)
theorem dX0_orderBy_341 : decode cX0_orderBy 341 = .ok (.iconst 4, 1) := dk_7 (dk_at dksX0_orderBy_4 17 rfl rfl)
theorem dX0_orderBy_342 : decode cX0_orderBy 342 = .ok (.istore_n 2, 1) := dk_61 (dk_at dksX0_orderBy_4 18 rfl rfl)
theorem dX0_orderBy_343 : decode cX0_orderBy 343 = .ok (.goto 404, 3) := dk_167 1 148 (dk_at dksX0_orderBy_4 19 rfl rfl)
theorem dX0_orderBy_346 : decode cX0_orderBy 346 = .ok (.aload_n 1, 1) := dk_43 (dk_at dksX0_orderBy_4 22 rfl rfl)
theorem dX0_orderBy_347 : decode cX0_orderBy 347 = .ok (.ldc 30, 2) := dk_18 30 (dk_at dksX0_orderBy_5 0 rfl rfl)
theorem dX0_orderBy_349 : decode cX0_orderBy 349 = .ok (.invokevirtual 18, 3) := dk_182 0 18 (dk_at dksX0_orderBy_5 2 rfl rfl)
theorem dX0_orderBy_352 : decode cX0_orderBy 352 = .ok (.ifCond .eq 395, 3) := dk_153 1 139 (dk_at dksX0_orderBy_5 5 rfl rfl)
theorem dX0_orderBy_355 : decode cX0_orderBy 355 = .ok (.iconst 5, 1) := dk_8 (dk_at dksX0_orderBy_5 8 rfl rfl)
theorem dX0_orderBy_356 : decode cX0_orderBy 356 = .ok (.istore_n 2, 1) := dk_61 (dk_at dksX0_orderBy_5 9 rfl rfl)
theorem dX0_orderBy_357 : decode cX0_orderBy 357 = .ok (.goto 390, 3) := dk_167 1 134 (dk_at dksX0_orderBy_5 10 rfl rfl)
theorem dX0_orderBy_360 : decode cX0_orderBy 360 = .ok (.aload_n 1, 1) := dk_43 (dk_at dksX0_orderBy_5 13 rfl rfl)
theorem dX0_orderBy_361 : decode cX0_orderBy 361 = .ok (.ldc 32, 2) := dk_18 32 (dk_at dksX0_orderBy_5 14 rfl rfl)
theorem dX0_orderBy_363 : decode cX0_orderBy 363 = .ok (.invokevirtual 18, 3) := dk_182 0 18 (dk_at dksX0_orderBy_5 16 rfl rfl)
theorem dX0_orderBy_366 : decode cX0_orderBy 366 = .ok (.ifCond .eq 381, 3) := dk_153 1 125 (dk_at dksX0_orderBy_5 19 rfl rfl)
theorem dX0_orderBy_369 : decode cX0_orderBy 369 = .ok (.bipush 6, 2) := dk_16 6 (dk_at dksX0_orderBy_5 22 rfl rfl)
theorem dX0_orderBy_371 : decode cX0_orderBy 371 = .ok (.istore_n 2, 1) := dk_61 (dk_at dksX0_orderBy_6 0 rfl rfl)
theorem dX0_orderBy_372 : decode cX0_orderBy 372 = .ok (.goto 375, 3) := dk_167 1 119 (dk_at dksX0_orderBy_6 1 rfl rfl)
theorem dX0_orderBy_375 : decode cX0_orderBy 375 = .ok (.aload_n 1, 1) := dk_43 (dk_at dksX0_orderBy_6 4 rfl rfl)
theorem dX0_orderBy_376 : decode cX0_orderBy 376 = .ok (.ldc 34, 2) := dk_18 34 (dk_at dksX0_orderBy_6 5 rfl rfl)
theorem dX0_orderBy_378 : decode cX0_orderBy 378 = .ok (.invokevirtual 18, 3) := dk_182 0 18 (dk_at dksX0_orderBy_6 7 rfl rfl)
theorem dX0_orderBy_381 : decode cX0_orderBy 381 = .ok (.ifCond .eq 366, 3) := dk_153 1 110 (dk_at dksX0_orderBy_6 10 rfl rfl)
theorem dX0_orderBy_384 : decode cX0_orderBy 384 = .ok (.bipush 7, 2) := dk_16 7 (dk_at dksX0_orderBy_6 13 rfl rfl)
theorem dX0_orderBy_386 : decode cX0_orderBy 386 = .ok (.istore_n 2, 1) := dk_61 (dk_at dksX0_orderBy_6 15 rfl rfl)
theorem dX0_orderBy_387 : decode cX0_orderBy 387 = .ok (.goto 360, 3) := dk_167 1 104 (dk_at dksX0_orderBy_6 16 rfl rfl)
theorem dX0_orderBy_390 : decode cX0_orderBy 390 = .ok (.aload_n 1, 1) := dk_43 (dk_at dksX0_orderBy_6 19 rfl rfl)
theorem dX0_orderBy_391 : decode cX0_orderBy 391 = .ok (.ldc 36, 2) := dk_18 36 (dk_at dksX0_orderBy_6 20 rfl rfl)
theorem dX0_orderBy_393 : decode cX0_orderBy 393 = .ok (.invokevirtual 18, 3) := dk_182 0 18 (dk_at dksX0_orderBy_7 0 rfl rfl)
theorem dX0_orderBy_396 : decode cX0_orderBy 396 = .ok (.ifCond .eq 351, 3) := dk_153 1 95 (dk_at dksX0_orderBy_7 3 rfl rfl)
theorem dX0_orderBy_399 : decode cX0_orderBy 399 = .ok (.bipush 8, 2) := dk_16 8 (dk_at dksX0_orderBy_7 6 rfl rfl)
theorem dX0_orderBy_401 : decode cX0_orderBy 401 = .ok (.istore_n 2, 1) := dk_61 (dk_at dksX0_orderBy_7 8 rfl rfl)
theorem dX0_orderBy_402 : decode cX0_orderBy 402 = .ok (.goto 345, 3) := dk_167 1 89 (dk_at dksX0_orderBy_7 9 rfl rfl)
theorem dX0_orderBy_405 : decode cX0_orderBy 405 = .ok (.aload_n 1, 1) := dk_43 (dk_at dksX0_orderBy_7 12 rfl rfl)
theorem dX0_orderBy_406 : decode cX0_orderBy 406 = .ok (.ldc 38, 2) := dk_18 38 (dk_at dksX0_orderBy_7 13 rfl rfl)
theorem dX0_orderBy_408 : decode cX0_orderBy 408 = .ok (.invokevirtual 18, 3) := dk_182 0 18 (dk_at dksX0_orderBy_7 15 rfl rfl)
theorem dX0_orderBy_411 : decode cX0_orderBy 411 = .ok (.ifCond .eq 336, 3) := dk_153 1 80 (dk_at dksX0_orderBy_7 18 rfl rfl)
theorem dX0_orderBy_414 : decode cX0_orderBy 414 = .ok (.bipush 9, 2) := dk_16 9 (dk_at dksX0_orderBy_7 21 rfl rfl)
theorem dX0_orderBy_416 : decode cX0_orderBy 416 = .ok (.istore_n 2, 1) := dk_61 (dk_at dksX0_orderBy_7 23 rfl rfl)
theorem dX0_orderBy_417 : decode cX0_orderBy 417 = .ok (.goto 330, 3) := dk_167 1 74 (dk_at dksX0_orderBy_8 0 rfl rfl)
theorem dX0_orderBy_420 : decode cX0_orderBy 420 = .ok (.aload_n 1, 1) := dk_43 (dk_at dksX0_orderBy_8 3 rfl rfl)
theorem dX0_orderBy_421 : decode cX0_orderBy 421 = .ok (.ldc 40, 2) := dk_18 40 (dk_at dksX0_orderBy_8 4 rfl rfl)
theorem dX0_orderBy_423 : decode cX0_orderBy 423 = .ok (.invokevirtual 18, 3) := dk_182 0 18 (dk_at dksX0_orderBy_8 6 rfl rfl)
theorem dX0_orderBy_426 : decode cX0_orderBy 426 = .ok (.ifCond .eq 321, 3) := dk_153 1 65 (dk_at dksX0_orderBy_8 9 rfl rfl)
theorem dX0_orderBy_429 : decode cX0_orderBy 429 = .ok (.bipush 10, 2) := dk_16 10 (dk_at dksX0_orderBy_8 12 rfl rfl)
theorem dX0_orderBy_431 : decode cX0_orderBy 431 = .ok (.istore_n 2, 1) := dk_61 (dk_at dksX0_orderBy_8 14 rfl rfl)
theorem dX0_orderBy_432 : decode cX0_orderBy 432 = .ok (.goto 315, 3) := dk_167 1 59 (dk_at dksX0_orderBy_8 15 rfl rfl)
theorem dX0_orderBy_435 : decode cX0_orderBy 435 = .ok (.aload_n 1, 1) := dk_43 (dk_at dksX0_orderBy_8 18 rfl rfl)
theorem dX0_orderBy_436 : decode cX0_orderBy 436 = .ok (.ldc 42, 2) := dk_18 42 (dk_at dksX0_orderBy_8 19 rfl rfl)
theorem dX0_orderBy_438 : decode cX0_orderBy 438 = .ok (.invokevirtual 18, 3) := dk_182 0 18 (dk_at dksX0_orderBy_8 21 rfl rfl)
theorem dX0_orderBy_441 : decode cX0_orderBy 441 = .ok (.ifCond .eq 306, 3) := dk_153 1 50 (dk_at dksX0_orderBy_9 0 rfl rfl)
theorem dX0_orderBy_444 : decode cX0_orderBy 444 = .ok (.bipush 11, 2) := dk_16 11 (dk_at dksX0_orderBy_9 3 rfl rfl)
theorem dX0_orderBy_446 : decode cX0_orderBy 446 = .ok (.istore_n 2, 1) := dk_61 (dk_at dksX0_orderBy_9 5 rfl rfl)
theorem dX0_orderBy_447 : decode cX0_orderBy 447 = .ok (.goto 300, 3) := dk_167 1 44 (dk_at dksX0_orderBy_9 6 rfl rfl)
theorem dX0_orderBy_450 : decode cX0_orderBy 450 = .ok (.aload_n 1, 1) := dk_43 (dk_at dksX0_orderBy_9 9 rfl rfl)
theorem dX0_orderBy_451 : decode cX0_orderBy 451 = .ok (.ldc 44, 2) := dk_18 44 (dk_at dksX0_orderBy_9 10 rfl rfl)
theorem dX0_orderBy_453 : decode cX0_orderBy 453 = .ok (.invokevirtual 18, 3) := dk_182 0 18 (dk_at dksX0_orderBy_9 12 rfl rfl)
theorem dX0_orderBy_456 : decode cX0_orderBy 456 = .ok (.ifCond .eq 291, 3) := dk_153 1 35 (dk_at dksX0_orderBy_9 15 rfl rfl)
theorem dX0_orderBy_459 : decode cX0_orderBy 459 = .ok (.bipush 12, 2) := dk_16 12 (dk_at dksX0_orderBy_9 18 rfl rfl)
theorem dX0_orderBy_461 : decode cX0_orderBy 461 = .ok (.istore_n 2, 1) := dk_61 (dk_at dksX0_orderBy_9 20 rfl rfl)
theorem dX0_orderBy_462 : decode cX0_orderBy 462 = .ok (.goto 285, 3) := dk_167 1 29 (dk_at dksX0_orderBy_9 21 rfl rfl)
theorem dX0_orderBy_465 : decode cX0_orderBy 465 = .ok (.aload_n 1, 1) := dk_43 (dk_at dksX0_orderBy_10 0 rfl rfl)
theorem dX0_orderBy_466 : decode cX0_orderBy 466 = .ok (.ldc 46, 2) := dk_18 46 (dk_at dksX0_orderBy_10 1 rfl rfl)
theorem dX0_orderBy_468 : decode cX0_orderBy 468 = .ok (.invokevirtual 18, 3) := dk_182 0 18 (dk_at dksX0_orderBy_10 3 rfl rfl)
theorem dX0_orderBy_471 : decode cX0_orderBy 471 = .ok (.ifCond .eq 276, 3) := dk_153 1 20 (dk_at dksX0_orderBy_10 6 rfl rfl)
theorem dX0_orderBy_474 : decode cX0_orderBy 474 = .ok (.bipush 13, 2) := dk_16 13 (dk_at dksX0_orderBy_10 9 rfl rfl)
theorem dX0_orderBy_476 : decode cX0_orderBy 476 = .ok (.istore_n 2, 1) := dk_61 (dk_at dksX0_orderBy_10 11 rfl rfl)
theorem dX0_orderBy_477 : decode cX0_orderBy 477 = .ok (.goto 270, 3) := dk_167 1 14 (dk_at dksX0_orderBy_10 12 rfl rfl)
theorem dX0_orderBy_480 : decode cX0_orderBy 480 = .ok (.aload_n 1, 1) := dk_43 (dk_at dksX0_orderBy_10 15 rfl rfl)
theorem dX0_orderBy_481 : decode cX0_orderBy 481 = .ok (.ldc 48, 2) := dk_18 48 (dk_at dksX0_orderBy_10 16 rfl rfl)
theorem dX0_orderBy_483 : decode cX0_orderBy 483 = .ok (.invokevirtual 18, 3) := dk_182 0 18 (dk_at dksX0_orderBy_10 18 rfl rfl)
theorem dX0_orderBy_486 : decode cX0_orderBy 486 = .ok (.ifCond .eq 261, 3) := dk_153 1 5 (dk_at dksX0_orderBy_10 21 rfl rfl)
theorem dX0_orderBy_489 : decode cX0_orderBy 489 = .ok (.bipush 14, 2) := dk_16 14 (dk_at dksX0_orderBy_11 0 rfl rfl)
theorem dX0_orderBy_491 : decode cX0_orderBy 491 = .ok (.istore_n 2, 1) := dk_61 (dk_at dksX0_orderBy_11 2 rfl rfl)
theorem dX0_orderBy_492 : decode cX0_orderBy 492 = .ok (.goto 255, 3) := dk_167 0 255 (dk_at dksX0_orderBy_11 3 rfl rfl)
theorem dX0_orderBy_495 : decode cX0_orderBy 495 = .ok (.aload_n 1, 1) := dk_43 (dk_at dksX0_orderBy_11 6 rfl rfl)
theorem dX0_orderBy_496 : decode cX0_orderBy 496 = .ok (.ldc 50, 2) := dk_18 50 (dk_at dksX0_orderBy_11 7 rfl rfl)
theorem dX0_orderBy_498 : decode cX0_orderBy 498 = .ok (.invokevirtual 18, 3) := dk_182 0 18 (dk_at dksX0_orderBy_11 9 rfl rfl)
theorem dX0_orderBy_501 : decode cX0_orderBy 501 = .ok (.ifCond .eq 246, 3) := dk_153 0 246 (dk_at dksX0_orderBy_11 12 rfl rfl)
theorem dX0_orderBy_504 : decode cX0_orderBy 504 = .ok (.bipush 15, 2) := dk_16 15 (dk_at dksX0_orderBy_11 15 rfl rfl)
theorem dX0_orderBy_506 : decode cX0_orderBy 506 = .ok (.istore_n 2, 1) := dk_61 (dk_at dksX0_orderBy_11 17 rfl rfl)
theorem dX0_orderBy_507 : decode cX0_orderBy 507 = .ok (.goto 240, 3) := dk_167 0 240 (dk_at dksX0_orderBy_11 18 rfl rfl)
theorem dX0_orderBy_510 : decode cX0_orderBy 510 = .ok (.aload_n 1, 1) := dk_43 (dk_at dksX0_orderBy_11 21 rfl rfl)
theorem dX0_orderBy_511 : decode cX0_orderBy 511 = .ok (.ldc 52, 2) := dk_18 52 (dk_at dksX0_orderBy_11 22 rfl rfl)
theorem dX0_orderBy_513 : decode cX0_orderBy 513 = .ok (.invokevirtual 18, 3) := dk_182 0 18 (dk_at dksX0_orderBy_12 0 rfl rfl)
theorem dX0_orderBy_516 : decode cX0_orderBy 516 = .ok (.ifCond .eq 231, 3) := dk_153 0 231 (dk_at dksX0_orderBy_12 3 rfl rfl)
theorem dX0_orderBy_519 : decode cX0_orderBy 519 = .ok (.bipush 16, 2) := dk_16 16 (dk_at dksX0_orderBy_12 6 rfl rfl)
theorem dX0_orderBy_521 : decode cX0_orderBy 521 = .ok (.istore_n 2, 1) := dk_61 (dk_at dksX0_orderBy_12 8 rfl rfl)
theorem dX0_orderBy_522 : decode cX0_orderBy 522 = .ok (.goto 225, 3) := dk_167 0 225 (dk_at dksX0_orderBy_12 9 rfl rfl)
theorem dX0_orderBy_525 : decode cX0_orderBy 525 = .ok (.aload_n 1, 1) := dk_43 (dk_at dksX0_orderBy_12 12 rfl rfl)
theorem dX0_orderBy_526 : decode cX0_orderBy 526 = .ok (.ldc 54, 2) := dk_18 54 (dk_at dksX0_orderBy_12 13 rfl rfl)
theorem dX0_orderBy_528 : decode cX0_orderBy 528 = .ok (.invokevirtual 18, 3) := dk_182 0 18 (dk_at dksX0_orderBy_12 15 rfl rfl)
theorem dX0_orderBy_531 : decode cX0_orderBy 531 = .ok (.ifCond .eq 216, 3) := dk_153 0 216 (dk_at dksX0_orderBy_12 18 rfl rfl)
theorem dX0_orderBy_534 : decode cX0_orderBy 534 = .ok (.bipush 17, 2) := dk_16 17 (dk_at dksX0_orderBy_12 21 rfl rfl)
theorem dX0_orderBy_536 : decode cX0_orderBy 536 = .ok (.istore_n 2, 1) := dk_61 (dk_at dksX0_orderBy_12 23 rfl rfl)
theorem dX0_orderBy_537 : decode cX0_orderBy 537 = .ok (.goto 210, 3) := dk_167 0 210 (dk_at dksX0_orderBy_13 0 rfl rfl)
theorem dX0_orderBy_540 : decode cX0_orderBy 540 = .ok (.aload_n 1, 1) := dk_43 (dk_at dksX0_orderBy_13 3 rfl rfl)
theorem dX0_orderBy_541 : decode cX0_orderBy 541 = .ok (.ldc 56, 2) := dk_18 56 (dk_at dksX0_orderBy_13 4 rfl rfl)
theorem dX0_orderBy_543 : decode cX0_orderBy 543 = .ok (.invokevirtual 18, 3) := dk_182 0 18 (dk_at dksX0_orderBy_13 6 rfl rfl)
theorem dX0_orderBy_546 : decode cX0_orderBy 546 = .ok (.ifCond .eq 201, 3) := dk_153 0 201 (dk_at dksX0_orderBy_13 9 rfl rfl)
theorem dX0_orderBy_549 : decode cX0_orderBy 549 = .ok (.bipush 18, 2) := dk_16 18 (dk_at dksX0_orderBy_13 12 rfl rfl)
theorem dX0_orderBy_551 : decode cX0_orderBy 551 = .ok (.istore_n 2, 1) := dk_61 (dk_at dksX0_orderBy_13 14 rfl rfl)
theorem dX0_orderBy_552 : decode cX0_orderBy 552 = .ok (.goto 195, 3) := dk_167 0 195 (dk_at dksX0_orderBy_13 15 rfl rfl)
theorem dX0_orderBy_555 : decode cX0_orderBy 555 = .ok (.aload_n 1, 1) := dk_43 (dk_at dksX0_orderBy_13 18 rfl rfl)
theorem dX0_orderBy_556 : decode cX0_orderBy 556 = .ok (.ldc 58, 2) := dk_18 58 (dk_at dksX0_orderBy_13 19 rfl rfl)
theorem dX0_orderBy_558 : decode cX0_orderBy 558 = .ok (.invokevirtual 18, 3) := dk_182 0 18 (dk_at dksX0_orderBy_13 21 rfl rfl)
theorem dX0_orderBy_561 : decode cX0_orderBy 561 = .ok (.ifCond .eq 186, 3) := dk_153 0 186 (dk_at dksX0_orderBy_14 0 rfl rfl)
theorem dX0_orderBy_564 : decode cX0_orderBy 564 = .ok (.bipush 19, 2) := dk_16 19 (dk_at dksX0_orderBy_14 3 rfl rfl)
theorem dX0_orderBy_566 : decode cX0_orderBy 566 = .ok (.istore_n 2, 1) := dk_61 (dk_at dksX0_orderBy_14 5 rfl rfl)
theorem dX0_orderBy_567 : decode cX0_orderBy 567 = .ok (.goto 180, 3) := dk_167 0 180 (dk_at dksX0_orderBy_14 6 rfl rfl)
theorem dX0_orderBy_570 : decode cX0_orderBy 570 = .ok (.aload_n 1, 1) := dk_43 (dk_at dksX0_orderBy_14 9 rfl rfl)
theorem dX0_orderBy_571 : decode cX0_orderBy 571 = .ok (.ldc 60, 2) := dk_18 60 (dk_at dksX0_orderBy_14 10 rfl rfl)
theorem dX0_orderBy_573 : decode cX0_orderBy 573 = .ok (.invokevirtual 18, 3) := dk_182 0 18 (dk_at dksX0_orderBy_14 12 rfl rfl)
theorem dX0_orderBy_576 : decode cX0_orderBy 576 = .ok (.ifCond .eq 171, 3) := dk_153 0 171 (dk_at dksX0_orderBy_14 15 rfl rfl)
theorem dX0_orderBy_579 : decode cX0_orderBy 579 = .ok (.bipush 20, 2) := dk_16 20 (dk_at dksX0_orderBy_14 18 rfl rfl)
theorem dX0_orderBy_581 : decode cX0_orderBy 581 = .ok (.istore_n 2, 1) := dk_61 (dk_at dksX0_orderBy_14 20 rfl rfl)
theorem dX0_orderBy_582 : decode cX0_orderBy 582 = .ok (.goto 165, 3) := dk_167 0 165 (dk_at dksX0_orderBy_14 21 rfl rfl)
theorem dX0_orderBy_585 : decode cX0_orderBy 585 = .ok (.aload_n 1, 1) := dk_43 (dk_at dksX0_orderBy_15 0 rfl rfl)
theorem dX0_orderBy_586 : decode cX0_orderBy 586 = .ok (.ldc 62, 2) := dk_18 62 (dk_at dksX0_orderBy_15 1 rfl rfl)
theorem dX0_orderBy_588 : decode cX0_orderBy 588 = .ok (.invokevirtual 18, 3) := dk_182 0 18 (dk_at dksX0_orderBy_15 3 rfl rfl)
theorem dX0_orderBy_591 : decode cX0_orderBy 591 = .ok (.ifCond .eq 156, 3) := dk_153 0 156 (dk_at dksX0_orderBy_15 6 rfl rfl)
theorem dX0_orderBy_594 : decode cX0_orderBy 594 = .ok (.bipush 21, 2) := dk_16 21 (dk_at dksX0_orderBy_15 9 rfl rfl)
theorem dX0_orderBy_596 : decode cX0_orderBy 596 = .ok (.istore_n 2, 1) := dk_61 (dk_at dksX0_orderBy_15 11 rfl rfl)
theorem dX0_orderBy_597 : decode cX0_orderBy 597 = .ok (.goto 150, 3) := dk_167 0 150 (dk_at dksX0_orderBy_15 12 rfl rfl)
theorem dX0_orderBy_600 : decode cX0_orderBy 600 = .ok (.aload_n 1, 1) := dk_43 (dk_at dksX0_orderBy_15 15 rfl rfl)
theorem dX0_orderBy_601 : decode cX0_orderBy 601 = .ok (.ldc 64, 2) := dk_18 64 (dk_at dksX0_orderBy_15 16 rfl rfl)
theorem dX0_orderBy_603 : decode cX0_orderBy 603 = .ok (.invokevirtual 18, 3) := dk_182 0 18 (dk_at dksX0_orderBy_15 18 rfl rfl)
theorem dX0_orderBy_606 : decode cX0_orderBy 606 = .ok (.ifCond .eq 141, 3) := dk_153 0 141 (dk_at dksX0_orderBy_15 21 rfl rfl)
theorem dX0_orderBy_609 : decode cX0_orderBy 609 = .ok (.bipush 22, 2) := dk_16 22 (dk_at dksX0_orderBy_16 0 rfl rfl)
theorem dX0_orderBy_611 : decode cX0_orderBy 611 = .ok (.istore_n 2, 1) := dk_61 (dk_at dksX0_orderBy_16 2 rfl rfl)
theorem dX0_orderBy_612 : decode cX0_orderBy 612 = .ok (.goto 135, 3) := dk_167 0 135 (dk_at dksX0_orderBy_16 3 rfl rfl)
theorem dX0_orderBy_615 : decode cX0_orderBy 615 = .ok (.aload_n 1, 1) := dk_43 (dk_at dksX0_orderBy_16 6 rfl rfl)
theorem dX0_orderBy_616 : decode cX0_orderBy 616 = .ok (.ldc 66, 2) := dk_18 66 (dk_at dksX0_orderBy_16 7 rfl rfl)
theorem dX0_orderBy_618 : decode cX0_orderBy 618 = .ok (.invokevirtual 18, 3) := dk_182 0 18 (dk_at dksX0_orderBy_16 9 rfl rfl)
theorem dX0_orderBy_621 : decode cX0_orderBy 621 = .ok (.ifCond .eq 126, 3) := dk_153 0 126 (dk_at dksX0_orderBy_16 12 rfl rfl)
theorem dX0_orderBy_624 : decode cX0_orderBy 624 = .ok (.bipush 23, 2) := dk_16 23 (dk_at dksX0_orderBy_16 15 rfl rfl)
theorem dX0_orderBy_626 : decode cX0_orderBy 626 = .ok (.istore_n 2, 1) := dk_61 (dk_at dksX0_orderBy_16 17 rfl rfl)
theorem dX0_orderBy_627 : decode cX0_orderBy 627 = .ok (.goto 120, 3) := dk_167 0 120 (dk_at dksX0_orderBy_16 18 rfl rfl)
theorem dX0_orderBy_630 : decode cX0_orderBy 630 = .ok (.aload_n 1, 1) := dk_43 (dk_at dksX0_orderBy_16 21 rfl rfl)
theorem dX0_orderBy_631 : decode cX0_orderBy 631 = .ok (.ldc 68, 2) := dk_18 68 (dk_at dksX0_orderBy_16 22 rfl rfl)
theorem dX0_orderBy_633 : decode cX0_orderBy 633 = .ok (.invokevirtual 18, 3) := dk_182 0 18 (dk_at dksX0_orderBy_17 0 rfl rfl)
theorem dX0_orderBy_636 : decode cX0_orderBy 636 = .ok (.ifCond .eq 111, 3) := dk_153 0 111 (dk_at dksX0_orderBy_17 3 rfl rfl)
theorem dX0_orderBy_639 : decode cX0_orderBy 639 = .ok (.bipush 24, 2) := dk_16 24 (dk_at dksX0_orderBy_17 6 rfl rfl)
theorem dX0_orderBy_641 : decode cX0_orderBy 641 = .ok (.istore_n 2, 1) := dk_61 (dk_at dksX0_orderBy_17 8 rfl rfl)
theorem dX0_orderBy_642 : decode cX0_orderBy 642 = .ok (.goto 105, 3) := dk_167 0 105 (dk_at dksX0_orderBy_17 9 rfl rfl)
theorem dX0_orderBy_645 : decode cX0_orderBy 645 = .ok (.aload_n 1, 1) := dk_43 (dk_at dksX0_orderBy_17 12 rfl rfl)
theorem dX0_orderBy_646 : decode cX0_orderBy 646 = .ok (.ldc 70, 2) := dk_18 70 (dk_at dksX0_orderBy_17 13 rfl rfl)
theorem dX0_orderBy_648 : decode cX0_orderBy 648 = .ok (.invokevirtual 18, 3) := dk_182 0 18 (dk_at dksX0_orderBy_17 15 rfl rfl)
theorem dX0_orderBy_651 : decode cX0_orderBy 651 = .ok (.ifCond .eq 96, 3) := dk_153 0 96 (dk_at dksX0_orderBy_17 18 rfl rfl)
theorem dX0_orderBy_654 : decode cX0_orderBy 654 = .ok (.bipush 25, 2) := dk_16 25 (dk_at dksX0_orderBy_17 21 rfl rfl)
theorem dX0_orderBy_656 : decode cX0_orderBy 656 = .ok (.istore_n 2, 1) := dk_61 (dk_at dksX0_orderBy_17 23 rfl rfl)
theorem dX0_orderBy_657 : decode cX0_orderBy 657 = .ok (.goto 90, 3) := dk_167 0 90 (dk_at dksX0_orderBy_18 0 rfl rfl)
theorem dX0_orderBy_660 : decode cX0_orderBy 660 = .ok (.aload_n 1, 1) := dk_43 (dk_at dksX0_orderBy_18 3 rfl rfl)
theorem dX0_orderBy_661 : decode cX0_orderBy 661 = .ok (.ldc 72, 2) := dk_18 72 (dk_at dksX0_orderBy_18 4 rfl rfl)
theorem dX0_orderBy_663 : decode cX0_orderBy 663 = .ok (.invokevirtual 18, 3) := dk_182 0 18 (dk_at dksX0_orderBy_18 6 rfl rfl)
theorem dX0_orderBy_666 : decode cX0_orderBy 666 = .ok (.ifCond .eq 81, 3) := dk_153 0 81 (dk_at dksX0_orderBy_18 9 rfl rfl)
theorem dX0_orderBy_669 : decode cX0_orderBy 669 = .ok (.bipush 26, 2) := dk_16 26 (dk_at dksX0_orderBy_18 12 rfl rfl)
theorem dX0_orderBy_671 : decode cX0_orderBy 671 = .ok (.istore_n 2, 1) := dk_61 (dk_at dksX0_orderBy_18 14 rfl rfl)
theorem dX0_orderBy_672 : decode cX0_orderBy 672 = .ok (.goto 75, 3) := dk_167 0 75 (dk_at dksX0_orderBy_18 15 rfl rfl)
theorem dX0_orderBy_675 : decode cX0_orderBy 675 = .ok (.aload_n 1, 1) := dk_43 (dk_at dksX0_orderBy_18 18 rfl rfl)
theorem dX0_orderBy_676 : decode cX0_orderBy 676 = .ok (.ldc 74, 2) := dk_18 74 (dk_at dksX0_orderBy_18 19 rfl rfl)
theorem dX0_orderBy_678 : decode cX0_orderBy 678 = .ok (.invokevirtual 18, 3) := dk_182 0 18 (dk_at dksX0_orderBy_18 21 rfl rfl)
theorem dX0_orderBy_681 : decode cX0_orderBy 681 = .ok (.ifCond .eq 66, 3) := dk_153 0 66 (dk_at dksX0_orderBy_19 0 rfl rfl)
theorem dX0_orderBy_684 : decode cX0_orderBy 684 = .ok (.bipush 27, 2) := dk_16 27 (dk_at dksX0_orderBy_19 3 rfl rfl)
theorem dX0_orderBy_686 : decode cX0_orderBy 686 = .ok (.istore_n 2, 1) := dk_61 (dk_at dksX0_orderBy_19 5 rfl rfl)
theorem dX0_orderBy_687 : decode cX0_orderBy 687 = .ok (.goto 60, 3) := dk_167 0 60 (dk_at dksX0_orderBy_19 6 rfl rfl)
theorem dX0_orderBy_690 : decode cX0_orderBy 690 = .ok (.aload_n 1, 1) := dk_43 (dk_at dksX0_orderBy_19 9 rfl rfl)
theorem dX0_orderBy_691 : decode cX0_orderBy 691 = .ok (.ldc 76, 2) := dk_18 76 (dk_at dksX0_orderBy_19 10 rfl rfl)
theorem dX0_orderBy_693 : decode cX0_orderBy 693 = .ok (.invokevirtual 18, 3) := dk_182 0 18 (dk_at dksX0_orderBy_19 12 rfl rfl)
theorem dX0_orderBy_696 : decode cX0_orderBy 696 = .ok (.ifCond .eq 51, 3) := dk_153 0 51 (dk_at dksX0_orderBy_19 15 rfl rfl)
theorem dX0_orderBy_699 : decode cX0_orderBy 699 = .ok (.bipush 28, 2) := dk_16 28 (dk_at dksX0_orderBy_19 18 rfl rfl)
theorem dX0_orderBy_701 : decode cX0_orderBy 701 = .ok (.istore_n 2, 1) := dk_61 (dk_at dksX0_orderBy_19 20 rfl rfl)
theorem dX0_orderBy_702 : decode cX0_orderBy 702 = .ok (.goto 45, 3) := dk_167 0 45 (dk_at dksX0_orderBy_19 21 rfl rfl)
theorem dX0_orderBy_705 : decode cX0_orderBy 705 = .ok (.aload_n 1, 1) := dk_43 (dk_at dksX0_orderBy_20 0 rfl rfl)
theorem dX0_orderBy_706 : decode cX0_orderBy 706 = .ok (.ldc 78, 2) := dk_18 78 (dk_at dksX0_orderBy_20 1 rfl rfl)
theorem dX0_orderBy_708 : decode cX0_orderBy 708 = .ok (.invokevirtual 18, 3) := dk_182 0 18 (dk_at dksX0_orderBy_20 3 rfl rfl)
theorem dX0_orderBy_711 : decode cX0_orderBy 711 = .ok (.ifCond .eq 36, 3) := dk_153 0 36 (dk_at dksX0_orderBy_20 6 rfl rfl)
theorem dX0_orderBy_714 : decode cX0_orderBy 714 = .ok (.bipush 29, 2) := dk_16 29 (dk_at dksX0_orderBy_20 9 rfl rfl)
theorem dX0_orderBy_716 : decode cX0_orderBy 716 = .ok (.istore_n 2, 1) := dk_61 (dk_at dksX0_orderBy_20 11 rfl rfl)
theorem dX0_orderBy_717 : decode cX0_orderBy 717 = .ok (.goto 30, 3) := dk_167 0 30 (dk_at dksX0_orderBy_20 12 rfl rfl)
theorem dX0_orderBy_720 : decode cX0_orderBy 720 = .ok (.aload_n 1, 1) := dk_43 (dk_at dksX0_orderBy_20 15 rfl rfl)
theorem dX0_orderBy_721 : decode cX0_orderBy 721 = .ok (.ldc 80, 2) := dk_18 80 (dk_at dksX0_orderBy_20 16 rfl rfl)
theorem dX0_orderBy_723 : decode cX0_orderBy 723 = .ok (.invokevirtual 18, 3) := dk_182 0 18 (dk_at dksX0_orderBy_20 18 rfl rfl)
theorem dX0_orderBy_726 : decode cX0_orderBy 726 = .ok (.ifCond .eq 21, 3) := dk_153 0 21 (dk_at dksX0_orderBy_20 21 rfl rfl)
theorem dX0_orderBy_729 : decode cX0_orderBy 729 = .ok (.bipush 30, 2) := dk_16 30 (dk_at dksX0_orderBy_21 0 rfl rfl)
theorem dX0_orderBy_731 : decode cX0_orderBy 731 = .ok (.istore_n 2, 1) := dk_61 (dk_at dksX0_orderBy_21 2 rfl rfl)
theorem dX0_orderBy_732 : decode cX0_orderBy 732 = .ok (.goto 15, 3) := dk_167 0 15 (dk_at dksX0_orderBy_21 3 rfl rfl)
theorem dX0_orderBy_735 : decode cX0_orderBy 735 = .ok (.aload_n 1, 1) := dk_43 (dk_at dksX0_orderBy_21 6 rfl rfl)
theorem dX0_orderBy_736 : decode cX0_orderBy 736 = .ok (.ldc 82, 2) := dk_18 82 (dk_at dksX0_orderBy_21 7 rfl rfl)
theorem dX0_orderBy_738 : decode cX0_orderBy 738 = .ok (.invokevirtual 18, 3) := dk_182 0 18 (dk_at dksX0_orderBy_21 9 rfl rfl)
theorem dX0_orderBy_741 : decode cX0_orderBy 741 = .ok (.ifCond .eq 6, 3) := dk_153 0 6 (dk_at dksX0_orderBy_21 12 rfl rfl)
theorem dX0_orderBy_744 : decode cX0_orderBy 744 = .ok (.bipush 31, 2) := dk_16 31 (dk_at dksX0_orderBy_21 15 rfl rfl)
theorem dX0_orderBy_746 : decode cX0_orderBy 746 = .ok (.istore_n 2, 1) := dk_61 (dk_at dksX0_orderBy_21 17 rfl rfl)
theorem dX0_orderBy_747 : decode cX0_orderBy 747 = .ok (.iload_n 2, 1) := dk_28 (dk_at dksX0_orderBy_21 18 rfl rfl)
theorem dX0_orderBy_748 : decode cX0_orderBy 748 = .ok (.tableswitch 190 0 31 #[144, 148, 148, 148, 152, 156, 156, 156, 156, 156, 160, 160, 160, 160, 160, 165, 165, 165, 165, 165, 170, 170, 170, 170, 170, 170, 175, 180, 180, 180, 180, 185], 144) := by decide +kernel
theorem dX0_orderBy_892 : decode cX0_orderBy 892 = .ok (.iconst 1, 1) := dk_4 (dk_at dksX0_orderBy_23 0 rfl rfl)
theorem dX0_orderBy_893 : decode cX0_orderBy 893 = .ok (.goto 46, 3) := dk_167 0 46 (dk_at dksX0_orderBy_23 1 rfl rfl)
theorem dX0_orderBy_896 : decode cX0_orderBy 896 = .ok (.iconst 2, 1) := dk_5 (dk_at dksX0_orderBy_23 4 rfl rfl)
theorem dX0_orderBy_897 : decode cX0_orderBy 897 = .ok (.goto 42, 3) := dk_167 0 42 (dk_at dksX0_orderBy_23 5 rfl rfl)
theorem dX0_orderBy_900 : decode cX0_orderBy 900 = .ok (.iconst 3, 1) := dk_6 (dk_at dksX0_orderBy_23 8 rfl rfl)
theorem dX0_orderBy_901 : decode cX0_orderBy 901 = .ok (.goto 38, 3) := dk_167 0 38 (dk_at dksX0_orderBy_23 9 rfl rfl)
theorem dX0_orderBy_904 : decode cX0_orderBy 904 = .ok (.iconst 4, 1) := dk_7 (dk_at dksX0_orderBy_23 12 rfl rfl)
theorem dX0_orderBy_905 : decode cX0_orderBy 905 = .ok (.goto 34, 3) := dk_167 0 34 (dk_at dksX0_orderBy_23 13 rfl rfl)
theorem dX0_orderBy_908 : decode cX0_orderBy 908 = .ok (.bipush 6, 2) := dk_16 6 (dk_at dksX0_orderBy_23 16 rfl rfl)
theorem dX0_orderBy_910 : decode cX0_orderBy 910 = .ok (.goto 29, 3) := dk_167 0 29 (dk_at dksX0_orderBy_23 18 rfl rfl)
theorem dX0_orderBy_913 : decode cX0_orderBy 913 = .ok (.bipush 8, 2) := dk_16 8 (dk_at dksX0_orderBy_23 21 rfl rfl)
theorem dX0_orderBy_915 : decode cX0_orderBy 915 = .ok (.goto 24, 3) := dk_167 0 24 (dk_at dksX0_orderBy_24 0 rfl rfl)
theorem dX0_orderBy_918 : decode cX0_orderBy 918 = .ok (.bipush 12, 2) := dk_16 12 (dk_at dksX0_orderBy_24 3 rfl rfl)
theorem dX0_orderBy_920 : decode cX0_orderBy 920 = .ok (.goto 19, 3) := dk_167 0 19 (dk_at dksX0_orderBy_24 5 rfl rfl)
theorem dX0_orderBy_923 : decode cX0_orderBy 923 = .ok (.bipush 16, 2) := dk_16 16 (dk_at dksX0_orderBy_24 8 rfl rfl)
theorem dX0_orderBy_925 : decode cX0_orderBy 925 = .ok (.goto 14, 3) := dk_167 0 14 (dk_at dksX0_orderBy_24 10 rfl rfl)
theorem dX0_orderBy_928 : decode cX0_orderBy 928 = .ok (.bipush 24, 2) := dk_16 24 (dk_at dksX0_orderBy_24 13 rfl rfl)
theorem dX0_orderBy_930 : decode cX0_orderBy 930 = .ok (.goto 9, 3) := dk_167 0 9 (dk_at dksX0_orderBy_24 15 rfl rfl)
theorem dX0_orderBy_933 : decode cX0_orderBy 933 = .ok (.bipush 48, 2) := dk_16 48 (dk_at dksX0_orderBy_24 18 rfl rfl)
theorem dX0_orderBy_935 : decode cX0_orderBy 935 = .ok (.goto 4, 3) := dk_167 0 4 (dk_at dksX0_orderBy_24 20 rfl rfl)
theorem dX0_orderBy_938 : decode cX0_orderBy 938 = .ok (.iconst 0, 1) := dk_3 (dk_at dksX0_orderBy_24 23 rfl rfl)
theorem dX0_orderBy_939 : decode cX0_orderBy 939 = .ok (.ireturn, 1) := dk_172 (dk_at dksX0_orderBy_25 0 rfl rfl)
abbrev cX0_lawAt : ByteArray := prog_1_method_84_code
def yX0_lawAt : MethodName := ⟨RX0, "lawAt", "(II)I"⟩
def dkwX0_lawAt_1 : List UInt8 := [182, 0, 254, 153, 0, 17, 42, 180, 0, 160, 180, 2, 26, 27, 50, 28, 46, 167, 0, 4, 2, 172]
abbrev dktX0_lawAt_1 : List UInt8 := dkwX0_lawAt_1 ++ []
def dkwX0_lawAt_0 : List UInt8 := [42, 27, 28, 155, 0, 7, 4, 167, 0, 4, 3, 182, 2, 23, 153, 0, 30, 42, 42, 28, 182, 1, 166, 6]
abbrev dktX0_lawAt_0 : List UInt8 := dkwX0_lawAt_0 ++ dktX0_lawAt_1
theorem dksX0_lawAt_0 : cX0_lawAt.data.toList.drop 0 = dktX0_lawAt_0 := by decide +kernel
theorem dksX0_lawAt_1 : cX0_lawAt.data.toList.drop 24 = dktX0_lawAt_1 := dk_seg dksX0_lawAt_0 24 rfl rfl
theorem dX0_lawAt_0 : decode cX0_lawAt 0 = .ok (.aload_n 0, 1) := dk_42 (dk_at dksX0_lawAt_0 0 rfl rfl)
theorem dX0_lawAt_1 : decode cX0_lawAt 1 = .ok (.iload_n 1, 1) := dk_27 (dk_at dksX0_lawAt_0 1 rfl rfl)
theorem dX0_lawAt_2 : decode cX0_lawAt 2 = .ok (.iload_n 2, 1) := dk_28 (dk_at dksX0_lawAt_0 2 rfl rfl)
theorem dX0_lawAt_3 : decode cX0_lawAt 3 = .ok (.ifCond .lt 7, 3) := dk_155 0 7 (dk_at dksX0_lawAt_0 3 rfl rfl)
theorem dX0_lawAt_6 : decode cX0_lawAt 6 = .ok (.iconst 1, 1) := dk_4 (dk_at dksX0_lawAt_0 6 rfl rfl)
theorem dX0_lawAt_7 : decode cX0_lawAt 7 = .ok (.goto 4, 3) := dk_167 0 4 (dk_at dksX0_lawAt_0 7 rfl rfl)
theorem dX0_lawAt_10 : decode cX0_lawAt 10 = .ok (.iconst 0, 1) := dk_3 (dk_at dksX0_lawAt_0 10 rfl rfl)
theorem dX0_lawAt_11 : decode cX0_lawAt 11 = .ok (.invokevirtual 535, 3) := dk_182 2 23 (dk_at dksX0_lawAt_0 11 rfl rfl)
theorem dX0_lawAt_14 : decode cX0_lawAt 14 = .ok (.ifCond .eq 30, 3) := dk_153 0 30 (dk_at dksX0_lawAt_0 14 rfl rfl)
theorem dX0_lawAt_17 : decode cX0_lawAt 17 = .ok (.aload_n 0, 1) := dk_42 (dk_at dksX0_lawAt_0 17 rfl rfl)
theorem dX0_lawAt_18 : decode cX0_lawAt 18 = .ok (.aload_n 0, 1) := dk_42 (dk_at dksX0_lawAt_0 18 rfl rfl)
theorem dX0_lawAt_19 : decode cX0_lawAt 19 = .ok (.iload_n 2, 1) := dk_28 (dk_at dksX0_lawAt_0 19 rfl rfl)
theorem dX0_lawAt_20 : decode cX0_lawAt 20 = .ok (.invokevirtual 422, 3) := dk_182 1 166 (dk_at dksX0_lawAt_0 20 rfl rfl)
theorem dX0_lawAt_23 : decode cX0_lawAt 23 = .ok (.iconst 3, 1) := dk_6 (dk_at dksX0_lawAt_0 23 rfl rfl)
theorem dX0_lawAt_24 : decode cX0_lawAt 24 = .ok (.invokevirtual 254, 3) := dk_182 0 254 (dk_at dksX0_lawAt_1 0 rfl rfl)
theorem dX0_lawAt_27 : decode cX0_lawAt 27 = .ok (.ifCond .eq 17, 3) := dk_153 0 17 (dk_at dksX0_lawAt_1 3 rfl rfl)
theorem dX0_lawAt_30 : decode cX0_lawAt 30 = .ok (.aload_n 0, 1) := dk_42 (dk_at dksX0_lawAt_1 6 rfl rfl)
theorem dX0_lawAt_31 : decode cX0_lawAt 31 = .ok (.getfield 160, 3) := dk_180 0 160 (dk_at dksX0_lawAt_1 7 rfl rfl)
theorem dX0_lawAt_34 : decode cX0_lawAt 34 = .ok (.getfield 538, 3) := dk_180 2 26 (dk_at dksX0_lawAt_1 10 rfl rfl)
theorem dX0_lawAt_37 : decode cX0_lawAt 37 = .ok (.iload_n 1, 1) := dk_27 (dk_at dksX0_lawAt_1 13 rfl rfl)
theorem dX0_lawAt_38 : decode cX0_lawAt 38 = .ok (.aaload, 1) := dk_50 (dk_at dksX0_lawAt_1 14 rfl rfl)
theorem dX0_lawAt_39 : decode cX0_lawAt 39 = .ok (.iload_n 2, 1) := dk_28 (dk_at dksX0_lawAt_1 15 rfl rfl)
theorem dX0_lawAt_40 : decode cX0_lawAt 40 = .ok (.iaload, 1) := dk_46 (dk_at dksX0_lawAt_1 16 rfl rfl)
theorem dX0_lawAt_41 : decode cX0_lawAt 41 = .ok (.goto 4, 3) := dk_167 0 4 (dk_at dksX0_lawAt_1 17 rfl rfl)
theorem dX0_lawAt_44 : decode cX0_lawAt 44 = .ok (.iconst (-1), 1) := dk_2 (dk_at dksX0_lawAt_1 20 rfl rfl)
theorem dX0_lawAt_45 : decode cX0_lawAt 45 = .ok (.ireturn, 1) := dk_172 (dk_at dksX0_lawAt_1 21 rfl rfl)
abbrev cX0_asksLaw : ByteArray := prog_1_method_83_code
def yX0_asksLaw : MethodName := ⟨RX0, "asksLaw", "(IZ)Z"⟩
def dkwX0_asksLaw_2 : List UInt8 := [167, 0, 4, 3, 172]
abbrev dktX0_asksLaw_2 : List UInt8 := dkwX0_asksLaw_2 ++ []
def dkwX0_asksLaw_1 : List UInt8 := [180, 0, 160, 180, 2, 22, 162, 0, 7, 4, 167, 0, 4, 3, 6, 182, 0, 254, 153, 0, 7, 4]
abbrev dktX0_asksLaw_1 : List UInt8 := dkwX0_asksLaw_1 ++ dktX0_asksLaw_2
def dkwX0_asksLaw_0 : List UInt8 := [42, 28, 153, 0, 11, 27, 155, 0, 7, 4, 167, 0, 4, 3, 182, 2, 19, 153, 0, 31, 42, 27, 42]
abbrev dktX0_asksLaw_0 : List UInt8 := dkwX0_asksLaw_0 ++ dktX0_asksLaw_1
theorem dksX0_asksLaw_0 : cX0_asksLaw.data.toList.drop 0 = dktX0_asksLaw_0 := by decide +kernel
theorem dksX0_asksLaw_1 : cX0_asksLaw.data.toList.drop 23 = dktX0_asksLaw_1 := dk_seg dksX0_asksLaw_0 23 rfl rfl
theorem dksX0_asksLaw_2 : cX0_asksLaw.data.toList.drop 45 = dktX0_asksLaw_2 := dk_seg dksX0_asksLaw_1 22 rfl rfl
theorem dX0_asksLaw_0 : decode cX0_asksLaw 0 = .ok (.aload_n 0, 1) := dk_42 (dk_at dksX0_asksLaw_0 0 rfl rfl)
theorem dX0_asksLaw_1 : decode cX0_asksLaw 1 = .ok (.iload_n 2, 1) := dk_28 (dk_at dksX0_asksLaw_0 1 rfl rfl)
theorem dX0_asksLaw_2 : decode cX0_asksLaw 2 = .ok (.ifCond .eq 11, 3) := dk_153 0 11 (dk_at dksX0_asksLaw_0 2 rfl rfl)
theorem dX0_asksLaw_5 : decode cX0_asksLaw 5 = .ok (.iload_n 1, 1) := dk_27 (dk_at dksX0_asksLaw_0 5 rfl rfl)
theorem dX0_asksLaw_6 : decode cX0_asksLaw 6 = .ok (.ifCond .lt 7, 3) := dk_155 0 7 (dk_at dksX0_asksLaw_0 6 rfl rfl)
theorem dX0_asksLaw_9 : decode cX0_asksLaw 9 = .ok (.iconst 1, 1) := dk_4 (dk_at dksX0_asksLaw_0 9 rfl rfl)
theorem dX0_asksLaw_10 : decode cX0_asksLaw 10 = .ok (.goto 4, 3) := dk_167 0 4 (dk_at dksX0_asksLaw_0 10 rfl rfl)
theorem dX0_asksLaw_13 : decode cX0_asksLaw 13 = .ok (.iconst 0, 1) := dk_3 (dk_at dksX0_asksLaw_0 13 rfl rfl)
theorem dX0_asksLaw_14 : decode cX0_asksLaw 14 = .ok (.invokevirtual 531, 3) := dk_182 2 19 (dk_at dksX0_asksLaw_0 14 rfl rfl)
theorem dX0_asksLaw_17 : decode cX0_asksLaw 17 = .ok (.ifCond .eq 31, 3) := dk_153 0 31 (dk_at dksX0_asksLaw_0 17 rfl rfl)
theorem dX0_asksLaw_20 : decode cX0_asksLaw 20 = .ok (.aload_n 0, 1) := dk_42 (dk_at dksX0_asksLaw_0 20 rfl rfl)
theorem dX0_asksLaw_21 : decode cX0_asksLaw 21 = .ok (.iload_n 1, 1) := dk_27 (dk_at dksX0_asksLaw_0 21 rfl rfl)
theorem dX0_asksLaw_22 : decode cX0_asksLaw 22 = .ok (.aload_n 0, 1) := dk_42 (dk_at dksX0_asksLaw_0 22 rfl rfl)
theorem dX0_asksLaw_23 : decode cX0_asksLaw 23 = .ok (.getfield 160, 3) := dk_180 0 160 (dk_at dksX0_asksLaw_1 0 rfl rfl)
theorem dX0_asksLaw_26 : decode cX0_asksLaw 26 = .ok (.getfield 534, 3) := dk_180 2 22 (dk_at dksX0_asksLaw_1 3 rfl rfl)
theorem dX0_asksLaw_29 : decode cX0_asksLaw 29 = .ok (.if_icmp .ge 7, 3) := dk_162 0 7 (dk_at dksX0_asksLaw_1 6 rfl rfl)
theorem dX0_asksLaw_32 : decode cX0_asksLaw 32 = .ok (.iconst 1, 1) := dk_4 (dk_at dksX0_asksLaw_1 9 rfl rfl)
theorem dX0_asksLaw_33 : decode cX0_asksLaw 33 = .ok (.goto 4, 3) := dk_167 0 4 (dk_at dksX0_asksLaw_1 10 rfl rfl)
theorem dX0_asksLaw_36 : decode cX0_asksLaw 36 = .ok (.iconst 0, 1) := dk_3 (dk_at dksX0_asksLaw_1 13 rfl rfl)
theorem dX0_asksLaw_37 : decode cX0_asksLaw 37 = .ok (.iconst 3, 1) := dk_6 (dk_at dksX0_asksLaw_1 14 rfl rfl)
theorem dX0_asksLaw_38 : decode cX0_asksLaw 38 = .ok (.invokevirtual 254, 3) := dk_182 0 254 (dk_at dksX0_asksLaw_1 15 rfl rfl)
theorem dX0_asksLaw_41 : decode cX0_asksLaw 41 = .ok (.ifCond .eq 7, 3) := dk_153 0 7 (dk_at dksX0_asksLaw_1 18 rfl rfl)
theorem dX0_asksLaw_44 : decode cX0_asksLaw 44 = .ok (.iconst 1, 1) := dk_4 (dk_at dksX0_asksLaw_1 21 rfl rfl)
theorem dX0_asksLaw_45 : decode cX0_asksLaw 45 = .ok (.goto 4, 3) := dk_167 0 4 (dk_at dksX0_asksLaw_2 0 rfl rfl)
theorem dX0_asksLaw_48 : decode cX0_asksLaw 48 = .ok (.iconst 0, 1) := dk_3 (dk_at dksX0_asksLaw_2 3 rfl rfl)
theorem dX0_asksLaw_49 : decode cX0_asksLaw 49 = .ok (.ireturn, 1) := dk_172 (dk_at dksX0_asksLaw_2 4 rfl rfl)
abbrev cX0_asksLaws : ByteArray := prog_1_method_82_code
def yX0_asksLaws : MethodName := ⟨RX0, "asksLaws", "(Z)Z"⟩
def dkwX0_asksLaws_1 : List UInt8 := [42, 4, 181, 0, 212, 4, 172]
abbrev dktX0_asksLaws_1 : List UInt8 := dkwX0_asksLaws_1 ++ []
def dkwX0_asksLaws_0 : List UInt8 := [42, 27, 182, 1, 85, 154, 0, 5, 3, 172, 42, 180, 0, 212, 154, 0, 10, 42, 180, 0, 160, 182, 2, 16]
abbrev dktX0_asksLaws_0 : List UInt8 := dkwX0_asksLaws_0 ++ dktX0_asksLaws_1
theorem dksX0_asksLaws_0 : cX0_asksLaws.data.toList.drop 0 = dktX0_asksLaws_0 := by decide +kernel
theorem dksX0_asksLaws_1 : cX0_asksLaws.data.toList.drop 24 = dktX0_asksLaws_1 := dk_seg dksX0_asksLaws_0 24 rfl rfl
theorem dX0_asksLaws_0 : decode cX0_asksLaws 0 = .ok (.aload_n 0, 1) := dk_42 (dk_at dksX0_asksLaws_0 0 rfl rfl)
theorem dX0_asksLaws_1 : decode cX0_asksLaws 1 = .ok (.iload_n 1, 1) := dk_27 (dk_at dksX0_asksLaws_0 1 rfl rfl)
theorem dX0_asksLaws_2 : decode cX0_asksLaws 2 = .ok (.invokevirtual 341, 3) := dk_182 1 85 (dk_at dksX0_asksLaws_0 2 rfl rfl)
theorem dX0_asksLaws_5 : decode cX0_asksLaws 5 = .ok (.ifCond .ne 5, 3) := dk_154 0 5 (dk_at dksX0_asksLaws_0 5 rfl rfl)
theorem dX0_asksLaws_8 : decode cX0_asksLaws 8 = .ok (.iconst 0, 1) := dk_3 (dk_at dksX0_asksLaws_0 8 rfl rfl)
theorem dX0_asksLaws_9 : decode cX0_asksLaws 9 = .ok (.ireturn, 1) := dk_172 (dk_at dksX0_asksLaws_0 9 rfl rfl)
theorem dX0_asksLaws_10 : decode cX0_asksLaws 10 = .ok (.aload_n 0, 1) := dk_42 (dk_at dksX0_asksLaws_0 10 rfl rfl)
theorem dX0_asksLaws_11 : decode cX0_asksLaws 11 = .ok (.getfield 212, 3) := dk_180 0 212 (dk_at dksX0_asksLaws_0 11 rfl rfl)
theorem dX0_asksLaws_14 : decode cX0_asksLaws 14 = .ok (.ifCond .ne 10, 3) := dk_154 0 10 (dk_at dksX0_asksLaws_0 14 rfl rfl)
theorem dX0_asksLaws_17 : decode cX0_asksLaws 17 = .ok (.aload_n 0, 1) := dk_42 (dk_at dksX0_asksLaws_0 17 rfl rfl)
theorem dX0_asksLaws_18 : decode cX0_asksLaws 18 = .ok (.getfield 160, 3) := dk_180 0 160 (dk_at dksX0_asksLaws_0 18 rfl rfl)
theorem dX0_asksLaws_21 : decode cX0_asksLaws 21 = .ok (.invokevirtual 528, 3) := dk_182 2 16 (dk_at dksX0_asksLaws_0 21 rfl rfl)
theorem dX0_asksLaws_24 : decode cX0_asksLaws 24 = .ok (.aload_n 0, 1) := dk_42 (dk_at dksX0_asksLaws_1 0 rfl rfl)
theorem dX0_asksLaws_25 : decode cX0_asksLaws 25 = .ok (.iconst 1, 1) := dk_4 (dk_at dksX0_asksLaws_1 1 rfl rfl)
theorem dX0_asksLaws_26 : decode cX0_asksLaws 26 = .ok (.putfield 212, 3) := dk_181 0 212 (dk_at dksX0_asksLaws_1 2 rfl rfl)
theorem dX0_asksLaws_29 : decode cX0_asksLaws 29 = .ok (.iconst 1, 1) := dk_4 (dk_at dksX0_asksLaws_1 5 rfl rfl)
theorem dX0_asksLaws_30 : decode cX0_asksLaws 30 = .ok (.ireturn, 1) := dk_172 (dk_at dksX0_asksLaws_1 6 rfl rfl)
abbrev cX0_backBy : ByteArray := prog_1_method_6_code
def yX0_backBy : MethodName := ⟨RX0, "backBy", "(I)I"⟩
def dkwX0_backBy_1 : List UInt8 := [167, 255, 238, 31, 136, 172]
abbrev dktX0_backBy_1 : List UInt8 := dkwX0_backBy_1 ++ []
def dkwX0_backBy_0 : List UInt8 := [10, 64, 3, 62, 29, 16, 95, 162, 0, 18, 31, 26, 133, 105, 20, 0, 86, 113, 64, 132, 3, 1]
abbrev dktX0_backBy_0 : List UInt8 := dkwX0_backBy_0 ++ dktX0_backBy_1
theorem dksX0_backBy_0 : cX0_backBy.data.toList.drop 0 = dktX0_backBy_0 := by decide +kernel
theorem dksX0_backBy_1 : cX0_backBy.data.toList.drop 22 = dktX0_backBy_1 := dk_seg dksX0_backBy_0 22 rfl rfl
theorem dX0_backBy_0 : decode cX0_backBy 0 = .ok (.lconst 1, 1) := dk_10 (dk_at dksX0_backBy_0 0 rfl rfl)
theorem dX0_backBy_1 : decode cX0_backBy 1 = .ok (.lstore_n 1, 1) := dk_64 (dk_at dksX0_backBy_0 1 rfl rfl)
theorem dX0_backBy_2 : decode cX0_backBy 2 = .ok (.iconst 0, 1) := dk_3 (dk_at dksX0_backBy_0 2 rfl rfl)
theorem dX0_backBy_3 : decode cX0_backBy 3 = .ok (.istore_n 3, 1) := dk_62 (dk_at dksX0_backBy_0 3 rfl rfl)
theorem dX0_backBy_4 : decode cX0_backBy 4 = .ok (.iload_n 3, 1) := dk_29 (dk_at dksX0_backBy_0 4 rfl rfl)
theorem dX0_backBy_5 : decode cX0_backBy 5 = .ok (.bipush 95, 2) := dk_16 95 (dk_at dksX0_backBy_0 5 rfl rfl)
theorem dX0_backBy_7 : decode cX0_backBy 7 = .ok (.if_icmp .ge 18, 3) := dk_162 0 18 (dk_at dksX0_backBy_0 7 rfl rfl)
theorem dX0_backBy_10 : decode cX0_backBy 10 = .ok (.lload_n 1, 1) := dk_31 (dk_at dksX0_backBy_0 10 rfl rfl)
theorem dX0_backBy_11 : decode cX0_backBy 11 = .ok (.iload_n 0, 1) := dk_26 (dk_at dksX0_backBy_0 11 rfl rfl)
theorem dX0_backBy_12 : decode cX0_backBy 12 = .ok (.i2l, 1) := dk_133 (dk_at dksX0_backBy_0 12 rfl rfl)
theorem dX0_backBy_13 : decode cX0_backBy 13 = .ok (.lmul, 1) := dk_105 (dk_at dksX0_backBy_0 13 rfl rfl)
theorem dX0_backBy_14 : decode cX0_backBy 14 = .ok (.ldc2_w 86, 3) := dk_20 0 86 (dk_at dksX0_backBy_0 14 rfl rfl)
theorem dX0_backBy_17 : decode cX0_backBy 17 = .ok (.lrem, 1) := dk_113 (dk_at dksX0_backBy_0 17 rfl rfl)
theorem dX0_backBy_18 : decode cX0_backBy 18 = .ok (.lstore_n 1, 1) := dk_64 (dk_at dksX0_backBy_0 18 rfl rfl)
theorem dX0_backBy_19 : decode cX0_backBy 19 = .ok (.iinc 3 1, 3) := dk_132 3 1 (dk_at dksX0_backBy_0 19 rfl rfl)
theorem dX0_backBy_22 : decode cX0_backBy 22 = .ok (.goto (-18), 3) := dk_167 255 238 (dk_at dksX0_backBy_1 0 rfl rfl)
theorem dX0_backBy_25 : decode cX0_backBy 25 = .ok (.lload_n 1, 1) := dk_31 (dk_at dksX0_backBy_1 3 rfl rfl)
theorem dX0_backBy_26 : decode cX0_backBy 26 = .ok (.l2i, 1) := dk_136 (dk_at dksX0_backBy_1 4 rfl rfl)
theorem dX0_backBy_27 : decode cX0_backBy 27 = .ok (.ireturn, 1) := dk_172 (dk_at dksX0_backBy_1 5 rfl rfl)
abbrev cX0_left : ByteArray := prog_1_method_5_code
def yX0_left : MethodName := ⟨RX0, "left", "(J)I"⟩
def dkwX0_left_0 : List UInt8 := [30, 20, 0, 86, 184, 0, 88, 136, 172]
abbrev dktX0_left_0 : List UInt8 := dkwX0_left_0 ++ []
theorem dksX0_left_0 : cX0_left.data.toList.drop 0 = dktX0_left_0 := by decide +kernel
theorem dX0_left_0 : decode cX0_left 0 = .ok (.lload_n 0, 1) := dk_30 (dk_at dksX0_left_0 0 rfl rfl)
theorem dX0_left_1 : decode cX0_left 1 = .ok (.ldc2_w 86, 3) := dk_20 0 86 (dk_at dksX0_left_0 1 rfl rfl)
theorem dX0_left_4 : decode cX0_left 4 = .ok (.invokestatic 88, 3) := dk_184 0 88 (dk_at dksX0_left_0 4 rfl rfl)
theorem dX0_left_7 : decode cX0_left 7 = .ok (.l2i, 1) := dk_136 (dk_at dksX0_left_0 7 rfl rfl)
theorem dX0_left_8 : decode cX0_left 8 = .ok (.ireturn, 1) := dk_172 (dk_at dksX0_left_0 8 rfl rfl)
abbrev cX0_degree : ByteArray := prog_1_method_85_code
def yX0_degree : MethodName := ⟨RX0, "degree", "(I)I"⟩
def dkwX0_degree_0 : List UInt8 := [42, 27, 4, 182, 2, 23, 153, 0, 15, 42, 180, 0, 160, 180, 2, 29, 27, 46, 167, 0, 4, 2, 172]
abbrev dktX0_degree_0 : List UInt8 := dkwX0_degree_0 ++ []
theorem dksX0_degree_0 : cX0_degree.data.toList.drop 0 = dktX0_degree_0 := by decide +kernel
theorem dX0_degree_0 : decode cX0_degree 0 = .ok (.aload_n 0, 1) := dk_42 (dk_at dksX0_degree_0 0 rfl rfl)
theorem dX0_degree_1 : decode cX0_degree 1 = .ok (.iload_n 1, 1) := dk_27 (dk_at dksX0_degree_0 1 rfl rfl)
theorem dX0_degree_2 : decode cX0_degree 2 = .ok (.iconst 1, 1) := dk_4 (dk_at dksX0_degree_0 2 rfl rfl)
theorem dX0_degree_3 : decode cX0_degree 3 = .ok (.invokevirtual 535, 3) := dk_182 2 23 (dk_at dksX0_degree_0 3 rfl rfl)
theorem dX0_degree_6 : decode cX0_degree 6 = .ok (.ifCond .eq 15, 3) := dk_153 0 15 (dk_at dksX0_degree_0 6 rfl rfl)
theorem dX0_degree_9 : decode cX0_degree 9 = .ok (.aload_n 0, 1) := dk_42 (dk_at dksX0_degree_0 9 rfl rfl)
theorem dX0_degree_10 : decode cX0_degree 10 = .ok (.getfield 160, 3) := dk_180 0 160 (dk_at dksX0_degree_0 10 rfl rfl)
theorem dX0_degree_13 : decode cX0_degree 13 = .ok (.getfield 541, 3) := dk_180 2 29 (dk_at dksX0_degree_0 13 rfl rfl)
theorem dX0_degree_16 : decode cX0_degree 16 = .ok (.iload_n 1, 1) := dk_27 (dk_at dksX0_degree_0 16 rfl rfl)
theorem dX0_degree_17 : decode cX0_degree 17 = .ok (.iaload, 1) := dk_46 (dk_at dksX0_degree_0 17 rfl rfl)
theorem dX0_degree_18 : decode cX0_degree 18 = .ok (.goto 4, 3) := dk_167 0 4 (dk_at dksX0_degree_0 18 rfl rfl)
theorem dX0_degree_21 : decode cX0_degree 21 = .ok (.iconst (-1), 1) := dk_2 (dk_at dksX0_degree_0 21 rfl rfl)
theorem dX0_degree_22 : decode cX0_degree 22 = .ok (.ireturn, 1) := dk_172 (dk_at dksX0_degree_0 22 rfl rfl)
abbrev cX0_character : ByteArray := prog_1_method_86_code
def yX0_character : MethodName := ⟨RX0, "character", "(II)I"⟩
def dkwX0_character_1 : List UInt8 := [182, 0, 254, 153, 0, 17, 42, 180, 0, 160, 180, 2, 32, 27, 50, 28, 46, 167, 0, 4, 2, 172]
abbrev dktX0_character_1 : List UInt8 := dkwX0_character_1 ++ []
def dkwX0_character_0 : List UInt8 := [42, 27, 28, 155, 0, 7, 4, 167, 0, 4, 3, 182, 2, 23, 153, 0, 30, 42, 42, 28, 182, 1, 166, 6]
abbrev dktX0_character_0 : List UInt8 := dkwX0_character_0 ++ dktX0_character_1
theorem dksX0_character_0 : cX0_character.data.toList.drop 0 = dktX0_character_0 := by decide +kernel
theorem dksX0_character_1 : cX0_character.data.toList.drop 24 = dktX0_character_1 := dk_seg dksX0_character_0 24 rfl rfl
theorem dX0_character_0 : decode cX0_character 0 = .ok (.aload_n 0, 1) := dk_42 (dk_at dksX0_character_0 0 rfl rfl)
theorem dX0_character_1 : decode cX0_character 1 = .ok (.iload_n 1, 1) := dk_27 (dk_at dksX0_character_0 1 rfl rfl)
theorem dX0_character_2 : decode cX0_character 2 = .ok (.iload_n 2, 1) := dk_28 (dk_at dksX0_character_0 2 rfl rfl)
theorem dX0_character_3 : decode cX0_character 3 = .ok (.ifCond .lt 7, 3) := dk_155 0 7 (dk_at dksX0_character_0 3 rfl rfl)
theorem dX0_character_6 : decode cX0_character 6 = .ok (.iconst 1, 1) := dk_4 (dk_at dksX0_character_0 6 rfl rfl)
theorem dX0_character_7 : decode cX0_character 7 = .ok (.goto 4, 3) := dk_167 0 4 (dk_at dksX0_character_0 7 rfl rfl)
theorem dX0_character_10 : decode cX0_character 10 = .ok (.iconst 0, 1) := dk_3 (dk_at dksX0_character_0 10 rfl rfl)
theorem dX0_character_11 : decode cX0_character 11 = .ok (.invokevirtual 535, 3) := dk_182 2 23 (dk_at dksX0_character_0 11 rfl rfl)
theorem dX0_character_14 : decode cX0_character 14 = .ok (.ifCond .eq 30, 3) := dk_153 0 30 (dk_at dksX0_character_0 14 rfl rfl)
theorem dX0_character_17 : decode cX0_character 17 = .ok (.aload_n 0, 1) := dk_42 (dk_at dksX0_character_0 17 rfl rfl)
theorem dX0_character_18 : decode cX0_character 18 = .ok (.aload_n 0, 1) := dk_42 (dk_at dksX0_character_0 18 rfl rfl)
theorem dX0_character_19 : decode cX0_character 19 = .ok (.iload_n 2, 1) := dk_28 (dk_at dksX0_character_0 19 rfl rfl)
theorem dX0_character_20 : decode cX0_character 20 = .ok (.invokevirtual 422, 3) := dk_182 1 166 (dk_at dksX0_character_0 20 rfl rfl)
theorem dX0_character_23 : decode cX0_character 23 = .ok (.iconst 3, 1) := dk_6 (dk_at dksX0_character_0 23 rfl rfl)
theorem dX0_character_24 : decode cX0_character 24 = .ok (.invokevirtual 254, 3) := dk_182 0 254 (dk_at dksX0_character_1 0 rfl rfl)
theorem dX0_character_27 : decode cX0_character 27 = .ok (.ifCond .eq 17, 3) := dk_153 0 17 (dk_at dksX0_character_1 3 rfl rfl)
theorem dX0_character_30 : decode cX0_character 30 = .ok (.aload_n 0, 1) := dk_42 (dk_at dksX0_character_1 6 rfl rfl)
theorem dX0_character_31 : decode cX0_character 31 = .ok (.getfield 160, 3) := dk_180 0 160 (dk_at dksX0_character_1 7 rfl rfl)
theorem dX0_character_34 : decode cX0_character 34 = .ok (.getfield 544, 3) := dk_180 2 32 (dk_at dksX0_character_1 10 rfl rfl)
theorem dX0_character_37 : decode cX0_character 37 = .ok (.iload_n 1, 1) := dk_27 (dk_at dksX0_character_1 13 rfl rfl)
theorem dX0_character_38 : decode cX0_character 38 = .ok (.aaload, 1) := dk_50 (dk_at dksX0_character_1 14 rfl rfl)
theorem dX0_character_39 : decode cX0_character 39 = .ok (.iload_n 2, 1) := dk_28 (dk_at dksX0_character_1 15 rfl rfl)
theorem dX0_character_40 : decode cX0_character 40 = .ok (.iaload, 1) := dk_46 (dk_at dksX0_character_1 16 rfl rfl)
theorem dX0_character_41 : decode cX0_character 41 = .ok (.goto 4, 3) := dk_167 0 4 (dk_at dksX0_character_1 17 rfl rfl)
theorem dX0_character_44 : decode cX0_character 44 = .ok (.iconst (-1), 1) := dk_2 (dk_at dksX0_character_1 20 rfl rfl)
theorem dX0_character_45 : decode cX0_character 45 = .ok (.ireturn, 1) := dk_172 (dk_at dksX0_character_1 21 rfl rfl)
abbrev cX0_share : ByteArray := prog_1_method_87_code
def yX0_share : MethodName := ⟨RX0, "share", "(II)I"⟩
def dkwX0_share_1 : List UInt8 := [182, 2, 37, 167, 0, 4, 2, 172]
abbrev dktX0_share_1 : List UInt8 := dkwX0_share_1 ++ []
def dkwX0_share_0 : List UInt8 := [42, 27, 28, 133, 9, 20, 2, 35, 184, 0, 194, 182, 2, 23, 153, 0, 15, 42, 180, 0, 160, 27, 28]
abbrev dktX0_share_0 : List UInt8 := dkwX0_share_0 ++ dktX0_share_1
theorem dksX0_share_0 : cX0_share.data.toList.drop 0 = dktX0_share_0 := by decide +kernel
theorem dksX0_share_1 : cX0_share.data.toList.drop 23 = dktX0_share_1 := dk_seg dksX0_share_0 23 rfl rfl
theorem dX0_share_0 : decode cX0_share 0 = .ok (.aload_n 0, 1) := dk_42 (dk_at dksX0_share_0 0 rfl rfl)
theorem dX0_share_1 : decode cX0_share 1 = .ok (.iload_n 1, 1) := dk_27 (dk_at dksX0_share_0 1 rfl rfl)
theorem dX0_share_2 : decode cX0_share 2 = .ok (.iload_n 2, 1) := dk_28 (dk_at dksX0_share_0 2 rfl rfl)
theorem dX0_share_3 : decode cX0_share 3 = .ok (.i2l, 1) := dk_133 (dk_at dksX0_share_0 3 rfl rfl)
theorem dX0_share_4 : decode cX0_share 4 = .ok (.lconst 0, 1) := dk_9 (dk_at dksX0_share_0 4 rfl rfl)
theorem dX0_share_5 : decode cX0_share 5 = .ok (.ldc2_w 547, 3) := dk_20 2 35 (dk_at dksX0_share_0 5 rfl rfl)
theorem dX0_share_8 : decode cX0_share 8 = .ok (.invokestatic 194, 3) := dk_184 0 194 (dk_at dksX0_share_0 8 rfl rfl)
theorem dX0_share_11 : decode cX0_share 11 = .ok (.invokevirtual 535, 3) := dk_182 2 23 (dk_at dksX0_share_0 11 rfl rfl)
theorem dX0_share_14 : decode cX0_share 14 = .ok (.ifCond .eq 15, 3) := dk_153 0 15 (dk_at dksX0_share_0 14 rfl rfl)
theorem dX0_share_17 : decode cX0_share 17 = .ok (.aload_n 0, 1) := dk_42 (dk_at dksX0_share_0 17 rfl rfl)
theorem dX0_share_18 : decode cX0_share 18 = .ok (.getfield 160, 3) := dk_180 0 160 (dk_at dksX0_share_0 18 rfl rfl)
theorem dX0_share_21 : decode cX0_share 21 = .ok (.iload_n 1, 1) := dk_27 (dk_at dksX0_share_0 21 rfl rfl)
theorem dX0_share_22 : decode cX0_share 22 = .ok (.iload_n 2, 1) := dk_28 (dk_at dksX0_share_0 22 rfl rfl)
theorem dX0_share_23 : decode cX0_share 23 = .ok (.invokevirtual 549, 3) := dk_182 2 37 (dk_at dksX0_share_1 0 rfl rfl)
theorem dX0_share_26 : decode cX0_share 26 = .ok (.goto 4, 3) := dk_167 0 4 (dk_at dksX0_share_1 3 rfl rfl)
theorem dX0_share_29 : decode cX0_share 29 = .ok (.iconst (-1), 1) := dk_2 (dk_at dksX0_share_1 6 rfl rfl)
theorem dX0_share_30 : decode cX0_share 30 = .ok (.ireturn, 1) := dk_172 (dk_at dksX0_share_1 7 rfl rfl)
abbrev cX0_product : ByteArray := prog_1_method_88_code
def yX0_product : MethodName := ⟨RX0, "product", "(III)I"⟩
def dkwX0_product_3 : List UInt8 := [27, 28, 29, 182, 2, 40, 167, 0, 4, 2, 172]
abbrev dktX0_product_3 : List UInt8 := dkwX0_product_3 ++ []
def dkwX0_product_2 : List UInt8 := [3, 6, 182, 0, 254, 153, 0, 7, 4, 167, 0, 4, 3, 54, 4, 21, 4, 153, 0, 16, 42, 180, 0, 160]
abbrev dktX0_product_2 : List UInt8 := dkwX0_product_2 ++ dktX0_product_3
def dkwX0_product_1 : List UInt8 := [180, 0, 160, 180, 2, 22, 162, 0, 18, 29, 42, 180, 0, 160, 180, 2, 22, 162, 0, 7, 4, 167, 0, 4]
abbrev dktX0_product_1 : List UInt8 := dkwX0_product_1 ++ dktX0_product_2
def dkwX0_product_0 : List UInt8 := [42, 27, 28, 155, 0, 11, 29, 155, 0, 7, 4, 167, 0, 4, 3, 182, 2, 23, 153, 0, 42, 42, 28, 42]
abbrev dktX0_product_0 : List UInt8 := dkwX0_product_0 ++ dktX0_product_1
theorem dksX0_product_0 : cX0_product.data.toList.drop 0 = dktX0_product_0 := by decide +kernel
theorem dksX0_product_1 : cX0_product.data.toList.drop 24 = dktX0_product_1 := dk_seg dksX0_product_0 24 rfl rfl
theorem dksX0_product_2 : cX0_product.data.toList.drop 48 = dktX0_product_2 := dk_seg dksX0_product_1 24 rfl rfl
theorem dksX0_product_3 : cX0_product.data.toList.drop 72 = dktX0_product_3 := dk_seg dksX0_product_2 24 rfl rfl
theorem dX0_product_0 : decode cX0_product 0 = .ok (.aload_n 0, 1) := dk_42 (dk_at dksX0_product_0 0 rfl rfl)
theorem dX0_product_1 : decode cX0_product 1 = .ok (.iload_n 1, 1) := dk_27 (dk_at dksX0_product_0 1 rfl rfl)
theorem dX0_product_2 : decode cX0_product 2 = .ok (.iload_n 2, 1) := dk_28 (dk_at dksX0_product_0 2 rfl rfl)
theorem dX0_product_3 : decode cX0_product 3 = .ok (.ifCond .lt 11, 3) := dk_155 0 11 (dk_at dksX0_product_0 3 rfl rfl)
theorem dX0_product_6 : decode cX0_product 6 = .ok (.iload_n 3, 1) := dk_29 (dk_at dksX0_product_0 6 rfl rfl)
theorem dX0_product_7 : decode cX0_product 7 = .ok (.ifCond .lt 7, 3) := dk_155 0 7 (dk_at dksX0_product_0 7 rfl rfl)
theorem dX0_product_10 : decode cX0_product 10 = .ok (.iconst 1, 1) := dk_4 (dk_at dksX0_product_0 10 rfl rfl)
theorem dX0_product_11 : decode cX0_product 11 = .ok (.goto 4, 3) := dk_167 0 4 (dk_at dksX0_product_0 11 rfl rfl)
theorem dX0_product_14 : decode cX0_product 14 = .ok (.iconst 0, 1) := dk_3 (dk_at dksX0_product_0 14 rfl rfl)
theorem dX0_product_15 : decode cX0_product 15 = .ok (.invokevirtual 535, 3) := dk_182 2 23 (dk_at dksX0_product_0 15 rfl rfl)
theorem dX0_product_18 : decode cX0_product 18 = .ok (.ifCond .eq 42, 3) := dk_153 0 42 (dk_at dksX0_product_0 18 rfl rfl)
theorem dX0_product_21 : decode cX0_product 21 = .ok (.aload_n 0, 1) := dk_42 (dk_at dksX0_product_0 21 rfl rfl)
theorem dX0_product_22 : decode cX0_product 22 = .ok (.iload_n 2, 1) := dk_28 (dk_at dksX0_product_0 22 rfl rfl)
theorem dX0_product_23 : decode cX0_product 23 = .ok (.aload_n 0, 1) := dk_42 (dk_at dksX0_product_0 23 rfl rfl)
theorem dX0_product_24 : decode cX0_product 24 = .ok (.getfield 160, 3) := dk_180 0 160 (dk_at dksX0_product_1 0 rfl rfl)
theorem dX0_product_27 : decode cX0_product 27 = .ok (.getfield 534, 3) := dk_180 2 22 (dk_at dksX0_product_1 3 rfl rfl)
theorem dX0_product_30 : decode cX0_product 30 = .ok (.if_icmp .ge 18, 3) := dk_162 0 18 (dk_at dksX0_product_1 6 rfl rfl)
theorem dX0_product_33 : decode cX0_product 33 = .ok (.iload_n 3, 1) := dk_29 (dk_at dksX0_product_1 9 rfl rfl)
theorem dX0_product_34 : decode cX0_product 34 = .ok (.aload_n 0, 1) := dk_42 (dk_at dksX0_product_1 10 rfl rfl)
theorem dX0_product_35 : decode cX0_product 35 = .ok (.getfield 160, 3) := dk_180 0 160 (dk_at dksX0_product_1 11 rfl rfl)
theorem dX0_product_38 : decode cX0_product 38 = .ok (.getfield 534, 3) := dk_180 2 22 (dk_at dksX0_product_1 14 rfl rfl)
theorem dX0_product_41 : decode cX0_product 41 = .ok (.if_icmp .ge 7, 3) := dk_162 0 7 (dk_at dksX0_product_1 17 rfl rfl)
theorem dX0_product_44 : decode cX0_product 44 = .ok (.iconst 1, 1) := dk_4 (dk_at dksX0_product_1 20 rfl rfl)
theorem dX0_product_45 : decode cX0_product 45 = .ok (.goto 4, 3) := dk_167 0 4 (dk_at dksX0_product_1 21 rfl rfl)
theorem dX0_product_48 : decode cX0_product 48 = .ok (.iconst 0, 1) := dk_3 (dk_at dksX0_product_2 0 rfl rfl)
theorem dX0_product_49 : decode cX0_product 49 = .ok (.iconst 3, 1) := dk_6 (dk_at dksX0_product_2 1 rfl rfl)
theorem dX0_product_50 : decode cX0_product 50 = .ok (.invokevirtual 254, 3) := dk_182 0 254 (dk_at dksX0_product_2 2 rfl rfl)
theorem dX0_product_53 : decode cX0_product 53 = .ok (.ifCond .eq 7, 3) := dk_153 0 7 (dk_at dksX0_product_2 5 rfl rfl)
theorem dX0_product_56 : decode cX0_product 56 = .ok (.iconst 1, 1) := dk_4 (dk_at dksX0_product_2 8 rfl rfl)
theorem dX0_product_57 : decode cX0_product 57 = .ok (.goto 4, 3) := dk_167 0 4 (dk_at dksX0_product_2 9 rfl rfl)
theorem dX0_product_60 : decode cX0_product 60 = .ok (.iconst 0, 1) := dk_3 (dk_at dksX0_product_2 12 rfl rfl)
theorem dX0_product_61 : decode cX0_product 61 = .ok (.istore 4, 2) := dk_54 4 (dk_at dksX0_product_2 13 rfl rfl)
theorem dX0_product_63 : decode cX0_product 63 = .ok (.iload 4, 2) := dk_21 4 (dk_at dksX0_product_2 15 rfl rfl)
theorem dX0_product_65 : decode cX0_product 65 = .ok (.ifCond .eq 16, 3) := dk_153 0 16 (dk_at dksX0_product_2 17 rfl rfl)
theorem dX0_product_68 : decode cX0_product 68 = .ok (.aload_n 0, 1) := dk_42 (dk_at dksX0_product_2 20 rfl rfl)
theorem dX0_product_69 : decode cX0_product 69 = .ok (.getfield 160, 3) := dk_180 0 160 (dk_at dksX0_product_2 21 rfl rfl)
theorem dX0_product_72 : decode cX0_product 72 = .ok (.iload_n 1, 1) := dk_27 (dk_at dksX0_product_3 0 rfl rfl)
theorem dX0_product_73 : decode cX0_product 73 = .ok (.iload_n 2, 1) := dk_28 (dk_at dksX0_product_3 1 rfl rfl)
theorem dX0_product_74 : decode cX0_product 74 = .ok (.iload_n 3, 1) := dk_29 (dk_at dksX0_product_3 2 rfl rfl)
theorem dX0_product_75 : decode cX0_product 75 = .ok (.invokevirtual 552, 3) := dk_182 2 40 (dk_at dksX0_product_3 3 rfl rfl)
theorem dX0_product_78 : decode cX0_product 78 = .ok (.goto 4, 3) := dk_167 0 4 (dk_at dksX0_product_3 6 rfl rfl)
theorem dX0_product_81 : decode cX0_product 81 = .ok (.iconst (-1), 1) := dk_2 (dk_at dksX0_product_3 9 rfl rfl)
theorem dX0_product_82 : decode cX0_product 82 = .ok (.ireturn, 1) := dk_172 (dk_at dksX0_product_3 10 rfl rfl)
abbrev cX0_partner : ByteArray := prog_1_method_89_code
def yX0_partner : MethodName := ⟨RX0, "partner", "(I)I"⟩
def dkwX0_partner_0 : List UInt8 := [42, 27, 4, 182, 2, 23, 153, 0, 14, 42, 180, 0, 160, 27, 182, 2, 43, 167, 0, 4, 2, 172]
abbrev dktX0_partner_0 : List UInt8 := dkwX0_partner_0 ++ []
theorem dksX0_partner_0 : cX0_partner.data.toList.drop 0 = dktX0_partner_0 := by decide +kernel
theorem dX0_partner_0 : decode cX0_partner 0 = .ok (.aload_n 0, 1) := dk_42 (dk_at dksX0_partner_0 0 rfl rfl)
theorem dX0_partner_1 : decode cX0_partner 1 = .ok (.iload_n 1, 1) := dk_27 (dk_at dksX0_partner_0 1 rfl rfl)
theorem dX0_partner_2 : decode cX0_partner 2 = .ok (.iconst 1, 1) := dk_4 (dk_at dksX0_partner_0 2 rfl rfl)
theorem dX0_partner_3 : decode cX0_partner 3 = .ok (.invokevirtual 535, 3) := dk_182 2 23 (dk_at dksX0_partner_0 3 rfl rfl)
theorem dX0_partner_6 : decode cX0_partner 6 = .ok (.ifCond .eq 14, 3) := dk_153 0 14 (dk_at dksX0_partner_0 6 rfl rfl)
theorem dX0_partner_9 : decode cX0_partner 9 = .ok (.aload_n 0, 1) := dk_42 (dk_at dksX0_partner_0 9 rfl rfl)
theorem dX0_partner_10 : decode cX0_partner 10 = .ok (.getfield 160, 3) := dk_180 0 160 (dk_at dksX0_partner_0 10 rfl rfl)
theorem dX0_partner_13 : decode cX0_partner 13 = .ok (.iload_n 1, 1) := dk_27 (dk_at dksX0_partner_0 13 rfl rfl)
theorem dX0_partner_14 : decode cX0_partner 14 = .ok (.invokevirtual 555, 3) := dk_182 2 43 (dk_at dksX0_partner_0 14 rfl rfl)
theorem dX0_partner_17 : decode cX0_partner 17 = .ok (.goto 4, 3) := dk_167 0 4 (dk_at dksX0_partner_0 17 rfl rfl)
theorem dX0_partner_20 : decode cX0_partner 20 = .ok (.iconst (-1), 1) := dk_2 (dk_at dksX0_partner_0 20 rfl rfl)
theorem dX0_partner_21 : decode cX0_partner 21 = .ok (.ireturn, 1) := dk_172 (dk_at dksX0_partner_0 21 rfl rfl)
abbrev cX0_kernel : ByteArray := prog_1_method_90_code
def yX0_kernel : MethodName := ⟨RX0, "kernel", "(I)I"⟩
def dkwX0_kernel_0 : List UInt8 := [42, 27, 4, 182, 2, 23, 153, 0, 14, 42, 180, 0, 160, 27, 182, 2, 46, 167, 0, 4, 2, 172]
abbrev dktX0_kernel_0 : List UInt8 := dkwX0_kernel_0 ++ []
theorem dksX0_kernel_0 : cX0_kernel.data.toList.drop 0 = dktX0_kernel_0 := by decide +kernel
theorem dX0_kernel_0 : decode cX0_kernel 0 = .ok (.aload_n 0, 1) := dk_42 (dk_at dksX0_kernel_0 0 rfl rfl)
theorem dX0_kernel_1 : decode cX0_kernel 1 = .ok (.iload_n 1, 1) := dk_27 (dk_at dksX0_kernel_0 1 rfl rfl)
theorem dX0_kernel_2 : decode cX0_kernel 2 = .ok (.iconst 1, 1) := dk_4 (dk_at dksX0_kernel_0 2 rfl rfl)
theorem dX0_kernel_3 : decode cX0_kernel 3 = .ok (.invokevirtual 535, 3) := dk_182 2 23 (dk_at dksX0_kernel_0 3 rfl rfl)
theorem dX0_kernel_6 : decode cX0_kernel 6 = .ok (.ifCond .eq 14, 3) := dk_153 0 14 (dk_at dksX0_kernel_0 6 rfl rfl)
theorem dX0_kernel_9 : decode cX0_kernel 9 = .ok (.aload_n 0, 1) := dk_42 (dk_at dksX0_kernel_0 9 rfl rfl)
theorem dX0_kernel_10 : decode cX0_kernel 10 = .ok (.getfield 160, 3) := dk_180 0 160 (dk_at dksX0_kernel_0 10 rfl rfl)
theorem dX0_kernel_13 : decode cX0_kernel 13 = .ok (.iload_n 1, 1) := dk_27 (dk_at dksX0_kernel_0 13 rfl rfl)
theorem dX0_kernel_14 : decode cX0_kernel 14 = .ok (.invokevirtual 558, 3) := dk_182 2 46 (dk_at dksX0_kernel_0 14 rfl rfl)
theorem dX0_kernel_17 : decode cX0_kernel 17 = .ok (.goto 4, 3) := dk_167 0 4 (dk_at dksX0_kernel_0 17 rfl rfl)
theorem dX0_kernel_20 : decode cX0_kernel 20 = .ok (.iconst (-1), 1) := dk_2 (dk_at dksX0_kernel_0 20 rfl rfl)
theorem dX0_kernel_21 : decode cX0_kernel 21 = .ok (.ireturn, 1) := dk_172 (dk_at dksX0_kernel_0 21 rfl rfl)
abbrev cX0_bright : ByteArray := prog_1_method_92_code
def yX0_bright : MethodName := ⟨RX0, "bright", "(I)I"⟩
def dkwX0_bright_3 : List UInt8 := [167, 255, 207, 28, 172]
abbrev dktX0_bright_3 : List UInt8 := dkwX0_bright_3 ++ []
def dkwX0_bright_2 : List UInt8 := [180, 2, 29, 29, 46, 42, 180, 0, 160, 29, 6, 182, 2, 37, 104, 167, 0, 4, 3, 96, 61, 132, 3, 1]
abbrev dktX0_bright_2 : List UInt8 := dkwX0_bright_2 ++ dktX0_bright_3
def dkwX0_bright_1 : List UInt8 := [180, 0, 160, 180, 2, 22, 162, 0, 44, 28, 42, 29, 27, 182, 2, 49, 153, 0, 25, 42, 180, 0, 160]
abbrev dktX0_bright_1 : List UInt8 := dkwX0_bright_1 ++ dktX0_bright_2
def dkwX0_bright_0 : List UInt8 := [42, 27, 133, 9, 20, 0, 248, 184, 0, 194, 182, 2, 19, 154, 0, 5, 2, 172, 3, 61, 3, 62, 29, 42]
abbrev dktX0_bright_0 : List UInt8 := dkwX0_bright_0 ++ dktX0_bright_1
theorem dksX0_bright_0 : cX0_bright.data.toList.drop 0 = dktX0_bright_0 := by decide +kernel
theorem dksX0_bright_1 : cX0_bright.data.toList.drop 24 = dktX0_bright_1 := dk_seg dksX0_bright_0 24 rfl rfl
theorem dksX0_bright_2 : cX0_bright.data.toList.drop 47 = dktX0_bright_2 := dk_seg dksX0_bright_1 23 rfl rfl
theorem dksX0_bright_3 : cX0_bright.data.toList.drop 71 = dktX0_bright_3 := dk_seg dksX0_bright_2 24 rfl rfl
theorem dX0_bright_0 : decode cX0_bright 0 = .ok (.aload_n 0, 1) := dk_42 (dk_at dksX0_bright_0 0 rfl rfl)
theorem dX0_bright_1 : decode cX0_bright 1 = .ok (.iload_n 1, 1) := dk_27 (dk_at dksX0_bright_0 1 rfl rfl)
theorem dX0_bright_2 : decode cX0_bright 2 = .ok (.i2l, 1) := dk_133 (dk_at dksX0_bright_0 2 rfl rfl)
theorem dX0_bright_3 : decode cX0_bright 3 = .ok (.lconst 0, 1) := dk_9 (dk_at dksX0_bright_0 3 rfl rfl)
theorem dX0_bright_4 : decode cX0_bright 4 = .ok (.ldc2_w 248, 3) := dk_20 0 248 (dk_at dksX0_bright_0 4 rfl rfl)
theorem dX0_bright_7 : decode cX0_bright 7 = .ok (.invokestatic 194, 3) := dk_184 0 194 (dk_at dksX0_bright_0 7 rfl rfl)
theorem dX0_bright_10 : decode cX0_bright 10 = .ok (.invokevirtual 531, 3) := dk_182 2 19 (dk_at dksX0_bright_0 10 rfl rfl)
theorem dX0_bright_13 : decode cX0_bright 13 = .ok (.ifCond .ne 5, 3) := dk_154 0 5 (dk_at dksX0_bright_0 13 rfl rfl)
theorem dX0_bright_16 : decode cX0_bright 16 = .ok (.iconst (-1), 1) := dk_2 (dk_at dksX0_bright_0 16 rfl rfl)
theorem dX0_bright_17 : decode cX0_bright 17 = .ok (.ireturn, 1) := dk_172 (dk_at dksX0_bright_0 17 rfl rfl)
theorem dX0_bright_18 : decode cX0_bright 18 = .ok (.iconst 0, 1) := dk_3 (dk_at dksX0_bright_0 18 rfl rfl)
theorem dX0_bright_19 : decode cX0_bright 19 = .ok (.istore_n 2, 1) := dk_61 (dk_at dksX0_bright_0 19 rfl rfl)
theorem dX0_bright_20 : decode cX0_bright 20 = .ok (.iconst 0, 1) := dk_3 (dk_at dksX0_bright_0 20 rfl rfl)
theorem dX0_bright_21 : decode cX0_bright 21 = .ok (.istore_n 3, 1) := dk_62 (dk_at dksX0_bright_0 21 rfl rfl)
theorem dX0_bright_22 : decode cX0_bright 22 = .ok (.iload_n 3, 1) := dk_29 (dk_at dksX0_bright_0 22 rfl rfl)
theorem dX0_bright_23 : decode cX0_bright 23 = .ok (.aload_n 0, 1) := dk_42 (dk_at dksX0_bright_0 23 rfl rfl)
theorem dX0_bright_24 : decode cX0_bright 24 = .ok (.getfield 160, 3) := dk_180 0 160 (dk_at dksX0_bright_1 0 rfl rfl)
theorem dX0_bright_27 : decode cX0_bright 27 = .ok (.getfield 534, 3) := dk_180 2 22 (dk_at dksX0_bright_1 3 rfl rfl)
theorem dX0_bright_30 : decode cX0_bright 30 = .ok (.if_icmp .ge 44, 3) := dk_162 0 44 (dk_at dksX0_bright_1 6 rfl rfl)
theorem dX0_bright_33 : decode cX0_bright 33 = .ok (.iload_n 2, 1) := dk_28 (dk_at dksX0_bright_1 9 rfl rfl)
theorem dX0_bright_34 : decode cX0_bright 34 = .ok (.aload_n 0, 1) := dk_42 (dk_at dksX0_bright_1 10 rfl rfl)
theorem dX0_bright_35 : decode cX0_bright 35 = .ok (.iload_n 3, 1) := dk_29 (dk_at dksX0_bright_1 11 rfl rfl)
theorem dX0_bright_36 : decode cX0_bright 36 = .ok (.iload_n 1, 1) := dk_27 (dk_at dksX0_bright_1 12 rfl rfl)
theorem dX0_bright_37 : decode cX0_bright 37 = .ok (.invokevirtual 561, 3) := dk_182 2 49 (dk_at dksX0_bright_1 13 rfl rfl)
theorem dX0_bright_40 : decode cX0_bright 40 = .ok (.ifCond .eq 25, 3) := dk_153 0 25 (dk_at dksX0_bright_1 16 rfl rfl)
theorem dX0_bright_43 : decode cX0_bright 43 = .ok (.aload_n 0, 1) := dk_42 (dk_at dksX0_bright_1 19 rfl rfl)
theorem dX0_bright_44 : decode cX0_bright 44 = .ok (.getfield 160, 3) := dk_180 0 160 (dk_at dksX0_bright_1 20 rfl rfl)
theorem dX0_bright_47 : decode cX0_bright 47 = .ok (.getfield 541, 3) := dk_180 2 29 (dk_at dksX0_bright_2 0 rfl rfl)
theorem dX0_bright_50 : decode cX0_bright 50 = .ok (.iload_n 3, 1) := dk_29 (dk_at dksX0_bright_2 3 rfl rfl)
theorem dX0_bright_51 : decode cX0_bright 51 = .ok (.iaload, 1) := dk_46 (dk_at dksX0_bright_2 4 rfl rfl)
theorem dX0_bright_52 : decode cX0_bright 52 = .ok (.aload_n 0, 1) := dk_42 (dk_at dksX0_bright_2 5 rfl rfl)
theorem dX0_bright_53 : decode cX0_bright 53 = .ok (.getfield 160, 3) := dk_180 0 160 (dk_at dksX0_bright_2 6 rfl rfl)
theorem dX0_bright_56 : decode cX0_bright 56 = .ok (.iload_n 3, 1) := dk_29 (dk_at dksX0_bright_2 9 rfl rfl)
theorem dX0_bright_57 : decode cX0_bright 57 = .ok (.iconst 3, 1) := dk_6 (dk_at dksX0_bright_2 10 rfl rfl)
theorem dX0_bright_58 : decode cX0_bright 58 = .ok (.invokevirtual 549, 3) := dk_182 2 37 (dk_at dksX0_bright_2 11 rfl rfl)
theorem dX0_bright_61 : decode cX0_bright 61 = .ok (.imul, 1) := dk_104 (dk_at dksX0_bright_2 14 rfl rfl)
theorem dX0_bright_62 : decode cX0_bright 62 = .ok (.goto 4, 3) := dk_167 0 4 (dk_at dksX0_bright_2 15 rfl rfl)
theorem dX0_bright_65 : decode cX0_bright 65 = .ok (.iconst 0, 1) := dk_3 (dk_at dksX0_bright_2 18 rfl rfl)
theorem dX0_bright_66 : decode cX0_bright 66 = .ok (.iadd, 1) := dk_96 (dk_at dksX0_bright_2 19 rfl rfl)
theorem dX0_bright_67 : decode cX0_bright 67 = .ok (.istore_n 2, 1) := dk_61 (dk_at dksX0_bright_2 20 rfl rfl)
theorem dX0_bright_68 : decode cX0_bright 68 = .ok (.iinc 3 1, 3) := dk_132 3 1 (dk_at dksX0_bright_2 21 rfl rfl)
theorem dX0_bright_71 : decode cX0_bright 71 = .ok (.goto (-49), 3) := dk_167 255 207 (dk_at dksX0_bright_3 0 rfl rfl)
theorem dX0_bright_74 : decode cX0_bright 74 = .ok (.iload_n 2, 1) := dk_28 (dk_at dksX0_bright_3 3 rfl rfl)
theorem dX0_bright_75 : decode cX0_bright 75 = .ok (.ireturn, 1) := dk_172 (dk_at dksX0_bright_3 4 rfl rfl)
abbrev cX0_isShown : ByteArray := prog_1_method_91_code
def yX0_isShown : MethodName := ⟨RX0, "isShown", "(II)Z"⟩
def dkwX0_isShown_4 : List UInt8 := [167, 0, 17, 29, 154, 0, 12, 21, 4, 154, 0, 7, 4, 167, 0, 4, 3, 172]
abbrev dktX0_isShown_4 : List UInt8 := dkwX0_isShown_4 ++ []
def dkwX0_isShown_3 : List UInt8 := [29, 167, 0, 39, 21, 4, 167, 0, 34, 29, 153, 0, 12, 21, 4, 153, 0, 7, 4, 167, 0, 21, 3]
abbrev dktX0_isShown_3 : List UInt8 := dkwX0_isShown_3 ++ dktX0_isShown_4
def dkwX0_isShown_2 : List UInt8 := [170, 0, 0, 0, 0, 52, 0, 0, 0, 0, 0, 0, 0, 2, 0, 0, 0, 26, 0, 0, 0, 30, 0, 0, 0, 35]
abbrev dktX0_isShown_2 : List UInt8 := dkwX0_isShown_2 ++ dktX0_isShown_3
def dkwX0_isShown_1 : List UInt8 := [182, 2, 37, 158, 0, 7, 4, 167, 0, 4, 3, 54, 4, 28]
abbrev dktX0_isShown_1 : List UInt8 := dkwX0_isShown_1 ++ dktX0_isShown_2
def dkwX0_isShown_0 : List UInt8 := [42, 180, 0, 160, 27, 4, 182, 2, 37, 158, 0, 7, 4, 167, 0, 4, 3, 62, 42, 180, 0, 160, 27, 8]
abbrev dktX0_isShown_0 : List UInt8 := dkwX0_isShown_0 ++ dktX0_isShown_1
theorem dksX0_isShown_0 : cX0_isShown.data.toList.drop 0 = dktX0_isShown_0 := by decide +kernel
theorem dksX0_isShown_1 : cX0_isShown.data.toList.drop 24 = dktX0_isShown_1 := dk_seg dksX0_isShown_0 24 rfl rfl
theorem dksX0_isShown_2 : cX0_isShown.data.toList.drop 38 = dktX0_isShown_2 := dk_seg dksX0_isShown_1 14 rfl rfl
theorem dksX0_isShown_3 : cX0_isShown.data.toList.drop 64 = dktX0_isShown_3 := dk_seg dksX0_isShown_2 26 rfl rfl
theorem dksX0_isShown_4 : cX0_isShown.data.toList.drop 87 = dktX0_isShown_4 := dk_seg dksX0_isShown_3 23 rfl rfl
theorem dX0_isShown_0 : decode cX0_isShown 0 = .ok (.aload_n 0, 1) := dk_42 (dk_at dksX0_isShown_0 0 rfl rfl)
theorem dX0_isShown_1 : decode cX0_isShown 1 = .ok (.getfield 160, 3) := dk_180 0 160 (dk_at dksX0_isShown_0 1 rfl rfl)
theorem dX0_isShown_4 : decode cX0_isShown 4 = .ok (.iload_n 1, 1) := dk_27 (dk_at dksX0_isShown_0 4 rfl rfl)
theorem dX0_isShown_5 : decode cX0_isShown 5 = .ok (.iconst 1, 1) := dk_4 (dk_at dksX0_isShown_0 5 rfl rfl)
theorem dX0_isShown_6 : decode cX0_isShown 6 = .ok (.invokevirtual 549, 3) := dk_182 2 37 (dk_at dksX0_isShown_0 6 rfl rfl)
theorem dX0_isShown_9 : decode cX0_isShown 9 = .ok (.ifCond .le 7, 3) := dk_158 0 7 (dk_at dksX0_isShown_0 9 rfl rfl)
theorem dX0_isShown_12 : decode cX0_isShown 12 = .ok (.iconst 1, 1) := dk_4 (dk_at dksX0_isShown_0 12 rfl rfl)
theorem dX0_isShown_13 : decode cX0_isShown 13 = .ok (.goto 4, 3) := dk_167 0 4 (dk_at dksX0_isShown_0 13 rfl rfl)
theorem dX0_isShown_16 : decode cX0_isShown 16 = .ok (.iconst 0, 1) := dk_3 (dk_at dksX0_isShown_0 16 rfl rfl)
theorem dX0_isShown_17 : decode cX0_isShown 17 = .ok (.istore_n 3, 1) := dk_62 (dk_at dksX0_isShown_0 17 rfl rfl)
theorem dX0_isShown_18 : decode cX0_isShown 18 = .ok (.aload_n 0, 1) := dk_42 (dk_at dksX0_isShown_0 18 rfl rfl)
theorem dX0_isShown_19 : decode cX0_isShown 19 = .ok (.getfield 160, 3) := dk_180 0 160 (dk_at dksX0_isShown_0 19 rfl rfl)
theorem dX0_isShown_22 : decode cX0_isShown 22 = .ok (.iload_n 1, 1) := dk_27 (dk_at dksX0_isShown_0 22 rfl rfl)
theorem dX0_isShown_23 : decode cX0_isShown 23 = .ok (.iconst 5, 1) := dk_8 (dk_at dksX0_isShown_0 23 rfl rfl)
theorem dX0_isShown_24 : decode cX0_isShown 24 = .ok (.invokevirtual 549, 3) := dk_182 2 37 (dk_at dksX0_isShown_1 0 rfl rfl)
theorem dX0_isShown_27 : decode cX0_isShown 27 = .ok (.ifCond .le 7, 3) := dk_158 0 7 (dk_at dksX0_isShown_1 3 rfl rfl)
theorem dX0_isShown_30 : decode cX0_isShown 30 = .ok (.iconst 1, 1) := dk_4 (dk_at dksX0_isShown_1 6 rfl rfl)
theorem dX0_isShown_31 : decode cX0_isShown 31 = .ok (.goto 4, 3) := dk_167 0 4 (dk_at dksX0_isShown_1 7 rfl rfl)
theorem dX0_isShown_34 : decode cX0_isShown 34 = .ok (.iconst 0, 1) := dk_3 (dk_at dksX0_isShown_1 10 rfl rfl)
theorem dX0_isShown_35 : decode cX0_isShown 35 = .ok (.istore 4, 2) := dk_54 4 (dk_at dksX0_isShown_1 11 rfl rfl)
theorem dX0_isShown_37 : decode cX0_isShown 37 = .ok (.iload_n 2, 1) := dk_28 (dk_at dksX0_isShown_1 13 rfl rfl)
theorem dX0_isShown_38 : decode cX0_isShown 38 = .ok (.tableswitch 52 0 2 #[26, 30, 35], 26) := by decide +kernel
theorem dX0_isShown_64 : decode cX0_isShown 64 = .ok (.iload_n 3, 1) := dk_29 (dk_at dksX0_isShown_3 0 rfl rfl)
theorem dX0_isShown_65 : decode cX0_isShown 65 = .ok (.goto 39, 3) := dk_167 0 39 (dk_at dksX0_isShown_3 1 rfl rfl)
theorem dX0_isShown_68 : decode cX0_isShown 68 = .ok (.iload 4, 2) := dk_21 4 (dk_at dksX0_isShown_3 4 rfl rfl)
theorem dX0_isShown_70 : decode cX0_isShown 70 = .ok (.goto 34, 3) := dk_167 0 34 (dk_at dksX0_isShown_3 6 rfl rfl)
theorem dX0_isShown_73 : decode cX0_isShown 73 = .ok (.iload_n 3, 1) := dk_29 (dk_at dksX0_isShown_3 9 rfl rfl)
theorem dX0_isShown_74 : decode cX0_isShown 74 = .ok (.ifCond .eq 12, 3) := dk_153 0 12 (dk_at dksX0_isShown_3 10 rfl rfl)
theorem dX0_isShown_77 : decode cX0_isShown 77 = .ok (.iload 4, 2) := dk_21 4 (dk_at dksX0_isShown_3 13 rfl rfl)
theorem dX0_isShown_79 : decode cX0_isShown 79 = .ok (.ifCond .eq 7, 3) := dk_153 0 7 (dk_at dksX0_isShown_3 15 rfl rfl)
theorem dX0_isShown_82 : decode cX0_isShown 82 = .ok (.iconst 1, 1) := dk_4 (dk_at dksX0_isShown_3 18 rfl rfl)
theorem dX0_isShown_83 : decode cX0_isShown 83 = .ok (.goto 21, 3) := dk_167 0 21 (dk_at dksX0_isShown_3 19 rfl rfl)
theorem dX0_isShown_86 : decode cX0_isShown 86 = .ok (.iconst 0, 1) := dk_3 (dk_at dksX0_isShown_3 22 rfl rfl)
theorem dX0_isShown_87 : decode cX0_isShown 87 = .ok (.goto 17, 3) := dk_167 0 17 (dk_at dksX0_isShown_4 0 rfl rfl)
theorem dX0_isShown_90 : decode cX0_isShown 90 = .ok (.iload_n 3, 1) := dk_29 (dk_at dksX0_isShown_4 3 rfl rfl)
theorem dX0_isShown_91 : decode cX0_isShown 91 = .ok (.ifCond .ne 12, 3) := dk_154 0 12 (dk_at dksX0_isShown_4 4 rfl rfl)
theorem dX0_isShown_94 : decode cX0_isShown 94 = .ok (.iload 4, 2) := dk_21 4 (dk_at dksX0_isShown_4 7 rfl rfl)
theorem dX0_isShown_96 : decode cX0_isShown 96 = .ok (.ifCond .ne 7, 3) := dk_154 0 7 (dk_at dksX0_isShown_4 9 rfl rfl)
theorem dX0_isShown_99 : decode cX0_isShown 99 = .ok (.iconst 1, 1) := dk_4 (dk_at dksX0_isShown_4 12 rfl rfl)
theorem dX0_isShown_100 : decode cX0_isShown 100 = .ok (.goto 4, 3) := dk_167 0 4 (dk_at dksX0_isShown_4 13 rfl rfl)
theorem dX0_isShown_103 : decode cX0_isShown 103 = .ok (.iconst 0, 1) := dk_3 (dk_at dksX0_isShown_4 16 rfl rfl)
theorem dX0_isShown_104 : decode cX0_isShown 104 = .ok (.ireturn, 1) := dk_172 (dk_at dksX0_isShown_4 17 rfl rfl)
abbrev cX0_paintings : ByteArray := prog_1_method_96_code
def yX0_paintings : MethodName := ⟨RX0, "paintings", "(II)J"⟩
def dkwX0_paintings_2 : List UInt8 := [16, 6, 181, 0, 177, 20, 1, 230, 173]
abbrev dktX0_paintings_2 : List UInt8 := dkwX0_paintings_2 ++ []
def dkwX0_paintings_1 : List UInt8 := [154, 0, 7, 20, 1, 230, 173, 42, 27, 28, 182, 2, 62, 42, 28, 182, 2, 65, 133, 109, 173, 78, 42]
abbrev dktX0_paintings_1 : List UInt8 := dkwX0_paintings_1 ++ dktX0_paintings_2
def dkwX0_paintings_0 : List UInt8 := [42, 27, 4, 161, 0, 17, 28, 133, 9, 10, 184, 0, 194, 153, 0, 7, 4, 167, 0, 4, 3, 182, 1, 85]
abbrev dktX0_paintings_0 : List UInt8 := dkwX0_paintings_0 ++ dktX0_paintings_1
theorem dksX0_paintings_0 : cX0_paintings.data.toList.drop 0 = dktX0_paintings_0 := by decide +kernel
theorem dksX0_paintings_1 : cX0_paintings.data.toList.drop 24 = dktX0_paintings_1 := dk_seg dksX0_paintings_0 24 rfl rfl
theorem dksX0_paintings_2 : cX0_paintings.data.toList.drop 47 = dktX0_paintings_2 := dk_seg dksX0_paintings_1 23 rfl rfl
theorem dX0_paintings_0 : decode cX0_paintings 0 = .ok (.aload_n 0, 1) := dk_42 (dk_at dksX0_paintings_0 0 rfl rfl)
theorem dX0_paintings_1 : decode cX0_paintings 1 = .ok (.iload_n 1, 1) := dk_27 (dk_at dksX0_paintings_0 1 rfl rfl)
theorem dX0_paintings_2 : decode cX0_paintings 2 = .ok (.iconst 1, 1) := dk_4 (dk_at dksX0_paintings_0 2 rfl rfl)
theorem dX0_paintings_3 : decode cX0_paintings 3 = .ok (.if_icmp .lt 17, 3) := dk_161 0 17 (dk_at dksX0_paintings_0 3 rfl rfl)
theorem dX0_paintings_6 : decode cX0_paintings 6 = .ok (.iload_n 2, 1) := dk_28 (dk_at dksX0_paintings_0 6 rfl rfl)
theorem dX0_paintings_7 : decode cX0_paintings 7 = .ok (.i2l, 1) := dk_133 (dk_at dksX0_paintings_0 7 rfl rfl)
theorem dX0_paintings_8 : decode cX0_paintings 8 = .ok (.lconst 0, 1) := dk_9 (dk_at dksX0_paintings_0 8 rfl rfl)
theorem dX0_paintings_9 : decode cX0_paintings 9 = .ok (.lconst 1, 1) := dk_10 (dk_at dksX0_paintings_0 9 rfl rfl)
theorem dX0_paintings_10 : decode cX0_paintings 10 = .ok (.invokestatic 194, 3) := dk_184 0 194 (dk_at dksX0_paintings_0 10 rfl rfl)
theorem dX0_paintings_13 : decode cX0_paintings 13 = .ok (.ifCond .eq 7, 3) := dk_153 0 7 (dk_at dksX0_paintings_0 13 rfl rfl)
theorem dX0_paintings_16 : decode cX0_paintings 16 = .ok (.iconst 1, 1) := dk_4 (dk_at dksX0_paintings_0 16 rfl rfl)
theorem dX0_paintings_17 : decode cX0_paintings 17 = .ok (.goto 4, 3) := dk_167 0 4 (dk_at dksX0_paintings_0 17 rfl rfl)
theorem dX0_paintings_20 : decode cX0_paintings 20 = .ok (.iconst 0, 1) := dk_3 (dk_at dksX0_paintings_0 20 rfl rfl)
theorem dX0_paintings_21 : decode cX0_paintings 21 = .ok (.invokevirtual 341, 3) := dk_182 1 85 (dk_at dksX0_paintings_0 21 rfl rfl)
theorem dX0_paintings_24 : decode cX0_paintings 24 = .ok (.ifCond .ne 7, 3) := dk_154 0 7 (dk_at dksX0_paintings_1 0 rfl rfl)
theorem dX0_paintings_27 : decode cX0_paintings 27 = .ok (.ldc2_w 486, 3) := dk_20 1 230 (dk_at dksX0_paintings_1 3 rfl rfl)
theorem dX0_paintings_30 : decode cX0_paintings 30 = .ok (.lreturn, 1) := dk_173 (dk_at dksX0_paintings_1 6 rfl rfl)
theorem dX0_paintings_31 : decode cX0_paintings 31 = .ok (.aload_n 0, 1) := dk_42 (dk_at dksX0_paintings_1 7 rfl rfl)
theorem dX0_paintings_32 : decode cX0_paintings 32 = .ok (.iload_n 1, 1) := dk_27 (dk_at dksX0_paintings_1 8 rfl rfl)
theorem dX0_paintings_33 : decode cX0_paintings 33 = .ok (.iload_n 2, 1) := dk_28 (dk_at dksX0_paintings_1 9 rfl rfl)
theorem dX0_paintings_34 : decode cX0_paintings 34 = .ok (.invokevirtual 574, 3) := dk_182 2 62 (dk_at dksX0_paintings_1 10 rfl rfl)
theorem dX0_paintings_37 : decode cX0_paintings 37 = .ok (.aload_n 0, 1) := dk_42 (dk_at dksX0_paintings_1 13 rfl rfl)
theorem dX0_paintings_38 : decode cX0_paintings 38 = .ok (.iload_n 2, 1) := dk_28 (dk_at dksX0_paintings_1 14 rfl rfl)
theorem dX0_paintings_39 : decode cX0_paintings 39 = .ok (.invokevirtual 577, 3) := dk_182 2 65 (dk_at dksX0_paintings_1 15 rfl rfl)
theorem dX0_paintings_42 : decode cX0_paintings 42 = .ok (.i2l, 1) := dk_133 (dk_at dksX0_paintings_1 18 rfl rfl)
theorem dX0_paintings_43 : decode cX0_paintings 43 = .ok (.ldiv, 1) := dk_109 (dk_at dksX0_paintings_1 19 rfl rfl)
theorem dX0_paintings_44 : decode cX0_paintings 44 = .ok (.lreturn, 1) := dk_173 (dk_at dksX0_paintings_1 20 rfl rfl)
theorem dX0_paintings_45 : decode cX0_paintings 45 = .ok (.astore_n 3, 1) := dk_78 (dk_at dksX0_paintings_1 21 rfl rfl)
theorem dX0_paintings_46 : decode cX0_paintings 46 = .ok (.aload_n 0, 1) := dk_42 (dk_at dksX0_paintings_1 22 rfl rfl)
theorem dX0_paintings_47 : decode cX0_paintings 47 = .ok (.bipush 6, 2) := dk_16 6 (dk_at dksX0_paintings_2 0 rfl rfl)
theorem dX0_paintings_49 : decode cX0_paintings 49 = .ok (.putfield 177, 3) := dk_181 0 177 (dk_at dksX0_paintings_2 2 rfl rfl)
theorem dX0_paintings_52 : decode cX0_paintings 52 = .ok (.ldc2_w 486, 3) := dk_20 1 230 (dk_at dksX0_paintings_2 5 rfl rfl)
theorem dX0_paintings_55 : decode cX0_paintings 55 = .ok (.lreturn, 1) := dk_173 (dk_at dksX0_paintings_2 8 rfl rfl)
abbrev cX0_paintedBy : ByteArray := prog_1_method_95_code
def yX0_paintedBy : MethodName := ⟨RX0, "paintedBy", "(II)J"⟩
def dkwX0_paintedBy_3 : List UInt8 := [167, 255, 239, 33, 22, 6, 184, 2, 59, 66, 132, 5, 1, 167, 255, 179, 33, 173]
abbrev dktX0_paintedBy_3 : List UInt8 := dkwX0_paintedBy_3 ++ []
def dkwX0_paintedBy_2 : List UInt8 := [182, 1, 146, 54, 8, 21, 8, 158, 0, 18, 22, 6, 27, 133, 184, 2, 56, 55, 6, 132, 8, 255]
abbrev dktX0_paintedBy_2 : List UInt8 := dkwX0_paintedBy_2 ++ dktX0_paintedBy_3
def dkwX0_paintedBy_1 : List UInt8 := [28, 182, 2, 52, 154, 0, 6, 167, 0, 48, 10, 55, 6, 42, 21, 5, 182, 1, 97, 42, 180, 0, 170]
abbrev dktX0_paintedBy_1 : List UInt8 := dkwX0_paintedBy_1 ++ dktX0_paintedBy_2
def dkwX0_paintedBy_0 : List UInt8 := [9, 66, 3, 54, 5, 21, 5, 42, 180, 0, 148, 180, 1, 88, 162, 0, 71, 42, 42, 21, 5, 182, 1, 97]
abbrev dktX0_paintedBy_0 : List UInt8 := dkwX0_paintedBy_0 ++ dktX0_paintedBy_1
theorem dksX0_paintedBy_0 : cX0_paintedBy.data.toList.drop 0 = dktX0_paintedBy_0 := by decide +kernel
theorem dksX0_paintedBy_1 : cX0_paintedBy.data.toList.drop 24 = dktX0_paintedBy_1 := dk_seg dksX0_paintedBy_0 24 rfl rfl
theorem dksX0_paintedBy_2 : cX0_paintedBy.data.toList.drop 47 = dktX0_paintedBy_2 := dk_seg dksX0_paintedBy_1 23 rfl rfl
theorem dksX0_paintedBy_3 : cX0_paintedBy.data.toList.drop 69 = dktX0_paintedBy_3 := dk_seg dksX0_paintedBy_2 22 rfl rfl
theorem dX0_paintedBy_0 : decode cX0_paintedBy 0 = .ok (.lconst 0, 1) := dk_9 (dk_at dksX0_paintedBy_0 0 rfl rfl)
theorem dX0_paintedBy_1 : decode cX0_paintedBy 1 = .ok (.lstore_n 3, 1) := dk_66 (dk_at dksX0_paintedBy_0 1 rfl rfl)
theorem dX0_paintedBy_2 : decode cX0_paintedBy 2 = .ok (.iconst 0, 1) := dk_3 (dk_at dksX0_paintedBy_0 2 rfl rfl)
theorem dX0_paintedBy_3 : decode cX0_paintedBy 3 = .ok (.istore 5, 2) := dk_54 5 (dk_at dksX0_paintedBy_0 3 rfl rfl)
theorem dX0_paintedBy_5 : decode cX0_paintedBy 5 = .ok (.iload 5, 2) := dk_21 5 (dk_at dksX0_paintedBy_0 5 rfl rfl)
theorem dX0_paintedBy_7 : decode cX0_paintedBy 7 = .ok (.aload_n 0, 1) := dk_42 (dk_at dksX0_paintedBy_0 7 rfl rfl)
theorem dX0_paintedBy_8 : decode cX0_paintedBy 8 = .ok (.getfield 148, 3) := dk_180 0 148 (dk_at dksX0_paintedBy_0 8 rfl rfl)
theorem dX0_paintedBy_11 : decode cX0_paintedBy 11 = .ok (.getfield 344, 3) := dk_180 1 88 (dk_at dksX0_paintedBy_0 11 rfl rfl)
theorem dX0_paintedBy_14 : decode cX0_paintedBy 14 = .ok (.if_icmp .ge 71, 3) := dk_162 0 71 (dk_at dksX0_paintedBy_0 14 rfl rfl)
theorem dX0_paintedBy_17 : decode cX0_paintedBy 17 = .ok (.aload_n 0, 1) := dk_42 (dk_at dksX0_paintedBy_0 17 rfl rfl)
theorem dX0_paintedBy_18 : decode cX0_paintedBy 18 = .ok (.aload_n 0, 1) := dk_42 (dk_at dksX0_paintedBy_0 18 rfl rfl)
theorem dX0_paintedBy_19 : decode cX0_paintedBy 19 = .ok (.iload 5, 2) := dk_21 5 (dk_at dksX0_paintedBy_0 19 rfl rfl)
theorem dX0_paintedBy_21 : decode cX0_paintedBy 21 = .ok (.invokevirtual 353, 3) := dk_182 1 97 (dk_at dksX0_paintedBy_0 21 rfl rfl)
theorem dX0_paintedBy_24 : decode cX0_paintedBy 24 = .ok (.iload_n 2, 1) := dk_28 (dk_at dksX0_paintedBy_1 0 rfl rfl)
theorem dX0_paintedBy_25 : decode cX0_paintedBy 25 = .ok (.invokevirtual 564, 3) := dk_182 2 52 (dk_at dksX0_paintedBy_1 1 rfl rfl)
theorem dX0_paintedBy_28 : decode cX0_paintedBy 28 = .ok (.ifCond .ne 6, 3) := dk_154 0 6 (dk_at dksX0_paintedBy_1 4 rfl rfl)
theorem dX0_paintedBy_31 : decode cX0_paintedBy 31 = .ok (.goto 48, 3) := dk_167 0 48 (dk_at dksX0_paintedBy_1 7 rfl rfl)
theorem dX0_paintedBy_34 : decode cX0_paintedBy 34 = .ok (.lconst 1, 1) := dk_10 (dk_at dksX0_paintedBy_1 10 rfl rfl)
theorem dX0_paintedBy_35 : decode cX0_paintedBy 35 = .ok (.lstore 6, 2) := dk_55 6 (dk_at dksX0_paintedBy_1 11 rfl rfl)
theorem dX0_paintedBy_37 : decode cX0_paintedBy 37 = .ok (.aload_n 0, 1) := dk_42 (dk_at dksX0_paintedBy_1 13 rfl rfl)
theorem dX0_paintedBy_38 : decode cX0_paintedBy 38 = .ok (.iload 5, 2) := dk_21 5 (dk_at dksX0_paintedBy_1 14 rfl rfl)
theorem dX0_paintedBy_40 : decode cX0_paintedBy 40 = .ok (.invokevirtual 353, 3) := dk_182 1 97 (dk_at dksX0_paintedBy_1 16 rfl rfl)
theorem dX0_paintedBy_43 : decode cX0_paintedBy 43 = .ok (.aload_n 0, 1) := dk_42 (dk_at dksX0_paintedBy_1 19 rfl rfl)
theorem dX0_paintedBy_44 : decode cX0_paintedBy 44 = .ok (.getfield 170, 3) := dk_180 0 170 (dk_at dksX0_paintedBy_1 20 rfl rfl)
theorem dX0_paintedBy_47 : decode cX0_paintedBy 47 = .ok (.invokevirtual 402, 3) := dk_182 1 146 (dk_at dksX0_paintedBy_2 0 rfl rfl)
theorem dX0_paintedBy_50 : decode cX0_paintedBy 50 = .ok (.istore 8, 2) := dk_54 8 (dk_at dksX0_paintedBy_2 3 rfl rfl)
theorem dX0_paintedBy_52 : decode cX0_paintedBy 52 = .ok (.iload 8, 2) := dk_21 8 (dk_at dksX0_paintedBy_2 5 rfl rfl)
theorem dX0_paintedBy_54 : decode cX0_paintedBy 54 = .ok (.ifCond .le 18, 3) := dk_158 0 18 (dk_at dksX0_paintedBy_2 7 rfl rfl)
theorem dX0_paintedBy_57 : decode cX0_paintedBy 57 = .ok (.lload 6, 2) := dk_22 6 (dk_at dksX0_paintedBy_2 10 rfl rfl)
theorem dX0_paintedBy_59 : decode cX0_paintedBy 59 = .ok (.iload_n 1, 1) := dk_27 (dk_at dksX0_paintedBy_2 12 rfl rfl)
theorem dX0_paintedBy_60 : decode cX0_paintedBy 60 = .ok (.i2l, 1) := dk_133 (dk_at dksX0_paintedBy_2 13 rfl rfl)
theorem dX0_paintedBy_61 : decode cX0_paintedBy 61 = .ok (.invokestatic 568, 3) := dk_184 2 56 (dk_at dksX0_paintedBy_2 14 rfl rfl)
theorem dX0_paintedBy_64 : decode cX0_paintedBy 64 = .ok (.lstore 6, 2) := dk_55 6 (dk_at dksX0_paintedBy_2 17 rfl rfl)
theorem dX0_paintedBy_66 : decode cX0_paintedBy 66 = .ok (.iinc 8 (-1), 3) := dk_132 8 255 (dk_at dksX0_paintedBy_2 19 rfl rfl)
theorem dX0_paintedBy_69 : decode cX0_paintedBy 69 = .ok (.goto (-17), 3) := dk_167 255 239 (dk_at dksX0_paintedBy_3 0 rfl rfl)
theorem dX0_paintedBy_72 : decode cX0_paintedBy 72 = .ok (.lload_n 3, 1) := dk_33 (dk_at dksX0_paintedBy_3 3 rfl rfl)
theorem dX0_paintedBy_73 : decode cX0_paintedBy 73 = .ok (.lload 6, 2) := dk_22 6 (dk_at dksX0_paintedBy_3 4 rfl rfl)
theorem dX0_paintedBy_75 : decode cX0_paintedBy 75 = .ok (.invokestatic 571, 3) := dk_184 2 59 (dk_at dksX0_paintedBy_3 6 rfl rfl)
theorem dX0_paintedBy_78 : decode cX0_paintedBy 78 = .ok (.lstore_n 3, 1) := dk_66 (dk_at dksX0_paintedBy_3 9 rfl rfl)
theorem dX0_paintedBy_79 : decode cX0_paintedBy 79 = .ok (.iinc 5 1, 3) := dk_132 5 1 (dk_at dksX0_paintedBy_3 10 rfl rfl)
theorem dX0_paintedBy_82 : decode cX0_paintedBy 82 = .ok (.goto (-77), 3) := dk_167 255 179 (dk_at dksX0_paintedBy_3 13 rfl rfl)
theorem dX0_paintedBy_85 : decode cX0_paintedBy 85 = .ok (.lload_n 3, 1) := dk_33 (dk_at dksX0_paintedBy_3 16 rfl rfl)
theorem dX0_paintedBy_86 : decode cX0_paintedBy 86 = .ok (.lreturn, 1) := dk_173 (dk_at dksX0_paintedBy_3 17 rfl rfl)
abbrev cX0_isAsked : ByteArray := prog_1_method_93_code
def yX0_isAsked : MethodName := ⟨RX0, "isAsked", "(LVibrationDesk$Op;I)Z"⟩
def dkwX0_isAsked_0 : List UInt8 := [28, 153, 0, 11, 43, 180, 1, 155, 4, 160, 0, 7, 4, 167, 0, 4, 3, 172]
abbrev dktX0_isAsked_0 : List UInt8 := dkwX0_isAsked_0 ++ []
theorem dksX0_isAsked_0 : cX0_isAsked.data.toList.drop 0 = dktX0_isAsked_0 := by decide +kernel
theorem dX0_isAsked_0 : decode cX0_isAsked 0 = .ok (.iload_n 2, 1) := dk_28 (dk_at dksX0_isAsked_0 0 rfl rfl)
theorem dX0_isAsked_1 : decode cX0_isAsked 1 = .ok (.ifCond .eq 11, 3) := dk_153 0 11 (dk_at dksX0_isAsked_0 1 rfl rfl)
theorem dX0_isAsked_4 : decode cX0_isAsked 4 = .ok (.aload_n 1, 1) := dk_43 (dk_at dksX0_isAsked_0 4 rfl rfl)
theorem dX0_isAsked_5 : decode cX0_isAsked 5 = .ok (.getfield 411, 3) := dk_180 1 155 (dk_at dksX0_isAsked_0 5 rfl rfl)
theorem dX0_isAsked_8 : decode cX0_isAsked 8 = .ok (.iconst 1, 1) := dk_4 (dk_at dksX0_isAsked_0 8 rfl rfl)
theorem dX0_isAsked_9 : decode cX0_isAsked 9 = .ok (.if_icmp .ne 7, 3) := dk_160 0 7 (dk_at dksX0_isAsked_0 9 rfl rfl)
theorem dX0_isAsked_12 : decode cX0_isAsked 12 = .ok (.iconst 1, 1) := dk_4 (dk_at dksX0_isAsked_0 12 rfl rfl)
theorem dX0_isAsked_13 : decode cX0_isAsked 13 = .ok (.goto 4, 3) := dk_167 0 4 (dk_at dksX0_isAsked_0 13 rfl rfl)
theorem dX0_isAsked_16 : decode cX0_isAsked 16 = .ok (.iconst 0, 1) := dk_3 (dk_at dksX0_isAsked_0 16 rfl rfl)
theorem dX0_isAsked_17 : decode cX0_isAsked 17 = .ok (.ireturn, 1) := dk_172 (dk_at dksX0_isAsked_0 17 rfl rfl)
abbrev cX0_askedMany : ByteArray := prog_1_method_94_code
def yX0_askedMany : MethodName := ⟨RX0, "askedMany", "(I)I"⟩
def dkwX0_askedMany_1 : List UInt8 := [182, 2, 52, 153, 0, 7, 4, 167, 0, 4, 3, 96, 61, 132, 3, 1, 167, 255, 221, 28, 172]
abbrev dktX0_askedMany_1 : List UInt8 := dkwX0_askedMany_1 ++ []
def dkwX0_askedMany_0 : List UInt8 := [3, 61, 3, 62, 29, 42, 180, 0, 148, 180, 1, 88, 162, 0, 30, 28, 42, 42, 29, 182, 1, 97, 27]
abbrev dktX0_askedMany_0 : List UInt8 := dkwX0_askedMany_0 ++ dktX0_askedMany_1
theorem dksX0_askedMany_0 : cX0_askedMany.data.toList.drop 0 = dktX0_askedMany_0 := by decide +kernel
theorem dksX0_askedMany_1 : cX0_askedMany.data.toList.drop 23 = dktX0_askedMany_1 := dk_seg dksX0_askedMany_0 23 rfl rfl
theorem dX0_askedMany_0 : decode cX0_askedMany 0 = .ok (.iconst 0, 1) := dk_3 (dk_at dksX0_askedMany_0 0 rfl rfl)
theorem dX0_askedMany_1 : decode cX0_askedMany 1 = .ok (.istore_n 2, 1) := dk_61 (dk_at dksX0_askedMany_0 1 rfl rfl)
theorem dX0_askedMany_2 : decode cX0_askedMany 2 = .ok (.iconst 0, 1) := dk_3 (dk_at dksX0_askedMany_0 2 rfl rfl)
theorem dX0_askedMany_3 : decode cX0_askedMany 3 = .ok (.istore_n 3, 1) := dk_62 (dk_at dksX0_askedMany_0 3 rfl rfl)
theorem dX0_askedMany_4 : decode cX0_askedMany 4 = .ok (.iload_n 3, 1) := dk_29 (dk_at dksX0_askedMany_0 4 rfl rfl)
theorem dX0_askedMany_5 : decode cX0_askedMany 5 = .ok (.aload_n 0, 1) := dk_42 (dk_at dksX0_askedMany_0 5 rfl rfl)
theorem dX0_askedMany_6 : decode cX0_askedMany 6 = .ok (.getfield 148, 3) := dk_180 0 148 (dk_at dksX0_askedMany_0 6 rfl rfl)
theorem dX0_askedMany_9 : decode cX0_askedMany 9 = .ok (.getfield 344, 3) := dk_180 1 88 (dk_at dksX0_askedMany_0 9 rfl rfl)
theorem dX0_askedMany_12 : decode cX0_askedMany 12 = .ok (.if_icmp .ge 30, 3) := dk_162 0 30 (dk_at dksX0_askedMany_0 12 rfl rfl)
theorem dX0_askedMany_15 : decode cX0_askedMany 15 = .ok (.iload_n 2, 1) := dk_28 (dk_at dksX0_askedMany_0 15 rfl rfl)
theorem dX0_askedMany_16 : decode cX0_askedMany 16 = .ok (.aload_n 0, 1) := dk_42 (dk_at dksX0_askedMany_0 16 rfl rfl)
theorem dX0_askedMany_17 : decode cX0_askedMany 17 = .ok (.aload_n 0, 1) := dk_42 (dk_at dksX0_askedMany_0 17 rfl rfl)
theorem dX0_askedMany_18 : decode cX0_askedMany 18 = .ok (.iload_n 3, 1) := dk_29 (dk_at dksX0_askedMany_0 18 rfl rfl)
theorem dX0_askedMany_19 : decode cX0_askedMany 19 = .ok (.invokevirtual 353, 3) := dk_182 1 97 (dk_at dksX0_askedMany_0 19 rfl rfl)
theorem dX0_askedMany_22 : decode cX0_askedMany 22 = .ok (.iload_n 1, 1) := dk_27 (dk_at dksX0_askedMany_0 22 rfl rfl)
theorem dX0_askedMany_23 : decode cX0_askedMany 23 = .ok (.invokevirtual 564, 3) := dk_182 2 52 (dk_at dksX0_askedMany_1 0 rfl rfl)
theorem dX0_askedMany_26 : decode cX0_askedMany 26 = .ok (.ifCond .eq 7, 3) := dk_153 0 7 (dk_at dksX0_askedMany_1 3 rfl rfl)
theorem dX0_askedMany_29 : decode cX0_askedMany 29 = .ok (.iconst 1, 1) := dk_4 (dk_at dksX0_askedMany_1 6 rfl rfl)
theorem dX0_askedMany_30 : decode cX0_askedMany 30 = .ok (.goto 4, 3) := dk_167 0 4 (dk_at dksX0_askedMany_1 7 rfl rfl)
theorem dX0_askedMany_33 : decode cX0_askedMany 33 = .ok (.iconst 0, 1) := dk_3 (dk_at dksX0_askedMany_1 10 rfl rfl)
theorem dX0_askedMany_34 : decode cX0_askedMany 34 = .ok (.iadd, 1) := dk_96 (dk_at dksX0_askedMany_1 11 rfl rfl)
theorem dX0_askedMany_35 : decode cX0_askedMany 35 = .ok (.istore_n 2, 1) := dk_61 (dk_at dksX0_askedMany_1 12 rfl rfl)
theorem dX0_askedMany_36 : decode cX0_askedMany 36 = .ok (.iinc 3 1, 3) := dk_132 3 1 (dk_at dksX0_askedMany_1 13 rfl rfl)
theorem dX0_askedMany_39 : decode cX0_askedMany 39 = .ok (.goto (-35), 3) := dk_167 255 221 (dk_at dksX0_askedMany_1 16 rfl rfl)
theorem dX0_askedMany_42 : decode cX0_askedMany 42 = .ok (.iload_n 2, 1) := dk_28 (dk_at dksX0_askedMany_1 19 rfl rfl)
theorem dX0_askedMany_43 : decode cX0_askedMany 43 = .ok (.ireturn, 1) := dk_172 (dk_at dksX0_askedMany_1 20 rfl rfl)
abbrev cX0_painted : ByteArray := prog_1_method_98_code
def yX0_painted : MethodName := ⟨RX0, "painted", "(II)I"⟩
def dkwX0_painted_4 : List UInt8 := [182, 2, 65, 108, 172]
abbrev dktX0_painted_4 : List UInt8 := dkwX0_painted_4 ++ []
def dkwX0_painted_3 : List UInt8 := [21, 4, 182, 1, 97, 27, 182, 2, 72, 167, 0, 4, 3, 96, 62, 132, 4, 1, 167, 255, 209, 29, 42, 28]
abbrev dktX0_painted_3 : List UInt8 := dkwX0_painted_3 ++ dktX0_painted_4
def dkwX0_painted_2 : List UInt8 := [180, 1, 88, 162, 0, 41, 29, 42, 42, 21, 4, 182, 1, 97, 28, 182, 2, 52, 153, 0, 17, 42, 42]
abbrev dktX0_painted_2 : List UInt8 := dkwX0_painted_2 ++ dktX0_painted_3
def dkwX0_painted_1 : List UInt8 := [167, 0, 4, 3, 182, 1, 85, 154, 0, 5, 2, 172, 3, 62, 3, 54, 4, 21, 4, 42, 180, 0, 148]
abbrev dktX0_painted_1 : List UInt8 := dkwX0_painted_1 ++ dktX0_painted_2
def dkwX0_painted_0 : List UInt8 := [42, 27, 133, 9, 20, 2, 70, 184, 0, 194, 153, 0, 17, 28, 133, 9, 10, 184, 0, 194, 153, 0, 7, 4]
abbrev dktX0_painted_0 : List UInt8 := dkwX0_painted_0 ++ dktX0_painted_1
theorem dksX0_painted_0 : cX0_painted.data.toList.drop 0 = dktX0_painted_0 := by decide +kernel
theorem dksX0_painted_1 : cX0_painted.data.toList.drop 24 = dktX0_painted_1 := dk_seg dksX0_painted_0 24 rfl rfl
theorem dksX0_painted_2 : cX0_painted.data.toList.drop 47 = dktX0_painted_2 := dk_seg dksX0_painted_1 23 rfl rfl
theorem dksX0_painted_3 : cX0_painted.data.toList.drop 70 = dktX0_painted_3 := dk_seg dksX0_painted_2 23 rfl rfl
theorem dksX0_painted_4 : cX0_painted.data.toList.drop 94 = dktX0_painted_4 := dk_seg dksX0_painted_3 24 rfl rfl
theorem dX0_painted_0 : decode cX0_painted 0 = .ok (.aload_n 0, 1) := dk_42 (dk_at dksX0_painted_0 0 rfl rfl)
theorem dX0_painted_1 : decode cX0_painted 1 = .ok (.iload_n 1, 1) := dk_27 (dk_at dksX0_painted_0 1 rfl rfl)
theorem dX0_painted_2 : decode cX0_painted 2 = .ok (.i2l, 1) := dk_133 (dk_at dksX0_painted_0 2 rfl rfl)
theorem dX0_painted_3 : decode cX0_painted 3 = .ok (.lconst 0, 1) := dk_9 (dk_at dksX0_painted_0 3 rfl rfl)
theorem dX0_painted_4 : decode cX0_painted 4 = .ok (.ldc2_w 582, 3) := dk_20 2 70 (dk_at dksX0_painted_0 4 rfl rfl)
theorem dX0_painted_7 : decode cX0_painted 7 = .ok (.invokestatic 194, 3) := dk_184 0 194 (dk_at dksX0_painted_0 7 rfl rfl)
theorem dX0_painted_10 : decode cX0_painted 10 = .ok (.ifCond .eq 17, 3) := dk_153 0 17 (dk_at dksX0_painted_0 10 rfl rfl)
theorem dX0_painted_13 : decode cX0_painted 13 = .ok (.iload_n 2, 1) := dk_28 (dk_at dksX0_painted_0 13 rfl rfl)
theorem dX0_painted_14 : decode cX0_painted 14 = .ok (.i2l, 1) := dk_133 (dk_at dksX0_painted_0 14 rfl rfl)
theorem dX0_painted_15 : decode cX0_painted 15 = .ok (.lconst 0, 1) := dk_9 (dk_at dksX0_painted_0 15 rfl rfl)
theorem dX0_painted_16 : decode cX0_painted 16 = .ok (.lconst 1, 1) := dk_10 (dk_at dksX0_painted_0 16 rfl rfl)
theorem dX0_painted_17 : decode cX0_painted 17 = .ok (.invokestatic 194, 3) := dk_184 0 194 (dk_at dksX0_painted_0 17 rfl rfl)
theorem dX0_painted_20 : decode cX0_painted 20 = .ok (.ifCond .eq 7, 3) := dk_153 0 7 (dk_at dksX0_painted_0 20 rfl rfl)
theorem dX0_painted_23 : decode cX0_painted 23 = .ok (.iconst 1, 1) := dk_4 (dk_at dksX0_painted_0 23 rfl rfl)
theorem dX0_painted_24 : decode cX0_painted 24 = .ok (.goto 4, 3) := dk_167 0 4 (dk_at dksX0_painted_1 0 rfl rfl)
theorem dX0_painted_27 : decode cX0_painted 27 = .ok (.iconst 0, 1) := dk_3 (dk_at dksX0_painted_1 3 rfl rfl)
theorem dX0_painted_28 : decode cX0_painted 28 = .ok (.invokevirtual 341, 3) := dk_182 1 85 (dk_at dksX0_painted_1 4 rfl rfl)
theorem dX0_painted_31 : decode cX0_painted 31 = .ok (.ifCond .ne 5, 3) := dk_154 0 5 (dk_at dksX0_painted_1 7 rfl rfl)
theorem dX0_painted_34 : decode cX0_painted 34 = .ok (.iconst (-1), 1) := dk_2 (dk_at dksX0_painted_1 10 rfl rfl)
theorem dX0_painted_35 : decode cX0_painted 35 = .ok (.ireturn, 1) := dk_172 (dk_at dksX0_painted_1 11 rfl rfl)
theorem dX0_painted_36 : decode cX0_painted 36 = .ok (.iconst 0, 1) := dk_3 (dk_at dksX0_painted_1 12 rfl rfl)
theorem dX0_painted_37 : decode cX0_painted 37 = .ok (.istore_n 3, 1) := dk_62 (dk_at dksX0_painted_1 13 rfl rfl)
theorem dX0_painted_38 : decode cX0_painted 38 = .ok (.iconst 0, 1) := dk_3 (dk_at dksX0_painted_1 14 rfl rfl)
theorem dX0_painted_39 : decode cX0_painted 39 = .ok (.istore 4, 2) := dk_54 4 (dk_at dksX0_painted_1 15 rfl rfl)
theorem dX0_painted_41 : decode cX0_painted 41 = .ok (.iload 4, 2) := dk_21 4 (dk_at dksX0_painted_1 17 rfl rfl)
theorem dX0_painted_43 : decode cX0_painted 43 = .ok (.aload_n 0, 1) := dk_42 (dk_at dksX0_painted_1 19 rfl rfl)
theorem dX0_painted_44 : decode cX0_painted 44 = .ok (.getfield 148, 3) := dk_180 0 148 (dk_at dksX0_painted_1 20 rfl rfl)
theorem dX0_painted_47 : decode cX0_painted 47 = .ok (.getfield 344, 3) := dk_180 1 88 (dk_at dksX0_painted_2 0 rfl rfl)
theorem dX0_painted_50 : decode cX0_painted 50 = .ok (.if_icmp .ge 41, 3) := dk_162 0 41 (dk_at dksX0_painted_2 3 rfl rfl)
theorem dX0_painted_53 : decode cX0_painted 53 = .ok (.iload_n 3, 1) := dk_29 (dk_at dksX0_painted_2 6 rfl rfl)
theorem dX0_painted_54 : decode cX0_painted 54 = .ok (.aload_n 0, 1) := dk_42 (dk_at dksX0_painted_2 7 rfl rfl)
theorem dX0_painted_55 : decode cX0_painted 55 = .ok (.aload_n 0, 1) := dk_42 (dk_at dksX0_painted_2 8 rfl rfl)
theorem dX0_painted_56 : decode cX0_painted 56 = .ok (.iload 4, 2) := dk_21 4 (dk_at dksX0_painted_2 9 rfl rfl)
theorem dX0_painted_58 : decode cX0_painted 58 = .ok (.invokevirtual 353, 3) := dk_182 1 97 (dk_at dksX0_painted_2 11 rfl rfl)
theorem dX0_painted_61 : decode cX0_painted 61 = .ok (.iload_n 2, 1) := dk_28 (dk_at dksX0_painted_2 14 rfl rfl)
theorem dX0_painted_62 : decode cX0_painted 62 = .ok (.invokevirtual 564, 3) := dk_182 2 52 (dk_at dksX0_painted_2 15 rfl rfl)
theorem dX0_painted_65 : decode cX0_painted 65 = .ok (.ifCond .eq 17, 3) := dk_153 0 17 (dk_at dksX0_painted_2 18 rfl rfl)
theorem dX0_painted_68 : decode cX0_painted 68 = .ok (.aload_n 0, 1) := dk_42 (dk_at dksX0_painted_2 21 rfl rfl)
theorem dX0_painted_69 : decode cX0_painted 69 = .ok (.aload_n 0, 1) := dk_42 (dk_at dksX0_painted_2 22 rfl rfl)
theorem dX0_painted_70 : decode cX0_painted 70 = .ok (.iload 4, 2) := dk_21 4 (dk_at dksX0_painted_3 0 rfl rfl)
theorem dX0_painted_72 : decode cX0_painted 72 = .ok (.invokevirtual 353, 3) := dk_182 1 97 (dk_at dksX0_painted_3 2 rfl rfl)
theorem dX0_painted_75 : decode cX0_painted 75 = .ok (.iload_n 1, 1) := dk_27 (dk_at dksX0_painted_3 5 rfl rfl)
theorem dX0_painted_76 : decode cX0_painted 76 = .ok (.invokevirtual 584, 3) := dk_182 2 72 (dk_at dksX0_painted_3 6 rfl rfl)
theorem dX0_painted_79 : decode cX0_painted 79 = .ok (.goto 4, 3) := dk_167 0 4 (dk_at dksX0_painted_3 9 rfl rfl)
theorem dX0_painted_82 : decode cX0_painted 82 = .ok (.iconst 0, 1) := dk_3 (dk_at dksX0_painted_3 12 rfl rfl)
theorem dX0_painted_83 : decode cX0_painted 83 = .ok (.iadd, 1) := dk_96 (dk_at dksX0_painted_3 13 rfl rfl)
theorem dX0_painted_84 : decode cX0_painted 84 = .ok (.istore_n 3, 1) := dk_62 (dk_at dksX0_painted_3 14 rfl rfl)
theorem dX0_painted_85 : decode cX0_painted 85 = .ok (.iinc 4 1, 3) := dk_132 4 1 (dk_at dksX0_painted_3 15 rfl rfl)
theorem dX0_painted_88 : decode cX0_painted 88 = .ok (.goto (-47), 3) := dk_167 255 209 (dk_at dksX0_painted_3 18 rfl rfl)
theorem dX0_painted_91 : decode cX0_painted 91 = .ok (.iload_n 3, 1) := dk_29 (dk_at dksX0_painted_3 21 rfl rfl)
theorem dX0_painted_92 : decode cX0_painted 92 = .ok (.aload_n 0, 1) := dk_42 (dk_at dksX0_painted_3 22 rfl rfl)
theorem dX0_painted_93 : decode cX0_painted 93 = .ok (.iload_n 2, 1) := dk_28 (dk_at dksX0_painted_3 23 rfl rfl)
theorem dX0_painted_94 : decode cX0_painted 94 = .ok (.invokevirtual 577, 3) := dk_182 2 65 (dk_at dksX0_painted_4 0 rfl rfl)
theorem dX0_painted_97 : decode cX0_painted 97 = .ok (.idiv, 1) := dk_108 (dk_at dksX0_painted_4 3 rfl rfl)
theorem dX0_painted_98 : decode cX0_painted 98 = .ok (.ireturn, 1) := dk_172 (dk_at dksX0_painted_4 4 rfl rfl)
abbrev cX0_waysOf : ByteArray := prog_1_method_97_code
def yX0_waysOf : MethodName := ⟨RX0, "waysOf", "(LVibrationDesk$Op;I)I"⟩
def dkwX0_waysOf_4 : List UInt8 := [132, 4, 1, 167, 255, 207, 132, 3, 1, 167, 255, 192, 42, 180, 0, 174, 28, 46, 172]
abbrev dktX0_waysOf_4 : List UInt8 := dkwX0_waysOf_4 ++ []
def dkwX0_waysOf_3 : List UInt8 := [180, 0, 174, 21, 5, 92, 46, 42, 180, 0, 174, 21, 5, 29, 100, 46, 96, 79, 132, 5, 255, 167, 255, 228]
abbrev dktX0_waysOf_3 : List UInt8 := dkwX0_waysOf_3 ++ dktX0_waysOf_4
def dkwX0_waysOf_2 : List UInt8 := [54, 4, 21, 4, 42, 180, 0, 170, 29, 46, 162, 0, 44, 16, 12, 54, 5, 21, 5, 29, 161, 0, 28, 42]
abbrev dktX0_waysOf_2 : List UInt8 := dkwX0_waysOf_2 ++ dktX0_waysOf_3
def dkwX0_waysOf_1 : List UInt8 := [154, 0, 7, 4, 167, 0, 4, 3, 79, 132, 3, 1, 167, 255, 232, 4, 62, 29, 16, 12, 163, 0, 64, 3]
abbrev dktX0_waysOf_1 : List UInt8 := dkwX0_waysOf_1 ++ dktX0_waysOf_2
def dkwX0_waysOf_0 : List UInt8 := [43, 42, 180, 0, 170, 182, 1, 146, 87, 3, 62, 29, 16, 12, 163, 0, 24, 42, 180, 0, 174, 29, 29]
abbrev dktX0_waysOf_0 : List UInt8 := dkwX0_waysOf_0 ++ dktX0_waysOf_1
theorem dksX0_waysOf_0 : cX0_waysOf.data.toList.drop 0 = dktX0_waysOf_0 := by decide +kernel
theorem dksX0_waysOf_1 : cX0_waysOf.data.toList.drop 23 = dktX0_waysOf_1 := dk_seg dksX0_waysOf_0 23 rfl rfl
theorem dksX0_waysOf_2 : cX0_waysOf.data.toList.drop 47 = dktX0_waysOf_2 := dk_seg dksX0_waysOf_1 24 rfl rfl
theorem dksX0_waysOf_3 : cX0_waysOf.data.toList.drop 71 = dktX0_waysOf_3 := dk_seg dksX0_waysOf_2 24 rfl rfl
theorem dksX0_waysOf_4 : cX0_waysOf.data.toList.drop 95 = dktX0_waysOf_4 := dk_seg dksX0_waysOf_3 24 rfl rfl
theorem dX0_waysOf_0 : decode cX0_waysOf 0 = .ok (.aload_n 1, 1) := dk_43 (dk_at dksX0_waysOf_0 0 rfl rfl)
theorem dX0_waysOf_1 : decode cX0_waysOf 1 = .ok (.aload_n 0, 1) := dk_42 (dk_at dksX0_waysOf_0 1 rfl rfl)
theorem dX0_waysOf_2 : decode cX0_waysOf 2 = .ok (.getfield 170, 3) := dk_180 0 170 (dk_at dksX0_waysOf_0 2 rfl rfl)
theorem dX0_waysOf_5 : decode cX0_waysOf 5 = .ok (.invokevirtual 402, 3) := dk_182 1 146 (dk_at dksX0_waysOf_0 5 rfl rfl)
theorem dX0_waysOf_8 : decode cX0_waysOf 8 = .ok (.pop, 1) := dk_87 (dk_at dksX0_waysOf_0 8 rfl rfl)
theorem dX0_waysOf_9 : decode cX0_waysOf 9 = .ok (.iconst 0, 1) := dk_3 (dk_at dksX0_waysOf_0 9 rfl rfl)
theorem dX0_waysOf_10 : decode cX0_waysOf 10 = .ok (.istore_n 3, 1) := dk_62 (dk_at dksX0_waysOf_0 10 rfl rfl)
theorem dX0_waysOf_11 : decode cX0_waysOf 11 = .ok (.iload_n 3, 1) := dk_29 (dk_at dksX0_waysOf_0 11 rfl rfl)
theorem dX0_waysOf_12 : decode cX0_waysOf 12 = .ok (.bipush 12, 2) := dk_16 12 (dk_at dksX0_waysOf_0 12 rfl rfl)
theorem dX0_waysOf_14 : decode cX0_waysOf 14 = .ok (.if_icmp .gt 24, 3) := dk_163 0 24 (dk_at dksX0_waysOf_0 14 rfl rfl)
theorem dX0_waysOf_17 : decode cX0_waysOf 17 = .ok (.aload_n 0, 1) := dk_42 (dk_at dksX0_waysOf_0 17 rfl rfl)
theorem dX0_waysOf_18 : decode cX0_waysOf 18 = .ok (.getfield 174, 3) := dk_180 0 174 (dk_at dksX0_waysOf_0 18 rfl rfl)
theorem dX0_waysOf_21 : decode cX0_waysOf 21 = .ok (.iload_n 3, 1) := dk_29 (dk_at dksX0_waysOf_0 21 rfl rfl)
theorem dX0_waysOf_22 : decode cX0_waysOf 22 = .ok (.iload_n 3, 1) := dk_29 (dk_at dksX0_waysOf_0 22 rfl rfl)
theorem dX0_waysOf_23 : decode cX0_waysOf 23 = .ok (.ifCond .ne 7, 3) := dk_154 0 7 (dk_at dksX0_waysOf_1 0 rfl rfl)
theorem dX0_waysOf_26 : decode cX0_waysOf 26 = .ok (.iconst 1, 1) := dk_4 (dk_at dksX0_waysOf_1 3 rfl rfl)
theorem dX0_waysOf_27 : decode cX0_waysOf 27 = .ok (.goto 4, 3) := dk_167 0 4 (dk_at dksX0_waysOf_1 4 rfl rfl)
theorem dX0_waysOf_30 : decode cX0_waysOf 30 = .ok (.iconst 0, 1) := dk_3 (dk_at dksX0_waysOf_1 7 rfl rfl)
theorem dX0_waysOf_31 : decode cX0_waysOf 31 = .ok (.iastore, 1) := dk_79 (dk_at dksX0_waysOf_1 8 rfl rfl)
theorem dX0_waysOf_32 : decode cX0_waysOf 32 = .ok (.iinc 3 1, 3) := dk_132 3 1 (dk_at dksX0_waysOf_1 9 rfl rfl)
theorem dX0_waysOf_35 : decode cX0_waysOf 35 = .ok (.goto (-24), 3) := dk_167 255 232 (dk_at dksX0_waysOf_1 12 rfl rfl)
theorem dX0_waysOf_38 : decode cX0_waysOf 38 = .ok (.iconst 1, 1) := dk_4 (dk_at dksX0_waysOf_1 15 rfl rfl)
theorem dX0_waysOf_39 : decode cX0_waysOf 39 = .ok (.istore_n 3, 1) := dk_62 (dk_at dksX0_waysOf_1 16 rfl rfl)
theorem dX0_waysOf_40 : decode cX0_waysOf 40 = .ok (.iload_n 3, 1) := dk_29 (dk_at dksX0_waysOf_1 17 rfl rfl)
theorem dX0_waysOf_41 : decode cX0_waysOf 41 = .ok (.bipush 12, 2) := dk_16 12 (dk_at dksX0_waysOf_1 18 rfl rfl)
theorem dX0_waysOf_43 : decode cX0_waysOf 43 = .ok (.if_icmp .gt 64, 3) := dk_163 0 64 (dk_at dksX0_waysOf_1 20 rfl rfl)
theorem dX0_waysOf_46 : decode cX0_waysOf 46 = .ok (.iconst 0, 1) := dk_3 (dk_at dksX0_waysOf_1 23 rfl rfl)
theorem dX0_waysOf_47 : decode cX0_waysOf 47 = .ok (.istore 4, 2) := dk_54 4 (dk_at dksX0_waysOf_2 0 rfl rfl)
theorem dX0_waysOf_49 : decode cX0_waysOf 49 = .ok (.iload 4, 2) := dk_21 4 (dk_at dksX0_waysOf_2 2 rfl rfl)
theorem dX0_waysOf_51 : decode cX0_waysOf 51 = .ok (.aload_n 0, 1) := dk_42 (dk_at dksX0_waysOf_2 4 rfl rfl)
theorem dX0_waysOf_52 : decode cX0_waysOf 52 = .ok (.getfield 170, 3) := dk_180 0 170 (dk_at dksX0_waysOf_2 5 rfl rfl)
theorem dX0_waysOf_55 : decode cX0_waysOf 55 = .ok (.iload_n 3, 1) := dk_29 (dk_at dksX0_waysOf_2 8 rfl rfl)
theorem dX0_waysOf_56 : decode cX0_waysOf 56 = .ok (.iaload, 1) := dk_46 (dk_at dksX0_waysOf_2 9 rfl rfl)
theorem dX0_waysOf_57 : decode cX0_waysOf 57 = .ok (.if_icmp .ge 44, 3) := dk_162 0 44 (dk_at dksX0_waysOf_2 10 rfl rfl)
theorem dX0_waysOf_60 : decode cX0_waysOf 60 = .ok (.bipush 12, 2) := dk_16 12 (dk_at dksX0_waysOf_2 13 rfl rfl)
theorem dX0_waysOf_62 : decode cX0_waysOf 62 = .ok (.istore 5, 2) := dk_54 5 (dk_at dksX0_waysOf_2 15 rfl rfl)
theorem dX0_waysOf_64 : decode cX0_waysOf 64 = .ok (.iload 5, 2) := dk_21 5 (dk_at dksX0_waysOf_2 17 rfl rfl)
theorem dX0_waysOf_66 : decode cX0_waysOf 66 = .ok (.iload_n 3, 1) := dk_29 (dk_at dksX0_waysOf_2 19 rfl rfl)
theorem dX0_waysOf_67 : decode cX0_waysOf 67 = .ok (.if_icmp .lt 28, 3) := dk_161 0 28 (dk_at dksX0_waysOf_2 20 rfl rfl)
theorem dX0_waysOf_70 : decode cX0_waysOf 70 = .ok (.aload_n 0, 1) := dk_42 (dk_at dksX0_waysOf_2 23 rfl rfl)
theorem dX0_waysOf_71 : decode cX0_waysOf 71 = .ok (.getfield 174, 3) := dk_180 0 174 (dk_at dksX0_waysOf_3 0 rfl rfl)
theorem dX0_waysOf_74 : decode cX0_waysOf 74 = .ok (.iload 5, 2) := dk_21 5 (dk_at dksX0_waysOf_3 3 rfl rfl)
theorem dX0_waysOf_76 : decode cX0_waysOf 76 = .ok (.dup2, 1) := dk_92 (dk_at dksX0_waysOf_3 5 rfl rfl)
theorem dX0_waysOf_77 : decode cX0_waysOf 77 = .ok (.iaload, 1) := dk_46 (dk_at dksX0_waysOf_3 6 rfl rfl)
theorem dX0_waysOf_78 : decode cX0_waysOf 78 = .ok (.aload_n 0, 1) := dk_42 (dk_at dksX0_waysOf_3 7 rfl rfl)
theorem dX0_waysOf_79 : decode cX0_waysOf 79 = .ok (.getfield 174, 3) := dk_180 0 174 (dk_at dksX0_waysOf_3 8 rfl rfl)
theorem dX0_waysOf_82 : decode cX0_waysOf 82 = .ok (.iload 5, 2) := dk_21 5 (dk_at dksX0_waysOf_3 11 rfl rfl)
theorem dX0_waysOf_84 : decode cX0_waysOf 84 = .ok (.iload_n 3, 1) := dk_29 (dk_at dksX0_waysOf_3 13 rfl rfl)
theorem dX0_waysOf_85 : decode cX0_waysOf 85 = .ok (.isub, 1) := dk_100 (dk_at dksX0_waysOf_3 14 rfl rfl)
theorem dX0_waysOf_86 : decode cX0_waysOf 86 = .ok (.iaload, 1) := dk_46 (dk_at dksX0_waysOf_3 15 rfl rfl)
theorem dX0_waysOf_87 : decode cX0_waysOf 87 = .ok (.iadd, 1) := dk_96 (dk_at dksX0_waysOf_3 16 rfl rfl)
theorem dX0_waysOf_88 : decode cX0_waysOf 88 = .ok (.iastore, 1) := dk_79 (dk_at dksX0_waysOf_3 17 rfl rfl)
theorem dX0_waysOf_89 : decode cX0_waysOf 89 = .ok (.iinc 5 (-1), 3) := dk_132 5 255 (dk_at dksX0_waysOf_3 18 rfl rfl)
theorem dX0_waysOf_92 : decode cX0_waysOf 92 = .ok (.goto (-28), 3) := dk_167 255 228 (dk_at dksX0_waysOf_3 21 rfl rfl)
theorem dX0_waysOf_95 : decode cX0_waysOf 95 = .ok (.iinc 4 1, 3) := dk_132 4 1 (dk_at dksX0_waysOf_4 0 rfl rfl)
theorem dX0_waysOf_98 : decode cX0_waysOf 98 = .ok (.goto (-49), 3) := dk_167 255 207 (dk_at dksX0_waysOf_4 3 rfl rfl)
theorem dX0_waysOf_101 : decode cX0_waysOf 101 = .ok (.iinc 3 1, 3) := dk_132 3 1 (dk_at dksX0_waysOf_4 6 rfl rfl)
theorem dX0_waysOf_104 : decode cX0_waysOf 104 = .ok (.goto (-64), 3) := dk_167 255 192 (dk_at dksX0_waysOf_4 9 rfl rfl)
theorem dX0_waysOf_107 : decode cX0_waysOf 107 = .ok (.aload_n 0, 1) := dk_42 (dk_at dksX0_waysOf_4 12 rfl rfl)
theorem dX0_waysOf_108 : decode cX0_waysOf 108 = .ok (.getfield 174, 3) := dk_180 0 174 (dk_at dksX0_waysOf_4 13 rfl rfl)
theorem dX0_waysOf_111 : decode cX0_waysOf 111 = .ok (.iload_n 2, 1) := dk_28 (dk_at dksX0_waysOf_4 16 rfl rfl)
theorem dX0_waysOf_112 : decode cX0_waysOf 112 = .ok (.iaload, 1) := dk_46 (dk_at dksX0_waysOf_4 17 rfl rfl)
theorem dX0_waysOf_113 : decode cX0_waysOf 113 = .ok (.ireturn, 1) := dk_172 (dk_at dksX0_waysOf_4 18 rfl rfl)
abbrev cX0_bestDrop : ByteArray := prog_1_method_100_code
def yX0_bestDrop : MethodName := ⟨RX0, "bestDrop", "()I"⟩
def dkwX0_bestDrop_3 : List UInt8 := [167, 0, 4, 3, 181, 0, 177, 27, 172]
abbrev dktX0_bestDrop_3 : List UInt8 := dkwX0_bestDrop_3 ++ []
def dkwX0_bestDrop_2 : List UInt8 := [163, 0, 6, 167, 0, 8, 29, 60, 21, 4, 61, 132, 3, 1, 167, 255, 203, 42, 27, 156, 0, 7, 6]
abbrev dktX0_bestDrop_2 : List UInt8 := dkwX0_bestDrop_2 ++ dktX0_bestDrop_3
def dkwX0_bestDrop_1 : List UInt8 := [180, 0, 134, 182, 0, 201, 42, 180, 0, 138, 29, 182, 1, 23, 42, 182, 2, 76, 54, 4, 21, 4, 28]
abbrev dktX0_bestDrop_1 : List UInt8 := dkwX0_bestDrop_1 ++ dktX0_bestDrop_2
def dkwX0_bestDrop_0 : List UInt8 := [2, 60, 3, 61, 3, 62, 29, 42, 180, 0, 134, 180, 0, 187, 162, 0, 48, 42, 180, 0, 138, 42]
abbrev dktX0_bestDrop_0 : List UInt8 := dkwX0_bestDrop_0 ++ dktX0_bestDrop_1
theorem dksX0_bestDrop_0 : cX0_bestDrop.data.toList.drop 0 = dktX0_bestDrop_0 := by decide +kernel
theorem dksX0_bestDrop_1 : cX0_bestDrop.data.toList.drop 22 = dktX0_bestDrop_1 := dk_seg dksX0_bestDrop_0 22 rfl rfl
theorem dksX0_bestDrop_2 : cX0_bestDrop.data.toList.drop 45 = dktX0_bestDrop_2 := dk_seg dksX0_bestDrop_1 23 rfl rfl
theorem dksX0_bestDrop_3 : cX0_bestDrop.data.toList.drop 68 = dktX0_bestDrop_3 := dk_seg dksX0_bestDrop_2 23 rfl rfl
theorem dX0_bestDrop_0 : decode cX0_bestDrop 0 = .ok (.iconst (-1), 1) := dk_2 (dk_at dksX0_bestDrop_0 0 rfl rfl)
theorem dX0_bestDrop_1 : decode cX0_bestDrop 1 = .ok (.istore_n 1, 1) := dk_60 (dk_at dksX0_bestDrop_0 1 rfl rfl)
theorem dX0_bestDrop_2 : decode cX0_bestDrop 2 = .ok (.iconst 0, 1) := dk_3 (dk_at dksX0_bestDrop_0 2 rfl rfl)
theorem dX0_bestDrop_3 : decode cX0_bestDrop 3 = .ok (.istore_n 2, 1) := dk_61 (dk_at dksX0_bestDrop_0 3 rfl rfl)
theorem dX0_bestDrop_4 : decode cX0_bestDrop 4 = .ok (.iconst 0, 1) := dk_3 (dk_at dksX0_bestDrop_0 4 rfl rfl)
theorem dX0_bestDrop_5 : decode cX0_bestDrop 5 = .ok (.istore_n 3, 1) := dk_62 (dk_at dksX0_bestDrop_0 5 rfl rfl)
theorem dX0_bestDrop_6 : decode cX0_bestDrop 6 = .ok (.iload_n 3, 1) := dk_29 (dk_at dksX0_bestDrop_0 6 rfl rfl)
theorem dX0_bestDrop_7 : decode cX0_bestDrop 7 = .ok (.aload_n 0, 1) := dk_42 (dk_at dksX0_bestDrop_0 7 rfl rfl)
theorem dX0_bestDrop_8 : decode cX0_bestDrop 8 = .ok (.getfield 134, 3) := dk_180 0 134 (dk_at dksX0_bestDrop_0 8 rfl rfl)
theorem dX0_bestDrop_11 : decode cX0_bestDrop 11 = .ok (.getfield 187, 3) := dk_180 0 187 (dk_at dksX0_bestDrop_0 11 rfl rfl)
theorem dX0_bestDrop_14 : decode cX0_bestDrop 14 = .ok (.if_icmp .ge 48, 3) := dk_162 0 48 (dk_at dksX0_bestDrop_0 14 rfl rfl)
theorem dX0_bestDrop_17 : decode cX0_bestDrop 17 = .ok (.aload_n 0, 1) := dk_42 (dk_at dksX0_bestDrop_0 17 rfl rfl)
theorem dX0_bestDrop_18 : decode cX0_bestDrop 18 = .ok (.getfield 138, 3) := dk_180 0 138 (dk_at dksX0_bestDrop_0 18 rfl rfl)
theorem dX0_bestDrop_21 : decode cX0_bestDrop 21 = .ok (.aload_n 0, 1) := dk_42 (dk_at dksX0_bestDrop_0 21 rfl rfl)
theorem dX0_bestDrop_22 : decode cX0_bestDrop 22 = .ok (.getfield 134, 3) := dk_180 0 134 (dk_at dksX0_bestDrop_1 0 rfl rfl)
theorem dX0_bestDrop_25 : decode cX0_bestDrop 25 = .ok (.invokevirtual 201, 3) := dk_182 0 201 (dk_at dksX0_bestDrop_1 3 rfl rfl)
theorem dX0_bestDrop_28 : decode cX0_bestDrop 28 = .ok (.aload_n 0, 1) := dk_42 (dk_at dksX0_bestDrop_1 6 rfl rfl)
theorem dX0_bestDrop_29 : decode cX0_bestDrop 29 = .ok (.getfield 138, 3) := dk_180 0 138 (dk_at dksX0_bestDrop_1 7 rfl rfl)
theorem dX0_bestDrop_32 : decode cX0_bestDrop 32 = .ok (.iload_n 3, 1) := dk_29 (dk_at dksX0_bestDrop_1 10 rfl rfl)
theorem dX0_bestDrop_33 : decode cX0_bestDrop 33 = .ok (.invokevirtual 279, 3) := dk_182 1 23 (dk_at dksX0_bestDrop_1 11 rfl rfl)
theorem dX0_bestDrop_36 : decode cX0_bestDrop 36 = .ok (.aload_n 0, 1) := dk_42 (dk_at dksX0_bestDrop_1 14 rfl rfl)
theorem dX0_bestDrop_37 : decode cX0_bestDrop 37 = .ok (.invokevirtual 588, 3) := dk_182 2 76 (dk_at dksX0_bestDrop_1 15 rfl rfl)
theorem dX0_bestDrop_40 : decode cX0_bestDrop 40 = .ok (.istore 4, 2) := dk_54 4 (dk_at dksX0_bestDrop_1 18 rfl rfl)
theorem dX0_bestDrop_42 : decode cX0_bestDrop 42 = .ok (.iload 4, 2) := dk_21 4 (dk_at dksX0_bestDrop_1 20 rfl rfl)
theorem dX0_bestDrop_44 : decode cX0_bestDrop 44 = .ok (.iload_n 2, 1) := dk_28 (dk_at dksX0_bestDrop_1 22 rfl rfl)
theorem dX0_bestDrop_45 : decode cX0_bestDrop 45 = .ok (.if_icmp .gt 6, 3) := dk_163 0 6 (dk_at dksX0_bestDrop_2 0 rfl rfl)
theorem dX0_bestDrop_48 : decode cX0_bestDrop 48 = .ok (.goto 8, 3) := dk_167 0 8 (dk_at dksX0_bestDrop_2 3 rfl rfl)
theorem dX0_bestDrop_51 : decode cX0_bestDrop 51 = .ok (.iload_n 3, 1) := dk_29 (dk_at dksX0_bestDrop_2 6 rfl rfl)
theorem dX0_bestDrop_52 : decode cX0_bestDrop 52 = .ok (.istore_n 1, 1) := dk_60 (dk_at dksX0_bestDrop_2 7 rfl rfl)
theorem dX0_bestDrop_53 : decode cX0_bestDrop 53 = .ok (.iload 4, 2) := dk_21 4 (dk_at dksX0_bestDrop_2 8 rfl rfl)
theorem dX0_bestDrop_55 : decode cX0_bestDrop 55 = .ok (.istore_n 2, 1) := dk_61 (dk_at dksX0_bestDrop_2 10 rfl rfl)
theorem dX0_bestDrop_56 : decode cX0_bestDrop 56 = .ok (.iinc 3 1, 3) := dk_132 3 1 (dk_at dksX0_bestDrop_2 11 rfl rfl)
theorem dX0_bestDrop_59 : decode cX0_bestDrop 59 = .ok (.goto (-53), 3) := dk_167 255 203 (dk_at dksX0_bestDrop_2 14 rfl rfl)
theorem dX0_bestDrop_62 : decode cX0_bestDrop 62 = .ok (.aload_n 0, 1) := dk_42 (dk_at dksX0_bestDrop_2 17 rfl rfl)
theorem dX0_bestDrop_63 : decode cX0_bestDrop 63 = .ok (.iload_n 1, 1) := dk_27 (dk_at dksX0_bestDrop_2 18 rfl rfl)
theorem dX0_bestDrop_64 : decode cX0_bestDrop 64 = .ok (.ifCond .ge 7, 3) := dk_156 0 7 (dk_at dksX0_bestDrop_2 19 rfl rfl)
theorem dX0_bestDrop_67 : decode cX0_bestDrop 67 = .ok (.iconst 3, 1) := dk_6 (dk_at dksX0_bestDrop_2 22 rfl rfl)
theorem dX0_bestDrop_68 : decode cX0_bestDrop 68 = .ok (.goto 4, 3) := dk_167 0 4 (dk_at dksX0_bestDrop_3 0 rfl rfl)
theorem dX0_bestDrop_71 : decode cX0_bestDrop 71 = .ok (.iconst 0, 1) := dk_3 (dk_at dksX0_bestDrop_3 3 rfl rfl)
theorem dX0_bestDrop_72 : decode cX0_bestDrop 72 = .ok (.putfield 177, 3) := dk_181 0 177 (dk_at dksX0_bestDrop_3 4 rfl rfl)
theorem dX0_bestDrop_75 : decode cX0_bestDrop 75 = .ok (.iload_n 1, 1) := dk_27 (dk_at dksX0_bestDrop_3 7 rfl rfl)
theorem dX0_bestDrop_76 : decode cX0_bestDrop 76 = .ok (.ireturn, 1) := dk_172 (dk_at dksX0_bestDrop_3 8 rfl rfl)
abbrev cX0_orderOther : ByteArray := prog_1_method_99_code
def yX0_orderOther : MethodName := ⟨RX0, "orderOther", "()I"⟩
def dkwX0_orderOther_1 : List UInt8 := [180, 0, 152, 180, 1, 88, 172]
abbrev dktX0_orderOther_1 : List UInt8 := dkwX0_orderOther_1 ++ []
def dkwX0_orderOther_0 : List UInt8 := [42, 180, 0, 138, 182, 1, 60, 154, 0, 5, 3, 172, 42, 180, 0, 152, 42, 180, 0, 138, 182, 1, 75, 42]
abbrev dktX0_orderOther_0 : List UInt8 := dkwX0_orderOther_0 ++ dktX0_orderOther_1
theorem dksX0_orderOther_0 : cX0_orderOther.data.toList.drop 0 = dktX0_orderOther_0 := by decide +kernel
theorem dksX0_orderOther_1 : cX0_orderOther.data.toList.drop 24 = dktX0_orderOther_1 := dk_seg dksX0_orderOther_0 24 rfl rfl
theorem dX0_orderOther_0 : decode cX0_orderOther 0 = .ok (.aload_n 0, 1) := dk_42 (dk_at dksX0_orderOther_0 0 rfl rfl)
theorem dX0_orderOther_1 : decode cX0_orderOther 1 = .ok (.getfield 138, 3) := dk_180 0 138 (dk_at dksX0_orderOther_0 1 rfl rfl)
theorem dX0_orderOther_4 : decode cX0_orderOther 4 = .ok (.invokevirtual 316, 3) := dk_182 1 60 (dk_at dksX0_orderOther_0 4 rfl rfl)
theorem dX0_orderOther_7 : decode cX0_orderOther 7 = .ok (.ifCond .ne 5, 3) := dk_154 0 5 (dk_at dksX0_orderOther_0 7 rfl rfl)
theorem dX0_orderOther_10 : decode cX0_orderOther 10 = .ok (.iconst 0, 1) := dk_3 (dk_at dksX0_orderOther_0 10 rfl rfl)
theorem dX0_orderOther_11 : decode cX0_orderOther 11 = .ok (.ireturn, 1) := dk_172 (dk_at dksX0_orderOther_0 11 rfl rfl)
theorem dX0_orderOther_12 : decode cX0_orderOther 12 = .ok (.aload_n 0, 1) := dk_42 (dk_at dksX0_orderOther_0 12 rfl rfl)
theorem dX0_orderOther_13 : decode cX0_orderOther 13 = .ok (.getfield 152, 3) := dk_180 0 152 (dk_at dksX0_orderOther_0 13 rfl rfl)
theorem dX0_orderOther_16 : decode cX0_orderOther 16 = .ok (.aload_n 0, 1) := dk_42 (dk_at dksX0_orderOther_0 16 rfl rfl)
theorem dX0_orderOther_17 : decode cX0_orderOther 17 = .ok (.getfield 138, 3) := dk_180 0 138 (dk_at dksX0_orderOther_0 17 rfl rfl)
theorem dX0_orderOther_20 : decode cX0_orderOther 20 = .ok (.invokevirtual 331, 3) := dk_182 1 75 (dk_at dksX0_orderOther_0 20 rfl rfl)
theorem dX0_orderOther_23 : decode cX0_orderOther 23 = .ok (.aload_n 0, 1) := dk_42 (dk_at dksX0_orderOther_0 23 rfl rfl)
theorem dX0_orderOther_24 : decode cX0_orderOther 24 = .ok (.getfield 152, 3) := dk_180 0 152 (dk_at dksX0_orderOther_1 0 rfl rfl)
theorem dX0_orderOther_27 : decode cX0_orderOther 27 = .ok (.getfield 344, 3) := dk_180 1 88 (dk_at dksX0_orderOther_1 3 rfl rfl)
theorem dX0_orderOther_30 : decode cX0_orderOther 30 = .ok (.ireturn, 1) := dk_172 (dk_at dksX0_orderOther_1 6 rfl rfl)
abbrev cX0_bestSwap : ByteArray := prog_1_method_101_code
def yX0_bestSwap : MethodName := ⟨RX0, "bestSwap", "(I)I"⟩
def dkwX0_bestSwap_5 : List UInt8 := [172]
abbrev dktX0_bestSwap_5 : List UInt8 := dkwX0_bestSwap_5 ++ []
def dkwX0_bestSwap_4 : List UInt8 := [61, 21, 5, 62, 132, 4, 1, 167, 255, 181, 42, 28, 156, 0, 7, 6, 167, 0, 4, 3, 181, 0, 177, 28]
abbrev dktX0_bestSwap_4 : List UInt8 := dkwX0_bestSwap_4 ++ dktX0_bestSwap_5
def dkwX0_bestSwap_3 : List UInt8 := [180, 1, 2, 21, 4, 27, 79, 42, 182, 2, 76, 54, 5, 21, 5, 29, 163, 0, 6, 167, 0, 9, 21, 4]
abbrev dktX0_bestSwap_3 : List UInt8 := dkwX0_bestSwap_3 ++ dktX0_bestSwap_4
def dkwX0_bestSwap_2 : List UInt8 := [27, 160, 0, 6, 167, 0, 46, 42, 180, 0, 138, 42, 180, 0, 134, 182, 0, 201, 42, 180, 0, 138]
abbrev dktX0_bestSwap_2 : List UInt8 := dkwX0_bestSwap_2 ++ dktX0_bestSwap_3
def dkwX0_bestSwap_1 : List UInt8 := [54, 4, 21, 4, 42, 180, 0, 134, 180, 0, 187, 162, 0, 69, 42, 180, 0, 134, 180, 1, 2, 21, 4, 46]
abbrev dktX0_bestSwap_1 : List UInt8 := dkwX0_bestSwap_1 ++ dktX0_bestSwap_2
def dkwX0_bestSwap_0 : List UInt8 := [42, 27, 133, 10, 20, 1, 9, 184, 0, 194, 182, 1, 85, 154, 0, 5, 2, 172, 2, 61, 3, 62, 3]
abbrev dktX0_bestSwap_0 : List UInt8 := dkwX0_bestSwap_0 ++ dktX0_bestSwap_1
theorem dksX0_bestSwap_0 : cX0_bestSwap.data.toList.drop 0 = dktX0_bestSwap_0 := by decide +kernel
theorem dksX0_bestSwap_1 : cX0_bestSwap.data.toList.drop 23 = dktX0_bestSwap_1 := dk_seg dksX0_bestSwap_0 23 rfl rfl
theorem dksX0_bestSwap_2 : cX0_bestSwap.data.toList.drop 47 = dktX0_bestSwap_2 := dk_seg dksX0_bestSwap_1 24 rfl rfl
theorem dksX0_bestSwap_3 : cX0_bestSwap.data.toList.drop 69 = dktX0_bestSwap_3 := dk_seg dksX0_bestSwap_2 22 rfl rfl
theorem dksX0_bestSwap_4 : cX0_bestSwap.data.toList.drop 93 = dktX0_bestSwap_4 := dk_seg dksX0_bestSwap_3 24 rfl rfl
theorem dksX0_bestSwap_5 : cX0_bestSwap.data.toList.drop 117 = dktX0_bestSwap_5 := dk_seg dksX0_bestSwap_4 24 rfl rfl
theorem dX0_bestSwap_0 : decode cX0_bestSwap 0 = .ok (.aload_n 0, 1) := dk_42 (dk_at dksX0_bestSwap_0 0 rfl rfl)
theorem dX0_bestSwap_1 : decode cX0_bestSwap 1 = .ok (.iload_n 1, 1) := dk_27 (dk_at dksX0_bestSwap_0 1 rfl rfl)
theorem dX0_bestSwap_2 : decode cX0_bestSwap 2 = .ok (.i2l, 1) := dk_133 (dk_at dksX0_bestSwap_0 2 rfl rfl)
theorem dX0_bestSwap_3 : decode cX0_bestSwap 3 = .ok (.lconst 1, 1) := dk_10 (dk_at dksX0_bestSwap_0 3 rfl rfl)
theorem dX0_bestSwap_4 : decode cX0_bestSwap 4 = .ok (.ldc2_w 265, 3) := dk_20 1 9 (dk_at dksX0_bestSwap_0 4 rfl rfl)
theorem dX0_bestSwap_7 : decode cX0_bestSwap 7 = .ok (.invokestatic 194, 3) := dk_184 0 194 (dk_at dksX0_bestSwap_0 7 rfl rfl)
theorem dX0_bestSwap_10 : decode cX0_bestSwap 10 = .ok (.invokevirtual 341, 3) := dk_182 1 85 (dk_at dksX0_bestSwap_0 10 rfl rfl)
theorem dX0_bestSwap_13 : decode cX0_bestSwap 13 = .ok (.ifCond .ne 5, 3) := dk_154 0 5 (dk_at dksX0_bestSwap_0 13 rfl rfl)
theorem dX0_bestSwap_16 : decode cX0_bestSwap 16 = .ok (.iconst (-1), 1) := dk_2 (dk_at dksX0_bestSwap_0 16 rfl rfl)
theorem dX0_bestSwap_17 : decode cX0_bestSwap 17 = .ok (.ireturn, 1) := dk_172 (dk_at dksX0_bestSwap_0 17 rfl rfl)
theorem dX0_bestSwap_18 : decode cX0_bestSwap 18 = .ok (.iconst (-1), 1) := dk_2 (dk_at dksX0_bestSwap_0 18 rfl rfl)
theorem dX0_bestSwap_19 : decode cX0_bestSwap 19 = .ok (.istore_n 2, 1) := dk_61 (dk_at dksX0_bestSwap_0 19 rfl rfl)
theorem dX0_bestSwap_20 : decode cX0_bestSwap 20 = .ok (.iconst 0, 1) := dk_3 (dk_at dksX0_bestSwap_0 20 rfl rfl)
theorem dX0_bestSwap_21 : decode cX0_bestSwap 21 = .ok (.istore_n 3, 1) := dk_62 (dk_at dksX0_bestSwap_0 21 rfl rfl)
theorem dX0_bestSwap_22 : decode cX0_bestSwap 22 = .ok (.iconst 0, 1) := dk_3 (dk_at dksX0_bestSwap_0 22 rfl rfl)
theorem dX0_bestSwap_23 : decode cX0_bestSwap 23 = .ok (.istore 4, 2) := dk_54 4 (dk_at dksX0_bestSwap_1 0 rfl rfl)
theorem dX0_bestSwap_25 : decode cX0_bestSwap 25 = .ok (.iload 4, 2) := dk_21 4 (dk_at dksX0_bestSwap_1 2 rfl rfl)
theorem dX0_bestSwap_27 : decode cX0_bestSwap 27 = .ok (.aload_n 0, 1) := dk_42 (dk_at dksX0_bestSwap_1 4 rfl rfl)
theorem dX0_bestSwap_28 : decode cX0_bestSwap 28 = .ok (.getfield 134, 3) := dk_180 0 134 (dk_at dksX0_bestSwap_1 5 rfl rfl)
theorem dX0_bestSwap_31 : decode cX0_bestSwap 31 = .ok (.getfield 187, 3) := dk_180 0 187 (dk_at dksX0_bestSwap_1 8 rfl rfl)
theorem dX0_bestSwap_34 : decode cX0_bestSwap 34 = .ok (.if_icmp .ge 69, 3) := dk_162 0 69 (dk_at dksX0_bestSwap_1 11 rfl rfl)
theorem dX0_bestSwap_37 : decode cX0_bestSwap 37 = .ok (.aload_n 0, 1) := dk_42 (dk_at dksX0_bestSwap_1 14 rfl rfl)
theorem dX0_bestSwap_38 : decode cX0_bestSwap 38 = .ok (.getfield 134, 3) := dk_180 0 134 (dk_at dksX0_bestSwap_1 15 rfl rfl)
theorem dX0_bestSwap_41 : decode cX0_bestSwap 41 = .ok (.getfield 258, 3) := dk_180 1 2 (dk_at dksX0_bestSwap_1 18 rfl rfl)
theorem dX0_bestSwap_44 : decode cX0_bestSwap 44 = .ok (.iload 4, 2) := dk_21 4 (dk_at dksX0_bestSwap_1 21 rfl rfl)
theorem dX0_bestSwap_46 : decode cX0_bestSwap 46 = .ok (.iaload, 1) := dk_46 (dk_at dksX0_bestSwap_1 23 rfl rfl)
theorem dX0_bestSwap_47 : decode cX0_bestSwap 47 = .ok (.iload_n 1, 1) := dk_27 (dk_at dksX0_bestSwap_2 0 rfl rfl)
theorem dX0_bestSwap_48 : decode cX0_bestSwap 48 = .ok (.if_icmp .ne 6, 3) := dk_160 0 6 (dk_at dksX0_bestSwap_2 1 rfl rfl)
theorem dX0_bestSwap_51 : decode cX0_bestSwap 51 = .ok (.goto 46, 3) := dk_167 0 46 (dk_at dksX0_bestSwap_2 4 rfl rfl)
theorem dX0_bestSwap_54 : decode cX0_bestSwap 54 = .ok (.aload_n 0, 1) := dk_42 (dk_at dksX0_bestSwap_2 7 rfl rfl)
theorem dX0_bestSwap_55 : decode cX0_bestSwap 55 = .ok (.getfield 138, 3) := dk_180 0 138 (dk_at dksX0_bestSwap_2 8 rfl rfl)
theorem dX0_bestSwap_58 : decode cX0_bestSwap 58 = .ok (.aload_n 0, 1) := dk_42 (dk_at dksX0_bestSwap_2 11 rfl rfl)
theorem dX0_bestSwap_59 : decode cX0_bestSwap 59 = .ok (.getfield 134, 3) := dk_180 0 134 (dk_at dksX0_bestSwap_2 12 rfl rfl)
theorem dX0_bestSwap_62 : decode cX0_bestSwap 62 = .ok (.invokevirtual 201, 3) := dk_182 0 201 (dk_at dksX0_bestSwap_2 15 rfl rfl)
theorem dX0_bestSwap_65 : decode cX0_bestSwap 65 = .ok (.aload_n 0, 1) := dk_42 (dk_at dksX0_bestSwap_2 18 rfl rfl)
theorem dX0_bestSwap_66 : decode cX0_bestSwap 66 = .ok (.getfield 138, 3) := dk_180 0 138 (dk_at dksX0_bestSwap_2 19 rfl rfl)
theorem dX0_bestSwap_69 : decode cX0_bestSwap 69 = .ok (.getfield 258, 3) := dk_180 1 2 (dk_at dksX0_bestSwap_3 0 rfl rfl)
theorem dX0_bestSwap_72 : decode cX0_bestSwap 72 = .ok (.iload 4, 2) := dk_21 4 (dk_at dksX0_bestSwap_3 3 rfl rfl)
theorem dX0_bestSwap_74 : decode cX0_bestSwap 74 = .ok (.iload_n 1, 1) := dk_27 (dk_at dksX0_bestSwap_3 5 rfl rfl)
theorem dX0_bestSwap_75 : decode cX0_bestSwap 75 = .ok (.iastore, 1) := dk_79 (dk_at dksX0_bestSwap_3 6 rfl rfl)
theorem dX0_bestSwap_76 : decode cX0_bestSwap 76 = .ok (.aload_n 0, 1) := dk_42 (dk_at dksX0_bestSwap_3 7 rfl rfl)
theorem dX0_bestSwap_77 : decode cX0_bestSwap 77 = .ok (.invokevirtual 588, 3) := dk_182 2 76 (dk_at dksX0_bestSwap_3 8 rfl rfl)
theorem dX0_bestSwap_80 : decode cX0_bestSwap 80 = .ok (.istore 5, 2) := dk_54 5 (dk_at dksX0_bestSwap_3 11 rfl rfl)
theorem dX0_bestSwap_82 : decode cX0_bestSwap 82 = .ok (.iload 5, 2) := dk_21 5 (dk_at dksX0_bestSwap_3 13 rfl rfl)
theorem dX0_bestSwap_84 : decode cX0_bestSwap 84 = .ok (.iload_n 3, 1) := dk_29 (dk_at dksX0_bestSwap_3 15 rfl rfl)
theorem dX0_bestSwap_85 : decode cX0_bestSwap 85 = .ok (.if_icmp .gt 6, 3) := dk_163 0 6 (dk_at dksX0_bestSwap_3 16 rfl rfl)
theorem dX0_bestSwap_88 : decode cX0_bestSwap 88 = .ok (.goto 9, 3) := dk_167 0 9 (dk_at dksX0_bestSwap_3 19 rfl rfl)
theorem dX0_bestSwap_91 : decode cX0_bestSwap 91 = .ok (.iload 4, 2) := dk_21 4 (dk_at dksX0_bestSwap_3 22 rfl rfl)
theorem dX0_bestSwap_93 : decode cX0_bestSwap 93 = .ok (.istore_n 2, 1) := dk_61 (dk_at dksX0_bestSwap_4 0 rfl rfl)
theorem dX0_bestSwap_94 : decode cX0_bestSwap 94 = .ok (.iload 5, 2) := dk_21 5 (dk_at dksX0_bestSwap_4 1 rfl rfl)
theorem dX0_bestSwap_96 : decode cX0_bestSwap 96 = .ok (.istore_n 3, 1) := dk_62 (dk_at dksX0_bestSwap_4 3 rfl rfl)
theorem dX0_bestSwap_97 : decode cX0_bestSwap 97 = .ok (.iinc 4 1, 3) := dk_132 4 1 (dk_at dksX0_bestSwap_4 4 rfl rfl)
theorem dX0_bestSwap_100 : decode cX0_bestSwap 100 = .ok (.goto (-75), 3) := dk_167 255 181 (dk_at dksX0_bestSwap_4 7 rfl rfl)
theorem dX0_bestSwap_103 : decode cX0_bestSwap 103 = .ok (.aload_n 0, 1) := dk_42 (dk_at dksX0_bestSwap_4 10 rfl rfl)
theorem dX0_bestSwap_104 : decode cX0_bestSwap 104 = .ok (.iload_n 2, 1) := dk_28 (dk_at dksX0_bestSwap_4 11 rfl rfl)
theorem dX0_bestSwap_105 : decode cX0_bestSwap 105 = .ok (.ifCond .ge 7, 3) := dk_156 0 7 (dk_at dksX0_bestSwap_4 12 rfl rfl)
theorem dX0_bestSwap_108 : decode cX0_bestSwap 108 = .ok (.iconst 3, 1) := dk_6 (dk_at dksX0_bestSwap_4 15 rfl rfl)
theorem dX0_bestSwap_109 : decode cX0_bestSwap 109 = .ok (.goto 4, 3) := dk_167 0 4 (dk_at dksX0_bestSwap_4 16 rfl rfl)
theorem dX0_bestSwap_112 : decode cX0_bestSwap 112 = .ok (.iconst 0, 1) := dk_3 (dk_at dksX0_bestSwap_4 19 rfl rfl)
theorem dX0_bestSwap_113 : decode cX0_bestSwap 113 = .ok (.putfield 177, 3) := dk_181 0 177 (dk_at dksX0_bestSwap_4 20 rfl rfl)
theorem dX0_bestSwap_116 : decode cX0_bestSwap 116 = .ok (.iload_n 2, 1) := dk_28 (dk_at dksX0_bestSwap_4 23 rfl rfl)
theorem dX0_bestSwap_117 : decode cX0_bestSwap 117 = .ok (.ireturn, 1) := dk_172 (dk_at dksX0_bestSwap_5 0 rfl rfl)
theorem q148 : (Jvm.Cond.initialized "VibrationDesk") ∈ lw_all := lw_g (lw_at lw_m1 1 rfl) rfl
theorem q180 : (Jvm.Cond.instantiable "VibrationDesk" (22 : Nat)) ∈ lw_all := lw_g (lw_at lw_m1 33 rfl) rfl
theorem q182 : (Jvm.Cond.instanceMethod ({ cls := "VibrationDesk", name := "<init>", desc := "()V" } : Jvm.MethodName)) ∈ lw_all := lw_g (lw_at lw_m1 35 rfl) rfl
theorem q183 : (Jvm.Cond.code ({ cls := "VibrationDesk", name := "<init>", desc := "()V" } : Jvm.MethodName) prog_1_method_7_code (2 : Nat) (Option.none : Option Jvm.ClassFile.FieldType)) ∈ lw_all := lw_g (lw_at lw_m1 36 rfl) rfl
theorem q184 : (Jvm.Cond.methodLink "VibrationDesk" (94 : Nat) ({ cls := "java/lang/Object", name := "<init>", desc := "()V" } : Jvm.MethodName)) ∈ lw_all := lw_g (lw_at lw_m1 37 rfl) rfl
theorem q187 : (Jvm.Cond.classLink "VibrationDesk" (111 : Nat) "VibrationDesk$Bad") ∈ lw_all := lw_g (lw_at lw_m1 40 rfl) rfl
theorem q239 : (Jvm.Cond.methodLink "VibrationDesk" (113 : Nat) ({ cls := "VibrationDesk$Bad", name := "<init>", desc := "()V" } : Jvm.MethodName)) ∈ lw_all := lw_g (lw_at lw_m1 92 rfl) rfl
theorem q249 : (Jvm.Cond.fieldLinkNest "VibrationDesk" (239 : Nat) "VibrationDesk$Bad" "kind" "I" "VibrationDesk") ∈ lw_tbl := lw_at lw_m1 102 rfl
theorem q251 : (Jvm.Cond.fieldLinkNest "VibrationDesk" (242 : Nat) "VibrationDesk$Bad" "place" "I" "VibrationDesk") ∈ lw_tbl := lw_at lw_m1 104 rfl
theorem q270 : (Jvm.Cond.classLink "VibrationDesk" (118 : Nat) "java/lang/StringBuilder") ∈ lw_all := lw_g (lw_at lw_m1 123 rfl) rfl
theorem q272 : (Jvm.Cond.methodLink "VibrationDesk" (120 : Nat) ({ cls := "java/lang/StringBuilder", name := "<init>", desc := "(I)V" } : Jvm.MethodName)) ∈ lw_all := lw_g (lw_at lw_m1 125 rfl) rfl
theorem q302 : (Jvm.Cond.classLink "VibrationDesk" (131 : Nat) "VibrationDesk$Frame") ∈ lw_all := lw_g (lw_at lw_m1 155 rfl) rfl
theorem q304 : (Jvm.Cond.methodLinkNest "VibrationDesk" (133 : Nat) ({ cls := "VibrationDesk$Frame", name := "<init>", desc := "()V" } : Jvm.MethodName) "VibrationDesk") ∈ lw_tbl := lw_at lw_m1 157 rfl
theorem q313 : (Jvm.Cond.fieldLinkNest "VibrationDesk" (187 : Nat) "VibrationDesk$Frame" "many" "I" "VibrationDesk") ∈ lw_tbl := lw_at lw_m1 166 rfl
theorem q317 : (Jvm.Cond.fieldLinkNest "VibrationDesk" (258 : Nat) "VibrationDesk$Frame" "kinds" "[I" "VibrationDesk") ∈ lw_tbl := lw_at lw_m1 170 rfl
theorem q319 : (Jvm.Cond.fieldLinkNest "VibrationDesk" (261 : Nat) "VibrationDesk$Frame" "at" "[[I" "VibrationDesk") ∈ lw_tbl := lw_at lw_m1 172 rfl
theorem q328 : (Jvm.Cond.fieldLinkNest "VibrationDesk" (328 : Nat) "VibrationDesk$Frame" "cell" "[I" "VibrationDesk") ∈ lw_tbl := lw_at lw_m1 181 rfl
theorem q356 : (Jvm.Cond.classLink "VibrationDesk" (145 : Nat) "VibrationDesk$Group") ∈ lw_all := lw_g (lw_at lw_m1 209 rfl) rfl
theorem q358 : (Jvm.Cond.methodLink "VibrationDesk" (147 : Nat) ({ cls := "VibrationDesk$Group", name := "<init>", desc := "()V" } : Jvm.MethodName)) ∈ lw_all := lw_g (lw_at lw_m1 211 rfl) rfl
theorem q400 : (Jvm.Cond.fieldLinkNest "VibrationDesk" (382 : Nat) "VibrationDesk$Basis" "whole" "J" "VibrationDesk") ∈ lw_tbl := lw_at lw_m2 13 rfl
theorem q429 : (Jvm.Cond.fieldLinkNest "VibrationDesk" (411 : Nat) "VibrationDesk$Op" "hand" "I" "VibrationDesk") ∈ lw_tbl := lw_at lw_m2 42 rfl
theorem q431 : (Jvm.Cond.fieldLinkNest "VibrationDesk" (365 : Nat) "VibrationDesk$Op" "trace" "I" "VibrationDesk") ∈ lw_tbl := lw_at lw_m2 44 rfl
theorem q458 : (Jvm.Cond.fieldLinkNest "VibrationDesk" (345 : Nat) "VibrationDesk$Group" "ops" "[LVibrationDesk$Op;" "VibrationDesk") ∈ lw_tbl := lw_at lw_m2 71 rfl
theorem q461 : (Jvm.Cond.fieldLinkNest "VibrationDesk" (344 : Nat) "VibrationDesk$Group" "many" "I" "VibrationDesk") ∈ lw_tbl := lw_at lw_m2 74 rfl
theorem q464 : (Jvm.Cond.fieldLinkNest "VibrationDesk" (368 : Nat) "VibrationDesk$Group" "basis" "LVibrationDesk$Basis;" "VibrationDesk") ∈ lw_tbl := lw_at lw_m2 77 rfl
theorem q468 : (Jvm.Cond.fieldLinkNest "VibrationDesk" (388 : Nat) "VibrationDesk$Group" "joined" "[[I" "VibrationDesk") ∈ lw_tbl := lw_at lw_m2 81 rfl
theorem q470 : (Jvm.Cond.fieldLinkNest "VibrationDesk" (391 : Nat) "VibrationDesk$Group" "back" "[I" "VibrationDesk") ∈ lw_tbl := lw_at lw_m2 83 rfl
theorem q472 : (Jvm.Cond.fieldLinkNest "VibrationDesk" (419 : Nat) "VibrationDesk$Group" "sort" "[I" "VibrationDesk") ∈ lw_tbl := lw_at lw_m2 85 rfl
theorem q475 : (Jvm.Cond.fieldLinkNest "VibrationDesk" (428 : Nat) "VibrationDesk$Group" "leastOf" "[I" "VibrationDesk") ∈ lw_tbl := lw_at lw_m2 88 rfl
theorem q478 : (Jvm.Cond.fieldLinkNest "VibrationDesk" (425 : Nat) "VibrationDesk$Group" "sizeOf" "[I" "VibrationDesk") ∈ lw_tbl := lw_at lw_m2 91 rfl
theorem q481 : (Jvm.Cond.fieldLinkNest "VibrationDesk" (431 : Nat) "VibrationDesk$Group" "backOf" "[I" "VibrationDesk") ∈ lw_tbl := lw_at lw_m2 94 rfl
theorem q484 : (Jvm.Cond.fieldLinkNest "VibrationDesk" (434 : Nat) "VibrationDesk$Group" "joins" "[I" "VibrationDesk") ∈ lw_tbl := lw_at lw_m2 97 rfl
theorem q487 : (Jvm.Cond.fieldLinkNest "VibrationDesk" (416 : Nat) "VibrationDesk$Group" "sorts" "I" "VibrationDesk") ∈ lw_tbl := lw_at lw_m2 100 rfl
theorem q491 : (Jvm.Cond.fieldLinkNest "VibrationDesk" (482 : Nat) "VibrationDesk$Group" "sets" "[J" "VibrationDesk") ∈ lw_tbl := lw_at lw_m2 104 rfl
theorem q493 : (Jvm.Cond.fieldLinkNest "VibrationDesk" (476 : Nat) "VibrationDesk$Group" "setMany" "I" "VibrationDesk") ∈ lw_tbl := lw_at lw_m2 106 rfl
theorem q533 : (Jvm.Cond.classLink "VibrationDesk" (155 : Nat) "VibrationDesk$Laws") ∈ lw_all := lw_g (lw_at lw_m2 146 rfl) rfl
theorem q535 : (Jvm.Cond.methodLink "VibrationDesk" (157 : Nat) ({ cls := "VibrationDesk$Laws", name := "<init>", desc := "(LVibrationDesk$Group;)V" } : Jvm.MethodName)) ∈ lw_all := lw_g (lw_at lw_m2 148 rfl) rfl
theorem q572 : (Jvm.Cond.fieldLinkNest "VibrationDesk" (538 : Nat) "VibrationDesk$Laws" "rows" "[[I" "VibrationDesk") ∈ lw_tbl := lw_at lw_m2 185 rfl
theorem q574 : (Jvm.Cond.fieldLinkNest "VibrationDesk" (544 : Nat) "VibrationDesk$Laws" "characters" "[[I" "VibrationDesk") ∈ lw_tbl := lw_at lw_m2 187 rfl
theorem q576 : (Jvm.Cond.fieldLinkNest "VibrationDesk" (541 : Nat) "VibrationDesk$Laws" "degrees" "[I" "VibrationDesk") ∈ lw_tbl := lw_at lw_m2 189 rfl
theorem q578 : (Jvm.Cond.fieldLinkNest "VibrationDesk" (534 : Nat) "VibrationDesk$Laws" "many" "I" "VibrationDesk") ∈ lw_tbl := lw_at lw_m2 191 rfl
theorem q592 : (Jvm.Cond.stringRef "VibrationDesk" (164 : Nat) "") ∈ lw_tbl := lw_at lw_m2 205 rfl
theorem q594 : (Jvm.Cond.fieldLink "VibrationDesk" (100 : Nat) "VibrationDesk" "tape" "[B") ∈ lw_all := lw_g (lw_at lw_m2 207 rfl) rfl
theorem q595 : (Jvm.Cond.fieldLink "VibrationDesk" (218 : Nat) "VibrationDesk" "taped" "I") ∈ lw_all := lw_g (lw_at lw_m2 208 rfl) rfl
theorem q596 : (Jvm.Cond.fieldLink "VibrationDesk" (104 : Nat) "VibrationDesk" "faultKind" "I") ∈ lw_all := lw_g (lw_at lw_m2 209 rfl) rfl
theorem q597 : (Jvm.Cond.fieldLink "VibrationDesk" (108 : Nat) "VibrationDesk" "faultAt" "I") ∈ lw_all := lw_g (lw_at lw_m2 210 rfl) rfl
theorem q598 : (Jvm.Cond.fieldLink "VibrationDesk" (114 : Nat) "VibrationDesk" "bad" "LVibrationDesk$Bad;") ∈ lw_all := lw_g (lw_at lw_m2 211 rfl) rfl
theorem q601 : (Jvm.Cond.fieldLink "VibrationDesk" (123 : Nat) "VibrationDesk" "letters" "Ljava/lang/StringBuilder;") ∈ lw_all := lw_g (lw_at lw_m2 214 rfl) rfl
theorem q602 : (Jvm.Cond.fieldLink "VibrationDesk" (177 : Nat) "VibrationDesk" "status" "I") ∈ lw_all := lw_g (lw_at lw_m2 215 rfl) rfl
theorem q603 : (Jvm.Cond.fieldLink "VibrationDesk" (180 : Nat) "VibrationDesk" "upper" "J") ∈ lw_all := lw_g (lw_at lw_m2 216 rfl) rfl
theorem q604 : (Jvm.Cond.fieldLink "VibrationDesk" (127 : Nat) "VibrationDesk" "lower" "J") ∈ lw_all := lw_g (lw_at lw_m2 217 rfl) rfl
theorem q605 : (Jvm.Cond.fieldLink "VibrationDesk" (134 : Nat) "VibrationDesk" "now" "LVibrationDesk$Frame;") ∈ lw_all := lw_g (lw_at lw_m2 218 rfl) rfl
theorem q606 : (Jvm.Cond.fieldLink "VibrationDesk" (138 : Nat) "VibrationDesk" "other" "LVibrationDesk$Frame;") ∈ lw_all := lw_g (lw_at lw_m2 219 rfl) rfl
theorem q607 : (Jvm.Cond.fieldLink "VibrationDesk" (141 : Nat) "VibrationDesk" "kept" "[LVibrationDesk$Frame;") ∈ lw_all := lw_g (lw_at lw_m2 220 rfl) rfl
theorem q608 : (Jvm.Cond.fieldLink "VibrationDesk" (198 : Nat) "VibrationDesk" "keptMany" "I") ∈ lw_all := lw_g (lw_at lw_m2 221 rfl) rfl
theorem q609 : (Jvm.Cond.fieldLink "VibrationDesk" (148 : Nat) "VibrationDesk" "group" "LVibrationDesk$Group;") ∈ lw_all := lw_g (lw_at lw_m2 222 rfl) rfl
theorem q610 : (Jvm.Cond.fieldLink "VibrationDesk" (152 : Nat) "VibrationDesk" "another" "LVibrationDesk$Group;") ∈ lw_all := lw_g (lw_at lw_m2 223 rfl) rfl
theorem q611 : (Jvm.Cond.fieldLink "VibrationDesk" (160 : Nat) "VibrationDesk" "laws" "LVibrationDesk$Laws;") ∈ lw_all := lw_g (lw_at lw_m2 224 rfl) rfl
theorem q612 : (Jvm.Cond.fieldLink "VibrationDesk" (208 : Nat) "VibrationDesk" "isFound" "Z") ∈ lw_all := lw_g (lw_at lw_m2 225 rfl) rfl
theorem q613 : (Jvm.Cond.fieldLink "VibrationDesk" (212 : Nat) "VibrationDesk" "isLawful" "Z") ∈ lw_all := lw_g (lw_at lw_m2 226 rfl) rfl
theorem q614 : (Jvm.Cond.fieldLink "VibrationDesk" (215 : Nat) "VibrationDesk" "isSetDown" "Z") ∈ lw_all := lw_g (lw_at lw_m2 227 rfl) rfl
theorem q615 : (Jvm.Cond.fieldLink "VibrationDesk" (166 : Nat) "VibrationDesk" "name" "Ljava/lang/String;") ∈ lw_all := lw_g (lw_at lw_m2 228 rfl) rfl
theorem q616 : (Jvm.Cond.fieldLink "VibrationDesk" (170 : Nat) "VibrationDesk" "lengths" "[I") ∈ lw_all := lw_g (lw_at lw_m2 229 rfl) rfl
theorem q617 : (Jvm.Cond.fieldLink "VibrationDesk" (174 : Nat) "VibrationDesk" "ways" "[I") ∈ lw_all := lw_g (lw_at lw_m2 230 rfl) rfl
theorem q618 : (Jvm.Cond.laysFinal "VibrationDesk" "VibrationDesk" "tape" "[B") ∈ lw_all := lw_g (lw_at lw_m2 231 rfl) rfl
theorem q619 : (Jvm.Cond.soleField "VibrationDesk" "tape") ∈ lw_all := lw_g (lw_at lw_m2 232 rfl) rfl
theorem q620 : (Jvm.Cond.lays "VibrationDesk" "VibrationDesk" "taped" "I") ∈ lw_all := lw_g (lw_at lw_m2 233 rfl) rfl
theorem q621 : (Jvm.Cond.soleField "VibrationDesk" "taped") ∈ lw_all := lw_g (lw_at lw_m2 234 rfl) rfl
theorem q622 : (Jvm.Cond.lays "VibrationDesk" "VibrationDesk" "faultKind" "I") ∈ lw_all := lw_g (lw_at lw_m2 235 rfl) rfl
theorem q623 : (Jvm.Cond.soleField "VibrationDesk" "faultKind") ∈ lw_all := lw_g (lw_at lw_m2 236 rfl) rfl
theorem q624 : (Jvm.Cond.lays "VibrationDesk" "VibrationDesk" "faultAt" "I") ∈ lw_all := lw_g (lw_at lw_m2 237 rfl) rfl
theorem q625 : (Jvm.Cond.soleField "VibrationDesk" "faultAt") ∈ lw_all := lw_g (lw_at lw_m2 238 rfl) rfl
theorem q626 : (Jvm.Cond.laysFinal "VibrationDesk" "VibrationDesk" "bad" "LVibrationDesk$Bad;") ∈ lw_all := lw_g (lw_at lw_m2 239 rfl) rfl
theorem q627 : (Jvm.Cond.soleField "VibrationDesk" "bad") ∈ lw_all := lw_g (lw_at lw_m3 0 rfl) rfl
theorem q628 : (Jvm.Cond.laysFinal "VibrationDesk" "VibrationDesk" "letters" "Ljava/lang/StringBuilder;") ∈ lw_all := lw_g (lw_at lw_m3 1 rfl) rfl
theorem q629 : (Jvm.Cond.soleField "VibrationDesk" "letters") ∈ lw_all := lw_g (lw_at lw_m3 2 rfl) rfl
theorem q630 : (Jvm.Cond.lays "VibrationDesk" "VibrationDesk" "status" "I") ∈ lw_all := lw_g (lw_at lw_m3 3 rfl) rfl
theorem q631 : (Jvm.Cond.soleField "VibrationDesk" "status") ∈ lw_all := lw_g (lw_at lw_m3 4 rfl) rfl
theorem q632 : (Jvm.Cond.lays "VibrationDesk" "VibrationDesk" "upper" "J") ∈ lw_all := lw_g (lw_at lw_m3 5 rfl) rfl
theorem q633 : (Jvm.Cond.soleField "VibrationDesk" "upper") ∈ lw_all := lw_g (lw_at lw_m3 6 rfl) rfl
theorem q634 : (Jvm.Cond.lays "VibrationDesk" "VibrationDesk" "lower" "J") ∈ lw_all := lw_g (lw_at lw_m3 7 rfl) rfl
theorem q635 : (Jvm.Cond.soleField "VibrationDesk" "lower") ∈ lw_all := lw_g (lw_at lw_m3 8 rfl) rfl
theorem q636 : (Jvm.Cond.laysFinal "VibrationDesk" "VibrationDesk" "now" "LVibrationDesk$Frame;") ∈ lw_all := lw_g (lw_at lw_m3 9 rfl) rfl
theorem q637 : (Jvm.Cond.soleField "VibrationDesk" "now") ∈ lw_all := lw_g (lw_at lw_m3 10 rfl) rfl
theorem q638 : (Jvm.Cond.laysFinal "VibrationDesk" "VibrationDesk" "other" "LVibrationDesk$Frame;") ∈ lw_all := lw_g (lw_at lw_m3 11 rfl) rfl
theorem q639 : (Jvm.Cond.soleField "VibrationDesk" "other") ∈ lw_all := lw_g (lw_at lw_m3 12 rfl) rfl
theorem q640 : (Jvm.Cond.laysFinal "VibrationDesk" "VibrationDesk" "kept" "[LVibrationDesk$Frame;") ∈ lw_all := lw_g (lw_at lw_m3 13 rfl) rfl
theorem q641 : (Jvm.Cond.soleField "VibrationDesk" "kept") ∈ lw_all := lw_g (lw_at lw_m3 14 rfl) rfl
theorem q642 : (Jvm.Cond.lays "VibrationDesk" "VibrationDesk" "keptMany" "I") ∈ lw_all := lw_g (lw_at lw_m3 15 rfl) rfl
theorem q643 : (Jvm.Cond.soleField "VibrationDesk" "keptMany") ∈ lw_all := lw_g (lw_at lw_m3 16 rfl) rfl
theorem q644 : (Jvm.Cond.laysFinal "VibrationDesk" "VibrationDesk" "group" "LVibrationDesk$Group;") ∈ lw_all := lw_g (lw_at lw_m3 17 rfl) rfl
theorem q645 : (Jvm.Cond.soleField "VibrationDesk" "group") ∈ lw_all := lw_g (lw_at lw_m3 18 rfl) rfl
theorem q646 : (Jvm.Cond.laysFinal "VibrationDesk" "VibrationDesk" "another" "LVibrationDesk$Group;") ∈ lw_all := lw_g (lw_at lw_m3 19 rfl) rfl
theorem q647 : (Jvm.Cond.soleField "VibrationDesk" "another") ∈ lw_all := lw_g (lw_at lw_m3 20 rfl) rfl
theorem q648 : (Jvm.Cond.laysFinal "VibrationDesk" "VibrationDesk" "laws" "LVibrationDesk$Laws;") ∈ lw_all := lw_g (lw_at lw_m3 21 rfl) rfl
theorem q649 : (Jvm.Cond.soleField "VibrationDesk" "laws") ∈ lw_all := lw_g (lw_at lw_m3 22 rfl) rfl
theorem q650 : (Jvm.Cond.lays "VibrationDesk" "VibrationDesk" "isFound" "Z") ∈ lw_all := lw_g (lw_at lw_m3 23 rfl) rfl
theorem q651 : (Jvm.Cond.soleField "VibrationDesk" "isFound") ∈ lw_all := lw_g (lw_at lw_m3 24 rfl) rfl
theorem q652 : (Jvm.Cond.lays "VibrationDesk" "VibrationDesk" "isLawful" "Z") ∈ lw_all := lw_g (lw_at lw_m3 25 rfl) rfl
theorem q653 : (Jvm.Cond.soleField "VibrationDesk" "isLawful") ∈ lw_all := lw_g (lw_at lw_m3 26 rfl) rfl
theorem q654 : (Jvm.Cond.lays "VibrationDesk" "VibrationDesk" "isSetDown" "Z") ∈ lw_all := lw_g (lw_at lw_m3 27 rfl) rfl
theorem q655 : (Jvm.Cond.soleField "VibrationDesk" "isSetDown") ∈ lw_all := lw_g (lw_at lw_m3 28 rfl) rfl
theorem q656 : (Jvm.Cond.lays "VibrationDesk" "VibrationDesk" "name" "Ljava/lang/String;") ∈ lw_all := lw_g (lw_at lw_m3 29 rfl) rfl
theorem q657 : (Jvm.Cond.soleField "VibrationDesk" "name") ∈ lw_all := lw_g (lw_at lw_m3 30 rfl) rfl
theorem q658 : (Jvm.Cond.laysFinal "VibrationDesk" "VibrationDesk" "lengths" "[I") ∈ lw_all := lw_g (lw_at lw_m3 31 rfl) rfl
theorem q659 : (Jvm.Cond.soleField "VibrationDesk" "lengths") ∈ lw_all := lw_g (lw_at lw_m3 32 rfl) rfl
theorem q660 : (Jvm.Cond.laysFinal "VibrationDesk" "VibrationDesk" "ways" "[I") ∈ lw_all := lw_g (lw_at lw_m3 33 rfl) rfl
theorem q661 : (Jvm.Cond.soleField "VibrationDesk" "ways") ∈ lw_all := lw_g (lw_at lw_m3 34 rfl) rfl
theorem q662 : (Jvm.Cond.superclass "VibrationDesk" "java/lang/Object") ∈ lw_all := lw_g (lw_at lw_m3 35 rfl) rfl
theorem q664 : (Jvm.Cond.instanceMethod ({ cls := "VibrationDesk", name := "status", desc := "()I" } : Jvm.MethodName)) ∈ lw_all := lw_g (lw_at lw_m3 37 rfl) rfl
theorem q665 : (Jvm.Cond.selects "VibrationDesk" ({ cls := "VibrationDesk", name := "status", desc := "()I" } : Jvm.MethodName) ({ cls := "VibrationDesk", name := "status", desc := "()I" } : Jvm.MethodName)) ∈ lw_all := lw_g (lw_at lw_m3 38 rfl) rfl
theorem q666 : (Jvm.Cond.code ({ cls := "VibrationDesk", name := "status", desc := "()I" } : Jvm.MethodName) prog_1_method_8_code (1 : Nat) (Option.some Jvm.ClassFile.FieldType.int)) ∈ lw_all := lw_g (lw_at lw_m3 39 rfl) rfl
theorem q668 : (Jvm.Cond.instanceMethod ({ cls := "VibrationDesk", name := "top", desc := "()J" } : Jvm.MethodName)) ∈ lw_all := lw_g (lw_at lw_m3 41 rfl) rfl
theorem q669 : (Jvm.Cond.selects "VibrationDesk" ({ cls := "VibrationDesk", name := "top", desc := "()J" } : Jvm.MethodName) ({ cls := "VibrationDesk", name := "top", desc := "()J" } : Jvm.MethodName)) ∈ lw_all := lw_g (lw_at lw_m3 42 rfl) rfl
theorem q670 : (Jvm.Cond.code ({ cls := "VibrationDesk", name := "top", desc := "()J" } : Jvm.MethodName) prog_1_method_9_code (1 : Nat) (Option.some Jvm.ClassFile.FieldType.long)) ∈ lw_all := lw_g (lw_at lw_m3 43 rfl) rfl
theorem q672 : (Jvm.Cond.instanceMethod ({ cls := "VibrationDesk", name := "bottom", desc := "()J" } : Jvm.MethodName)) ∈ lw_all := lw_g (lw_at lw_m3 45 rfl) rfl
theorem q673 : (Jvm.Cond.selects "VibrationDesk" ({ cls := "VibrationDesk", name := "bottom", desc := "()J" } : Jvm.MethodName) ({ cls := "VibrationDesk", name := "bottom", desc := "()J" } : Jvm.MethodName)) ∈ lw_all := lw_g (lw_at lw_m3 46 rfl) rfl
theorem q674 : (Jvm.Cond.code ({ cls := "VibrationDesk", name := "bottom", desc := "()J" } : Jvm.MethodName) prog_1_method_10_code (1 : Nat) (Option.some Jvm.ClassFile.FieldType.long)) ∈ lw_all := lw_g (lw_at lw_m3 47 rfl) rfl
theorem q676 : (Jvm.Cond.instanceMethod ({ cls := "VibrationDesk", name := "back", desc := "()I" } : Jvm.MethodName)) ∈ lw_all := lw_g (lw_at lw_m3 49 rfl) rfl
theorem q677 : (Jvm.Cond.selects "VibrationDesk" ({ cls := "VibrationDesk", name := "back", desc := "()I" } : Jvm.MethodName) ({ cls := "VibrationDesk", name := "back", desc := "()I" } : Jvm.MethodName)) ∈ lw_all := lw_g (lw_at lw_m3 50 rfl) rfl
theorem q678 : (Jvm.Cond.code ({ cls := "VibrationDesk", name := "back", desc := "()I" } : Jvm.MethodName) prog_1_method_19_code (1 : Nat) (Option.some Jvm.ClassFile.FieldType.int)) ∈ lw_all := lw_g (lw_at lw_m3 51 rfl) rfl
theorem q679 : (Jvm.Cond.methodLink "VibrationDesk" (201 : Nat) ({ cls := "VibrationDesk$Frame", name := "be", desc := "(LVibrationDesk$Frame;)V" } : Jvm.MethodName)) ∈ lw_all := lw_g (lw_at lw_m3 52 rfl) rfl
theorem q690 : (Jvm.Cond.methodLink "VibrationDesk" (205 : Nat) ({ cls := "VibrationDesk", name := "changes", desc := "()V" } : Jvm.MethodName)) ∈ lw_all := lw_g (lw_at lw_m3 63 rfl) rfl
theorem q691 : (Jvm.Cond.privateMethod ({ cls := "VibrationDesk", name := "changes", desc := "()V" } : Jvm.MethodName)) ∈ lw_tbl := lw_at lw_m3 64 rfl
theorem q692 : (Jvm.Cond.instanceMethod ({ cls := "VibrationDesk", name := "changes", desc := "()V" } : Jvm.MethodName)) ∈ lw_all := lw_g (lw_at lw_m3 65 rfl) rfl
theorem q693 : (Jvm.Cond.code ({ cls := "VibrationDesk", name := "changes", desc := "()V" } : Jvm.MethodName) prog_1_method_18_code (1 : Nat) (Option.none : Option Jvm.ClassFile.FieldType)) ∈ lw_all := lw_g (lw_at lw_m3 66 rfl) rfl
theorem q695 : (Jvm.Cond.instanceMethod ({ cls := "VibrationDesk", name := "feed", desc := "(IIIII)I" } : Jvm.MethodName)) ∈ lw_all := lw_g (lw_at lw_m3 68 rfl) rfl
theorem q696 : (Jvm.Cond.selects "VibrationDesk" ({ cls := "VibrationDesk", name := "feed", desc := "(IIIII)I" } : Jvm.MethodName) ({ cls := "VibrationDesk", name := "feed", desc := "(IIIII)I" } : Jvm.MethodName)) ∈ lw_all := lw_g (lw_at lw_m3 69 rfl) rfl
theorem q697 : (Jvm.Cond.code ({ cls := "VibrationDesk", name := "feed", desc := "(IIIII)I" } : Jvm.MethodName) prog_1_method_20_code (6 : Nat) (Option.some Jvm.ClassFile.FieldType.int)) ∈ lw_all := lw_g (lw_at lw_m3 70 rfl) rfl
theorem q698 : (Jvm.Cond.methodLink "VibrationDesk" (221 : Nat) ({ cls := "VibrationDesk", name := "lay", desc := "(I)V" } : Jvm.MethodName)) ∈ lw_all := lw_g (lw_at lw_m3 71 rfl) rfl
theorem q699 : (Jvm.Cond.privateMethod ({ cls := "VibrationDesk", name := "lay", desc := "(I)V" } : Jvm.MethodName)) ∈ lw_tbl := lw_at lw_m3 72 rfl
theorem q700 : (Jvm.Cond.instanceMethod ({ cls := "VibrationDesk", name := "lay", desc := "(I)V" } : Jvm.MethodName)) ∈ lw_all := lw_g (lw_at lw_m3 73 rfl) rfl
theorem q701 : (Jvm.Cond.code ({ cls := "VibrationDesk", name := "lay", desc := "(I)V" } : Jvm.MethodName) prog_1_method_21_code (3 : Nat) (Option.none : Option Jvm.ClassFile.FieldType)) ∈ lw_all := lw_g (lw_at lw_m3 74 rfl) rfl
theorem q703 : (Jvm.Cond.instanceMethod ({ cls := "VibrationDesk", name := "frame", desc := "(I)I" } : Jvm.MethodName)) ∈ lw_all := lw_g (lw_at lw_m3 76 rfl) rfl
theorem q704 : (Jvm.Cond.selects "VibrationDesk" ({ cls := "VibrationDesk", name := "frame", desc := "(I)I" } : Jvm.MethodName) ({ cls := "VibrationDesk", name := "frame", desc := "(I)I" } : Jvm.MethodName)) ∈ lw_all := lw_g (lw_at lw_m3 77 rfl) rfl
theorem q705 : (Jvm.Cond.codeWith ({ cls := "VibrationDesk", name := "frame", desc := "(I)I" } : Jvm.MethodName) prog_1_method_22_code (3 : Nat) (Option.some Jvm.ClassFile.FieldType.int) [((35 : Nat), (58 : Nat), (61 : Nat), (111 : Nat))]) ∈ lw_all := lw_g (lw_at lw_m3 78 rfl) rfl
theorem q706 : (Jvm.Cond.methodLink "VibrationDesk" (194 : Nat) ({ cls := "VibrationDesk", name := "isIn", desc := "(JJJ)Z" } : Jvm.MethodName)) ∈ lw_all := lw_g (lw_at lw_m3 79 rfl) rfl
theorem q707 : (Jvm.Cond.static ({ cls := "VibrationDesk", name := "isIn", desc := "(JJJ)Z" } : Jvm.MethodName)) ∈ lw_all := lw_g (lw_at lw_m3 80 rfl) rfl
theorem q708 : (Jvm.Cond.code ({ cls := "VibrationDesk", name := "isIn", desc := "(JJJ)Z" } : Jvm.MethodName) prog_1_method_15_code (6 : Nat) (Option.some Jvm.ClassFile.FieldType.boolean)) ∈ lw_all := lw_g (lw_at lw_m3 81 rfl) rfl
theorem q709 : (Jvm.Cond.methodLink "VibrationDesk" (224 : Nat) ({ cls := "VibrationDesk", name := "can", desc := "(Z)Z" } : Jvm.MethodName)) ∈ lw_all := lw_g (lw_at lw_m3 82 rfl) rfl
theorem q710 : (Jvm.Cond.privateMethod ({ cls := "VibrationDesk", name := "can", desc := "(Z)Z" } : Jvm.MethodName)) ∈ lw_tbl := lw_at lw_m3 83 rfl
theorem q711 : (Jvm.Cond.instanceMethod ({ cls := "VibrationDesk", name := "can", desc := "(Z)Z" } : Jvm.MethodName)) ∈ lw_all := lw_g (lw_at lw_m3 84 rfl) rfl
theorem q712 : (Jvm.Cond.code ({ cls := "VibrationDesk", name := "can", desc := "(Z)Z" } : Jvm.MethodName) prog_1_method_13_code (2 : Nat) (Option.some Jvm.ClassFile.FieldType.boolean)) ∈ lw_all := lw_g (lw_at lw_m3 85 rfl) rfl
theorem q713 : (Jvm.Cond.methodLink "VibrationDesk" (228 : Nat) ({ cls := "VibrationDesk$Frame", name := "clears", desc := "()V" } : Jvm.MethodName)) ∈ lw_all := lw_g (lw_at lw_m3 86 rfl) rfl
theorem q717 : (Jvm.Cond.classLink "VibrationDesk" (231 : Nat) "VibrationDesk$Reader") ∈ lw_all := lw_g (lw_at lw_m3 90 rfl) rfl
theorem q719 : (Jvm.Cond.methodLink "VibrationDesk" (233 : Nat) ({ cls := "VibrationDesk$Reader", name := "<init>", desc := "(LVibrationDesk;ILVibrationDesk$Frame;)V" } : Jvm.MethodName)) ∈ lw_all := lw_g (lw_at lw_m3 92 rfl) rfl
theorem q949 : (Jvm.Cond.methodLink "VibrationDesk" (236 : Nat) ({ cls := "VibrationDesk$Reader", name := "all", desc := "()V" } : Jvm.MethodName)) ∈ lw_all := lw_g (lw_at lw_m4 82 rfl) rfl
theorem q1118 : (Jvm.Cond.methodLink "VibrationDesk" (245 : Nat) ({ cls := "VibrationDesk", name := "remembers", desc := "()V" } : Jvm.MethodName)) ∈ lw_all := lw_g (lw_at lw_m5 11 rfl) rfl
theorem q1119 : (Jvm.Cond.privateMethod ({ cls := "VibrationDesk", name := "remembers", desc := "()V" } : Jvm.MethodName)) ∈ lw_tbl := lw_at lw_m5 12 rfl
theorem q1120 : (Jvm.Cond.instanceMethod ({ cls := "VibrationDesk", name := "remembers", desc := "()V" } : Jvm.MethodName)) ∈ lw_all := lw_g (lw_at lw_m5 13 rfl) rfl
theorem q1121 : (Jvm.Cond.code ({ cls := "VibrationDesk", name := "remembers", desc := "()V" } : Jvm.MethodName) prog_1_method_17_code (3 : Nat) (Option.none : Option Jvm.ClassFile.FieldType)) ∈ lw_all := lw_g (lw_at lw_m5 14 rfl) rfl
theorem q1123 : (Jvm.Cond.instanceMethod ({ cls := "VibrationDesk", name := "fault", desc := "(I)I" } : Jvm.MethodName)) ∈ lw_all := lw_g (lw_at lw_m5 16 rfl) rfl
theorem q1124 : (Jvm.Cond.selects "VibrationDesk" ({ cls := "VibrationDesk", name := "fault", desc := "(I)I" } : Jvm.MethodName) ({ cls := "VibrationDesk", name := "fault", desc := "(I)I" } : Jvm.MethodName)) ∈ lw_all := lw_g (lw_at lw_m5 17 rfl) rfl
theorem q1125 : (Jvm.Cond.code ({ cls := "VibrationDesk", name := "fault", desc := "(I)I" } : Jvm.MethodName) prog_1_method_23_code (2 : Nat) (Option.some Jvm.ClassFile.FieldType.int)) ∈ lw_all := lw_g (lw_at lw_m5 18 rfl) rfl
theorem q1127 : (Jvm.Cond.instanceMethod ({ cls := "VibrationDesk", name := "atoms", desc := "()I" } : Jvm.MethodName)) ∈ lw_all := lw_g (lw_at lw_m5 20 rfl) rfl
theorem q1128 : (Jvm.Cond.selects "VibrationDesk" ({ cls := "VibrationDesk", name := "atoms", desc := "()I" } : Jvm.MethodName) ({ cls := "VibrationDesk", name := "atoms", desc := "()I" } : Jvm.MethodName)) ∈ lw_all := lw_g (lw_at lw_m5 21 rfl) rfl
theorem q1129 : (Jvm.Cond.code ({ cls := "VibrationDesk", name := "atoms", desc := "()I" } : Jvm.MethodName) prog_1_method_24_code (1 : Nat) (Option.some Jvm.ClassFile.FieldType.int)) ∈ lw_all := lw_g (lw_at lw_m5 22 rfl) rfl
theorem q1131 : (Jvm.Cond.instanceMethod ({ cls := "VibrationDesk", name := "atom", desc := "(II)I" } : Jvm.MethodName)) ∈ lw_all := lw_g (lw_at lw_m5 24 rfl) rfl
theorem q1132 : (Jvm.Cond.selects "VibrationDesk" ({ cls := "VibrationDesk", name := "atom", desc := "(II)I" } : Jvm.MethodName) ({ cls := "VibrationDesk", name := "atom", desc := "(II)I" } : Jvm.MethodName)) ∈ lw_all := lw_g (lw_at lw_m5 25 rfl) rfl
theorem q1133 : (Jvm.Cond.code ({ cls := "VibrationDesk", name := "atom", desc := "(II)I" } : Jvm.MethodName) prog_1_method_25_code (3 : Nat) (Option.some Jvm.ClassFile.FieldType.int)) ∈ lw_all := lw_g (lw_at lw_m5 26 rfl) rfl
theorem q1134 : (Jvm.Cond.constantLong "VibrationDesk" (248 : Nat) (3 : Int64)) ∈ lw_all := lw_g (lw_at lw_m5 27 rfl) rfl
theorem q1135 : (Jvm.Cond.methodLink "VibrationDesk" (250 : Nat) ({ cls := "VibrationDesk", name := "isAtom", desc := "(I)Z" } : Jvm.MethodName)) ∈ lw_all := lw_g (lw_at lw_m5 28 rfl) rfl
theorem q1136 : (Jvm.Cond.privateMethod ({ cls := "VibrationDesk", name := "isAtom", desc := "(I)Z" } : Jvm.MethodName)) ∈ lw_tbl := lw_at lw_m5 29 rfl
theorem q1137 : (Jvm.Cond.instanceMethod ({ cls := "VibrationDesk", name := "isAtom", desc := "(I)Z" } : Jvm.MethodName)) ∈ lw_all := lw_g (lw_at lw_m5 30 rfl) rfl
theorem q1138 : (Jvm.Cond.code ({ cls := "VibrationDesk", name := "isAtom", desc := "(I)Z" } : Jvm.MethodName) prog_1_method_14_code (2 : Nat) (Option.some Jvm.ClassFile.FieldType.boolean)) ∈ lw_all := lw_g (lw_at lw_m5 31 rfl) rfl
theorem q1139 : (Jvm.Cond.methodLink "VibrationDesk" (254 : Nat) ({ cls := "VibrationDesk", name := "may", desc := "(ZI)Z" } : Jvm.MethodName)) ∈ lw_all := lw_g (lw_at lw_m5 32 rfl) rfl
theorem q1140 : (Jvm.Cond.privateMethod ({ cls := "VibrationDesk", name := "may", desc := "(ZI)Z" } : Jvm.MethodName)) ∈ lw_tbl := lw_at lw_m5 33 rfl
theorem q1141 : (Jvm.Cond.instanceMethod ({ cls := "VibrationDesk", name := "may", desc := "(ZI)Z" } : Jvm.MethodName)) ∈ lw_all := lw_g (lw_at lw_m5 34 rfl) rfl
theorem q1142 : (Jvm.Cond.code ({ cls := "VibrationDesk", name := "may", desc := "(ZI)Z" } : Jvm.MethodName) prog_1_method_12_code (3 : Nat) (Option.some Jvm.ClassFile.FieldType.boolean)) ∈ lw_all := lw_g (lw_at lw_m5 35 rfl) rfl
theorem q1144 : (Jvm.Cond.instanceMethod ({ cls := "VibrationDesk", name := "put", desc := "(IIII)I" } : Jvm.MethodName)) ∈ lw_all := lw_g (lw_at lw_m5 37 rfl) rfl
theorem q1145 : (Jvm.Cond.selects "VibrationDesk" ({ cls := "VibrationDesk", name := "put", desc := "(IIII)I" } : Jvm.MethodName) ({ cls := "VibrationDesk", name := "put", desc := "(IIII)I" } : Jvm.MethodName)) ∈ lw_all := lw_g (lw_at lw_m5 38 rfl) rfl
theorem q1146 : (Jvm.Cond.code ({ cls := "VibrationDesk", name := "put", desc := "(IIII)I" } : Jvm.MethodName) prog_1_method_26_code (5 : Nat) (Option.some Jvm.ClassFile.FieldType.int)) ∈ lw_all := lw_g (lw_at lw_m5 39 rfl) rfl
theorem q1147 : (Jvm.Cond.constantLong "VibrationDesk" (265 : Nat) (9 : Int64)) ∈ lw_all := lw_g (lw_at lw_m5 40 rfl) rfl
theorem q1148 : (Jvm.Cond.methodLink "VibrationDesk" (267 : Nat) ({ cls := "VibrationDesk", name := "isPlace", desc := "(III)Z" } : Jvm.MethodName)) ∈ lw_all := lw_g (lw_at lw_m5 41 rfl) rfl
theorem q1149 : (Jvm.Cond.static ({ cls := "VibrationDesk", name := "isPlace", desc := "(III)Z" } : Jvm.MethodName)) ∈ lw_all := lw_g (lw_at lw_m5 42 rfl) rfl
theorem q1150 : (Jvm.Cond.code ({ cls := "VibrationDesk", name := "isPlace", desc := "(III)Z" } : Jvm.MethodName) prog_1_method_16_code (3 : Nat) (Option.some Jvm.ClassFile.FieldType.boolean)) ∈ lw_all := lw_g (lw_at lw_m5 43 rfl) rfl
theorem q1151 : (Jvm.Cond.constantLong "VibrationDesk" (190 : Nat) (-50 : Int64)) ∈ lw_all := lw_g (lw_at lw_m5 44 rfl) rfl
theorem q1152 : (Jvm.Cond.constantLong "VibrationDesk" (192 : Nat) (50 : Int64)) ∈ lw_all := lw_g (lw_at lw_m5 45 rfl) rfl
theorem q1153 : (Jvm.Cond.methodLink "VibrationDesk" (271 : Nat) ({ cls := "VibrationDesk$Frame", name := "atomAt", desc := "(III)I" } : Jvm.MethodName)) ∈ lw_all := lw_g (lw_at lw_m5 46 rfl) rfl
theorem q1154 : (Jvm.Cond.methodLink "VibrationDesk" (275 : Nat) ({ cls := "VibrationDesk$Frame", name := "adds", desc := "(IIII)V" } : Jvm.MethodName)) ∈ lw_all := lw_g (lw_at lw_m5 47 rfl) rfl
theorem q1156 : (Jvm.Cond.instanceMethod ({ cls := "VibrationDesk", name := "drop", desc := "(I)I" } : Jvm.MethodName)) ∈ lw_all := lw_g (lw_at lw_m5 49 rfl) rfl
theorem q1157 : (Jvm.Cond.selects "VibrationDesk" ({ cls := "VibrationDesk", name := "drop", desc := "(I)I" } : Jvm.MethodName) ({ cls := "VibrationDesk", name := "drop", desc := "(I)I" } : Jvm.MethodName)) ∈ lw_all := lw_g (lw_at lw_m5 50 rfl) rfl
theorem q1158 : (Jvm.Cond.code ({ cls := "VibrationDesk", name := "drop", desc := "(I)I" } : Jvm.MethodName) prog_1_method_27_code (2 : Nat) (Option.some Jvm.ClassFile.FieldType.int)) ∈ lw_all := lw_g (lw_at lw_m5 51 rfl) rfl
theorem q1159 : (Jvm.Cond.methodLink "VibrationDesk" (279 : Nat) ({ cls := "VibrationDesk$Frame", name := "loses", desc := "(I)V" } : Jvm.MethodName)) ∈ lw_all := lw_g (lw_at lw_m5 52 rfl) rfl
theorem q1161 : (Jvm.Cond.instanceMethod ({ cls := "VibrationDesk", name := "move", desc := "(IIII)Z" } : Jvm.MethodName)) ∈ lw_all := lw_g (lw_at lw_m5 54 rfl) rfl
theorem q1162 : (Jvm.Cond.selects "VibrationDesk" ({ cls := "VibrationDesk", name := "move", desc := "(IIII)Z" } : Jvm.MethodName) ({ cls := "VibrationDesk", name := "move", desc := "(IIII)Z" } : Jvm.MethodName)) ∈ lw_all := lw_g (lw_at lw_m5 55 rfl) rfl
theorem q1163 : (Jvm.Cond.code ({ cls := "VibrationDesk", name := "move", desc := "(IIII)Z" } : Jvm.MethodName) prog_1_method_28_code (5 : Nat) (Option.some Jvm.ClassFile.FieldType.boolean)) ∈ lw_all := lw_g (lw_at lw_m5 56 rfl) rfl
theorem q1164 : (Jvm.Cond.methodLink "VibrationDesk" (282 : Nat) ({ cls := "VibrationDesk$Frame", name := "places", desc := "(IIII)V" } : Jvm.MethodName)) ∈ lw_all := lw_g (lw_at lw_m5 57 rfl) rfl
theorem q1166 : (Jvm.Cond.instanceMethod ({ cls := "VibrationDesk", name := "swap", desc := "(II)I" } : Jvm.MethodName)) ∈ lw_all := lw_g (lw_at lw_m5 59 rfl) rfl
theorem q1167 : (Jvm.Cond.selects "VibrationDesk" ({ cls := "VibrationDesk", name := "swap", desc := "(II)I" } : Jvm.MethodName) ({ cls := "VibrationDesk", name := "swap", desc := "(II)I" } : Jvm.MethodName)) ∈ lw_all := lw_g (lw_at lw_m5 60 rfl) rfl
theorem q1168 : (Jvm.Cond.code ({ cls := "VibrationDesk", name := "swap", desc := "(II)I" } : Jvm.MethodName) prog_1_method_29_code (4 : Nat) (Option.some Jvm.ClassFile.FieldType.int)) ∈ lw_all := lw_g (lw_at lw_m5 61 rfl) rfl
theorem q1170 : (Jvm.Cond.instanceMethod ({ cls := "VibrationDesk", name := "image", desc := "(I)I" } : Jvm.MethodName)) ∈ lw_all := lw_g (lw_at lw_m5 63 rfl) rfl
theorem q1171 : (Jvm.Cond.selects "VibrationDesk" ({ cls := "VibrationDesk", name := "image", desc := "(I)I" } : Jvm.MethodName) ({ cls := "VibrationDesk", name := "image", desc := "(I)I" } : Jvm.MethodName)) ∈ lw_all := lw_g (lw_at lw_m5 64 rfl) rfl
theorem q1172 : (Jvm.Cond.code ({ cls := "VibrationDesk", name := "image", desc := "(I)I" } : Jvm.MethodName) prog_1_method_30_code (3 : Nat) (Option.some Jvm.ClassFile.FieldType.int)) ∈ lw_all := lw_g (lw_at lw_m5 65 rfl) rfl
theorem q1173 : (Jvm.Cond.constantLong "VibrationDesk" (285 : Nat) (7 : Int64)) ∈ lw_all := lw_g (lw_at lw_m5 66 rfl) rfl
theorem q1174 : (Jvm.Cond.methodLink "VibrationDesk" (287 : Nat) ({ cls := "VibrationDesk$Frame", name := "newBy", desc := "(I)I" } : Jvm.MethodName)) ∈ lw_all := lw_g (lw_at lw_m5 67 rfl) rfl
theorem q1175 : (Jvm.Cond.methodLink "VibrationDesk" (291 : Nat) ({ cls := "VibrationDesk$Frame", name := "images", desc := "(I)V" } : Jvm.MethodName)) ∈ lw_all := lw_g (lw_at lw_m5 68 rfl) rfl
theorem q1177 : (Jvm.Cond.instanceMethod ({ cls := "VibrationDesk", name := "shift", desc := "(III)Z" } : Jvm.MethodName)) ∈ lw_all := lw_g (lw_at lw_m5 70 rfl) rfl
theorem q1178 : (Jvm.Cond.selects "VibrationDesk" ({ cls := "VibrationDesk", name := "shift", desc := "(III)Z" } : Jvm.MethodName) ({ cls := "VibrationDesk", name := "shift", desc := "(III)Z" } : Jvm.MethodName)) ∈ lw_all := lw_g (lw_at lw_m5 71 rfl) rfl
theorem q1179 : (Jvm.Cond.code ({ cls := "VibrationDesk", name := "shift", desc := "(III)Z" } : Jvm.MethodName) prog_1_method_31_code (4 : Nat) (Option.some Jvm.ClassFile.FieldType.boolean)) ∈ lw_all := lw_g (lw_at lw_m5 72 rfl) rfl
theorem q1180 : (Jvm.Cond.constantLong "VibrationDesk" (294 : Nat) (-100 : Int64)) ∈ lw_all := lw_g (lw_at lw_m5 73 rfl) rfl
theorem q1181 : (Jvm.Cond.constantLong "VibrationDesk" (296 : Nat) (100 : Int64)) ∈ lw_all := lw_g (lw_at lw_m5 74 rfl) rfl
theorem q1182 : (Jvm.Cond.methodLink "VibrationDesk" (298 : Nat) ({ cls := "VibrationDesk$Frame", name := "canShift", desc := "(II)Z" } : Jvm.MethodName)) ∈ lw_all := lw_g (lw_at lw_m5 75 rfl) rfl
theorem q1183 : (Jvm.Cond.methodLink "VibrationDesk" (302 : Nat) ({ cls := "VibrationDesk$Frame", name := "shifts", desc := "(II)V" } : Jvm.MethodName)) ∈ lw_all := lw_g (lw_at lw_m5 76 rfl) rfl
theorem q1185 : (Jvm.Cond.instanceMethod ({ cls := "VibrationDesk", name := "stretch", desc := "(I)Z" } : Jvm.MethodName)) ∈ lw_all := lw_g (lw_at lw_m5 78 rfl) rfl
theorem q1186 : (Jvm.Cond.selects "VibrationDesk" ({ cls := "VibrationDesk", name := "stretch", desc := "(I)Z" } : Jvm.MethodName) ({ cls := "VibrationDesk", name := "stretch", desc := "(I)Z" } : Jvm.MethodName)) ∈ lw_all := lw_g (lw_at lw_m5 79 rfl) rfl
theorem q1187 : (Jvm.Cond.code ({ cls := "VibrationDesk", name := "stretch", desc := "(I)Z" } : Jvm.MethodName) prog_1_method_32_code (2 : Nat) (Option.some Jvm.ClassFile.FieldType.boolean)) ∈ lw_all := lw_g (lw_at lw_m5 80 rfl) rfl
theorem q1188 : (Jvm.Cond.methodLink "VibrationDesk" (306 : Nat) ({ cls := "VibrationDesk$Frame", name := "canStretch", desc := "(I)Z" } : Jvm.MethodName)) ∈ lw_all := lw_g (lw_at lw_m5 81 rfl) rfl
theorem q1222 : (Jvm.Cond.methodLink "VibrationDesk" (309 : Nat) ({ cls := "VibrationDesk$Frame", name := "stretches", desc := "(I)V" } : Jvm.MethodName)) ∈ lw_all := lw_g (lw_at lw_m5 115 rfl) rfl
theorem q1227 : (Jvm.Cond.instanceMethod ({ cls := "VibrationDesk", name := "far", desc := "(II)I" } : Jvm.MethodName)) ∈ lw_all := lw_g (lw_at lw_m5 120 rfl) rfl
theorem q1228 : (Jvm.Cond.selects "VibrationDesk" ({ cls := "VibrationDesk", name := "far", desc := "(II)I" } : Jvm.MethodName) ({ cls := "VibrationDesk", name := "far", desc := "(II)I" } : Jvm.MethodName)) ∈ lw_all := lw_g (lw_at lw_m5 121 rfl) rfl
theorem q1229 : (Jvm.Cond.code ({ cls := "VibrationDesk", name := "far", desc := "(II)I" } : Jvm.MethodName) prog_1_method_33_code (3 : Nat) (Option.some Jvm.ClassFile.FieldType.int)) ∈ lw_all := lw_g (lw_at lw_m5 122 rfl) rfl
theorem q1230 : (Jvm.Cond.methodLink "VibrationDesk" (312 : Nat) ({ cls := "VibrationDesk$Frame", name := "apart", desc := "(II)I" } : Jvm.MethodName)) ∈ lw_all := lw_g (lw_at lw_m5 123 rfl) rfl
theorem q1264 : (Jvm.Cond.instanceMethod ({ cls := "VibrationDesk", name := "shape", desc := "()I" } : Jvm.MethodName)) ∈ lw_all := lw_g (lw_at lw_m5 157 rfl) rfl
theorem q1265 : (Jvm.Cond.selects "VibrationDesk" ({ cls := "VibrationDesk", name := "shape", desc := "()I" } : Jvm.MethodName) ({ cls := "VibrationDesk", name := "shape", desc := "()I" } : Jvm.MethodName)) ∈ lw_all := lw_g (lw_at lw_m5 158 rfl) rfl
theorem q1266 : (Jvm.Cond.code ({ cls := "VibrationDesk", name := "shape", desc := "()I" } : Jvm.MethodName) prog_1_method_34_code (1 : Nat) (Option.some Jvm.ClassFile.FieldType.int)) ∈ lw_all := lw_g (lw_at lw_m5 159 rfl) rfl
theorem q1267 : (Jvm.Cond.methodLink "VibrationDesk" (316 : Nat) ({ cls := "VibrationDesk$Frame", name := "shaped", desc := "()I" } : Jvm.MethodName)) ∈ lw_all := lw_g (lw_at lw_m5 160 rfl) rfl
theorem q1280 : (Jvm.Cond.static ({ cls := "VibrationDesk", name := "crosses", desc := "([J[J[J)V" } : Jvm.MethodName)) ∈ lw_all := lw_g (lw_at lw_m5 173 rfl) rfl
theorem q1281 : (Jvm.Cond.code ({ cls := "VibrationDesk", name := "crosses", desc := "([J[J[J)V" } : Jvm.MethodName) prog_1_method_2_code (3 : Nat) (Option.none : Option Jvm.ClassFile.FieldType)) ∈ lw_all := lw_g (lw_at lw_m5 174 rfl) rfl
theorem q1283 : (Jvm.Cond.static ({ cls := "VibrationDesk", name := "dot", desc := "([J[J)J" } : Jvm.MethodName)) ∈ lw_all := lw_g (lw_at lw_m5 176 rfl) rfl
theorem q1284 : (Jvm.Cond.code ({ cls := "VibrationDesk", name := "dot", desc := "([J[J)J" } : Jvm.MethodName) prog_1_method_1_code (2 : Nat) (Option.some Jvm.ClassFile.FieldType.long)) ∈ lw_all := lw_g (lw_at lw_m5 177 rfl) rfl
theorem q1290 : (Jvm.Cond.instanceMethod ({ cls := "VibrationDesk", name := "centre", desc := "(I)Z" } : Jvm.MethodName)) ∈ lw_all := lw_g (lw_at lw_m5 183 rfl) rfl
theorem q1291 : (Jvm.Cond.selects "VibrationDesk" ({ cls := "VibrationDesk", name := "centre", desc := "(I)Z" } : Jvm.MethodName) ({ cls := "VibrationDesk", name := "centre", desc := "(I)Z" } : Jvm.MethodName)) ∈ lw_all := lw_g (lw_at lw_m5 184 rfl) rfl
theorem q1292 : (Jvm.Cond.code ({ cls := "VibrationDesk", name := "centre", desc := "(I)Z" } : Jvm.MethodName) prog_1_method_35_code (5 : Nat) (Option.some Jvm.ClassFile.FieldType.boolean)) ∈ lw_all := lw_g (lw_at lw_m5 185 rfl) rfl
theorem q1293 : (Jvm.Cond.constantLong "VibrationDesk" (319 : Nat) (2 : Int64)) ∈ lw_all := lw_g (lw_at lw_m5 186 rfl) rfl
theorem q1294 : (Jvm.Cond.methodLink "VibrationDesk" (321 : Nat) ({ cls := "VibrationDesk", name := "tells", desc := "(JJ)Z" } : Jvm.MethodName)) ∈ lw_all := lw_g (lw_at lw_m5 187 rfl) rfl
theorem q1295 : (Jvm.Cond.privateMethod ({ cls := "VibrationDesk", name := "tells", desc := "(JJ)Z" } : Jvm.MethodName)) ∈ lw_tbl := lw_at lw_m5 188 rfl
theorem q1296 : (Jvm.Cond.instanceMethod ({ cls := "VibrationDesk", name := "tells", desc := "(JJ)Z" } : Jvm.MethodName)) ∈ lw_all := lw_g (lw_at lw_m5 189 rfl) rfl
theorem q1297 : (Jvm.Cond.code ({ cls := "VibrationDesk", name := "tells", desc := "(JJ)Z" } : Jvm.MethodName) prog_1_method_11_code (11 : Nat) (Option.some Jvm.ClassFile.FieldType.boolean)) ∈ lw_all := lw_g (lw_at lw_m5 190 rfl) rfl
theorem q1298 : (Jvm.Cond.methodLink "VibrationDesk" (183 : Nat) ({ cls := "java/lang/Math", name := "abs", desc := "(J)J" } : Jvm.MethodName)) ∈ lw_all := lw_g (lw_at lw_m5 191 rfl) rfl
theorem q1302 : (Jvm.Cond.instanceMethod ({ cls := "VibrationDesk", name := "cellMany", desc := "()I" } : Jvm.MethodName)) ∈ lw_all := lw_g (lw_at lw_m5 195 rfl) rfl
theorem q1303 : (Jvm.Cond.selects "VibrationDesk" ({ cls := "VibrationDesk", name := "cellMany", desc := "()I" } : Jvm.MethodName) ({ cls := "VibrationDesk", name := "cellMany", desc := "()I" } : Jvm.MethodName)) ∈ lw_all := lw_g (lw_at lw_m5 196 rfl) rfl
theorem q1304 : (Jvm.Cond.code ({ cls := "VibrationDesk", name := "cellMany", desc := "()I" } : Jvm.MethodName) prog_1_method_36_code (1 : Nat) (Option.some Jvm.ClassFile.FieldType.int)) ∈ lw_all := lw_g (lw_at lw_m5 197 rfl) rfl
theorem q1305 : (Jvm.Cond.methodLink "VibrationDesk" (325 : Nat) ({ cls := "VibrationDesk$Frame", name := "laysCells", desc := "()I" } : Jvm.MethodName)) ∈ lw_all := lw_g (lw_at lw_m5 198 rfl) rfl
theorem q1319 : (Jvm.Cond.instanceMethod ({ cls := "VibrationDesk", name := "cellOf", desc := "(I)I" } : Jvm.MethodName)) ∈ lw_all := lw_g (lw_at lw_m5 212 rfl) rfl
theorem q1320 : (Jvm.Cond.selects "VibrationDesk" ({ cls := "VibrationDesk", name := "cellOf", desc := "(I)I" } : Jvm.MethodName) ({ cls := "VibrationDesk", name := "cellOf", desc := "(I)I" } : Jvm.MethodName)) ∈ lw_all := lw_g (lw_at lw_m5 213 rfl) rfl
theorem q1321 : (Jvm.Cond.code ({ cls := "VibrationDesk", name := "cellOf", desc := "(I)I" } : Jvm.MethodName) prog_1_method_37_code (2 : Nat) (Option.some Jvm.ClassFile.FieldType.int)) ∈ lw_all := lw_g (lw_at lw_m5 214 rfl) rfl
theorem q1323 : (Jvm.Cond.instanceMethod ({ cls := "VibrationDesk", name := "order", desc := "()I" } : Jvm.MethodName)) ∈ lw_all := lw_g (lw_at lw_m5 216 rfl) rfl
theorem q1324 : (Jvm.Cond.selects "VibrationDesk" ({ cls := "VibrationDesk", name := "order", desc := "()I" } : Jvm.MethodName) ({ cls := "VibrationDesk", name := "order", desc := "()I" } : Jvm.MethodName)) ∈ lw_all := lw_g (lw_at lw_m5 217 rfl) rfl
theorem q1325 : (Jvm.Cond.code ({ cls := "VibrationDesk", name := "order", desc := "()I" } : Jvm.MethodName) prog_1_method_43_code (1 : Nat) (Option.some Jvm.ClassFile.FieldType.int)) ∈ lw_all := lw_g (lw_at lw_m5 218 rfl) rfl
theorem q1326 : (Jvm.Cond.methodLink "VibrationDesk" (341 : Nat) ({ cls := "VibrationDesk", name := "asks", desc := "(Z)Z" } : Jvm.MethodName)) ∈ lw_all := lw_g (lw_at lw_m5 219 rfl) rfl
theorem q1327 : (Jvm.Cond.privateMethod ({ cls := "VibrationDesk", name := "asks", desc := "(Z)Z" } : Jvm.MethodName)) ∈ lw_tbl := lw_at lw_m5 220 rfl
theorem q1328 : (Jvm.Cond.instanceMethod ({ cls := "VibrationDesk", name := "asks", desc := "(Z)Z" } : Jvm.MethodName)) ∈ lw_all := lw_g (lw_at lw_m5 221 rfl) rfl
theorem q1329 : (Jvm.Cond.code ({ cls := "VibrationDesk", name := "asks", desc := "(Z)Z" } : Jvm.MethodName) prog_1_method_38_code (2 : Nat) (Option.some Jvm.ClassFile.FieldType.boolean)) ∈ lw_all := lw_g (lw_at lw_m5 222 rfl) rfl
theorem q1330 : (Jvm.Cond.methodLink "VibrationDesk" (331 : Nat) ({ cls := "VibrationDesk$Group", name := "finds", desc := "(LVibrationDesk$Frame;)V" } : Jvm.MethodName)) ∈ lw_all := lw_g (lw_at lw_m5 223 rfl) rfl
theorem q1413 : (Jvm.Cond.methodLink "VibrationDesk" (334 : Nat) ({ cls := "VibrationDesk$Group", name := "joinsAll", desc := "()V" } : Jvm.MethodName)) ∈ lw_all := lw_g (lw_at lw_m6 66 rfl) rfl
theorem q1460 : (Jvm.Cond.methodLink "VibrationDesk" (337 : Nat) ({ cls := "VibrationDesk$Group", name := "named", desc := "()Ljava/lang/String;" } : Jvm.MethodName)) ∈ lw_all := lw_g (lw_at lw_m6 113 rfl) rfl
theorem q1547 : (Jvm.Cond.instanceMethod ({ cls := "VibrationDesk", name := "rowAt", desc := "(II)I" } : Jvm.MethodName)) ∈ lw_all := lw_g (lw_at lw_m6 200 rfl) rfl
theorem q1548 : (Jvm.Cond.selects "VibrationDesk" ({ cls := "VibrationDesk", name := "rowAt", desc := "(II)I" } : Jvm.MethodName) ({ cls := "VibrationDesk", name := "rowAt", desc := "(II)I" } : Jvm.MethodName)) ∈ lw_all := lw_g (lw_at lw_m6 201 rfl) rfl
theorem q1549 : (Jvm.Cond.code ({ cls := "VibrationDesk", name := "rowAt", desc := "(II)I" } : Jvm.MethodName) prog_1_method_44_code (3 : Nat) (Option.some Jvm.ClassFile.FieldType.int)) ∈ lw_all := lw_g (lw_at lw_m6 202 rfl) rfl
theorem q1550 : (Jvm.Cond.methodLink "VibrationDesk" (349 : Nat) ({ cls := "VibrationDesk", name := "asksOp", desc := "(IZ)Z" } : Jvm.MethodName)) ∈ lw_all := lw_g (lw_at lw_m6 203 rfl) rfl
theorem q1551 : (Jvm.Cond.privateMethod ({ cls := "VibrationDesk", name := "asksOp", desc := "(IZ)Z" } : Jvm.MethodName)) ∈ lw_tbl := lw_at lw_m6 204 rfl
theorem q1552 : (Jvm.Cond.instanceMethod ({ cls := "VibrationDesk", name := "asksOp", desc := "(IZ)Z" } : Jvm.MethodName)) ∈ lw_all := lw_g (lw_at lw_m6 205 rfl) rfl
theorem q1553 : (Jvm.Cond.code ({ cls := "VibrationDesk", name := "asksOp", desc := "(IZ)Z" } : Jvm.MethodName) prog_1_method_39_code (3 : Nat) (Option.some Jvm.ClassFile.FieldType.boolean)) ∈ lw_all := lw_g (lw_at lw_m6 206 rfl) rfl
theorem q1554 : (Jvm.Cond.methodLink "VibrationDesk" (353 : Nat) ({ cls := "VibrationDesk", name := "op", desc := "(I)LVibrationDesk$Op;" } : Jvm.MethodName)) ∈ lw_all := lw_g (lw_at lw_m6 207 rfl) rfl
theorem q1555 : (Jvm.Cond.privateMethod ({ cls := "VibrationDesk", name := "op", desc := "(I)LVibrationDesk$Op;" } : Jvm.MethodName)) ∈ lw_tbl := lw_at lw_m6 208 rfl
theorem q1556 : (Jvm.Cond.instanceMethod ({ cls := "VibrationDesk", name := "op", desc := "(I)LVibrationDesk$Op;" } : Jvm.MethodName)) ∈ lw_all := lw_g (lw_at lw_m6 209 rfl) rfl
theorem q1557 : (Jvm.Cond.code ({ cls := "VibrationDesk", name := "op", desc := "(I)LVibrationDesk$Op;" } : Jvm.MethodName) prog_1_method_42_code (2 : Nat) (Option.some (Jvm.ClassFile.FieldType.object "VibrationDesk$Op"))) ∈ lw_all := lw_g (lw_at lw_m6 210 rfl) rfl
theorem q1558 : (Jvm.Cond.methodLink "VibrationDesk" (357 : Nat) ({ cls := "VibrationDesk$Op", name := "to", desc := "(I)I" } : Jvm.MethodName)) ∈ lw_all := lw_g (lw_at lw_m6 211 rfl) rfl
theorem q1560 : (Jvm.Cond.instanceMethod ({ cls := "VibrationDesk", name := "sign", desc := "(I)I" } : Jvm.MethodName)) ∈ lw_all := lw_g (lw_at lw_m6 213 rfl) rfl
theorem q1561 : (Jvm.Cond.selects "VibrationDesk" ({ cls := "VibrationDesk", name := "sign", desc := "(I)I" } : Jvm.MethodName) ({ cls := "VibrationDesk", name := "sign", desc := "(I)I" } : Jvm.MethodName)) ∈ lw_all := lw_g (lw_at lw_m6 214 rfl) rfl
theorem q1562 : (Jvm.Cond.code ({ cls := "VibrationDesk", name := "sign", desc := "(I)I" } : Jvm.MethodName) prog_1_method_45_code (2 : Nat) (Option.some Jvm.ClassFile.FieldType.int)) ∈ lw_all := lw_g (lw_at lw_m6 215 rfl) rfl
theorem q1563 : (Jvm.Cond.methodLink "VibrationDesk" (362 : Nat) ({ cls := "VibrationDesk$Op", name := "hand", desc := "()I" } : Jvm.MethodName)) ∈ lw_all := lw_g (lw_at lw_m6 216 rfl) rfl
theorem q1565 : (Jvm.Cond.instanceMethod ({ cls := "VibrationDesk", name := "trace", desc := "(I)I" } : Jvm.MethodName)) ∈ lw_all := lw_g (lw_at lw_m6 218 rfl) rfl
theorem q1566 : (Jvm.Cond.selects "VibrationDesk" ({ cls := "VibrationDesk", name := "trace", desc := "(I)I" } : Jvm.MethodName) ({ cls := "VibrationDesk", name := "trace", desc := "(I)I" } : Jvm.MethodName)) ∈ lw_all := lw_g (lw_at lw_m6 219 rfl) rfl
theorem q1567 : (Jvm.Cond.code ({ cls := "VibrationDesk", name := "trace", desc := "(I)I" } : Jvm.MethodName) prog_1_method_46_code (2 : Nat) (Option.some Jvm.ClassFile.FieldType.int)) ∈ lw_all := lw_g (lw_at lw_m6 220 rfl) rfl
theorem q1569 : (Jvm.Cond.instanceMethod ({ cls := "VibrationDesk", name := "entry", desc := "(III)Z" } : Jvm.MethodName)) ∈ lw_all := lw_g (lw_at lw_m6 222 rfl) rfl
theorem q1570 : (Jvm.Cond.selects "VibrationDesk" ({ cls := "VibrationDesk", name := "entry", desc := "(III)Z" } : Jvm.MethodName) ({ cls := "VibrationDesk", name := "entry", desc := "(III)Z" } : Jvm.MethodName)) ∈ lw_all := lw_g (lw_at lw_m6 223 rfl) rfl
theorem q1571 : (Jvm.Cond.code ({ cls := "VibrationDesk", name := "entry", desc := "(III)Z" } : Jvm.MethodName) prog_1_method_47_code (4 : Nat) (Option.some Jvm.ClassFile.FieldType.boolean)) ∈ lw_all := lw_g (lw_at lw_m6 224 rfl) rfl
theorem q1572 : (Jvm.Cond.methodLink "VibrationDesk" (372 : Nat) ({ cls := "VibrationDesk$Basis", name := "moves", desc := "(LVibrationDesk$Move;)V" } : Jvm.MethodName)) ∈ lw_all := lw_g (lw_at lw_m6 225 rfl) rfl
theorem q1573 : (Jvm.Cond.methodLink "VibrationDesk" (378 : Nat) ({ cls := "VibrationDesk$Basis", name := "part", desc := "(II)J" } : Jvm.MethodName)) ∈ lw_all := lw_g (lw_at lw_m6 226 rfl) rfl
theorem q1575 : (Jvm.Cond.instanceMethod ({ cls := "VibrationDesk", name := "then", desc := "(II)I" } : Jvm.MethodName)) ∈ lw_all := lw_g (lw_at lw_m6 228 rfl) rfl
theorem q1576 : (Jvm.Cond.selects "VibrationDesk" ({ cls := "VibrationDesk", name := "then", desc := "(II)I" } : Jvm.MethodName) ({ cls := "VibrationDesk", name := "then", desc := "(II)I" } : Jvm.MethodName)) ∈ lw_all := lw_g (lw_at lw_m6 229 rfl) rfl
theorem q1577 : (Jvm.Cond.code ({ cls := "VibrationDesk", name := "then", desc := "(II)I" } : Jvm.MethodName) prog_1_method_48_code (3 : Nat) (Option.some Jvm.ClassFile.FieldType.int)) ∈ lw_all := lw_g (lw_at lw_m6 230 rfl) rfl
theorem q1578 : (Jvm.Cond.methodLink "VibrationDesk" (385 : Nat) ({ cls := "VibrationDesk", name := "asksOps", desc := "(II)Z" } : Jvm.MethodName)) ∈ lw_all := lw_g (lw_at lw_m6 231 rfl) rfl
theorem q1579 : (Jvm.Cond.privateMethod ({ cls := "VibrationDesk", name := "asksOps", desc := "(II)Z" } : Jvm.MethodName)) ∈ lw_tbl := lw_at lw_m6 232 rfl
theorem q1580 : (Jvm.Cond.instanceMethod ({ cls := "VibrationDesk", name := "asksOps", desc := "(II)Z" } : Jvm.MethodName)) ∈ lw_all := lw_g (lw_at lw_m6 233 rfl) rfl
theorem q1581 : (Jvm.Cond.code ({ cls := "VibrationDesk", name := "asksOps", desc := "(II)Z" } : Jvm.MethodName) prog_1_method_40_code (3 : Nat) (Option.some Jvm.ClassFile.FieldType.boolean)) ∈ lw_all := lw_g (lw_at lw_m6 234 rfl) rfl
theorem q1583 : (Jvm.Cond.instanceMethod ({ cls := "VibrationDesk", name := "inverse", desc := "(I)I" } : Jvm.MethodName)) ∈ lw_all := lw_g (lw_at lw_m6 236 rfl) rfl
theorem q1584 : (Jvm.Cond.selects "VibrationDesk" ({ cls := "VibrationDesk", name := "inverse", desc := "(I)I" } : Jvm.MethodName) ({ cls := "VibrationDesk", name := "inverse", desc := "(I)I" } : Jvm.MethodName)) ∈ lw_all := lw_g (lw_at lw_m6 237 rfl) rfl
theorem q1585 : (Jvm.Cond.code ({ cls := "VibrationDesk", name := "inverse", desc := "(I)I" } : Jvm.MethodName) prog_1_method_49_code (2 : Nat) (Option.some Jvm.ClassFile.FieldType.int)) ∈ lw_all := lw_g (lw_at lw_m6 238 rfl) rfl
theorem q1587 : (Jvm.Cond.instanceMethod ({ cls := "VibrationDesk", name := "period", desc := "(I)I" } : Jvm.MethodName)) ∈ lw_all := lw_g (lw_at lw_m7 0 rfl) rfl
theorem q1588 : (Jvm.Cond.selects "VibrationDesk" ({ cls := "VibrationDesk", name := "period", desc := "(I)I" } : Jvm.MethodName) ({ cls := "VibrationDesk", name := "period", desc := "(I)I" } : Jvm.MethodName)) ∈ lw_all := lw_g (lw_at lw_m7 1 rfl) rfl
theorem q1589 : (Jvm.Cond.code ({ cls := "VibrationDesk", name := "period", desc := "(I)I" } : Jvm.MethodName) prog_1_method_50_code (2 : Nat) (Option.some Jvm.ClassFile.FieldType.int)) ∈ lw_all := lw_g (lw_at lw_m7 2 rfl) rfl
theorem q1590 : (Jvm.Cond.methodLink "VibrationDesk" (394 : Nat) ({ cls := "VibrationDesk$Group", name := "periodOf", desc := "(I)I" } : Jvm.MethodName)) ∈ lw_all := lw_g (lw_at lw_m7 3 rfl) rfl
theorem q1592 : (Jvm.Cond.instanceMethod ({ cls := "VibrationDesk", name := "power", desc := "(II)I" } : Jvm.MethodName)) ∈ lw_all := lw_g (lw_at lw_m7 5 rfl) rfl
theorem q1593 : (Jvm.Cond.selects "VibrationDesk" ({ cls := "VibrationDesk", name := "power", desc := "(II)I" } : Jvm.MethodName) ({ cls := "VibrationDesk", name := "power", desc := "(II)I" } : Jvm.MethodName)) ∈ lw_all := lw_g (lw_at lw_m7 6 rfl) rfl
theorem q1594 : (Jvm.Cond.code ({ cls := "VibrationDesk", name := "power", desc := "(II)I" } : Jvm.MethodName) prog_1_method_51_code (5 : Nat) (Option.some Jvm.ClassFile.FieldType.int)) ∈ lw_all := lw_g (lw_at lw_m7 7 rfl) rfl
theorem q1595 : (Jvm.Cond.constantLong "VibrationDesk" (397 : Nat) (1000 : Int64)) ∈ lw_all := lw_g (lw_at lw_m7 8 rfl) rfl
theorem q1597 : (Jvm.Cond.instanceMethod ({ cls := "VibrationDesk", name := "fixed", desc := "(I)I" } : Jvm.MethodName)) ∈ lw_all := lw_g (lw_at lw_m7 10 rfl) rfl
theorem q1598 : (Jvm.Cond.selects "VibrationDesk" ({ cls := "VibrationDesk", name := "fixed", desc := "(I)I" } : Jvm.MethodName) ({ cls := "VibrationDesk", name := "fixed", desc := "(I)I" } : Jvm.MethodName)) ∈ lw_all := lw_g (lw_at lw_m7 11 rfl) rfl
theorem q1599 : (Jvm.Cond.code ({ cls := "VibrationDesk", name := "fixed", desc := "(I)I" } : Jvm.MethodName) prog_1_method_52_code (2 : Nat) (Option.some Jvm.ClassFile.FieldType.int)) ∈ lw_all := lw_g (lw_at lw_m7 12 rfl) rfl
theorem q1615 : (Jvm.Cond.instanceMethod ({ cls := "VibrationDesk", name := "cycles", desc := "(I)I" } : Jvm.MethodName)) ∈ lw_all := lw_g (lw_at lw_m7 28 rfl) rfl
theorem q1616 : (Jvm.Cond.selects "VibrationDesk" ({ cls := "VibrationDesk", name := "cycles", desc := "(I)I" } : Jvm.MethodName) ({ cls := "VibrationDesk", name := "cycles", desc := "(I)I" } : Jvm.MethodName)) ∈ lw_all := lw_g (lw_at lw_m7 29 rfl) rfl
theorem q1617 : (Jvm.Cond.code ({ cls := "VibrationDesk", name := "cycles", desc := "(I)I" } : Jvm.MethodName) prog_1_method_53_code (2 : Nat) (Option.some Jvm.ClassFile.FieldType.int)) ∈ lw_all := lw_g (lw_at lw_m7 30 rfl) rfl
theorem q1633 : (Jvm.Cond.instanceMethod ({ cls := "VibrationDesk", name := "find", desc := "(II)I" } : Jvm.MethodName)) ∈ lw_all := lw_g (lw_at lw_m7 46 rfl) rfl
theorem q1634 : (Jvm.Cond.selects "VibrationDesk" ({ cls := "VibrationDesk", name := "find", desc := "(II)I" } : Jvm.MethodName) ({ cls := "VibrationDesk", name := "find", desc := "(II)I" } : Jvm.MethodName)) ∈ lw_all := lw_g (lw_at lw_m7 47 rfl) rfl
theorem q1635 : (Jvm.Cond.code ({ cls := "VibrationDesk", name := "find", desc := "(II)I" } : Jvm.MethodName) prog_1_method_55_code (4 : Nat) (Option.some Jvm.ClassFile.FieldType.int)) ∈ lw_all := lw_g (lw_at lw_m7 48 rfl) rfl
theorem q1636 : (Jvm.Cond.methodLink "VibrationDesk" (408 : Nat) ({ cls := "VibrationDesk", name := "isSort", desc := "(II)Z" } : Jvm.MethodName)) ∈ lw_all := lw_g (lw_at lw_m7 49 rfl) rfl
theorem q1637 : (Jvm.Cond.static ({ cls := "VibrationDesk", name := "isSort", desc := "(II)Z" } : Jvm.MethodName)) ∈ lw_all := lw_g (lw_at lw_m7 50 rfl) rfl
theorem q1638 : (Jvm.Cond.code ({ cls := "VibrationDesk", name := "isSort", desc := "(II)Z" } : Jvm.MethodName) prog_1_method_54_code (2 : Nat) (Option.some Jvm.ClassFile.FieldType.boolean)) ∈ lw_all := lw_g (lw_at lw_m7 51 rfl) rfl
theorem q1639 : (Jvm.Cond.constantLong "VibrationDesk" (406 : Nat) (-3 : Int64)) ∈ lw_all := lw_g (lw_at lw_m7 52 rfl) rfl
theorem q1641 : (Jvm.Cond.instanceMethod ({ cls := "VibrationDesk", name := "count", desc := "(II)I" } : Jvm.MethodName)) ∈ lw_all := lw_g (lw_at lw_m7 54 rfl) rfl
theorem q1642 : (Jvm.Cond.selects "VibrationDesk" ({ cls := "VibrationDesk", name := "count", desc := "(II)I" } : Jvm.MethodName) ({ cls := "VibrationDesk", name := "count", desc := "(II)I" } : Jvm.MethodName)) ∈ lw_all := lw_g (lw_at lw_m7 55 rfl) rfl
theorem q1643 : (Jvm.Cond.code ({ cls := "VibrationDesk", name := "count", desc := "(II)I" } : Jvm.MethodName) prog_1_method_56_code (3 : Nat) (Option.some Jvm.ClassFile.FieldType.int)) ∈ lw_all := lw_g (lw_at lw_m7 56 rfl) rfl
theorem q1644 : (Jvm.Cond.methodLink "VibrationDesk" (413 : Nat) ({ cls := "VibrationDesk$Group", name := "has", desc := "(II)I" } : Jvm.MethodName)) ∈ lw_all := lw_g (lw_at lw_m7 57 rfl) rfl
theorem q1646 : (Jvm.Cond.instanceMethod ({ cls := "VibrationDesk", name := "classes", desc := "()I" } : Jvm.MethodName)) ∈ lw_all := lw_g (lw_at lw_m7 59 rfl) rfl
theorem q1647 : (Jvm.Cond.selects "VibrationDesk" ({ cls := "VibrationDesk", name := "classes", desc := "()I" } : Jvm.MethodName) ({ cls := "VibrationDesk", name := "classes", desc := "()I" } : Jvm.MethodName)) ∈ lw_all := lw_g (lw_at lw_m7 60 rfl) rfl
theorem q1648 : (Jvm.Cond.code ({ cls := "VibrationDesk", name := "classes", desc := "()I" } : Jvm.MethodName) prog_1_method_58_code (1 : Nat) (Option.some Jvm.ClassFile.FieldType.int)) ∈ lw_all := lw_g (lw_at lw_m7 61 rfl) rfl
theorem q1650 : (Jvm.Cond.instanceMethod ({ cls := "VibrationDesk", name := "classOf", desc := "(I)I" } : Jvm.MethodName)) ∈ lw_all := lw_g (lw_at lw_m7 63 rfl) rfl
theorem q1651 : (Jvm.Cond.selects "VibrationDesk" ({ cls := "VibrationDesk", name := "classOf", desc := "(I)I" } : Jvm.MethodName) ({ cls := "VibrationDesk", name := "classOf", desc := "(I)I" } : Jvm.MethodName)) ∈ lw_all := lw_g (lw_at lw_m7 64 rfl) rfl
theorem q1652 : (Jvm.Cond.code ({ cls := "VibrationDesk", name := "classOf", desc := "(I)I" } : Jvm.MethodName) prog_1_method_59_code (2 : Nat) (Option.some Jvm.ClassFile.FieldType.int)) ∈ lw_all := lw_g (lw_at lw_m7 65 rfl) rfl
theorem q1654 : (Jvm.Cond.instanceMethod ({ cls := "VibrationDesk", name := "classAt", desc := "(II)I" } : Jvm.MethodName)) ∈ lw_all := lw_g (lw_at lw_m7 67 rfl) rfl
theorem q1655 : (Jvm.Cond.selects "VibrationDesk" ({ cls := "VibrationDesk", name := "classAt", desc := "(II)I" } : Jvm.MethodName) ({ cls := "VibrationDesk", name := "classAt", desc := "(II)I" } : Jvm.MethodName)) ∈ lw_all := lw_g (lw_at lw_m7 68 rfl) rfl
theorem q1656 : (Jvm.Cond.code ({ cls := "VibrationDesk", name := "classAt", desc := "(II)I" } : Jvm.MethodName) prog_1_method_60_code (3 : Nat) (Option.some Jvm.ClassFile.FieldType.int)) ∈ lw_all := lw_g (lw_at lw_m7 69 rfl) rfl
theorem q1657 : (Jvm.Cond.methodLink "VibrationDesk" (422 : Nat) ({ cls := "VibrationDesk", name := "isClass", desc := "(I)Z" } : Jvm.MethodName)) ∈ lw_all := lw_g (lw_at lw_m7 70 rfl) rfl
theorem q1658 : (Jvm.Cond.privateMethod ({ cls := "VibrationDesk", name := "isClass", desc := "(I)Z" } : Jvm.MethodName)) ∈ lw_tbl := lw_at lw_m7 71 rfl
theorem q1659 : (Jvm.Cond.instanceMethod ({ cls := "VibrationDesk", name := "isClass", desc := "(I)Z" } : Jvm.MethodName)) ∈ lw_all := lw_g (lw_at lw_m7 72 rfl) rfl
theorem q1660 : (Jvm.Cond.code ({ cls := "VibrationDesk", name := "isClass", desc := "(I)Z" } : Jvm.MethodName) prog_1_method_57_code (2 : Nat) (Option.some Jvm.ClassFile.FieldType.boolean)) ∈ lw_all := lw_g (lw_at lw_m7 73 rfl) rfl
theorem q1662 : (Jvm.Cond.instanceMethod ({ cls := "VibrationDesk", name := "joins", desc := "(III)I" } : Jvm.MethodName)) ∈ lw_all := lw_g (lw_at lw_m7 75 rfl) rfl
theorem q1663 : (Jvm.Cond.selects "VibrationDesk" ({ cls := "VibrationDesk", name := "joins", desc := "(III)I" } : Jvm.MethodName) ({ cls := "VibrationDesk", name := "joins", desc := "(III)I" } : Jvm.MethodName)) ∈ lw_all := lw_g (lw_at lw_m7 76 rfl) rfl
theorem q1664 : (Jvm.Cond.code ({ cls := "VibrationDesk", name := "joins", desc := "(III)I" } : Jvm.MethodName) prog_1_method_61_code (4 : Nat) (Option.some Jvm.ClassFile.FieldType.int)) ∈ lw_all := lw_g (lw_at lw_m7 77 rfl) rfl
theorem q1665 : (Jvm.Cond.methodLinkNest "VibrationDesk" (437 : Nat) ({ cls := "VibrationDesk$Group", name := "place", desc := "(III)I" } : Jvm.MethodName) "VibrationDesk") ∈ lw_tbl := lw_at lw_m7 78 rfl
theorem q1667 : (Jvm.Cond.instanceMethod ({ cls := "VibrationDesk", name := "orbits", desc := "()I" } : Jvm.MethodName)) ∈ lw_all := lw_g (lw_at lw_m7 80 rfl) rfl
theorem q1668 : (Jvm.Cond.selects "VibrationDesk" ({ cls := "VibrationDesk", name := "orbits", desc := "()I" } : Jvm.MethodName) ({ cls := "VibrationDesk", name := "orbits", desc := "()I" } : Jvm.MethodName)) ∈ lw_all := lw_g (lw_at lw_m7 81 rfl) rfl
theorem q1669 : (Jvm.Cond.code ({ cls := "VibrationDesk", name := "orbits", desc := "()I" } : Jvm.MethodName) prog_1_method_62_code (1 : Nat) (Option.some Jvm.ClassFile.FieldType.int)) ∈ lw_all := lw_g (lw_at lw_m7 82 rfl) rfl
theorem q1670 : (Jvm.Cond.methodLink "VibrationDesk" (439 : Nat) ({ cls := "VibrationDesk$Group", name := "all", desc := "()J" } : Jvm.MethodName)) ∈ lw_all := lw_g (lw_at lw_m7 83 rfl) rfl
theorem q1674 : (Jvm.Cond.methodLink "VibrationDesk" (442 : Nat) ({ cls := "VibrationDesk$Group", name := "orbitMany", desc := "(J)I" } : Jvm.MethodName)) ∈ lw_all := lw_g (lw_at lw_m7 87 rfl) rfl
theorem q1688 : (Jvm.Cond.instanceMethod ({ cls := "VibrationDesk", name := "orbitOf", desc := "(I)I" } : Jvm.MethodName)) ∈ lw_all := lw_g (lw_at lw_m7 101 rfl) rfl
theorem q1689 : (Jvm.Cond.selects "VibrationDesk" ({ cls := "VibrationDesk", name := "orbitOf", desc := "(I)I" } : Jvm.MethodName) ({ cls := "VibrationDesk", name := "orbitOf", desc := "(I)I" } : Jvm.MethodName)) ∈ lw_all := lw_g (lw_at lw_m7 102 rfl) rfl
theorem q1690 : (Jvm.Cond.code ({ cls := "VibrationDesk", name := "orbitOf", desc := "(I)I" } : Jvm.MethodName) prog_1_method_63_code (2 : Nat) (Option.some Jvm.ClassFile.FieldType.int)) ∈ lw_all := lw_g (lw_at lw_m7 103 rfl) rfl
theorem q1691 : (Jvm.Cond.methodLink "VibrationDesk" (446 : Nat) ({ cls := "VibrationDesk", name := "asksAtom", desc := "(I)Z" } : Jvm.MethodName)) ∈ lw_all := lw_g (lw_at lw_m7 104 rfl) rfl
theorem q1692 : (Jvm.Cond.privateMethod ({ cls := "VibrationDesk", name := "asksAtom", desc := "(I)Z" } : Jvm.MethodName)) ∈ lw_tbl := lw_at lw_m7 105 rfl
theorem q1693 : (Jvm.Cond.instanceMethod ({ cls := "VibrationDesk", name := "asksAtom", desc := "(I)Z" } : Jvm.MethodName)) ∈ lw_all := lw_g (lw_at lw_m7 106 rfl) rfl
theorem q1694 : (Jvm.Cond.code ({ cls := "VibrationDesk", name := "asksAtom", desc := "(I)Z" } : Jvm.MethodName) prog_1_method_41_code (2 : Nat) (Option.some Jvm.ClassFile.FieldType.boolean)) ∈ lw_all := lw_g (lw_at lw_m7 107 rfl) rfl
theorem q1695 : (Jvm.Cond.methodLink "VibrationDesk" (449 : Nat) ({ cls := "VibrationDesk$Group", name := "leastBy", desc := "(JI)I" } : Jvm.MethodName)) ∈ lw_all := lw_g (lw_at lw_m7 108 rfl) rfl
theorem q1697 : (Jvm.Cond.instanceMethod ({ cls := "VibrationDesk", name := "orbitSize", desc := "(I)I" } : Jvm.MethodName)) ∈ lw_all := lw_g (lw_at lw_m7 110 rfl) rfl
theorem q1698 : (Jvm.Cond.selects "VibrationDesk" ({ cls := "VibrationDesk", name := "orbitSize", desc := "(I)I" } : Jvm.MethodName) ({ cls := "VibrationDesk", name := "orbitSize", desc := "(I)I" } : Jvm.MethodName)) ∈ lw_all := lw_g (lw_at lw_m7 111 rfl) rfl
theorem q1699 : (Jvm.Cond.code ({ cls := "VibrationDesk", name := "orbitSize", desc := "(I)I" } : Jvm.MethodName) prog_1_method_64_code (4 : Nat) (Option.some Jvm.ClassFile.FieldType.int)) ∈ lw_all := lw_g (lw_at lw_m7 112 rfl) rfl
theorem q1701 : (Jvm.Cond.instanceMethod ({ cls := "VibrationDesk", name := "keeps", desc := "(II)I" } : Jvm.MethodName)) ∈ lw_all := lw_g (lw_at lw_m7 114 rfl) rfl
theorem q1702 : (Jvm.Cond.selects "VibrationDesk" ({ cls := "VibrationDesk", name := "keeps", desc := "(II)I" } : Jvm.MethodName) ({ cls := "VibrationDesk", name := "keeps", desc := "(II)I" } : Jvm.MethodName)) ∈ lw_all := lw_g (lw_at lw_m7 115 rfl) rfl
theorem q1703 : (Jvm.Cond.code ({ cls := "VibrationDesk", name := "keeps", desc := "(II)I" } : Jvm.MethodName) prog_1_method_65_code (5 : Nat) (Option.some Jvm.ClassFile.FieldType.int)) ∈ lw_all := lw_g (lw_at lw_m7 116 rfl) rfl
theorem q1705 : (Jvm.Cond.instanceMethod ({ cls := "VibrationDesk", name := "pairOrbits", desc := "()I" } : Jvm.MethodName)) ∈ lw_all := lw_g (lw_at lw_m7 118 rfl) rfl
theorem q1706 : (Jvm.Cond.selects "VibrationDesk" ({ cls := "VibrationDesk", name := "pairOrbits", desc := "()I" } : Jvm.MethodName) ({ cls := "VibrationDesk", name := "pairOrbits", desc := "()I" } : Jvm.MethodName)) ∈ lw_all := lw_g (lw_at lw_m7 119 rfl) rfl
theorem q1707 : (Jvm.Cond.code ({ cls := "VibrationDesk", name := "pairOrbits", desc := "()I" } : Jvm.MethodName) prog_1_method_66_code (1 : Nat) (Option.some Jvm.ClassFile.FieldType.int)) ∈ lw_all := lw_g (lw_at lw_m7 120 rfl) rfl
theorem q1708 : (Jvm.Cond.methodLink "VibrationDesk" (456 : Nat) ({ cls := "VibrationDesk$Group", name := "pairMany", desc := "()I" } : Jvm.MethodName)) ∈ lw_all := lw_g (lw_at lw_m7 121 rfl) rfl
theorem q1717 : (Jvm.Cond.instanceMethod ({ cls := "VibrationDesk", name := "middle", desc := "()I" } : Jvm.MethodName)) ∈ lw_all := lw_g (lw_at lw_m7 130 rfl) rfl
theorem q1718 : (Jvm.Cond.selects "VibrationDesk" ({ cls := "VibrationDesk", name := "middle", desc := "()I" } : Jvm.MethodName) ({ cls := "VibrationDesk", name := "middle", desc := "()I" } : Jvm.MethodName)) ∈ lw_all := lw_g (lw_at lw_m7 131 rfl) rfl
theorem q1719 : (Jvm.Cond.code ({ cls := "VibrationDesk", name := "middle", desc := "()I" } : Jvm.MethodName) prog_1_method_67_code (3 : Nat) (Option.some Jvm.ClassFile.FieldType.int)) ∈ lw_all := lw_g (lw_at lw_m7 132 rfl) rfl
theorem q1721 : (Jvm.Cond.instanceMethod ({ cls := "VibrationDesk", name := "derived", desc := "()I" } : Jvm.MethodName)) ∈ lw_all := lw_g (lw_at lw_m7 134 rfl) rfl
theorem q1722 : (Jvm.Cond.selects "VibrationDesk" ({ cls := "VibrationDesk", name := "derived", desc := "()I" } : Jvm.MethodName) ({ cls := "VibrationDesk", name := "derived", desc := "()I" } : Jvm.MethodName)) ∈ lw_all := lw_g (lw_at lw_m7 135 rfl) rfl
theorem q1723 : (Jvm.Cond.code ({ cls := "VibrationDesk", name := "derived", desc := "()I" } : Jvm.MethodName) prog_1_method_68_code (5 : Nat) (Option.some Jvm.ClassFile.FieldType.int)) ∈ lw_all := lw_g (lw_at lw_m7 136 rfl) rfl
theorem q1724 : (Jvm.Cond.methodLink "VibrationDesk" (459 : Nat) ({ cls := "VibrationDesk$Group", name := "closes", desc := "(J)J" } : Jvm.MethodName)) ∈ lw_all := lw_g (lw_at lw_m7 137 rfl) rfl
theorem q1735 : (Jvm.Cond.methodLink "VibrationDesk" (462 : Nat) ({ cls := "java/lang/Long", name := "bitCount", desc := "(J)I" } : Jvm.MethodName)) ∈ lw_all := lw_g (lw_at lw_m7 148 rfl) rfl
theorem q1742 : (Jvm.Cond.instanceMethod ({ cls := "VibrationDesk", name := "generated", desc := "(II)I" } : Jvm.MethodName)) ∈ lw_all := lw_g (lw_at lw_m7 155 rfl) rfl
theorem q1743 : (Jvm.Cond.selects "VibrationDesk" ({ cls := "VibrationDesk", name := "generated", desc := "(II)I" } : Jvm.MethodName) ({ cls := "VibrationDesk", name := "generated", desc := "(II)I" } : Jvm.MethodName)) ∈ lw_all := lw_g (lw_at lw_m7 156 rfl) rfl
theorem q1744 : (Jvm.Cond.code ({ cls := "VibrationDesk", name := "generated", desc := "(II)I" } : Jvm.MethodName) prog_1_method_69_code (3 : Nat) (Option.some Jvm.ClassFile.FieldType.int)) ∈ lw_all := lw_g (lw_at lw_m7 157 rfl) rfl
theorem q1746 : (Jvm.Cond.instanceMethod ({ cls := "VibrationDesk", name := "fewest", desc := "()I" } : Jvm.MethodName)) ∈ lw_all := lw_g (lw_at lw_m7 159 rfl) rfl
theorem q1747 : (Jvm.Cond.selects "VibrationDesk" ({ cls := "VibrationDesk", name := "fewest", desc := "()I" } : Jvm.MethodName) ({ cls := "VibrationDesk", name := "fewest", desc := "()I" } : Jvm.MethodName)) ∈ lw_all := lw_g (lw_at lw_m7 160 rfl) rfl
theorem q1748 : (Jvm.Cond.code ({ cls := "VibrationDesk", name := "fewest", desc := "()I" } : Jvm.MethodName) prog_1_method_70_code (1 : Nat) (Option.some Jvm.ClassFile.FieldType.int)) ∈ lw_all := lw_g (lw_at lw_m7 161 rfl) rfl
theorem q1749 : (Jvm.Cond.methodLink "VibrationDesk" (467 : Nat) ({ cls := "VibrationDesk$Group", name := "fewestOf", desc := "()I" } : Jvm.MethodName)) ∈ lw_all := lw_g (lw_at lw_m7 162 rfl) rfl
theorem q1760 : (Jvm.Cond.instanceMethod ({ cls := "VibrationDesk", name := "subgroups", desc := "()I" } : Jvm.MethodName)) ∈ lw_all := lw_g (lw_at lw_m7 173 rfl) rfl
theorem q1761 : (Jvm.Cond.selects "VibrationDesk" ({ cls := "VibrationDesk", name := "subgroups", desc := "()I" } : Jvm.MethodName) ({ cls := "VibrationDesk", name := "subgroups", desc := "()I" } : Jvm.MethodName)) ∈ lw_all := lw_g (lw_at lw_m7 174 rfl) rfl
theorem q1762 : (Jvm.Cond.code ({ cls := "VibrationDesk", name := "subgroups", desc := "()I" } : Jvm.MethodName) prog_1_method_73_code (1 : Nat) (Option.some Jvm.ClassFile.FieldType.int)) ∈ lw_all := lw_g (lw_at lw_m7 175 rfl) rfl
theorem q1763 : (Jvm.Cond.methodLink "VibrationDesk" (473 : Nat) ({ cls := "VibrationDesk", name := "asksSets", desc := "(Z)Z" } : Jvm.MethodName)) ∈ lw_all := lw_g (lw_at lw_m7 176 rfl) rfl
theorem q1764 : (Jvm.Cond.privateMethod ({ cls := "VibrationDesk", name := "asksSets", desc := "(Z)Z" } : Jvm.MethodName)) ∈ lw_tbl := lw_at lw_m7 177 rfl
theorem q1765 : (Jvm.Cond.instanceMethod ({ cls := "VibrationDesk", name := "asksSets", desc := "(Z)Z" } : Jvm.MethodName)) ∈ lw_all := lw_g (lw_at lw_m7 178 rfl) rfl
theorem q1766 : (Jvm.Cond.code ({ cls := "VibrationDesk", name := "asksSets", desc := "(Z)Z" } : Jvm.MethodName) prog_1_method_71_code (2 : Nat) (Option.some Jvm.ClassFile.FieldType.boolean)) ∈ lw_all := lw_g (lw_at lw_m7 179 rfl) rfl
theorem q1767 : (Jvm.Cond.methodLink "VibrationDesk" (470 : Nat) ({ cls := "VibrationDesk$Group", name := "laysSets", desc := "()V" } : Jvm.MethodName)) ∈ lw_all := lw_g (lw_at lw_m7 180 rfl) rfl
theorem q1785 : (Jvm.Cond.instanceMethod ({ cls := "VibrationDesk", name := "subgroup", desc := "(I)J" } : Jvm.MethodName)) ∈ lw_all := lw_g (lw_at lw_m7 198 rfl) rfl
theorem q1786 : (Jvm.Cond.selects "VibrationDesk" ({ cls := "VibrationDesk", name := "subgroup", desc := "(I)J" } : Jvm.MethodName) ({ cls := "VibrationDesk", name := "subgroup", desc := "(I)J" } : Jvm.MethodName)) ∈ lw_all := lw_g (lw_at lw_m7 199 rfl) rfl
theorem q1787 : (Jvm.Cond.code ({ cls := "VibrationDesk", name := "subgroup", desc := "(I)J" } : Jvm.MethodName) prog_1_method_74_code (2 : Nat) (Option.some Jvm.ClassFile.FieldType.long)) ∈ lw_all := lw_g (lw_at lw_m7 200 rfl) rfl
theorem q1788 : (Jvm.Cond.methodLink "VibrationDesk" (479 : Nat) ({ cls := "VibrationDesk", name := "asksSet", desc := "(IZ)Z" } : Jvm.MethodName)) ∈ lw_all := lw_g (lw_at lw_m7 201 rfl) rfl
theorem q1789 : (Jvm.Cond.privateMethod ({ cls := "VibrationDesk", name := "asksSet", desc := "(IZ)Z" } : Jvm.MethodName)) ∈ lw_tbl := lw_at lw_m7 202 rfl
theorem q1790 : (Jvm.Cond.instanceMethod ({ cls := "VibrationDesk", name := "asksSet", desc := "(IZ)Z" } : Jvm.MethodName)) ∈ lw_all := lw_g (lw_at lw_m7 203 rfl) rfl
theorem q1791 : (Jvm.Cond.code ({ cls := "VibrationDesk", name := "asksSet", desc := "(IZ)Z" } : Jvm.MethodName) prog_1_method_72_code (3 : Nat) (Option.some Jvm.ClassFile.FieldType.boolean)) ∈ lw_all := lw_g (lw_at lw_m7 204 rfl) rfl
theorem q1792 : (Jvm.Cond.constantLong "VibrationDesk" (486 : Nat) (-1 : Int64)) ∈ lw_all := lw_g (lw_at lw_m7 205 rfl) rfl
theorem q1794 : (Jvm.Cond.instanceMethod ({ cls := "VibrationDesk", name := "subgroupAt", desc := "(II)I" } : Jvm.MethodName)) ∈ lw_all := lw_g (lw_at lw_m7 207 rfl) rfl
theorem q1795 : (Jvm.Cond.selects "VibrationDesk" ({ cls := "VibrationDesk", name := "subgroupAt", desc := "(II)I" } : Jvm.MethodName) ({ cls := "VibrationDesk", name := "subgroupAt", desc := "(II)I" } : Jvm.MethodName)) ∈ lw_all := lw_g (lw_at lw_m7 208 rfl) rfl
theorem q1796 : (Jvm.Cond.code ({ cls := "VibrationDesk", name := "subgroupAt", desc := "(II)I" } : Jvm.MethodName) prog_1_method_76_code (5 : Nat) (Option.some Jvm.ClassFile.FieldType.int)) ∈ lw_all := lw_g (lw_at lw_m7 209 rfl) rfl
theorem q1797 : (Jvm.Cond.constantLong "VibrationDesk" (494 : Nat) (4 : Int64)) ∈ lw_all := lw_g (lw_at lw_m7 210 rfl) rfl
theorem q1798 : (Jvm.Cond.methodLink "VibrationDesk" (496 : Nat) ({ cls := "VibrationDesk$Group", name := "turnedMany", desc := "(J)I" } : Jvm.MethodName)) ∈ lw_all := lw_g (lw_at lw_m7 211 rfl) rfl
theorem q1806 : (Jvm.Cond.methodLink "VibrationDesk" (499 : Nat) ({ cls := "VibrationDesk", name := "steady", desc := "(J)I" } : Jvm.MethodName)) ∈ lw_all := lw_g (lw_at lw_m7 219 rfl) rfl
theorem q1807 : (Jvm.Cond.privateMethod ({ cls := "VibrationDesk", name := "steady", desc := "(J)I" } : Jvm.MethodName)) ∈ lw_tbl := lw_at lw_m7 220 rfl
theorem q1808 : (Jvm.Cond.instanceMethod ({ cls := "VibrationDesk", name := "steady", desc := "(J)I" } : Jvm.MethodName)) ∈ lw_all := lw_g (lw_at lw_m7 221 rfl) rfl
theorem q1809 : (Jvm.Cond.code ({ cls := "VibrationDesk", name := "steady", desc := "(J)I" } : Jvm.MethodName) prog_1_method_75_code (5 : Nat) (Option.some Jvm.ClassFile.FieldType.int)) ∈ lw_all := lw_g (lw_at lw_m7 222 rfl) rfl
theorem q1810 : (Jvm.Cond.methodLinkNest "VibrationDesk" (488 : Nat) ({ cls := "VibrationDesk$Group", name := "isIn", desc := "(JI)Z" } : Jvm.MethodName) "VibrationDesk") ∈ lw_tbl := lw_at lw_m7 223 rfl
theorem q1811 : (Jvm.Cond.methodLink "VibrationDesk" (491 : Nat) ({ cls := "VibrationDesk$Group", name := "told", desc := "(II)I" } : Jvm.MethodName)) ∈ lw_all := lw_g (lw_at lw_m7 224 rfl) rfl
theorem q1816 : (Jvm.Cond.instanceMethod ({ cls := "VibrationDesk", name := "nameLength", desc := "()I" } : Jvm.MethodName)) ∈ lw_all := lw_g (lw_at lw_m7 229 rfl) rfl
theorem q1817 : (Jvm.Cond.selects "VibrationDesk" ({ cls := "VibrationDesk", name := "nameLength", desc := "()I" } : Jvm.MethodName) ({ cls := "VibrationDesk", name := "nameLength", desc := "()I" } : Jvm.MethodName)) ∈ lw_all := lw_g (lw_at lw_m7 230 rfl) rfl
theorem q1818 : (Jvm.Cond.code ({ cls := "VibrationDesk", name := "nameLength", desc := "()I" } : Jvm.MethodName) prog_1_method_77_code (1 : Nat) (Option.some Jvm.ClassFile.FieldType.int)) ∈ lw_all := lw_g (lw_at lw_m7 231 rfl) rfl
theorem q1819 : (Jvm.Cond.methodLink "VibrationDesk" (502 : Nat) ({ cls := "java/lang/String", name := "length", desc := "()I" } : Jvm.MethodName)) ∈ lw_all := lw_g (lw_at lw_m7 232 rfl) rfl
theorem q1821 : (Jvm.Cond.instanceMethod ({ cls := "VibrationDesk", name := "nameAt", desc := "(I)I" } : Jvm.MethodName)) ∈ lw_all := lw_g (lw_at lw_m7 234 rfl) rfl
theorem q1822 : (Jvm.Cond.selects "VibrationDesk" ({ cls := "VibrationDesk", name := "nameAt", desc := "(I)I" } : Jvm.MethodName) ({ cls := "VibrationDesk", name := "nameAt", desc := "(I)I" } : Jvm.MethodName)) ∈ lw_all := lw_g (lw_at lw_m7 235 rfl) rfl
theorem q1823 : (Jvm.Cond.code ({ cls := "VibrationDesk", name := "nameAt", desc := "(I)I" } : Jvm.MethodName) prog_1_method_78_code (2 : Nat) (Option.some Jvm.ClassFile.FieldType.int)) ∈ lw_all := lw_g (lw_at lw_m7 236 rfl) rfl
theorem q1824 : (Jvm.Cond.methodLink "VibrationDesk" (503 : Nat) ({ cls := "java/lang/String", name := "charAt", desc := "(I)C" } : Jvm.MethodName)) ∈ lw_all := lw_g (lw_at lw_m7 237 rfl) rfl
theorem q1836 : (Jvm.Cond.instanceMethod ({ cls := "VibrationDesk", name := "isNamed", desc := "(I)I" } : Jvm.MethodName)) ∈ lw_all := lw_g (lw_at lw_m8 9 rfl) rfl
theorem q1837 : (Jvm.Cond.selects "VibrationDesk" ({ cls := "VibrationDesk", name := "isNamed", desc := "(I)I" } : Jvm.MethodName) ({ cls := "VibrationDesk", name := "isNamed", desc := "(I)I" } : Jvm.MethodName)) ∈ lw_all := lw_g (lw_at lw_m8 10 rfl) rfl
theorem q1838 : (Jvm.Cond.code ({ cls := "VibrationDesk", name := "isNamed", desc := "(I)I" } : Jvm.MethodName) prog_1_method_80_code (2 : Nat) (Option.some Jvm.ClassFile.FieldType.int)) ∈ lw_all := lw_g (lw_at lw_m8 11 rfl) rfl
theorem q1839 : (Jvm.Cond.methodLink "VibrationDesk" (511 : Nat) ({ cls := "VibrationDesk", name := "spells", desc := "(I)V" } : Jvm.MethodName)) ∈ lw_all := lw_g (lw_at lw_m8 12 rfl) rfl
theorem q1840 : (Jvm.Cond.privateMethod ({ cls := "VibrationDesk", name := "spells", desc := "(I)V" } : Jvm.MethodName)) ∈ lw_tbl := lw_at lw_m8 13 rfl
theorem q1841 : (Jvm.Cond.instanceMethod ({ cls := "VibrationDesk", name := "spells", desc := "(I)V" } : Jvm.MethodName)) ∈ lw_all := lw_g (lw_at lw_m8 14 rfl) rfl
theorem q1842 : (Jvm.Cond.code ({ cls := "VibrationDesk", name := "spells", desc := "(I)V" } : Jvm.MethodName) prog_1_method_79_code (3 : Nat) (Option.none : Option Jvm.ClassFile.FieldType)) ∈ lw_all := lw_g (lw_at lw_m8 15 rfl) rfl
theorem q1843 : (Jvm.Cond.methodLink "VibrationDesk" (504 : Nat) ({ cls := "java/lang/StringBuilder", name := "setLength", desc := "(I)V" } : Jvm.MethodName)) ∈ lw_all := lw_g (lw_at lw_m8 16 rfl) rfl
theorem q1844 : (Jvm.Cond.methodLink "VibrationDesk" (507 : Nat) ({ cls := "java/lang/StringBuilder", name := "append", desc := "(C)Ljava/lang/StringBuilder;" } : Jvm.MethodName)) ∈ lw_all := lw_g (lw_at lw_m8 17 rfl) rfl
theorem q1845 : (Jvm.Cond.methodLink "VibrationDesk" (514 : Nat) ({ cls := "VibrationDesk", name := "isSame", desc := "(Ljava/lang/CharSequence;Ljava/lang/CharSequence;)Z" } : Jvm.MethodName)) ∈ lw_all := lw_g (lw_at lw_m8 18 rfl) rfl
theorem q1846 : (Jvm.Cond.static ({ cls := "VibrationDesk", name := "isSame", desc := "(Ljava/lang/CharSequence;Ljava/lang/CharSequence;)Z" } : Jvm.MethodName)) ∈ lw_all := lw_g (lw_at lw_m8 19 rfl) rfl
theorem q1847 : (Jvm.Cond.code ({ cls := "VibrationDesk", name := "isSame", desc := "(Ljava/lang/CharSequence;Ljava/lang/CharSequence;)Z" } : Jvm.MethodName) prog_1_method_3_code (3 : Nat) (Option.some Jvm.ClassFile.FieldType.boolean)) ∈ lw_all := lw_g (lw_at lw_m8 20 rfl) rfl
theorem q1848 : (Jvm.Cond.interfaceEntry "VibrationDesk" (1 : Nat)) ∈ lw_tbl := lw_at lw_m8 21 rfl
theorem q1849 : (Jvm.Cond.methodLink "VibrationDesk" (1 : Nat) ({ cls := "java/lang/CharSequence", name := "length", desc := "()I" } : Jvm.MethodName)) ∈ lw_all := lw_g (lw_at lw_m8 22 rfl) rfl
theorem q1860 : (Jvm.Cond.interfaceEntry "VibrationDesk" (7 : Nat)) ∈ lw_tbl := lw_at lw_m8 33 rfl
theorem q1861 : (Jvm.Cond.methodLink "VibrationDesk" (7 : Nat) ({ cls := "java/lang/CharSequence", name := "charAt", desc := "(I)C" } : Jvm.MethodName)) ∈ lw_all := lw_g (lw_at lw_m8 34 rfl) rfl
theorem q1879 : (Jvm.Cond.instanceMethod ({ cls := "VibrationDesk", name := "orderNamed", desc := "(I)I" } : Jvm.MethodName)) ∈ lw_all := lw_g (lw_at lw_m8 52 rfl) rfl
theorem q1880 : (Jvm.Cond.selects "VibrationDesk" ({ cls := "VibrationDesk", name := "orderNamed", desc := "(I)I" } : Jvm.MethodName) ({ cls := "VibrationDesk", name := "orderNamed", desc := "(I)I" } : Jvm.MethodName)) ∈ lw_all := lw_g (lw_at lw_m8 53 rfl) rfl
theorem q1881 : (Jvm.Cond.code ({ cls := "VibrationDesk", name := "orderNamed", desc := "(I)I" } : Jvm.MethodName) prog_1_method_81_code (3 : Nat) (Option.some Jvm.ClassFile.FieldType.int)) ∈ lw_all := lw_g (lw_at lw_m8 54 rfl) rfl
theorem q1882 : (Jvm.Cond.methodLink "VibrationDesk" (518 : Nat) ({ cls := "java/lang/Math", name := "min", desc := "(II)I" } : Jvm.MethodName)) ∈ lw_all := lw_g (lw_at lw_m8 55 rfl) rfl
theorem q1883 : (Jvm.Cond.methodLink "VibrationDesk" (521 : Nat) ({ cls := "java/lang/StringBuilder", name := "toString", desc := "()Ljava/lang/String;" } : Jvm.MethodName)) ∈ lw_all := lw_g (lw_at lw_m8 56 rfl) rfl
theorem q1884 : (Jvm.Cond.methodLink "VibrationDesk" (524 : Nat) ({ cls := "VibrationDesk", name := "orderBy", desc := "(Ljava/lang/String;)I" } : Jvm.MethodName)) ∈ lw_all := lw_g (lw_at lw_m8 57 rfl) rfl
theorem q1885 : (Jvm.Cond.static ({ cls := "VibrationDesk", name := "orderBy", desc := "(Ljava/lang/String;)I" } : Jvm.MethodName)) ∈ lw_all := lw_g (lw_at lw_m8 58 rfl) rfl
theorem q1886 : (Jvm.Cond.code ({ cls := "VibrationDesk", name := "orderBy", desc := "(Ljava/lang/String;)I" } : Jvm.MethodName) prog_1_method_4_code (3 : Nat) (Option.some Jvm.ClassFile.FieldType.int)) ∈ lw_all := lw_g (lw_at lw_m8 59 rfl) rfl
theorem q1887 : (Jvm.Cond.methodLink "VibrationDesk" (11 : Nat) ({ cls := "java/lang/String", name := "hashCode", desc := "()I" } : Jvm.MethodName)) ∈ lw_all := lw_g (lw_at lw_m8 60 rfl) rfl
theorem q1888 : (Jvm.Cond.stringRef "VibrationDesk" (16 : Nat) "C1") ∈ lw_tbl := lw_at lw_m8 61 rfl
theorem q1889 : (Jvm.Cond.methodLink "VibrationDesk" (18 : Nat) ({ cls := "java/lang/String", name := "equals", desc := "(Ljava/lang/Object;)Z" } : Jvm.MethodName)) ∈ lw_all := lw_g (lw_at lw_m8 62 rfl) rfl
theorem q1890 : (Jvm.Cond.stringRef "VibrationDesk" (22 : Nat) "Ci") ∈ lw_tbl := lw_at lw_m8 63 rfl
theorem q1891 : (Jvm.Cond.stringRef "VibrationDesk" (24 : Nat) "Cs") ∈ lw_tbl := lw_at lw_m8 64 rfl
theorem q1892 : (Jvm.Cond.stringRef "VibrationDesk" (26 : Nat) "C2") ∈ lw_tbl := lw_at lw_m8 65 rfl
theorem q1893 : (Jvm.Cond.stringRef "VibrationDesk" (28 : Nat) "C3") ∈ lw_tbl := lw_at lw_m8 66 rfl
theorem q1894 : (Jvm.Cond.stringRef "VibrationDesk" (30 : Nat) "C4") ∈ lw_tbl := lw_at lw_m8 67 rfl
theorem q1895 : (Jvm.Cond.stringRef "VibrationDesk" (32 : Nat) "S4") ∈ lw_tbl := lw_at lw_m8 68 rfl
theorem q1896 : (Jvm.Cond.stringRef "VibrationDesk" (34 : Nat) "C2h") ∈ lw_tbl := lw_at lw_m8 69 rfl
theorem q1897 : (Jvm.Cond.stringRef "VibrationDesk" (36 : Nat) "C2v") ∈ lw_tbl := lw_at lw_m8 70 rfl
theorem q1898 : (Jvm.Cond.stringRef "VibrationDesk" (38 : Nat) "D2") ∈ lw_tbl := lw_at lw_m8 71 rfl
theorem q1899 : (Jvm.Cond.stringRef "VibrationDesk" (40 : Nat) "C6") ∈ lw_tbl := lw_at lw_m8 72 rfl
theorem q1900 : (Jvm.Cond.stringRef "VibrationDesk" (42 : Nat) "S6") ∈ lw_tbl := lw_at lw_m8 73 rfl
theorem q1901 : (Jvm.Cond.stringRef "VibrationDesk" (44 : Nat) "C3h") ∈ lw_tbl := lw_at lw_m8 74 rfl
theorem q1902 : (Jvm.Cond.stringRef "VibrationDesk" (46 : Nat) "C3v") ∈ lw_tbl := lw_at lw_m8 75 rfl
theorem q1903 : (Jvm.Cond.stringRef "VibrationDesk" (48 : Nat) "D3") ∈ lw_tbl := lw_at lw_m8 76 rfl
theorem q1904 : (Jvm.Cond.stringRef "VibrationDesk" (50 : Nat) "C4h") ∈ lw_tbl := lw_at lw_m8 77 rfl
theorem q1905 : (Jvm.Cond.stringRef "VibrationDesk" (52 : Nat) "C4v") ∈ lw_tbl := lw_at lw_m8 78 rfl
theorem q1906 : (Jvm.Cond.stringRef "VibrationDesk" (54 : Nat) "D4") ∈ lw_tbl := lw_at lw_m8 79 rfl
theorem q1907 : (Jvm.Cond.stringRef "VibrationDesk" (56 : Nat) "D2h") ∈ lw_tbl := lw_at lw_m8 80 rfl
theorem q1908 : (Jvm.Cond.stringRef "VibrationDesk" (58 : Nat) "D2d") ∈ lw_tbl := lw_at lw_m8 81 rfl
theorem q1909 : (Jvm.Cond.stringRef "VibrationDesk" (60 : Nat) "C6h") ∈ lw_tbl := lw_at lw_m8 82 rfl
theorem q1910 : (Jvm.Cond.stringRef "VibrationDesk" (62 : Nat) "C6v") ∈ lw_tbl := lw_at lw_m8 83 rfl
theorem q1911 : (Jvm.Cond.stringRef "VibrationDesk" (64 : Nat) "D6") ∈ lw_tbl := lw_at lw_m8 84 rfl
theorem q1912 : (Jvm.Cond.stringRef "VibrationDesk" (66 : Nat) "D3h") ∈ lw_tbl := lw_at lw_m8 85 rfl
theorem q1913 : (Jvm.Cond.stringRef "VibrationDesk" (68 : Nat) "D3d") ∈ lw_tbl := lw_at lw_m8 86 rfl
theorem q1914 : (Jvm.Cond.stringRef "VibrationDesk" (70 : Nat) "T") ∈ lw_tbl := lw_at lw_m8 87 rfl
theorem q1915 : (Jvm.Cond.stringRef "VibrationDesk" (72 : Nat) "D4h") ∈ lw_tbl := lw_at lw_m8 88 rfl
theorem q1916 : (Jvm.Cond.stringRef "VibrationDesk" (74 : Nat) "D6h") ∈ lw_tbl := lw_at lw_m8 89 rfl
theorem q1917 : (Jvm.Cond.stringRef "VibrationDesk" (76 : Nat) "Th") ∈ lw_tbl := lw_at lw_m8 90 rfl
theorem q1918 : (Jvm.Cond.stringRef "VibrationDesk" (78 : Nat) "Td") ∈ lw_tbl := lw_at lw_m8 91 rfl
theorem q1919 : (Jvm.Cond.stringRef "VibrationDesk" (80 : Nat) "O") ∈ lw_tbl := lw_at lw_m8 92 rfl
theorem q1920 : (Jvm.Cond.stringRef "VibrationDesk" (82 : Nat) "Oh") ∈ lw_tbl := lw_at lw_m8 93 rfl
theorem q1922 : (Jvm.Cond.instanceMethod ({ cls := "VibrationDesk", name := "lawAt", desc := "(II)I" } : Jvm.MethodName)) ∈ lw_all := lw_g (lw_at lw_m8 95 rfl) rfl
theorem q1923 : (Jvm.Cond.selects "VibrationDesk" ({ cls := "VibrationDesk", name := "lawAt", desc := "(II)I" } : Jvm.MethodName) ({ cls := "VibrationDesk", name := "lawAt", desc := "(II)I" } : Jvm.MethodName)) ∈ lw_all := lw_g (lw_at lw_m8 96 rfl) rfl
theorem q1924 : (Jvm.Cond.code ({ cls := "VibrationDesk", name := "lawAt", desc := "(II)I" } : Jvm.MethodName) prog_1_method_84_code (3 : Nat) (Option.some Jvm.ClassFile.FieldType.int)) ∈ lw_all := lw_g (lw_at lw_m8 97 rfl) rfl
theorem q1925 : (Jvm.Cond.methodLink "VibrationDesk" (535 : Nat) ({ cls := "VibrationDesk", name := "asksLaw", desc := "(IZ)Z" } : Jvm.MethodName)) ∈ lw_all := lw_g (lw_at lw_m8 98 rfl) rfl
theorem q1926 : (Jvm.Cond.privateMethod ({ cls := "VibrationDesk", name := "asksLaw", desc := "(IZ)Z" } : Jvm.MethodName)) ∈ lw_tbl := lw_at lw_m8 99 rfl
theorem q1927 : (Jvm.Cond.instanceMethod ({ cls := "VibrationDesk", name := "asksLaw", desc := "(IZ)Z" } : Jvm.MethodName)) ∈ lw_all := lw_g (lw_at lw_m8 100 rfl) rfl
theorem q1928 : (Jvm.Cond.code ({ cls := "VibrationDesk", name := "asksLaw", desc := "(IZ)Z" } : Jvm.MethodName) prog_1_method_83_code (3 : Nat) (Option.some Jvm.ClassFile.FieldType.boolean)) ∈ lw_all := lw_g (lw_at lw_m8 101 rfl) rfl
theorem q1929 : (Jvm.Cond.methodLink "VibrationDesk" (531 : Nat) ({ cls := "VibrationDesk", name := "asksLaws", desc := "(Z)Z" } : Jvm.MethodName)) ∈ lw_all := lw_g (lw_at lw_m8 102 rfl) rfl
theorem q1930 : (Jvm.Cond.privateMethod ({ cls := "VibrationDesk", name := "asksLaws", desc := "(Z)Z" } : Jvm.MethodName)) ∈ lw_tbl := lw_at lw_m8 103 rfl
theorem q1931 : (Jvm.Cond.instanceMethod ({ cls := "VibrationDesk", name := "asksLaws", desc := "(Z)Z" } : Jvm.MethodName)) ∈ lw_all := lw_g (lw_at lw_m8 104 rfl) rfl
theorem q1932 : (Jvm.Cond.code ({ cls := "VibrationDesk", name := "asksLaws", desc := "(Z)Z" } : Jvm.MethodName) prog_1_method_82_code (2 : Nat) (Option.some Jvm.ClassFile.FieldType.boolean)) ∈ lw_all := lw_g (lw_at lw_m8 105 rfl) rfl
theorem q1933 : (Jvm.Cond.methodLink "VibrationDesk" (528 : Nat) ({ cls := "VibrationDesk$Laws", name := "lays", desc := "()V" } : Jvm.MethodName)) ∈ lw_all := lw_g (lw_at lw_m8 106 rfl) rfl
theorem q1946 : (Jvm.Cond.static ({ cls := "VibrationDesk", name := "backBy", desc := "(I)I" } : Jvm.MethodName)) ∈ lw_all := lw_g (lw_at lw_m8 119 rfl) rfl
theorem q1947 : (Jvm.Cond.code ({ cls := "VibrationDesk", name := "backBy", desc := "(I)I" } : Jvm.MethodName) prog_1_method_6_code (4 : Nat) (Option.some Jvm.ClassFile.FieldType.int)) ∈ lw_all := lw_g (lw_at lw_m8 120 rfl) rfl
theorem q1948 : (Jvm.Cond.constantLong "VibrationDesk" (86 : Nat) (97 : Int64)) ∈ lw_all := lw_g (lw_at lw_m8 121 rfl) rfl
theorem q1950 : (Jvm.Cond.static ({ cls := "VibrationDesk", name := "left", desc := "(J)I" } : Jvm.MethodName)) ∈ lw_all := lw_g (lw_at lw_m8 123 rfl) rfl
theorem q1951 : (Jvm.Cond.code ({ cls := "VibrationDesk", name := "left", desc := "(J)I" } : Jvm.MethodName) prog_1_method_5_code (2 : Nat) (Option.some Jvm.ClassFile.FieldType.int)) ∈ lw_all := lw_g (lw_at lw_m8 124 rfl) rfl
theorem q1952 : (Jvm.Cond.methodLink "VibrationDesk" (88 : Nat) ({ cls := "java/lang/Math", name := "floorMod", desc := "(JJ)J" } : Jvm.MethodName)) ∈ lw_all := lw_g (lw_at lw_m8 125 rfl) rfl
theorem q1980 : (Jvm.Cond.instanceMethod ({ cls := "VibrationDesk", name := "degree", desc := "(I)I" } : Jvm.MethodName)) ∈ lw_all := lw_g (lw_at lw_m8 153 rfl) rfl
theorem q1981 : (Jvm.Cond.selects "VibrationDesk" ({ cls := "VibrationDesk", name := "degree", desc := "(I)I" } : Jvm.MethodName) ({ cls := "VibrationDesk", name := "degree", desc := "(I)I" } : Jvm.MethodName)) ∈ lw_all := lw_g (lw_at lw_m8 154 rfl) rfl
theorem q1982 : (Jvm.Cond.code ({ cls := "VibrationDesk", name := "degree", desc := "(I)I" } : Jvm.MethodName) prog_1_method_85_code (2 : Nat) (Option.some Jvm.ClassFile.FieldType.int)) ∈ lw_all := lw_g (lw_at lw_m8 155 rfl) rfl
theorem q1984 : (Jvm.Cond.instanceMethod ({ cls := "VibrationDesk", name := "character", desc := "(II)I" } : Jvm.MethodName)) ∈ lw_all := lw_g (lw_at lw_m8 157 rfl) rfl
theorem q1985 : (Jvm.Cond.selects "VibrationDesk" ({ cls := "VibrationDesk", name := "character", desc := "(II)I" } : Jvm.MethodName) ({ cls := "VibrationDesk", name := "character", desc := "(II)I" } : Jvm.MethodName)) ∈ lw_all := lw_g (lw_at lw_m8 158 rfl) rfl
theorem q1986 : (Jvm.Cond.code ({ cls := "VibrationDesk", name := "character", desc := "(II)I" } : Jvm.MethodName) prog_1_method_86_code (3 : Nat) (Option.some Jvm.ClassFile.FieldType.int)) ∈ lw_all := lw_g (lw_at lw_m8 159 rfl) rfl
theorem q1988 : (Jvm.Cond.instanceMethod ({ cls := "VibrationDesk", name := "share", desc := "(II)I" } : Jvm.MethodName)) ∈ lw_all := lw_g (lw_at lw_m8 161 rfl) rfl
theorem q1989 : (Jvm.Cond.selects "VibrationDesk" ({ cls := "VibrationDesk", name := "share", desc := "(II)I" } : Jvm.MethodName) ({ cls := "VibrationDesk", name := "share", desc := "(II)I" } : Jvm.MethodName)) ∈ lw_all := lw_g (lw_at lw_m8 162 rfl) rfl
theorem q1990 : (Jvm.Cond.code ({ cls := "VibrationDesk", name := "share", desc := "(II)I" } : Jvm.MethodName) prog_1_method_87_code (3 : Nat) (Option.some Jvm.ClassFile.FieldType.int)) ∈ lw_all := lw_g (lw_at lw_m8 163 rfl) rfl
theorem q1991 : (Jvm.Cond.constantLong "VibrationDesk" (547 : Nat) (5 : Int64)) ∈ lw_all := lw_g (lw_at lw_m8 164 rfl) rfl
theorem q1992 : (Jvm.Cond.methodLink "VibrationDesk" (549 : Nat) ({ cls := "VibrationDesk$Laws", name := "shareIn", desc := "(II)I" } : Jvm.MethodName)) ∈ lw_all := lw_g (lw_at lw_m8 165 rfl) rfl
theorem q2002 : (Jvm.Cond.instanceMethod ({ cls := "VibrationDesk", name := "product", desc := "(III)I" } : Jvm.MethodName)) ∈ lw_all := lw_g (lw_at lw_m8 175 rfl) rfl
theorem q2003 : (Jvm.Cond.selects "VibrationDesk" ({ cls := "VibrationDesk", name := "product", desc := "(III)I" } : Jvm.MethodName) ({ cls := "VibrationDesk", name := "product", desc := "(III)I" } : Jvm.MethodName)) ∈ lw_all := lw_g (lw_at lw_m8 176 rfl) rfl
theorem q2004 : (Jvm.Cond.code ({ cls := "VibrationDesk", name := "product", desc := "(III)I" } : Jvm.MethodName) prog_1_method_88_code (5 : Nat) (Option.some Jvm.ClassFile.FieldType.int)) ∈ lw_all := lw_g (lw_at lw_m8 177 rfl) rfl
theorem q2005 : (Jvm.Cond.methodLink "VibrationDesk" (552 : Nat) ({ cls := "VibrationDesk$Laws", name := "inProduct", desc := "(III)I" } : Jvm.MethodName)) ∈ lw_all := lw_g (lw_at lw_m8 178 rfl) rfl
theorem q2010 : (Jvm.Cond.instanceMethod ({ cls := "VibrationDesk", name := "partner", desc := "(I)I" } : Jvm.MethodName)) ∈ lw_all := lw_g (lw_at lw_m8 183 rfl) rfl
theorem q2011 : (Jvm.Cond.selects "VibrationDesk" ({ cls := "VibrationDesk", name := "partner", desc := "(I)I" } : Jvm.MethodName) ({ cls := "VibrationDesk", name := "partner", desc := "(I)I" } : Jvm.MethodName)) ∈ lw_all := lw_g (lw_at lw_m8 184 rfl) rfl
theorem q2012 : (Jvm.Cond.code ({ cls := "VibrationDesk", name := "partner", desc := "(I)I" } : Jvm.MethodName) prog_1_method_89_code (2 : Nat) (Option.some Jvm.ClassFile.FieldType.int)) ∈ lw_all := lw_g (lw_at lw_m8 185 rfl) rfl
theorem q2013 : (Jvm.Cond.methodLink "VibrationDesk" (555 : Nat) ({ cls := "VibrationDesk$Laws", name := "partnerOf", desc := "(I)I" } : Jvm.MethodName)) ∈ lw_all := lw_g (lw_at lw_m8 186 rfl) rfl
theorem q2022 : (Jvm.Cond.instanceMethod ({ cls := "VibrationDesk", name := "kernel", desc := "(I)I" } : Jvm.MethodName)) ∈ lw_all := lw_g (lw_at lw_m8 195 rfl) rfl
theorem q2023 : (Jvm.Cond.selects "VibrationDesk" ({ cls := "VibrationDesk", name := "kernel", desc := "(I)I" } : Jvm.MethodName) ({ cls := "VibrationDesk", name := "kernel", desc := "(I)I" } : Jvm.MethodName)) ∈ lw_all := lw_g (lw_at lw_m8 196 rfl) rfl
theorem q2024 : (Jvm.Cond.code ({ cls := "VibrationDesk", name := "kernel", desc := "(I)I" } : Jvm.MethodName) prog_1_method_90_code (2 : Nat) (Option.some Jvm.ClassFile.FieldType.int)) ∈ lw_all := lw_g (lw_at lw_m8 197 rfl) rfl
theorem q2025 : (Jvm.Cond.methodLink "VibrationDesk" (558 : Nat) ({ cls := "VibrationDesk$Laws", name := "kernelOf", desc := "(I)I" } : Jvm.MethodName)) ∈ lw_all := lw_g (lw_at lw_m8 198 rfl) rfl
theorem q2030 : (Jvm.Cond.instanceMethod ({ cls := "VibrationDesk", name := "bright", desc := "(I)I" } : Jvm.MethodName)) ∈ lw_all := lw_g (lw_at lw_m8 203 rfl) rfl
theorem q2031 : (Jvm.Cond.selects "VibrationDesk" ({ cls := "VibrationDesk", name := "bright", desc := "(I)I" } : Jvm.MethodName) ({ cls := "VibrationDesk", name := "bright", desc := "(I)I" } : Jvm.MethodName)) ∈ lw_all := lw_g (lw_at lw_m8 204 rfl) rfl
theorem q2032 : (Jvm.Cond.code ({ cls := "VibrationDesk", name := "bright", desc := "(I)I" } : Jvm.MethodName) prog_1_method_92_code (4 : Nat) (Option.some Jvm.ClassFile.FieldType.int)) ∈ lw_all := lw_g (lw_at lw_m8 205 rfl) rfl
theorem q2033 : (Jvm.Cond.methodLink "VibrationDesk" (561 : Nat) ({ cls := "VibrationDesk", name := "isShown", desc := "(II)Z" } : Jvm.MethodName)) ∈ lw_all := lw_g (lw_at lw_m8 206 rfl) rfl
theorem q2034 : (Jvm.Cond.privateMethod ({ cls := "VibrationDesk", name := "isShown", desc := "(II)Z" } : Jvm.MethodName)) ∈ lw_tbl := lw_at lw_m8 207 rfl
theorem q2035 : (Jvm.Cond.instanceMethod ({ cls := "VibrationDesk", name := "isShown", desc := "(II)Z" } : Jvm.MethodName)) ∈ lw_all := lw_g (lw_at lw_m8 208 rfl) rfl
theorem q2036 : (Jvm.Cond.code ({ cls := "VibrationDesk", name := "isShown", desc := "(II)Z" } : Jvm.MethodName) prog_1_method_91_code (5 : Nat) (Option.some Jvm.ClassFile.FieldType.boolean)) ∈ lw_all := lw_g (lw_at lw_m8 209 rfl) rfl
theorem q2038 : (Jvm.Cond.instanceMethod ({ cls := "VibrationDesk", name := "paintings", desc := "(II)J" } : Jvm.MethodName)) ∈ lw_all := lw_g (lw_at lw_m8 211 rfl) rfl
theorem q2039 : (Jvm.Cond.selects "VibrationDesk" ({ cls := "VibrationDesk", name := "paintings", desc := "(II)J" } : Jvm.MethodName) ({ cls := "VibrationDesk", name := "paintings", desc := "(II)J" } : Jvm.MethodName)) ∈ lw_all := lw_g (lw_at lw_m8 212 rfl) rfl
theorem q2040 : (Jvm.Cond.codeWith ({ cls := "VibrationDesk", name := "paintings", desc := "(II)J" } : Jvm.MethodName) prog_1_method_96_code (4 : Nat) (Option.some Jvm.ClassFile.FieldType.long) [((31 : Nat), (44 : Nat), (45 : Nat), (580 : Nat))]) ∈ lw_all := lw_g (lw_at lw_m8 213 rfl) rfl
theorem q2041 : (Jvm.Cond.classLink "VibrationDesk" (580 : Nat) "java/lang/ArithmeticException") ∈ lw_all := lw_g (lw_at lw_m8 214 rfl) rfl
theorem q2042 : (Jvm.Cond.methodLink "VibrationDesk" (574 : Nat) ({ cls := "VibrationDesk", name := "paintedBy", desc := "(II)J" } : Jvm.MethodName)) ∈ lw_all := lw_g (lw_at lw_m8 215 rfl) rfl
theorem q2043 : (Jvm.Cond.privateMethod ({ cls := "VibrationDesk", name := "paintedBy", desc := "(II)J" } : Jvm.MethodName)) ∈ lw_tbl := lw_at lw_m8 216 rfl
theorem q2044 : (Jvm.Cond.instanceMethod ({ cls := "VibrationDesk", name := "paintedBy", desc := "(II)J" } : Jvm.MethodName)) ∈ lw_all := lw_g (lw_at lw_m8 217 rfl) rfl
theorem q2045 : (Jvm.Cond.code ({ cls := "VibrationDesk", name := "paintedBy", desc := "(II)J" } : Jvm.MethodName) prog_1_method_95_code (9 : Nat) (Option.some Jvm.ClassFile.FieldType.long)) ∈ lw_all := lw_g (lw_at lw_m8 218 rfl) rfl
theorem q2046 : (Jvm.Cond.methodLink "VibrationDesk" (564 : Nat) ({ cls := "VibrationDesk", name := "isAsked", desc := "(LVibrationDesk$Op;I)Z" } : Jvm.MethodName)) ∈ lw_all := lw_g (lw_at lw_m8 219 rfl) rfl
theorem q2047 : (Jvm.Cond.privateMethod ({ cls := "VibrationDesk", name := "isAsked", desc := "(LVibrationDesk$Op;I)Z" } : Jvm.MethodName)) ∈ lw_tbl := lw_at lw_m8 220 rfl
theorem q2048 : (Jvm.Cond.instanceMethod ({ cls := "VibrationDesk", name := "isAsked", desc := "(LVibrationDesk$Op;I)Z" } : Jvm.MethodName)) ∈ lw_all := lw_g (lw_at lw_m8 221 rfl) rfl
theorem q2049 : (Jvm.Cond.code ({ cls := "VibrationDesk", name := "isAsked", desc := "(LVibrationDesk$Op;I)Z" } : Jvm.MethodName) prog_1_method_93_code (3 : Nat) (Option.some Jvm.ClassFile.FieldType.boolean)) ∈ lw_all := lw_g (lw_at lw_m8 222 rfl) rfl
theorem q2050 : (Jvm.Cond.methodLink "VibrationDesk" (568 : Nat) ({ cls := "java/lang/Math", name := "multiplyExact", desc := "(JJ)J" } : Jvm.MethodName)) ∈ lw_all := lw_g (lw_at lw_m8 223 rfl) rfl
theorem q2057 : (Jvm.Cond.methodLink "VibrationDesk" (571 : Nat) ({ cls := "java/lang/Math", name := "addExact", desc := "(JJ)J" } : Jvm.MethodName)) ∈ lw_all := lw_g (lw_at lw_m8 230 rfl) rfl
theorem q2060 : (Jvm.Cond.methodLink "VibrationDesk" (577 : Nat) ({ cls := "VibrationDesk", name := "askedMany", desc := "(I)I" } : Jvm.MethodName)) ∈ lw_all := lw_g (lw_at lw_m8 233 rfl) rfl
theorem q2061 : (Jvm.Cond.privateMethod ({ cls := "VibrationDesk", name := "askedMany", desc := "(I)I" } : Jvm.MethodName)) ∈ lw_tbl := lw_at lw_m8 234 rfl
theorem q2062 : (Jvm.Cond.instanceMethod ({ cls := "VibrationDesk", name := "askedMany", desc := "(I)I" } : Jvm.MethodName)) ∈ lw_all := lw_g (lw_at lw_m8 235 rfl) rfl
theorem q2063 : (Jvm.Cond.code ({ cls := "VibrationDesk", name := "askedMany", desc := "(I)I" } : Jvm.MethodName) prog_1_method_94_code (4 : Nat) (Option.some Jvm.ClassFile.FieldType.int)) ∈ lw_all := lw_g (lw_at lw_m8 236 rfl) rfl
theorem q2065 : (Jvm.Cond.instanceMethod ({ cls := "VibrationDesk", name := "painted", desc := "(II)I" } : Jvm.MethodName)) ∈ lw_all := lw_g (lw_at lw_m8 238 rfl) rfl
theorem q2066 : (Jvm.Cond.selects "VibrationDesk" ({ cls := "VibrationDesk", name := "painted", desc := "(II)I" } : Jvm.MethodName) ({ cls := "VibrationDesk", name := "painted", desc := "(II)I" } : Jvm.MethodName)) ∈ lw_all := lw_g (lw_at lw_m8 239 rfl) rfl
theorem q2067 : (Jvm.Cond.code ({ cls := "VibrationDesk", name := "painted", desc := "(II)I" } : Jvm.MethodName) prog_1_method_98_code (5 : Nat) (Option.some Jvm.ClassFile.FieldType.int)) ∈ lw_all := lw_g (lw_at lw_m9 0 rfl) rfl
theorem q2068 : (Jvm.Cond.constantLong "VibrationDesk" (582 : Nat) (12 : Int64)) ∈ lw_all := lw_g (lw_at lw_m9 1 rfl) rfl
theorem q2069 : (Jvm.Cond.methodLink "VibrationDesk" (584 : Nat) ({ cls := "VibrationDesk", name := "waysOf", desc := "(LVibrationDesk$Op;I)I" } : Jvm.MethodName)) ∈ lw_all := lw_g (lw_at lw_m9 2 rfl) rfl
theorem q2070 : (Jvm.Cond.privateMethod ({ cls := "VibrationDesk", name := "waysOf", desc := "(LVibrationDesk$Op;I)I" } : Jvm.MethodName)) ∈ lw_tbl := lw_at lw_m9 3 rfl
theorem q2071 : (Jvm.Cond.instanceMethod ({ cls := "VibrationDesk", name := "waysOf", desc := "(LVibrationDesk$Op;I)I" } : Jvm.MethodName)) ∈ lw_all := lw_g (lw_at lw_m9 4 rfl) rfl
theorem q2072 : (Jvm.Cond.code ({ cls := "VibrationDesk", name := "waysOf", desc := "(LVibrationDesk$Op;I)I" } : Jvm.MethodName) prog_1_method_97_code (6 : Nat) (Option.some Jvm.ClassFile.FieldType.int)) ∈ lw_all := lw_g (lw_at lw_m9 5 rfl) rfl
theorem q2074 : (Jvm.Cond.instanceMethod ({ cls := "VibrationDesk", name := "bestDrop", desc := "()I" } : Jvm.MethodName)) ∈ lw_all := lw_g (lw_at lw_m9 7 rfl) rfl
theorem q2075 : (Jvm.Cond.selects "VibrationDesk" ({ cls := "VibrationDesk", name := "bestDrop", desc := "()I" } : Jvm.MethodName) ({ cls := "VibrationDesk", name := "bestDrop", desc := "()I" } : Jvm.MethodName)) ∈ lw_all := lw_g (lw_at lw_m9 8 rfl) rfl
theorem q2076 : (Jvm.Cond.code ({ cls := "VibrationDesk", name := "bestDrop", desc := "()I" } : Jvm.MethodName) prog_1_method_100_code (5 : Nat) (Option.some Jvm.ClassFile.FieldType.int)) ∈ lw_all := lw_g (lw_at lw_m9 9 rfl) rfl
theorem q2077 : (Jvm.Cond.methodLink "VibrationDesk" (588 : Nat) ({ cls := "VibrationDesk", name := "orderOther", desc := "()I" } : Jvm.MethodName)) ∈ lw_all := lw_g (lw_at lw_m9 10 rfl) rfl
theorem q2078 : (Jvm.Cond.privateMethod ({ cls := "VibrationDesk", name := "orderOther", desc := "()I" } : Jvm.MethodName)) ∈ lw_tbl := lw_at lw_m9 11 rfl
theorem q2079 : (Jvm.Cond.instanceMethod ({ cls := "VibrationDesk", name := "orderOther", desc := "()I" } : Jvm.MethodName)) ∈ lw_all := lw_g (lw_at lw_m9 12 rfl) rfl
theorem q2080 : (Jvm.Cond.code ({ cls := "VibrationDesk", name := "orderOther", desc := "()I" } : Jvm.MethodName) prog_1_method_99_code (1 : Nat) (Option.some Jvm.ClassFile.FieldType.int)) ∈ lw_all := lw_g (lw_at lw_m9 13 rfl) rfl
theorem q2082 : (Jvm.Cond.instanceMethod ({ cls := "VibrationDesk", name := "bestSwap", desc := "(I)I" } : Jvm.MethodName)) ∈ lw_all := lw_g (lw_at lw_m9 15 rfl) rfl
theorem q2083 : (Jvm.Cond.selects "VibrationDesk" ({ cls := "VibrationDesk", name := "bestSwap", desc := "(I)I" } : Jvm.MethodName) ({ cls := "VibrationDesk", name := "bestSwap", desc := "(I)I" } : Jvm.MethodName)) ∈ lw_all := lw_g (lw_at lw_m9 16 rfl) rfl
theorem q2084 : (Jvm.Cond.code ({ cls := "VibrationDesk", name := "bestSwap", desc := "(I)I" } : Jvm.MethodName) prog_1_method_101_code (6 : Nat) (Option.some Jvm.ClassFile.FieldType.int)) ∈ lw_all := lw_g (lw_at lw_m9 17 rfl) rfl
theorem in_X0 : ∀ w ∈ wsX00, w ∈ lw_all := lw_in wsX00 [618, 620, 622, 624, 626, 628, 630, 632, 634, 636, 638, 640, 642, 644, 646, 648, 650, 652, 654, 656, 658, 660] (by decide +kernel) (by decide +kernel)
