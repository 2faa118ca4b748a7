/-! VibrationDesk$Group -/
set_option maxRecDepth 100000
def RX3 : String := "VibrationDesk$Group"
def TX3 : u_T := fun k => match k with
  | 0 => ("VibrationDesk$Group", "frame", "LVibrationDesk$Frame;", false)
  | 1 => ("VibrationDesk$Group", "ops", "[LVibrationDesk$Op;", true)
  | 2 => ("VibrationDesk$Group", "many", "I", false)
  | 3 => ("VibrationDesk$Group", "first", "LVibrationDesk$Seat;", true)
  | 4 => ("VibrationDesk$Group", "basis", "LVibrationDesk$Basis;", true)
  | 5 => ("VibrationDesk$Group", "used", "[Z", true)
  | 6 => ("VibrationDesk$Group", "tried", "LVibrationDesk$Op;", true)
  | 7 => ("VibrationDesk$Group", "joined", "[[I", true)
  | 8 => ("VibrationDesk$Group", "back", "[I", true)
  | 9 => ("VibrationDesk$Group", "sort", "[I", true)
  | 10 => ("VibrationDesk$Group", "leastOf", "[I", true)
  | 11 => ("VibrationDesk$Group", "sizeOf", "[I", true)
  | 12 => ("VibrationDesk$Group", "backOf", "[I", true)
  | 13 => ("VibrationDesk$Group", "joins", "[I", true)
  | 14 => ("VibrationDesk$Group", "sorts", "I", false)
  | 15 => ("VibrationDesk$Group", "both", "LVibrationDesk$Both;", true)
  | 16 => ("VibrationDesk$Group", "unlike", "[J", true)
  | 17 => ("VibrationDesk$Group", "sets", "[J", true)
  | _ => ("VibrationDesk$Group", "setMany", "I", false)
def tyX3 : Nat → FieldType := fun k => match k with
  | 0 => .object "VibrationDesk$Frame"
  | 1 => .array (.object "VibrationDesk$Op")
  | 2 => .int
  | 3 => .object "VibrationDesk$Seat"
  | 4 => .object "VibrationDesk$Basis"
  | 5 => .array .boolean
  | 6 => .object "VibrationDesk$Op"
  | 7 => .array (.array .int)
  | 8 => .array .int
  | 9 => .array .int
  | 10 => .array .int
  | 11 => .array .int
  | 12 => .array .int
  | 13 => .array .int
  | 14 => .int
  | 15 => .object "VibrationDesk$Both"
  | 16 => .array .long
  | 17 => .array .long
  | _ => .int
abbrev wsX30 : List Cond := u_ws RX3 TX3 19
set_option maxRecDepth 100000 in
theorem nmX3 : ∀ a, a < 19 → ∀ b, b < 19 → a ≠ b → (TX3 a).2.1 ≠ (TX3 b).2.1 := by decide +kernel
set_option maxRecDepth 100000 in
theorem tyX3_ok : ∀ k, k < 19 → parseFieldDescriptor (TX3 k).2.2.1 = some (tyX3 k) := by decide +kernel
abbrev cX3_init : ByteArray := prog_6_method_1_code
def yX3_init : MethodName := ⟨RX3, "<init>", "()V"⟩
def dkwX3_init_7 : List UInt8 := [183, 0, 37, 83, 132, 1, 1, 167, 255, 234, 177]
abbrev dktX3_init_7 : List UInt8 := dkwX3_init_7 ++ []
def dkwX3_init_6 : List UInt8 := [188, 11, 181, 0, 77, 3, 60, 27, 16, 48, 162, 0, 22, 42, 180, 0, 11, 27, 187, 0, 9, 89]
abbrev dktX3_init_6 : List UInt8 := dkwX3_init_6 ++ dktX3_init_7
def dkwX3_init_5 : List UInt8 := [42, 187, 0, 66, 89, 183, 0, 68, 181, 0, 69, 42, 16, 48, 188, 11, 181, 0, 73, 42, 17, 0, 128]
abbrev dktX3_init_5 : List UInt8 := dkwX3_init_5 ++ dktX3_init_6
def dkwX3_init_4 : List UInt8 := [16, 12, 188, 10, 181, 0, 57, 42, 16, 12, 188, 10, 181, 0, 60, 42, 17, 6, 192, 188, 10, 181, 0, 63]
abbrev dktX3_init_4 : List UInt8 := dkwX3_init_4 ++ dktX3_init_5
def dkwX3_init_3 : List UInt8 := [16, 48, 188, 10, 181, 0, 47, 42, 16, 48, 188, 10, 181, 0, 51, 42, 16, 12, 188, 10, 181, 0, 54, 42]
abbrev dktX3_init_3 : List UInt8 := dkwX3_init_3 ++ dktX3_init_4
def dkwX3_init_2 : List UInt8 := [187, 0, 9, 89, 183, 0, 37, 181, 0, 38, 42, 16, 48, 16, 48, 197, 0, 42, 2, 181, 0, 44, 42]
abbrev dktX3_init_2 : List UInt8 := dkwX3_init_2 ++ dktX3_init_3
def dkwX3_init_1 : List UInt8 := [181, 0, 22, 42, 187, 0, 26, 89, 183, 0, 28, 181, 0, 29, 42, 16, 12, 188, 4, 181, 0, 33, 42]
abbrev dktX3_init_1 : List UInt8 := dkwX3_init_1 ++ dktX3_init_2
def dkwX3_init_0 : List UInt8 := [42, 183, 0, 3, 42, 16, 48, 189, 0, 9, 181, 0, 11, 42, 187, 0, 17, 89, 3, 183, 0, 19]
abbrev dktX3_init_0 : List UInt8 := dkwX3_init_0 ++ dktX3_init_1
theorem dksX3_init_0 : cX3_init.data.toList.drop 0 = dktX3_init_0 := by decide +kernel
theorem dksX3_init_1 : cX3_init.data.toList.drop 22 = dktX3_init_1 := dk_seg dksX3_init_0 22 rfl rfl
theorem dksX3_init_2 : cX3_init.data.toList.drop 45 = dktX3_init_2 := dk_seg dksX3_init_1 23 rfl rfl
theorem dksX3_init_3 : cX3_init.data.toList.drop 68 = dktX3_init_3 := dk_seg dksX3_init_2 23 rfl rfl
theorem dksX3_init_4 : cX3_init.data.toList.drop 92 = dktX3_init_4 := dk_seg dksX3_init_3 24 rfl rfl
theorem dksX3_init_5 : cX3_init.data.toList.drop 116 = dktX3_init_5 := dk_seg dksX3_init_4 24 rfl rfl
theorem dksX3_init_6 : cX3_init.data.toList.drop 139 = dktX3_init_6 := dk_seg dksX3_init_5 23 rfl rfl
theorem dksX3_init_7 : cX3_init.data.toList.drop 161 = dktX3_init_7 := dk_seg dksX3_init_6 22 rfl rfl
theorem dX3_init_0 : decode cX3_init 0 = .ok (.aload_n 0, 1) := dk_42 (dk_at dksX3_init_0 0 rfl rfl)
theorem dX3_init_1 : decode cX3_init 1 = .ok (.invokespecial 3, 3) := dk_183 0 3 (dk_at dksX3_init_0 1 rfl rfl)
theorem dX3_init_4 : decode cX3_init 4 = .ok (.aload_n 0, 1) := dk_42 (dk_at dksX3_init_0 4 rfl rfl)
theorem dX3_init_5 : decode cX3_init 5 = .ok (.bipush 48, 2) := dk_16 48 (dk_at dksX3_init_0 5 rfl rfl)
theorem dX3_init_7 : decode cX3_init 7 = .ok (.anewarray 9, 3) := dk_189 0 9 (dk_at dksX3_init_0 7 rfl rfl)
theorem dX3_init_10 : decode cX3_init 10 = .ok (.putfield 11, 3) := dk_181 0 11 (dk_at dksX3_init_0 10 rfl rfl)
theorem dX3_init_13 : decode cX3_init 13 = .ok (.aload_n 0, 1) := dk_42 (dk_at dksX3_init_0 13 rfl rfl)
theorem dX3_init_14 : decode cX3_init 14 = .ok (.new 17, 3) := dk_187 0 17 (dk_at dksX3_init_0 14 rfl rfl)
theorem dX3_init_17 : decode cX3_init 17 = .ok (.dup, 1) := dk_89 (dk_at dksX3_init_0 17 rfl rfl)
theorem dX3_init_18 : decode cX3_init 18 = .ok (.iconst 0, 1) := dk_3 (dk_at dksX3_init_0 18 rfl rfl)
theorem dX3_init_19 : decode cX3_init 19 = .ok (.invokespecial 19, 3) := dk_183 0 19 (dk_at dksX3_init_0 19 rfl rfl)
theorem dX3_init_22 : decode cX3_init 22 = .ok (.putfield 22, 3) := dk_181 0 22 (dk_at dksX3_init_1 0 rfl rfl)
theorem dX3_init_25 : decode cX3_init 25 = .ok (.aload_n 0, 1) := dk_42 (dk_at dksX3_init_1 3 rfl rfl)
theorem dX3_init_26 : decode cX3_init 26 = .ok (.new 26, 3) := dk_187 0 26 (dk_at dksX3_init_1 4 rfl rfl)
theorem dX3_init_29 : decode cX3_init 29 = .ok (.dup, 1) := dk_89 (dk_at dksX3_init_1 7 rfl rfl)
theorem dX3_init_30 : decode cX3_init 30 = .ok (.invokespecial 28, 3) := dk_183 0 28 (dk_at dksX3_init_1 8 rfl rfl)
theorem dX3_init_33 : decode cX3_init 33 = .ok (.putfield 29, 3) := dk_181 0 29 (dk_at dksX3_init_1 11 rfl rfl)
theorem dX3_init_36 : decode cX3_init 36 = .ok (.aload_n 0, 1) := dk_42 (dk_at dksX3_init_1 14 rfl rfl)
theorem dX3_init_37 : decode cX3_init 37 = .ok (.bipush 12, 2) := dk_16 12 (dk_at dksX3_init_1 15 rfl rfl)
theorem dX3_init_39 : decode cX3_init 39 = .ok (.newarray .boolean, 2) := dk_188_4 (dk_at dksX3_init_1 17 rfl rfl)
theorem dX3_init_41 : decode cX3_init 41 = .ok (.putfield 33, 3) := dk_181 0 33 (dk_at dksX3_init_1 19 rfl rfl)
theorem dX3_init_44 : decode cX3_init 44 = .ok (.aload_n 0, 1) := dk_42 (dk_at dksX3_init_1 22 rfl rfl)
theorem dX3_init_45 : decode cX3_init 45 = .ok (.new 9, 3) := dk_187 0 9 (dk_at dksX3_init_2 0 rfl rfl)
theorem dX3_init_48 : decode cX3_init 48 = .ok (.dup, 1) := dk_89 (dk_at dksX3_init_2 3 rfl rfl)
theorem dX3_init_49 : decode cX3_init 49 = .ok (.invokespecial 37, 3) := dk_183 0 37 (dk_at dksX3_init_2 4 rfl rfl)
theorem dX3_init_52 : decode cX3_init 52 = .ok (.putfield 38, 3) := dk_181 0 38 (dk_at dksX3_init_2 7 rfl rfl)
theorem dX3_init_55 : decode cX3_init 55 = .ok (.aload_n 0, 1) := dk_42 (dk_at dksX3_init_2 10 rfl rfl)
theorem dX3_init_56 : decode cX3_init 56 = .ok (.bipush 48, 2) := dk_16 48 (dk_at dksX3_init_2 11 rfl rfl)
theorem dX3_init_58 : decode cX3_init 58 = .ok (.bipush 48, 2) := dk_16 48 (dk_at dksX3_init_2 13 rfl rfl)
theorem dX3_init_60 : decode cX3_init 60 = .ok (.multianewarray 42 2, 4) := by decide +kernel
theorem dX3_init_64 : decode cX3_init 64 = .ok (.putfield 44, 3) := dk_181 0 44 (dk_at dksX3_init_2 19 rfl rfl)
theorem dX3_init_67 : decode cX3_init 67 = .ok (.aload_n 0, 1) := dk_42 (dk_at dksX3_init_2 22 rfl rfl)
theorem dX3_init_68 : decode cX3_init 68 = .ok (.bipush 48, 2) := dk_16 48 (dk_at dksX3_init_3 0 rfl rfl)
theorem dX3_init_70 : decode cX3_init 70 = .ok (.newarray .int, 2) := dk_188_10 (dk_at dksX3_init_3 2 rfl rfl)
theorem dX3_init_72 : decode cX3_init 72 = .ok (.putfield 47, 3) := dk_181 0 47 (dk_at dksX3_init_3 4 rfl rfl)
theorem dX3_init_75 : decode cX3_init 75 = .ok (.aload_n 0, 1) := dk_42 (dk_at dksX3_init_3 7 rfl rfl)
theorem dX3_init_76 : decode cX3_init 76 = .ok (.bipush 48, 2) := dk_16 48 (dk_at dksX3_init_3 8 rfl rfl)
theorem dX3_init_78 : decode cX3_init 78 = .ok (.newarray .int, 2) := dk_188_10 (dk_at dksX3_init_3 10 rfl rfl)
theorem dX3_init_80 : decode cX3_init 80 = .ok (.putfield 51, 3) := dk_181 0 51 (dk_at dksX3_init_3 12 rfl rfl)
theorem dX3_init_83 : decode cX3_init 83 = .ok (.aload_n 0, 1) := dk_42 (dk_at dksX3_init_3 15 rfl rfl)
theorem dX3_init_84 : decode cX3_init 84 = .ok (.bipush 12, 2) := dk_16 12 (dk_at dksX3_init_3 16 rfl rfl)
theorem dX3_init_86 : decode cX3_init 86 = .ok (.newarray .int, 2) := dk_188_10 (dk_at dksX3_init_3 18 rfl rfl)
theorem dX3_init_88 : decode cX3_init 88 = .ok (.putfield 54, 3) := dk_181 0 54 (dk_at dksX3_init_3 20 rfl rfl)
theorem dX3_init_91 : decode cX3_init 91 = .ok (.aload_n 0, 1) := dk_42 (dk_at dksX3_init_3 23 rfl rfl)
theorem dX3_init_92 : decode cX3_init 92 = .ok (.bipush 12, 2) := dk_16 12 (dk_at dksX3_init_4 0 rfl rfl)
theorem dX3_init_94 : decode cX3_init 94 = .ok (.newarray .int, 2) := dk_188_10 (dk_at dksX3_init_4 2 rfl rfl)
theorem dX3_init_96 : decode cX3_init 96 = .ok (.putfield 57, 3) := dk_181 0 57 (dk_at dksX3_init_4 4 rfl rfl)
theorem dX3_init_99 : decode cX3_init 99 = .ok (.aload_n 0, 1) := dk_42 (dk_at dksX3_init_4 7 rfl rfl)
theorem dX3_init_100 : decode cX3_init 100 = .ok (.bipush 12, 2) := dk_16 12 (dk_at dksX3_init_4 8 rfl rfl)
theorem dX3_init_102 : decode cX3_init 102 = .ok (.newarray .int, 2) := dk_188_10 (dk_at dksX3_init_4 10 rfl rfl)
theorem dX3_init_104 : decode cX3_init 104 = .ok (.putfield 60, 3) := dk_181 0 60 (dk_at dksX3_init_4 12 rfl rfl)
theorem dX3_init_107 : decode cX3_init 107 = .ok (.aload_n 0, 1) := dk_42 (dk_at dksX3_init_4 15 rfl rfl)
theorem dX3_init_108 : decode cX3_init 108 = .ok (.sipush 1728, 3) := dk_17 6 192 (dk_at dksX3_init_4 16 rfl rfl)
theorem dX3_init_111 : decode cX3_init 111 = .ok (.newarray .int, 2) := dk_188_10 (dk_at dksX3_init_4 19 rfl rfl)
theorem dX3_init_113 : decode cX3_init 113 = .ok (.putfield 63, 3) := dk_181 0 63 (dk_at dksX3_init_4 21 rfl rfl)
theorem dX3_init_116 : decode cX3_init 116 = .ok (.aload_n 0, 1) := dk_42 (dk_at dksX3_init_5 0 rfl rfl)
theorem dX3_init_117 : decode cX3_init 117 = .ok (.new 66, 3) := dk_187 0 66 (dk_at dksX3_init_5 1 rfl rfl)
theorem dX3_init_120 : decode cX3_init 120 = .ok (.dup, 1) := dk_89 (dk_at dksX3_init_5 4 rfl rfl)
theorem dX3_init_121 : decode cX3_init 121 = .ok (.invokespecial 68, 3) := dk_183 0 68 (dk_at dksX3_init_5 5 rfl rfl)
theorem dX3_init_124 : decode cX3_init 124 = .ok (.putfield 69, 3) := dk_181 0 69 (dk_at dksX3_init_5 8 rfl rfl)
theorem dX3_init_127 : decode cX3_init 127 = .ok (.aload_n 0, 1) := dk_42 (dk_at dksX3_init_5 11 rfl rfl)
theorem dX3_init_128 : decode cX3_init 128 = .ok (.bipush 48, 2) := dk_16 48 (dk_at dksX3_init_5 12 rfl rfl)
theorem dX3_init_130 : decode cX3_init 130 = .ok (.newarray .long, 2) := dk_188_11 (dk_at dksX3_init_5 14 rfl rfl)
theorem dX3_init_132 : decode cX3_init 132 = .ok (.putfield 73, 3) := dk_181 0 73 (dk_at dksX3_init_5 16 rfl rfl)
theorem dX3_init_135 : decode cX3_init 135 = .ok (.aload_n 0, 1) := dk_42 (dk_at dksX3_init_5 19 rfl rfl)
theorem dX3_init_136 : decode cX3_init 136 = .ok (.sipush 128, 3) := dk_17 0 128 (dk_at dksX3_init_5 20 rfl rfl)
theorem dX3_init_139 : decode cX3_init 139 = .ok (.newarray .long, 2) := dk_188_11 (dk_at dksX3_init_6 0 rfl rfl)
theorem dX3_init_141 : decode cX3_init 141 = .ok (.putfield 77, 3) := dk_181 0 77 (dk_at dksX3_init_6 2 rfl rfl)
theorem dX3_init_144 : decode cX3_init 144 = .ok (.iconst 0, 1) := dk_3 (dk_at dksX3_init_6 5 rfl rfl)
theorem dX3_init_145 : decode cX3_init 145 = .ok (.istore_n 1, 1) := dk_60 (dk_at dksX3_init_6 6 rfl rfl)
theorem dX3_init_146 : decode cX3_init 146 = .ok (.iload_n 1, 1) := dk_27 (dk_at dksX3_init_6 7 rfl rfl)
theorem dX3_init_147 : decode cX3_init 147 = .ok (.bipush 48, 2) := dk_16 48 (dk_at dksX3_init_6 8 rfl rfl)
theorem dX3_init_149 : decode cX3_init 149 = .ok (.if_icmp .ge 22, 3) := dk_162 0 22 (dk_at dksX3_init_6 10 rfl rfl)
theorem dX3_init_152 : decode cX3_init 152 = .ok (.aload_n 0, 1) := dk_42 (dk_at dksX3_init_6 13 rfl rfl)
theorem dX3_init_153 : decode cX3_init 153 = .ok (.getfield 11, 3) := dk_180 0 11 (dk_at dksX3_init_6 14 rfl rfl)
theorem dX3_init_156 : decode cX3_init 156 = .ok (.iload_n 1, 1) := dk_27 (dk_at dksX3_init_6 17 rfl rfl)
theorem dX3_init_157 : decode cX3_init 157 = .ok (.new 9, 3) := dk_187 0 9 (dk_at dksX3_init_6 18 rfl rfl)
theorem dX3_init_160 : decode cX3_init 160 = .ok (.dup, 1) := dk_89 (dk_at dksX3_init_6 21 rfl rfl)
theorem dX3_init_161 : decode cX3_init 161 = .ok (.invokespecial 37, 3) := dk_183 0 37 (dk_at dksX3_init_7 0 rfl rfl)
theorem dX3_init_164 : decode cX3_init 164 = .ok (.aastore, 1) := dk_83 (dk_at dksX3_init_7 3 rfl rfl)
theorem dX3_init_165 : decode cX3_init 165 = .ok (.iinc 1 1, 3) := dk_132 1 1 (dk_at dksX3_init_7 4 rfl rfl)
theorem dX3_init_168 : decode cX3_init 168 = .ok (.goto (-22), 3) := dk_167 255 234 (dk_at dksX3_init_7 7 rfl rfl)
theorem dX3_init_171 : decode cX3_init 171 = .ok (.return_, 1) := dk_177 (dk_at dksX3_init_7 10 rfl rfl)
abbrev cX3_finds : ByteArray := prog_6_method_2_code
def yX3_finds : MethodName := ⟨RX3, "finds", "(LVibrationDesk$Frame;)V"⟩
def dkwX3_finds_2 : List UInt8 := [84, 132, 2, 1, 167, 255, 240, 42, 42, 180, 0, 22, 182, 0, 100, 177]
abbrev dktX3_finds_2 : List UInt8 := dkwX3_finds_2 ++ []
def dkwX3_finds_1 : List UInt8 := [180, 0, 38, 43, 180, 0, 98, 181, 0, 99, 3, 61, 28, 16, 12, 162, 0, 16, 42, 180, 0, 33, 28, 3]
abbrev dktX3_finds_1 : List UInt8 := dkwX3_finds_1 ++ dktX3_finds_2
def dkwX3_finds_0 : List UInt8 := [42, 43, 181, 0, 80, 42, 3, 181, 0, 84, 42, 180, 0, 29, 43, 182, 0, 88, 43, 182, 0, 92, 87, 42]
abbrev dktX3_finds_0 : List UInt8 := dkwX3_finds_0 ++ dktX3_finds_1
theorem dksX3_finds_0 : cX3_finds.data.toList.drop 0 = dktX3_finds_0 := by decide +kernel
theorem dksX3_finds_1 : cX3_finds.data.toList.drop 24 = dktX3_finds_1 := dk_seg dksX3_finds_0 24 rfl rfl
theorem dksX3_finds_2 : cX3_finds.data.toList.drop 48 = dktX3_finds_2 := dk_seg dksX3_finds_1 24 rfl rfl
theorem dX3_finds_0 : decode cX3_finds 0 = .ok (.aload_n 0, 1) := dk_42 (dk_at dksX3_finds_0 0 rfl rfl)
theorem dX3_finds_1 : decode cX3_finds 1 = .ok (.aload_n 1, 1) := dk_43 (dk_at dksX3_finds_0 1 rfl rfl)
theorem dX3_finds_2 : decode cX3_finds 2 = .ok (.putfield 80, 3) := dk_181 0 80 (dk_at dksX3_finds_0 2 rfl rfl)
theorem dX3_finds_5 : decode cX3_finds 5 = .ok (.aload_n 0, 1) := dk_42 (dk_at dksX3_finds_0 5 rfl rfl)
theorem dX3_finds_6 : decode cX3_finds 6 = .ok (.iconst 0, 1) := dk_3 (dk_at dksX3_finds_0 6 rfl rfl)
theorem dX3_finds_7 : decode cX3_finds 7 = .ok (.putfield 84, 3) := dk_181 0 84 (dk_at dksX3_finds_0 7 rfl rfl)
theorem dX3_finds_10 : decode cX3_finds 10 = .ok (.aload_n 0, 1) := dk_42 (dk_at dksX3_finds_0 10 rfl rfl)
theorem dX3_finds_11 : decode cX3_finds 11 = .ok (.getfield 29, 3) := dk_180 0 29 (dk_at dksX3_finds_0 11 rfl rfl)
theorem dX3_finds_14 : decode cX3_finds 14 = .ok (.aload_n 1, 1) := dk_43 (dk_at dksX3_finds_0 14 rfl rfl)
theorem dX3_finds_15 : decode cX3_finds 15 = .ok (.invokevirtual 88, 3) := dk_182 0 88 (dk_at dksX3_finds_0 15 rfl rfl)
theorem dX3_finds_18 : decode cX3_finds 18 = .ok (.aload_n 1, 1) := dk_43 (dk_at dksX3_finds_0 18 rfl rfl)
theorem dX3_finds_19 : decode cX3_finds 19 = .ok (.invokevirtual 92, 3) := dk_182 0 92 (dk_at dksX3_finds_0 19 rfl rfl)
theorem dX3_finds_22 : decode cX3_finds 22 = .ok (.pop, 1) := dk_87 (dk_at dksX3_finds_0 22 rfl rfl)
theorem dX3_finds_23 : decode cX3_finds 23 = .ok (.aload_n 0, 1) := dk_42 (dk_at dksX3_finds_0 23 rfl rfl)
theorem dX3_finds_24 : decode cX3_finds 24 = .ok (.getfield 38, 3) := dk_180 0 38 (dk_at dksX3_finds_1 0 rfl rfl)
theorem dX3_finds_27 : decode cX3_finds 27 = .ok (.aload_n 1, 1) := dk_43 (dk_at dksX3_finds_1 3 rfl rfl)
theorem dX3_finds_28 : decode cX3_finds 28 = .ok (.getfield 98, 3) := dk_180 0 98 (dk_at dksX3_finds_1 4 rfl rfl)
theorem dX3_finds_31 : decode cX3_finds 31 = .ok (.putfield 99, 3) := dk_181 0 99 (dk_at dksX3_finds_1 7 rfl rfl)
theorem dX3_finds_34 : decode cX3_finds 34 = .ok (.iconst 0, 1) := dk_3 (dk_at dksX3_finds_1 10 rfl rfl)
theorem dX3_finds_35 : decode cX3_finds 35 = .ok (.istore_n 2, 1) := dk_61 (dk_at dksX3_finds_1 11 rfl rfl)
theorem dX3_finds_36 : decode cX3_finds 36 = .ok (.iload_n 2, 1) := dk_28 (dk_at dksX3_finds_1 12 rfl rfl)
theorem dX3_finds_37 : decode cX3_finds 37 = .ok (.bipush 12, 2) := dk_16 12 (dk_at dksX3_finds_1 13 rfl rfl)
theorem dX3_finds_39 : decode cX3_finds 39 = .ok (.if_icmp .ge 16, 3) := dk_162 0 16 (dk_at dksX3_finds_1 15 rfl rfl)
theorem dX3_finds_42 : decode cX3_finds 42 = .ok (.aload_n 0, 1) := dk_42 (dk_at dksX3_finds_1 18 rfl rfl)
theorem dX3_finds_43 : decode cX3_finds 43 = .ok (.getfield 33, 3) := dk_180 0 33 (dk_at dksX3_finds_1 19 rfl rfl)
theorem dX3_finds_46 : decode cX3_finds 46 = .ok (.iload_n 2, 1) := dk_28 (dk_at dksX3_finds_1 22 rfl rfl)
theorem dX3_finds_47 : decode cX3_finds 47 = .ok (.iconst 0, 1) := dk_3 (dk_at dksX3_finds_1 23 rfl rfl)
theorem dX3_finds_48 : decode cX3_finds 48 = .ok (.bastore, 1) := dk_84 (dk_at dksX3_finds_2 0 rfl rfl)
theorem dX3_finds_49 : decode cX3_finds 49 = .ok (.iinc 2 1, 3) := dk_132 2 1 (dk_at dksX3_finds_2 1 rfl rfl)
theorem dX3_finds_52 : decode cX3_finds 52 = .ok (.goto (-16), 3) := dk_167 255 240 (dk_at dksX3_finds_2 4 rfl rfl)
theorem dX3_finds_55 : decode cX3_finds 55 = .ok (.aload_n 0, 1) := dk_42 (dk_at dksX3_finds_2 7 rfl rfl)
theorem dX3_finds_56 : decode cX3_finds 56 = .ok (.aload_n 0, 1) := dk_42 (dk_at dksX3_finds_2 8 rfl rfl)
theorem dX3_finds_57 : decode cX3_finds 57 = .ok (.getfield 22, 3) := dk_180 0 22 (dk_at dksX3_finds_2 9 rfl rfl)
theorem dX3_finds_60 : decode cX3_finds 60 = .ok (.invokevirtual 100, 3) := dk_182 0 100 (dk_at dksX3_finds_2 12 rfl rfl)
theorem dX3_finds_63 : decode cX3_finds 63 = .ok (.return_, 1) := dk_177 (dk_at dksX3_finds_2 15 rfl rfl)
abbrev cX3_seats : ByteArray := prog_6_method_3_code
def yX3_seats : MethodName := ⟨RX3, "seats", "(LVibrationDesk$Seat;)V"⟩
def dkwX3_seats_6 : List UInt8 := [180, 0, 120, 182, 0, 100, 42, 180, 0, 33, 28, 3, 84, 132, 2, 1, 167, 255, 128, 177]
abbrev dktX3_seats_6 : List UInt8 := dkwX3_seats_6 ++ []
def dkwX3_seats_5 : List UInt8 := [45, 180, 0, 120, 78, 167, 255, 213, 43, 28, 181, 0, 117, 42, 180, 0, 33, 28, 4, 84, 42, 43]
abbrev dktX3_seats_5 : List UInt8 := dkwX3_seats_5 ++ dktX3_seats_6
def dkwX3_seats_4 : List UInt8 := [180, 0, 104, 182, 0, 113, 42, 180, 0, 80, 45, 180, 0, 117, 28, 182, 0, 113, 159, 0, 6, 167, 0, 38]
abbrev dktX3_seats_4 : List UInt8 := dkwX3_seats_4 ++ dktX3_seats_5
def dkwX3_seats_3 : List UInt8 := [167, 0, 81, 42, 180, 0, 22, 78, 45, 43, 165, 0, 44, 42, 180, 0, 80, 45, 180, 0, 104, 43]
abbrev dktX3_seats_3 : List UInt8 := dkwX3_seats_3 ++ dktX3_seats_4
def dkwX3_seats_2 : List UInt8 := [180, 0, 80, 180, 0, 110, 28, 46, 42, 180, 0, 80, 180, 0, 110, 43, 180, 0, 104, 46, 159, 0, 6]
abbrev dktX3_seats_2 : List UInt8 := dkwX3_seats_2 ++ dktX3_seats_3
def dkwX3_seats_1 : List UInt8 := [61, 28, 42, 180, 0, 80, 180, 0, 98, 162, 0, 123, 42, 180, 0, 33, 28, 51, 154, 0, 108, 42]
abbrev dktX3_seats_1 : List UInt8 := dkwX3_seats_1 ++ dktX3_seats_2
def dkwX3_seats_0 : List UInt8 := [43, 198, 0, 17, 43, 180, 0, 104, 42, 180, 0, 80, 180, 0, 98, 160, 0, 8, 42, 182, 0, 107, 177, 3]
abbrev dktX3_seats_0 : List UInt8 := dkwX3_seats_0 ++ dktX3_seats_1
theorem dksX3_seats_0 : cX3_seats.data.toList.drop 0 = dktX3_seats_0 := by decide +kernel
theorem dksX3_seats_1 : cX3_seats.data.toList.drop 24 = dktX3_seats_1 := dk_seg dksX3_seats_0 24 rfl rfl
theorem dksX3_seats_2 : cX3_seats.data.toList.drop 46 = dktX3_seats_2 := dk_seg dksX3_seats_1 22 rfl rfl
theorem dksX3_seats_3 : cX3_seats.data.toList.drop 69 = dktX3_seats_3 := dk_seg dksX3_seats_2 23 rfl rfl
theorem dksX3_seats_4 : cX3_seats.data.toList.drop 91 = dktX3_seats_4 := dk_seg dksX3_seats_3 22 rfl rfl
theorem dksX3_seats_5 : cX3_seats.data.toList.drop 115 = dktX3_seats_5 := dk_seg dksX3_seats_4 24 rfl rfl
theorem dksX3_seats_6 : cX3_seats.data.toList.drop 137 = dktX3_seats_6 := dk_seg dksX3_seats_5 22 rfl rfl
theorem dX3_seats_0 : decode cX3_seats 0 = .ok (.aload_n 1, 1) := dk_43 (dk_at dksX3_seats_0 0 rfl rfl)
theorem dX3_seats_1 : decode cX3_seats 1 = .ok (.ifnull 17, 3) := dk_198 0 17 (dk_at dksX3_seats_0 1 rfl rfl)
theorem dX3_seats_4 : decode cX3_seats 4 = .ok (.aload_n 1, 1) := dk_43 (dk_at dksX3_seats_0 4 rfl rfl)
theorem dX3_seats_5 : decode cX3_seats 5 = .ok (.getfield 104, 3) := dk_180 0 104 (dk_at dksX3_seats_0 5 rfl rfl)
theorem dX3_seats_8 : decode cX3_seats 8 = .ok (.aload_n 0, 1) := dk_42 (dk_at dksX3_seats_0 8 rfl rfl)
theorem dX3_seats_9 : decode cX3_seats 9 = .ok (.getfield 80, 3) := dk_180 0 80 (dk_at dksX3_seats_0 9 rfl rfl)
theorem dX3_seats_12 : decode cX3_seats 12 = .ok (.getfield 98, 3) := dk_180 0 98 (dk_at dksX3_seats_0 12 rfl rfl)
theorem dX3_seats_15 : decode cX3_seats 15 = .ok (.if_icmp .ne 8, 3) := dk_160 0 8 (dk_at dksX3_seats_0 15 rfl rfl)
theorem dX3_seats_18 : decode cX3_seats 18 = .ok (.aload_n 0, 1) := dk_42 (dk_at dksX3_seats_0 18 rfl rfl)
theorem dX3_seats_19 : decode cX3_seats 19 = .ok (.invokevirtual 107, 3) := dk_182 0 107 (dk_at dksX3_seats_0 19 rfl rfl)
theorem dX3_seats_22 : decode cX3_seats 22 = .ok (.return_, 1) := dk_177 (dk_at dksX3_seats_0 22 rfl rfl)
theorem dX3_seats_23 : decode cX3_seats 23 = .ok (.iconst 0, 1) := dk_3 (dk_at dksX3_seats_0 23 rfl rfl)
theorem dX3_seats_24 : decode cX3_seats 24 = .ok (.istore_n 2, 1) := dk_61 (dk_at dksX3_seats_1 0 rfl rfl)
theorem dX3_seats_25 : decode cX3_seats 25 = .ok (.iload_n 2, 1) := dk_28 (dk_at dksX3_seats_1 1 rfl rfl)
theorem dX3_seats_26 : decode cX3_seats 26 = .ok (.aload_n 0, 1) := dk_42 (dk_at dksX3_seats_1 2 rfl rfl)
theorem dX3_seats_27 : decode cX3_seats 27 = .ok (.getfield 80, 3) := dk_180 0 80 (dk_at dksX3_seats_1 3 rfl rfl)
theorem dX3_seats_30 : decode cX3_seats 30 = .ok (.getfield 98, 3) := dk_180 0 98 (dk_at dksX3_seats_1 6 rfl rfl)
theorem dX3_seats_33 : decode cX3_seats 33 = .ok (.if_icmp .ge 123, 3) := dk_162 0 123 (dk_at dksX3_seats_1 9 rfl rfl)
theorem dX3_seats_36 : decode cX3_seats 36 = .ok (.aload_n 0, 1) := dk_42 (dk_at dksX3_seats_1 12 rfl rfl)
theorem dX3_seats_37 : decode cX3_seats 37 = .ok (.getfield 33, 3) := dk_180 0 33 (dk_at dksX3_seats_1 13 rfl rfl)
theorem dX3_seats_40 : decode cX3_seats 40 = .ok (.iload_n 2, 1) := dk_28 (dk_at dksX3_seats_1 16 rfl rfl)
theorem dX3_seats_41 : decode cX3_seats 41 = .ok (.baload, 1) := dk_51 (dk_at dksX3_seats_1 17 rfl rfl)
theorem dX3_seats_42 : decode cX3_seats 42 = .ok (.ifCond .ne 108, 3) := dk_154 0 108 (dk_at dksX3_seats_1 18 rfl rfl)
theorem dX3_seats_45 : decode cX3_seats 45 = .ok (.aload_n 0, 1) := dk_42 (dk_at dksX3_seats_1 21 rfl rfl)
theorem dX3_seats_46 : decode cX3_seats 46 = .ok (.getfield 80, 3) := dk_180 0 80 (dk_at dksX3_seats_2 0 rfl rfl)
theorem dX3_seats_49 : decode cX3_seats 49 = .ok (.getfield 110, 3) := dk_180 0 110 (dk_at dksX3_seats_2 3 rfl rfl)
theorem dX3_seats_52 : decode cX3_seats 52 = .ok (.iload_n 2, 1) := dk_28 (dk_at dksX3_seats_2 6 rfl rfl)
theorem dX3_seats_53 : decode cX3_seats 53 = .ok (.iaload, 1) := dk_46 (dk_at dksX3_seats_2 7 rfl rfl)
theorem dX3_seats_54 : decode cX3_seats 54 = .ok (.aload_n 0, 1) := dk_42 (dk_at dksX3_seats_2 8 rfl rfl)
theorem dX3_seats_55 : decode cX3_seats 55 = .ok (.getfield 80, 3) := dk_180 0 80 (dk_at dksX3_seats_2 9 rfl rfl)
theorem dX3_seats_58 : decode cX3_seats 58 = .ok (.getfield 110, 3) := dk_180 0 110 (dk_at dksX3_seats_2 12 rfl rfl)
theorem dX3_seats_61 : decode cX3_seats 61 = .ok (.aload_n 1, 1) := dk_43 (dk_at dksX3_seats_2 15 rfl rfl)
theorem dX3_seats_62 : decode cX3_seats 62 = .ok (.getfield 104, 3) := dk_180 0 104 (dk_at dksX3_seats_2 16 rfl rfl)
theorem dX3_seats_65 : decode cX3_seats 65 = .ok (.iaload, 1) := dk_46 (dk_at dksX3_seats_2 19 rfl rfl)
theorem dX3_seats_66 : decode cX3_seats 66 = .ok (.if_icmp .eq 6, 3) := dk_159 0 6 (dk_at dksX3_seats_2 20 rfl rfl)
theorem dX3_seats_69 : decode cX3_seats 69 = .ok (.goto 81, 3) := dk_167 0 81 (dk_at dksX3_seats_3 0 rfl rfl)
theorem dX3_seats_72 : decode cX3_seats 72 = .ok (.aload_n 0, 1) := dk_42 (dk_at dksX3_seats_3 3 rfl rfl)
theorem dX3_seats_73 : decode cX3_seats 73 = .ok (.getfield 22, 3) := dk_180 0 22 (dk_at dksX3_seats_3 4 rfl rfl)
theorem dX3_seats_76 : decode cX3_seats 76 = .ok (.astore_n 3, 1) := dk_78 (dk_at dksX3_seats_3 7 rfl rfl)
theorem dX3_seats_77 : decode cX3_seats 77 = .ok (.aload_n 3, 1) := dk_45 (dk_at dksX3_seats_3 8 rfl rfl)
theorem dX3_seats_78 : decode cX3_seats 78 = .ok (.aload_n 1, 1) := dk_43 (dk_at dksX3_seats_3 9 rfl rfl)
theorem dX3_seats_79 : decode cX3_seats 79 = .ok (.if_acmp .eq 44, 3) := dk_165 0 44 (dk_at dksX3_seats_3 10 rfl rfl)
theorem dX3_seats_82 : decode cX3_seats 82 = .ok (.aload_n 0, 1) := dk_42 (dk_at dksX3_seats_3 13 rfl rfl)
theorem dX3_seats_83 : decode cX3_seats 83 = .ok (.getfield 80, 3) := dk_180 0 80 (dk_at dksX3_seats_3 14 rfl rfl)
theorem dX3_seats_86 : decode cX3_seats 86 = .ok (.aload_n 3, 1) := dk_45 (dk_at dksX3_seats_3 17 rfl rfl)
theorem dX3_seats_87 : decode cX3_seats 87 = .ok (.getfield 104, 3) := dk_180 0 104 (dk_at dksX3_seats_3 18 rfl rfl)
theorem dX3_seats_90 : decode cX3_seats 90 = .ok (.aload_n 1, 1) := dk_43 (dk_at dksX3_seats_3 21 rfl rfl)
theorem dX3_seats_91 : decode cX3_seats 91 = .ok (.getfield 104, 3) := dk_180 0 104 (dk_at dksX3_seats_4 0 rfl rfl)
theorem dX3_seats_94 : decode cX3_seats 94 = .ok (.invokevirtual 113, 3) := dk_182 0 113 (dk_at dksX3_seats_4 3 rfl rfl)
theorem dX3_seats_97 : decode cX3_seats 97 = .ok (.aload_n 0, 1) := dk_42 (dk_at dksX3_seats_4 6 rfl rfl)
theorem dX3_seats_98 : decode cX3_seats 98 = .ok (.getfield 80, 3) := dk_180 0 80 (dk_at dksX3_seats_4 7 rfl rfl)
theorem dX3_seats_101 : decode cX3_seats 101 = .ok (.aload_n 3, 1) := dk_45 (dk_at dksX3_seats_4 10 rfl rfl)
theorem dX3_seats_102 : decode cX3_seats 102 = .ok (.getfield 117, 3) := dk_180 0 117 (dk_at dksX3_seats_4 11 rfl rfl)
theorem dX3_seats_105 : decode cX3_seats 105 = .ok (.iload_n 2, 1) := dk_28 (dk_at dksX3_seats_4 14 rfl rfl)
theorem dX3_seats_106 : decode cX3_seats 106 = .ok (.invokevirtual 113, 3) := dk_182 0 113 (dk_at dksX3_seats_4 15 rfl rfl)
theorem dX3_seats_109 : decode cX3_seats 109 = .ok (.if_icmp .eq 6, 3) := dk_159 0 6 (dk_at dksX3_seats_4 18 rfl rfl)
theorem dX3_seats_112 : decode cX3_seats 112 = .ok (.goto 38, 3) := dk_167 0 38 (dk_at dksX3_seats_4 21 rfl rfl)
theorem dX3_seats_115 : decode cX3_seats 115 = .ok (.aload_n 3, 1) := dk_45 (dk_at dksX3_seats_5 0 rfl rfl)
theorem dX3_seats_116 : decode cX3_seats 116 = .ok (.getfield 120, 3) := dk_180 0 120 (dk_at dksX3_seats_5 1 rfl rfl)
theorem dX3_seats_119 : decode cX3_seats 119 = .ok (.astore_n 3, 1) := dk_78 (dk_at dksX3_seats_5 4 rfl rfl)
theorem dX3_seats_120 : decode cX3_seats 120 = .ok (.goto (-43), 3) := dk_167 255 213 (dk_at dksX3_seats_5 5 rfl rfl)
theorem dX3_seats_123 : decode cX3_seats 123 = .ok (.aload_n 1, 1) := dk_43 (dk_at dksX3_seats_5 8 rfl rfl)
theorem dX3_seats_124 : decode cX3_seats 124 = .ok (.iload_n 2, 1) := dk_28 (dk_at dksX3_seats_5 9 rfl rfl)
theorem dX3_seats_125 : decode cX3_seats 125 = .ok (.putfield 117, 3) := dk_181 0 117 (dk_at dksX3_seats_5 10 rfl rfl)
theorem dX3_seats_128 : decode cX3_seats 128 = .ok (.aload_n 0, 1) := dk_42 (dk_at dksX3_seats_5 13 rfl rfl)
theorem dX3_seats_129 : decode cX3_seats 129 = .ok (.getfield 33, 3) := dk_180 0 33 (dk_at dksX3_seats_5 14 rfl rfl)
theorem dX3_seats_132 : decode cX3_seats 132 = .ok (.iload_n 2, 1) := dk_28 (dk_at dksX3_seats_5 17 rfl rfl)
theorem dX3_seats_133 : decode cX3_seats 133 = .ok (.iconst 1, 1) := dk_4 (dk_at dksX3_seats_5 18 rfl rfl)
theorem dX3_seats_134 : decode cX3_seats 134 = .ok (.bastore, 1) := dk_84 (dk_at dksX3_seats_5 19 rfl rfl)
theorem dX3_seats_135 : decode cX3_seats 135 = .ok (.aload_n 0, 1) := dk_42 (dk_at dksX3_seats_5 20 rfl rfl)
theorem dX3_seats_136 : decode cX3_seats 136 = .ok (.aload_n 1, 1) := dk_43 (dk_at dksX3_seats_5 21 rfl rfl)
theorem dX3_seats_137 : decode cX3_seats 137 = .ok (.getfield 120, 3) := dk_180 0 120 (dk_at dksX3_seats_6 0 rfl rfl)
theorem dX3_seats_140 : decode cX3_seats 140 = .ok (.invokevirtual 100, 3) := dk_182 0 100 (dk_at dksX3_seats_6 3 rfl rfl)
theorem dX3_seats_143 : decode cX3_seats 143 = .ok (.aload_n 0, 1) := dk_42 (dk_at dksX3_seats_6 6 rfl rfl)
theorem dX3_seats_144 : decode cX3_seats 144 = .ok (.getfield 33, 3) := dk_180 0 33 (dk_at dksX3_seats_6 7 rfl rfl)
theorem dX3_seats_147 : decode cX3_seats 147 = .ok (.iload_n 2, 1) := dk_28 (dk_at dksX3_seats_6 10 rfl rfl)
theorem dX3_seats_148 : decode cX3_seats 148 = .ok (.iconst 0, 1) := dk_3 (dk_at dksX3_seats_6 11 rfl rfl)
theorem dX3_seats_149 : decode cX3_seats 149 = .ok (.bastore, 1) := dk_84 (dk_at dksX3_seats_6 12 rfl rfl)
theorem dX3_seats_150 : decode cX3_seats 150 = .ok (.iinc 2 1, 3) := dk_132 2 1 (dk_at dksX3_seats_6 13 rfl rfl)
theorem dX3_seats_153 : decode cX3_seats 153 = .ok (.goto (-128), 3) := dk_167 255 128 (dk_at dksX3_seats_6 16 rfl rfl)
theorem dX3_seats_156 : decode cX3_seats 156 = .ok (.return_, 1) := dk_177 (dk_at dksX3_seats_6 19 rfl rfl)
abbrev cX3_found : ByteArray := prog_6_method_4_code
def yX3_found : MethodName := ⟨RX3, "found", "()V"⟩
def dkwX3_found_3 : List UInt8 := [180, 0, 29, 42, 180, 0, 38, 182, 0, 133, 182, 0, 130, 177]
abbrev dktX3_found_3 : List UInt8 := dkwX3_found_3 ++ []
def dkwX3_found_2 : List UInt8 := [180, 0, 29, 182, 0, 126, 153, 0, 16, 42, 4, 182, 0, 130, 42, 2, 182, 0, 130, 167, 0, 18, 42, 42]
abbrev dktX3_found_2 : List UInt8 := dkwX3_found_2 ++ dktX3_found_3
def dkwX3_found_1 : List UInt8 := [180, 0, 38, 180, 0, 123, 43, 180, 0, 104, 43, 180, 0, 117, 79, 43, 180, 0, 120, 76, 167, 255, 217, 42]
abbrev dktX3_found_1 : List UInt8 := dkwX3_found_1 ++ dktX3_found_2
def dkwX3_found_0 : List UInt8 := [42, 180, 0, 22, 76, 43, 198, 0, 41, 43, 180, 0, 104, 42, 180, 0, 80, 180, 0, 98, 162, 0, 27, 42]
abbrev dktX3_found_0 : List UInt8 := dkwX3_found_0 ++ dktX3_found_1
theorem dksX3_found_0 : cX3_found.data.toList.drop 0 = dktX3_found_0 := by decide +kernel
theorem dksX3_found_1 : cX3_found.data.toList.drop 24 = dktX3_found_1 := dk_seg dksX3_found_0 24 rfl rfl
theorem dksX3_found_2 : cX3_found.data.toList.drop 48 = dktX3_found_2 := dk_seg dksX3_found_1 24 rfl rfl
theorem dksX3_found_3 : cX3_found.data.toList.drop 72 = dktX3_found_3 := dk_seg dksX3_found_2 24 rfl rfl
theorem dX3_found_0 : decode cX3_found 0 = .ok (.aload_n 0, 1) := dk_42 (dk_at dksX3_found_0 0 rfl rfl)
theorem dX3_found_1 : decode cX3_found 1 = .ok (.getfield 22, 3) := dk_180 0 22 (dk_at dksX3_found_0 1 rfl rfl)
theorem dX3_found_4 : decode cX3_found 4 = .ok (.astore_n 1, 1) := dk_76 (dk_at dksX3_found_0 4 rfl rfl)
theorem dX3_found_5 : decode cX3_found 5 = .ok (.aload_n 1, 1) := dk_43 (dk_at dksX3_found_0 5 rfl rfl)
theorem dX3_found_6 : decode cX3_found 6 = .ok (.ifnull 41, 3) := dk_198 0 41 (dk_at dksX3_found_0 6 rfl rfl)
theorem dX3_found_9 : decode cX3_found 9 = .ok (.aload_n 1, 1) := dk_43 (dk_at dksX3_found_0 9 rfl rfl)
theorem dX3_found_10 : decode cX3_found 10 = .ok (.getfield 104, 3) := dk_180 0 104 (dk_at dksX3_found_0 10 rfl rfl)
theorem dX3_found_13 : decode cX3_found 13 = .ok (.aload_n 0, 1) := dk_42 (dk_at dksX3_found_0 13 rfl rfl)
theorem dX3_found_14 : decode cX3_found 14 = .ok (.getfield 80, 3) := dk_180 0 80 (dk_at dksX3_found_0 14 rfl rfl)
theorem dX3_found_17 : decode cX3_found 17 = .ok (.getfield 98, 3) := dk_180 0 98 (dk_at dksX3_found_0 17 rfl rfl)
theorem dX3_found_20 : decode cX3_found 20 = .ok (.if_icmp .ge 27, 3) := dk_162 0 27 (dk_at dksX3_found_0 20 rfl rfl)
theorem dX3_found_23 : decode cX3_found 23 = .ok (.aload_n 0, 1) := dk_42 (dk_at dksX3_found_0 23 rfl rfl)
theorem dX3_found_24 : decode cX3_found 24 = .ok (.getfield 38, 3) := dk_180 0 38 (dk_at dksX3_found_1 0 rfl rfl)
theorem dX3_found_27 : decode cX3_found 27 = .ok (.getfield 123, 3) := dk_180 0 123 (dk_at dksX3_found_1 3 rfl rfl)
theorem dX3_found_30 : decode cX3_found 30 = .ok (.aload_n 1, 1) := dk_43 (dk_at dksX3_found_1 6 rfl rfl)
theorem dX3_found_31 : decode cX3_found 31 = .ok (.getfield 104, 3) := dk_180 0 104 (dk_at dksX3_found_1 7 rfl rfl)
theorem dX3_found_34 : decode cX3_found 34 = .ok (.aload_n 1, 1) := dk_43 (dk_at dksX3_found_1 10 rfl rfl)
theorem dX3_found_35 : decode cX3_found 35 = .ok (.getfield 117, 3) := dk_180 0 117 (dk_at dksX3_found_1 11 rfl rfl)
theorem dX3_found_38 : decode cX3_found 38 = .ok (.iastore, 1) := dk_79 (dk_at dksX3_found_1 14 rfl rfl)
theorem dX3_found_39 : decode cX3_found 39 = .ok (.aload_n 1, 1) := dk_43 (dk_at dksX3_found_1 15 rfl rfl)
theorem dX3_found_40 : decode cX3_found 40 = .ok (.getfield 120, 3) := dk_180 0 120 (dk_at dksX3_found_1 16 rfl rfl)
theorem dX3_found_43 : decode cX3_found 43 = .ok (.astore_n 1, 1) := dk_76 (dk_at dksX3_found_1 19 rfl rfl)
theorem dX3_found_44 : decode cX3_found 44 = .ok (.goto (-39), 3) := dk_167 255 217 (dk_at dksX3_found_1 20 rfl rfl)
theorem dX3_found_47 : decode cX3_found 47 = .ok (.aload_n 0, 1) := dk_42 (dk_at dksX3_found_1 23 rfl rfl)
theorem dX3_found_48 : decode cX3_found 48 = .ok (.getfield 29, 3) := dk_180 0 29 (dk_at dksX3_found_2 0 rfl rfl)
theorem dX3_found_51 : decode cX3_found 51 = .ok (.invokevirtual 126, 3) := dk_182 0 126 (dk_at dksX3_found_2 3 rfl rfl)
theorem dX3_found_54 : decode cX3_found 54 = .ok (.ifCond .eq 16, 3) := dk_153 0 16 (dk_at dksX3_found_2 6 rfl rfl)
theorem dX3_found_57 : decode cX3_found 57 = .ok (.aload_n 0, 1) := dk_42 (dk_at dksX3_found_2 9 rfl rfl)
theorem dX3_found_58 : decode cX3_found 58 = .ok (.iconst 1, 1) := dk_4 (dk_at dksX3_found_2 10 rfl rfl)
theorem dX3_found_59 : decode cX3_found 59 = .ok (.invokevirtual 130, 3) := dk_182 0 130 (dk_at dksX3_found_2 11 rfl rfl)
theorem dX3_found_62 : decode cX3_found 62 = .ok (.aload_n 0, 1) := dk_42 (dk_at dksX3_found_2 14 rfl rfl)
theorem dX3_found_63 : decode cX3_found 63 = .ok (.iconst (-1), 1) := dk_2 (dk_at dksX3_found_2 15 rfl rfl)
theorem dX3_found_64 : decode cX3_found 64 = .ok (.invokevirtual 130, 3) := dk_182 0 130 (dk_at dksX3_found_2 16 rfl rfl)
theorem dX3_found_67 : decode cX3_found 67 = .ok (.goto 18, 3) := dk_167 0 18 (dk_at dksX3_found_2 19 rfl rfl)
theorem dX3_found_70 : decode cX3_found 70 = .ok (.aload_n 0, 1) := dk_42 (dk_at dksX3_found_2 22 rfl rfl)
theorem dX3_found_71 : decode cX3_found 71 = .ok (.aload_n 0, 1) := dk_42 (dk_at dksX3_found_2 23 rfl rfl)
theorem dX3_found_72 : decode cX3_found 72 = .ok (.getfield 29, 3) := dk_180 0 29 (dk_at dksX3_found_3 0 rfl rfl)
theorem dX3_found_75 : decode cX3_found 75 = .ok (.aload_n 0, 1) := dk_42 (dk_at dksX3_found_3 3 rfl rfl)
theorem dX3_found_76 : decode cX3_found 76 = .ok (.getfield 38, 3) := dk_180 0 38 (dk_at dksX3_found_3 4 rfl rfl)
theorem dX3_found_79 : decode cX3_found 79 = .ok (.invokevirtual 133, 3) := dk_182 0 133 (dk_at dksX3_found_3 7 rfl rfl)
theorem dX3_found_82 : decode cX3_found 82 = .ok (.invokevirtual 130, 3) := dk_182 0 130 (dk_at dksX3_found_3 10 rfl rfl)
theorem dX3_found_85 : decode cX3_found 85 = .ok (.return_, 1) := dk_177 (dk_at dksX3_found_3 13 rfl rfl)
abbrev cX3_adds : ByteArray := prog_6_method_5_code
def yX3_adds : MethodName := ⟨RX3, "adds", "(I)V"⟩
def dkwX3_adds_3 : List UInt8 := [180, 0, 84, 4, 96, 181, 0, 84, 177]
abbrev dktX3_adds_3 : List UInt8 := dkwX3_adds_3 ++ []
def dkwX3_adds_2 : List UInt8 := [181, 0, 99, 44, 27, 181, 0, 143, 44, 42, 180, 0, 29, 44, 182, 0, 146, 181, 0, 149, 42, 89]
abbrev dktX3_adds_2 : List UInt8 := dkwX3_adds_2 ++ dktX3_adds_3
def dkwX3_adds_1 : List UInt8 := [180, 0, 123, 3, 44, 180, 0, 123, 3, 16, 12, 184, 0, 137, 44, 42, 180, 0, 80, 180, 0, 98]
abbrev dktX3_adds_1 : List UInt8 := dkwX3_adds_1 ++ dktX3_adds_2
def dkwX3_adds_0 : List UInt8 := [42, 180, 0, 84, 16, 48, 160, 0, 4, 177, 42, 180, 0, 11, 42, 180, 0, 84, 50, 77, 42, 180, 0, 38]
abbrev dktX3_adds_0 : List UInt8 := dkwX3_adds_0 ++ dktX3_adds_1
theorem dksX3_adds_0 : cX3_adds.data.toList.drop 0 = dktX3_adds_0 := by decide +kernel
theorem dksX3_adds_1 : cX3_adds.data.toList.drop 24 = dktX3_adds_1 := dk_seg dksX3_adds_0 24 rfl rfl
theorem dksX3_adds_2 : cX3_adds.data.toList.drop 46 = dktX3_adds_2 := dk_seg dksX3_adds_1 22 rfl rfl
theorem dksX3_adds_3 : cX3_adds.data.toList.drop 68 = dktX3_adds_3 := dk_seg dksX3_adds_2 22 rfl rfl
theorem dX3_adds_0 : decode cX3_adds 0 = .ok (.aload_n 0, 1) := dk_42 (dk_at dksX3_adds_0 0 rfl rfl)
theorem dX3_adds_1 : decode cX3_adds 1 = .ok (.getfield 84, 3) := dk_180 0 84 (dk_at dksX3_adds_0 1 rfl rfl)
theorem dX3_adds_4 : decode cX3_adds 4 = .ok (.bipush 48, 2) := dk_16 48 (dk_at dksX3_adds_0 4 rfl rfl)
theorem dX3_adds_6 : decode cX3_adds 6 = .ok (.if_icmp .ne 4, 3) := dk_160 0 4 (dk_at dksX3_adds_0 6 rfl rfl)
theorem dX3_adds_9 : decode cX3_adds 9 = .ok (.return_, 1) := dk_177 (dk_at dksX3_adds_0 9 rfl rfl)
theorem dX3_adds_10 : decode cX3_adds 10 = .ok (.aload_n 0, 1) := dk_42 (dk_at dksX3_adds_0 10 rfl rfl)
theorem dX3_adds_11 : decode cX3_adds 11 = .ok (.getfield 11, 3) := dk_180 0 11 (dk_at dksX3_adds_0 11 rfl rfl)
theorem dX3_adds_14 : decode cX3_adds 14 = .ok (.aload_n 0, 1) := dk_42 (dk_at dksX3_adds_0 14 rfl rfl)
theorem dX3_adds_15 : decode cX3_adds 15 = .ok (.getfield 84, 3) := dk_180 0 84 (dk_at dksX3_adds_0 15 rfl rfl)
theorem dX3_adds_18 : decode cX3_adds 18 = .ok (.aaload, 1) := dk_50 (dk_at dksX3_adds_0 18 rfl rfl)
theorem dX3_adds_19 : decode cX3_adds 19 = .ok (.astore_n 2, 1) := dk_77 (dk_at dksX3_adds_0 19 rfl rfl)
theorem dX3_adds_20 : decode cX3_adds 20 = .ok (.aload_n 0, 1) := dk_42 (dk_at dksX3_adds_0 20 rfl rfl)
theorem dX3_adds_21 : decode cX3_adds 21 = .ok (.getfield 38, 3) := dk_180 0 38 (dk_at dksX3_adds_0 21 rfl rfl)
theorem dX3_adds_24 : decode cX3_adds 24 = .ok (.getfield 123, 3) := dk_180 0 123 (dk_at dksX3_adds_1 0 rfl rfl)
theorem dX3_adds_27 : decode cX3_adds 27 = .ok (.iconst 0, 1) := dk_3 (dk_at dksX3_adds_1 3 rfl rfl)
theorem dX3_adds_28 : decode cX3_adds 28 = .ok (.aload_n 2, 1) := dk_44 (dk_at dksX3_adds_1 4 rfl rfl)
theorem dX3_adds_29 : decode cX3_adds 29 = .ok (.getfield 123, 3) := dk_180 0 123 (dk_at dksX3_adds_1 5 rfl rfl)
theorem dX3_adds_32 : decode cX3_adds 32 = .ok (.iconst 0, 1) := dk_3 (dk_at dksX3_adds_1 8 rfl rfl)
theorem dX3_adds_33 : decode cX3_adds 33 = .ok (.bipush 12, 2) := dk_16 12 (dk_at dksX3_adds_1 9 rfl rfl)
theorem dX3_adds_35 : decode cX3_adds 35 = .ok (.invokestatic 137, 3) := dk_184 0 137 (dk_at dksX3_adds_1 11 rfl rfl)
theorem dX3_adds_38 : decode cX3_adds 38 = .ok (.aload_n 2, 1) := dk_44 (dk_at dksX3_adds_1 14 rfl rfl)
theorem dX3_adds_39 : decode cX3_adds 39 = .ok (.aload_n 0, 1) := dk_42 (dk_at dksX3_adds_1 15 rfl rfl)
theorem dX3_adds_40 : decode cX3_adds 40 = .ok (.getfield 80, 3) := dk_180 0 80 (dk_at dksX3_adds_1 16 rfl rfl)
theorem dX3_adds_43 : decode cX3_adds 43 = .ok (.getfield 98, 3) := dk_180 0 98 (dk_at dksX3_adds_1 19 rfl rfl)
theorem dX3_adds_46 : decode cX3_adds 46 = .ok (.putfield 99, 3) := dk_181 0 99 (dk_at dksX3_adds_2 0 rfl rfl)
theorem dX3_adds_49 : decode cX3_adds 49 = .ok (.aload_n 2, 1) := dk_44 (dk_at dksX3_adds_2 3 rfl rfl)
theorem dX3_adds_50 : decode cX3_adds 50 = .ok (.iload_n 1, 1) := dk_27 (dk_at dksX3_adds_2 4 rfl rfl)
theorem dX3_adds_51 : decode cX3_adds 51 = .ok (.putfield 143, 3) := dk_181 0 143 (dk_at dksX3_adds_2 5 rfl rfl)
theorem dX3_adds_54 : decode cX3_adds 54 = .ok (.aload_n 2, 1) := dk_44 (dk_at dksX3_adds_2 8 rfl rfl)
theorem dX3_adds_55 : decode cX3_adds 55 = .ok (.aload_n 0, 1) := dk_42 (dk_at dksX3_adds_2 9 rfl rfl)
theorem dX3_adds_56 : decode cX3_adds 56 = .ok (.getfield 29, 3) := dk_180 0 29 (dk_at dksX3_adds_2 10 rfl rfl)
theorem dX3_adds_59 : decode cX3_adds 59 = .ok (.aload_n 2, 1) := dk_44 (dk_at dksX3_adds_2 13 rfl rfl)
theorem dX3_adds_60 : decode cX3_adds 60 = .ok (.invokevirtual 146, 3) := dk_182 0 146 (dk_at dksX3_adds_2 14 rfl rfl)
theorem dX3_adds_63 : decode cX3_adds 63 = .ok (.putfield 149, 3) := dk_181 0 149 (dk_at dksX3_adds_2 17 rfl rfl)
theorem dX3_adds_66 : decode cX3_adds 66 = .ok (.aload_n 0, 1) := dk_42 (dk_at dksX3_adds_2 20 rfl rfl)
theorem dX3_adds_67 : decode cX3_adds 67 = .ok (.dup, 1) := dk_89 (dk_at dksX3_adds_2 21 rfl rfl)
theorem dX3_adds_68 : decode cX3_adds 68 = .ok (.getfield 84, 3) := dk_180 0 84 (dk_at dksX3_adds_3 0 rfl rfl)
theorem dX3_adds_71 : decode cX3_adds 71 = .ok (.iconst 1, 1) := dk_4 (dk_at dksX3_adds_3 3 rfl rfl)
theorem dX3_adds_72 : decode cX3_adds 72 = .ok (.iadd, 1) := dk_96 (dk_at dksX3_adds_3 4 rfl rfl)
theorem dX3_adds_73 : decode cX3_adds 73 = .ok (.putfield 84, 3) := dk_181 0 84 (dk_at dksX3_adds_3 5 rfl rfl)
theorem dX3_adds_76 : decode cX3_adds 76 = .ok (.return_, 1) := dk_177 (dk_at dksX3_adds_3 8 rfl rfl)
abbrev cX3_joinsAll : ByteArray := prog_6_method_8_code
def yX3_joinsAll : MethodName := ⟨RX3, "joinsAll", "()V"⟩
def dkwX3_joinsAll_8 : List UInt8 := [182, 0, 171, 92, 46, 4, 96, 79, 132, 2, 1, 167, 255, 190, 132, 1, 1, 167, 255, 174, 177]
abbrev dktX3_joinsAll_8 : List UInt8 := dkwX3_joinsAll_8 ++ []
def dkwX3_joinsAll_7 : List UInt8 := [180, 0, 63, 42, 42, 180, 0, 51, 27, 46, 42, 180, 0, 51, 28, 46, 42, 180, 0, 51, 29, 46]
abbrev dktX3_joinsAll_7 : List UInt8 := dkwX3_joinsAll_7 ++ dktX3_joinsAll_8
def dkwX3_joinsAll_6 : List UInt8 := [180, 0, 44, 27, 50, 28, 46, 62, 42, 180, 0, 54, 42, 180, 0, 51, 29, 46, 46, 29, 160, 0, 34, 42]
abbrev dktX3_joinsAll_6 : List UInt8 := dkwX3_joinsAll_6 ++ dktX3_joinsAll_7
def dkwX3_joinsAll_5 : List UInt8 := [167, 255, 228, 3, 60, 27, 42, 180, 0, 84, 162, 0, 80, 3, 61, 28, 42, 180, 0, 84, 162, 0, 64, 42]
abbrev dktX3_joinsAll_5 : List UInt8 := dkwX3_joinsAll_5 ++ dktX3_joinsAll_6
def dkwX3_joinsAll_4 : List UInt8 := [180, 0, 168, 104, 42, 180, 0, 168, 104, 162, 0, 16, 42, 180, 0, 63, 27, 3, 79, 132, 1, 1]
abbrev dktX3_joinsAll_4 : List UInt8 := dkwX3_joinsAll_4 ++ dktX3_joinsAll_5
def dkwX3_joinsAll_3 : List UInt8 := [132, 2, 1, 167, 255, 196, 132, 1, 1, 167, 255, 180, 42, 182, 0, 165, 3, 60, 27, 42, 180, 0, 168, 42]
abbrev dktX3_joinsAll_3 : List UInt8 := dkwX3_joinsAll_3 ++ dktX3_joinsAll_4
def dkwX3_joinsAll_2 : List UInt8 := [182, 0, 162, 79, 42, 180, 0, 44, 27, 50, 28, 46, 154, 0, 10, 42, 180, 0, 47, 27, 28, 79]
abbrev dktX3_joinsAll_2 : List UInt8 := dkwX3_joinsAll_2 ++ dktX3_joinsAll_3
def dkwX3_joinsAll_1 : List UInt8 := [27, 50, 28, 42, 42, 180, 0, 69, 42, 180, 0, 11, 27, 50, 42, 180, 0, 11, 28, 50, 182, 0, 158]
abbrev dktX3_joinsAll_1 : List UInt8 := dkwX3_joinsAll_1 ++ dktX3_joinsAll_2
def dkwX3_joinsAll_0 : List UInt8 := [3, 60, 27, 42, 180, 0, 84, 162, 0, 74, 3, 61, 28, 42, 180, 0, 84, 162, 0, 58, 42, 180, 0, 44]
abbrev dktX3_joinsAll_0 : List UInt8 := dkwX3_joinsAll_0 ++ dktX3_joinsAll_1
theorem dksX3_joinsAll_0 : cX3_joinsAll.data.toList.drop 0 = dktX3_joinsAll_0 := by decide +kernel
theorem dksX3_joinsAll_1 : cX3_joinsAll.data.toList.drop 24 = dktX3_joinsAll_1 := dk_seg dksX3_joinsAll_0 24 rfl rfl
theorem dksX3_joinsAll_2 : cX3_joinsAll.data.toList.drop 47 = dktX3_joinsAll_2 := dk_seg dksX3_joinsAll_1 23 rfl rfl
theorem dksX3_joinsAll_3 : cX3_joinsAll.data.toList.drop 69 = dktX3_joinsAll_3 := dk_seg dksX3_joinsAll_2 22 rfl rfl
theorem dksX3_joinsAll_4 : cX3_joinsAll.data.toList.drop 93 = dktX3_joinsAll_4 := dk_seg dksX3_joinsAll_3 24 rfl rfl
theorem dksX3_joinsAll_5 : cX3_joinsAll.data.toList.drop 115 = dktX3_joinsAll_5 := dk_seg dksX3_joinsAll_4 22 rfl rfl
theorem dksX3_joinsAll_6 : cX3_joinsAll.data.toList.drop 139 = dktX3_joinsAll_6 := dk_seg dksX3_joinsAll_5 24 rfl rfl
theorem dksX3_joinsAll_7 : cX3_joinsAll.data.toList.drop 163 = dktX3_joinsAll_7 := dk_seg dksX3_joinsAll_6 24 rfl rfl
theorem dksX3_joinsAll_8 : cX3_joinsAll.data.toList.drop 185 = dktX3_joinsAll_8 := dk_seg dksX3_joinsAll_7 22 rfl rfl
theorem dX3_joinsAll_0 : decode cX3_joinsAll 0 = .ok (.iconst 0, 1) := dk_3 (dk_at dksX3_joinsAll_0 0 rfl rfl)
theorem dX3_joinsAll_1 : decode cX3_joinsAll 1 = .ok (.istore_n 1, 1) := dk_60 (dk_at dksX3_joinsAll_0 1 rfl rfl)
theorem dX3_joinsAll_2 : decode cX3_joinsAll 2 = .ok (.iload_n 1, 1) := dk_27 (dk_at dksX3_joinsAll_0 2 rfl rfl)
theorem dX3_joinsAll_3 : decode cX3_joinsAll 3 = .ok (.aload_n 0, 1) := dk_42 (dk_at dksX3_joinsAll_0 3 rfl rfl)
theorem dX3_joinsAll_4 : decode cX3_joinsAll 4 = .ok (.getfield 84, 3) := dk_180 0 84 (dk_at dksX3_joinsAll_0 4 rfl rfl)
theorem dX3_joinsAll_7 : decode cX3_joinsAll 7 = .ok (.if_icmp .ge 74, 3) := dk_162 0 74 (dk_at dksX3_joinsAll_0 7 rfl rfl)
theorem dX3_joinsAll_10 : decode cX3_joinsAll 10 = .ok (.iconst 0, 1) := dk_3 (dk_at dksX3_joinsAll_0 10 rfl rfl)
theorem dX3_joinsAll_11 : decode cX3_joinsAll 11 = .ok (.istore_n 2, 1) := dk_61 (dk_at dksX3_joinsAll_0 11 rfl rfl)
theorem dX3_joinsAll_12 : decode cX3_joinsAll 12 = .ok (.iload_n 2, 1) := dk_28 (dk_at dksX3_joinsAll_0 12 rfl rfl)
theorem dX3_joinsAll_13 : decode cX3_joinsAll 13 = .ok (.aload_n 0, 1) := dk_42 (dk_at dksX3_joinsAll_0 13 rfl rfl)
theorem dX3_joinsAll_14 : decode cX3_joinsAll 14 = .ok (.getfield 84, 3) := dk_180 0 84 (dk_at dksX3_joinsAll_0 14 rfl rfl)
theorem dX3_joinsAll_17 : decode cX3_joinsAll 17 = .ok (.if_icmp .ge 58, 3) := dk_162 0 58 (dk_at dksX3_joinsAll_0 17 rfl rfl)
theorem dX3_joinsAll_20 : decode cX3_joinsAll 20 = .ok (.aload_n 0, 1) := dk_42 (dk_at dksX3_joinsAll_0 20 rfl rfl)
theorem dX3_joinsAll_21 : decode cX3_joinsAll 21 = .ok (.getfield 44, 3) := dk_180 0 44 (dk_at dksX3_joinsAll_0 21 rfl rfl)
theorem dX3_joinsAll_24 : decode cX3_joinsAll 24 = .ok (.iload_n 1, 1) := dk_27 (dk_at dksX3_joinsAll_1 0 rfl rfl)
theorem dX3_joinsAll_25 : decode cX3_joinsAll 25 = .ok (.aaload, 1) := dk_50 (dk_at dksX3_joinsAll_1 1 rfl rfl)
theorem dX3_joinsAll_26 : decode cX3_joinsAll 26 = .ok (.iload_n 2, 1) := dk_28 (dk_at dksX3_joinsAll_1 2 rfl rfl)
theorem dX3_joinsAll_27 : decode cX3_joinsAll 27 = .ok (.aload_n 0, 1) := dk_42 (dk_at dksX3_joinsAll_1 3 rfl rfl)
theorem dX3_joinsAll_28 : decode cX3_joinsAll 28 = .ok (.aload_n 0, 1) := dk_42 (dk_at dksX3_joinsAll_1 4 rfl rfl)
theorem dX3_joinsAll_29 : decode cX3_joinsAll 29 = .ok (.getfield 69, 3) := dk_180 0 69 (dk_at dksX3_joinsAll_1 5 rfl rfl)
theorem dX3_joinsAll_32 : decode cX3_joinsAll 32 = .ok (.aload_n 0, 1) := dk_42 (dk_at dksX3_joinsAll_1 8 rfl rfl)
theorem dX3_joinsAll_33 : decode cX3_joinsAll 33 = .ok (.getfield 11, 3) := dk_180 0 11 (dk_at dksX3_joinsAll_1 9 rfl rfl)
theorem dX3_joinsAll_36 : decode cX3_joinsAll 36 = .ok (.iload_n 1, 1) := dk_27 (dk_at dksX3_joinsAll_1 12 rfl rfl)
theorem dX3_joinsAll_37 : decode cX3_joinsAll 37 = .ok (.aaload, 1) := dk_50 (dk_at dksX3_joinsAll_1 13 rfl rfl)
theorem dX3_joinsAll_38 : decode cX3_joinsAll 38 = .ok (.aload_n 0, 1) := dk_42 (dk_at dksX3_joinsAll_1 14 rfl rfl)
theorem dX3_joinsAll_39 : decode cX3_joinsAll 39 = .ok (.getfield 11, 3) := dk_180 0 11 (dk_at dksX3_joinsAll_1 15 rfl rfl)
theorem dX3_joinsAll_42 : decode cX3_joinsAll 42 = .ok (.iload_n 2, 1) := dk_28 (dk_at dksX3_joinsAll_1 18 rfl rfl)
theorem dX3_joinsAll_43 : decode cX3_joinsAll 43 = .ok (.aaload, 1) := dk_50 (dk_at dksX3_joinsAll_1 19 rfl rfl)
theorem dX3_joinsAll_44 : decode cX3_joinsAll 44 = .ok (.invokevirtual 158, 3) := dk_182 0 158 (dk_at dksX3_joinsAll_1 20 rfl rfl)
theorem dX3_joinsAll_47 : decode cX3_joinsAll 47 = .ok (.invokevirtual 162, 3) := dk_182 0 162 (dk_at dksX3_joinsAll_2 0 rfl rfl)
theorem dX3_joinsAll_50 : decode cX3_joinsAll 50 = .ok (.iastore, 1) := dk_79 (dk_at dksX3_joinsAll_2 3 rfl rfl)
theorem dX3_joinsAll_51 : decode cX3_joinsAll 51 = .ok (.aload_n 0, 1) := dk_42 (dk_at dksX3_joinsAll_2 4 rfl rfl)
theorem dX3_joinsAll_52 : decode cX3_joinsAll 52 = .ok (.getfield 44, 3) := dk_180 0 44 (dk_at dksX3_joinsAll_2 5 rfl rfl)
theorem dX3_joinsAll_55 : decode cX3_joinsAll 55 = .ok (.iload_n 1, 1) := dk_27 (dk_at dksX3_joinsAll_2 8 rfl rfl)
theorem dX3_joinsAll_56 : decode cX3_joinsAll 56 = .ok (.aaload, 1) := dk_50 (dk_at dksX3_joinsAll_2 9 rfl rfl)
theorem dX3_joinsAll_57 : decode cX3_joinsAll 57 = .ok (.iload_n 2, 1) := dk_28 (dk_at dksX3_joinsAll_2 10 rfl rfl)
theorem dX3_joinsAll_58 : decode cX3_joinsAll 58 = .ok (.iaload, 1) := dk_46 (dk_at dksX3_joinsAll_2 11 rfl rfl)
theorem dX3_joinsAll_59 : decode cX3_joinsAll 59 = .ok (.ifCond .ne 10, 3) := dk_154 0 10 (dk_at dksX3_joinsAll_2 12 rfl rfl)
theorem dX3_joinsAll_62 : decode cX3_joinsAll 62 = .ok (.aload_n 0, 1) := dk_42 (dk_at dksX3_joinsAll_2 15 rfl rfl)
theorem dX3_joinsAll_63 : decode cX3_joinsAll 63 = .ok (.getfield 47, 3) := dk_180 0 47 (dk_at dksX3_joinsAll_2 16 rfl rfl)
theorem dX3_joinsAll_66 : decode cX3_joinsAll 66 = .ok (.iload_n 1, 1) := dk_27 (dk_at dksX3_joinsAll_2 19 rfl rfl)
theorem dX3_joinsAll_67 : decode cX3_joinsAll 67 = .ok (.iload_n 2, 1) := dk_28 (dk_at dksX3_joinsAll_2 20 rfl rfl)
theorem dX3_joinsAll_68 : decode cX3_joinsAll 68 = .ok (.iastore, 1) := dk_79 (dk_at dksX3_joinsAll_2 21 rfl rfl)
theorem dX3_joinsAll_69 : decode cX3_joinsAll 69 = .ok (.iinc 2 1, 3) := dk_132 2 1 (dk_at dksX3_joinsAll_3 0 rfl rfl)
theorem dX3_joinsAll_72 : decode cX3_joinsAll 72 = .ok (.goto (-60), 3) := dk_167 255 196 (dk_at dksX3_joinsAll_3 3 rfl rfl)
theorem dX3_joinsAll_75 : decode cX3_joinsAll 75 = .ok (.iinc 1 1, 3) := dk_132 1 1 (dk_at dksX3_joinsAll_3 6 rfl rfl)
theorem dX3_joinsAll_78 : decode cX3_joinsAll 78 = .ok (.goto (-76), 3) := dk_167 255 180 (dk_at dksX3_joinsAll_3 9 rfl rfl)
theorem dX3_joinsAll_81 : decode cX3_joinsAll 81 = .ok (.aload_n 0, 1) := dk_42 (dk_at dksX3_joinsAll_3 12 rfl rfl)
theorem dX3_joinsAll_82 : decode cX3_joinsAll 82 = .ok (.invokevirtual 165, 3) := dk_182 0 165 (dk_at dksX3_joinsAll_3 13 rfl rfl)
theorem dX3_joinsAll_85 : decode cX3_joinsAll 85 = .ok (.iconst 0, 1) := dk_3 (dk_at dksX3_joinsAll_3 16 rfl rfl)
theorem dX3_joinsAll_86 : decode cX3_joinsAll 86 = .ok (.istore_n 1, 1) := dk_60 (dk_at dksX3_joinsAll_3 17 rfl rfl)
theorem dX3_joinsAll_87 : decode cX3_joinsAll 87 = .ok (.iload_n 1, 1) := dk_27 (dk_at dksX3_joinsAll_3 18 rfl rfl)
theorem dX3_joinsAll_88 : decode cX3_joinsAll 88 = .ok (.aload_n 0, 1) := dk_42 (dk_at dksX3_joinsAll_3 19 rfl rfl)
theorem dX3_joinsAll_89 : decode cX3_joinsAll 89 = .ok (.getfield 168, 3) := dk_180 0 168 (dk_at dksX3_joinsAll_3 20 rfl rfl)
theorem dX3_joinsAll_92 : decode cX3_joinsAll 92 = .ok (.aload_n 0, 1) := dk_42 (dk_at dksX3_joinsAll_3 23 rfl rfl)
theorem dX3_joinsAll_93 : decode cX3_joinsAll 93 = .ok (.getfield 168, 3) := dk_180 0 168 (dk_at dksX3_joinsAll_4 0 rfl rfl)
theorem dX3_joinsAll_96 : decode cX3_joinsAll 96 = .ok (.imul, 1) := dk_104 (dk_at dksX3_joinsAll_4 3 rfl rfl)
theorem dX3_joinsAll_97 : decode cX3_joinsAll 97 = .ok (.aload_n 0, 1) := dk_42 (dk_at dksX3_joinsAll_4 4 rfl rfl)
theorem dX3_joinsAll_98 : decode cX3_joinsAll 98 = .ok (.getfield 168, 3) := dk_180 0 168 (dk_at dksX3_joinsAll_4 5 rfl rfl)
theorem dX3_joinsAll_101 : decode cX3_joinsAll 101 = .ok (.imul, 1) := dk_104 (dk_at dksX3_joinsAll_4 8 rfl rfl)
theorem dX3_joinsAll_102 : decode cX3_joinsAll 102 = .ok (.if_icmp .ge 16, 3) := dk_162 0 16 (dk_at dksX3_joinsAll_4 9 rfl rfl)
theorem dX3_joinsAll_105 : decode cX3_joinsAll 105 = .ok (.aload_n 0, 1) := dk_42 (dk_at dksX3_joinsAll_4 12 rfl rfl)
theorem dX3_joinsAll_106 : decode cX3_joinsAll 106 = .ok (.getfield 63, 3) := dk_180 0 63 (dk_at dksX3_joinsAll_4 13 rfl rfl)
theorem dX3_joinsAll_109 : decode cX3_joinsAll 109 = .ok (.iload_n 1, 1) := dk_27 (dk_at dksX3_joinsAll_4 16 rfl rfl)
theorem dX3_joinsAll_110 : decode cX3_joinsAll 110 = .ok (.iconst 0, 1) := dk_3 (dk_at dksX3_joinsAll_4 17 rfl rfl)
theorem dX3_joinsAll_111 : decode cX3_joinsAll 111 = .ok (.iastore, 1) := dk_79 (dk_at dksX3_joinsAll_4 18 rfl rfl)
theorem dX3_joinsAll_112 : decode cX3_joinsAll 112 = .ok (.iinc 1 1, 3) := dk_132 1 1 (dk_at dksX3_joinsAll_4 19 rfl rfl)
theorem dX3_joinsAll_115 : decode cX3_joinsAll 115 = .ok (.goto (-28), 3) := dk_167 255 228 (dk_at dksX3_joinsAll_5 0 rfl rfl)
theorem dX3_joinsAll_118 : decode cX3_joinsAll 118 = .ok (.iconst 0, 1) := dk_3 (dk_at dksX3_joinsAll_5 3 rfl rfl)
theorem dX3_joinsAll_119 : decode cX3_joinsAll 119 = .ok (.istore_n 1, 1) := dk_60 (dk_at dksX3_joinsAll_5 4 rfl rfl)
theorem dX3_joinsAll_120 : decode cX3_joinsAll 120 = .ok (.iload_n 1, 1) := dk_27 (dk_at dksX3_joinsAll_5 5 rfl rfl)
theorem dX3_joinsAll_121 : decode cX3_joinsAll 121 = .ok (.aload_n 0, 1) := dk_42 (dk_at dksX3_joinsAll_5 6 rfl rfl)
theorem dX3_joinsAll_122 : decode cX3_joinsAll 122 = .ok (.getfield 84, 3) := dk_180 0 84 (dk_at dksX3_joinsAll_5 7 rfl rfl)
theorem dX3_joinsAll_125 : decode cX3_joinsAll 125 = .ok (.if_icmp .ge 80, 3) := dk_162 0 80 (dk_at dksX3_joinsAll_5 10 rfl rfl)
theorem dX3_joinsAll_128 : decode cX3_joinsAll 128 = .ok (.iconst 0, 1) := dk_3 (dk_at dksX3_joinsAll_5 13 rfl rfl)
theorem dX3_joinsAll_129 : decode cX3_joinsAll 129 = .ok (.istore_n 2, 1) := dk_61 (dk_at dksX3_joinsAll_5 14 rfl rfl)
theorem dX3_joinsAll_130 : decode cX3_joinsAll 130 = .ok (.iload_n 2, 1) := dk_28 (dk_at dksX3_joinsAll_5 15 rfl rfl)
theorem dX3_joinsAll_131 : decode cX3_joinsAll 131 = .ok (.aload_n 0, 1) := dk_42 (dk_at dksX3_joinsAll_5 16 rfl rfl)
theorem dX3_joinsAll_132 : decode cX3_joinsAll 132 = .ok (.getfield 84, 3) := dk_180 0 84 (dk_at dksX3_joinsAll_5 17 rfl rfl)
theorem dX3_joinsAll_135 : decode cX3_joinsAll 135 = .ok (.if_icmp .ge 64, 3) := dk_162 0 64 (dk_at dksX3_joinsAll_5 20 rfl rfl)
theorem dX3_joinsAll_138 : decode cX3_joinsAll 138 = .ok (.aload_n 0, 1) := dk_42 (dk_at dksX3_joinsAll_5 23 rfl rfl)
theorem dX3_joinsAll_139 : decode cX3_joinsAll 139 = .ok (.getfield 44, 3) := dk_180 0 44 (dk_at dksX3_joinsAll_6 0 rfl rfl)
theorem dX3_joinsAll_142 : decode cX3_joinsAll 142 = .ok (.iload_n 1, 1) := dk_27 (dk_at dksX3_joinsAll_6 3 rfl rfl)
theorem dX3_joinsAll_143 : decode cX3_joinsAll 143 = .ok (.aaload, 1) := dk_50 (dk_at dksX3_joinsAll_6 4 rfl rfl)
theorem dX3_joinsAll_144 : decode cX3_joinsAll 144 = .ok (.iload_n 2, 1) := dk_28 (dk_at dksX3_joinsAll_6 5 rfl rfl)
theorem dX3_joinsAll_145 : decode cX3_joinsAll 145 = .ok (.iaload, 1) := dk_46 (dk_at dksX3_joinsAll_6 6 rfl rfl)
theorem dX3_joinsAll_146 : decode cX3_joinsAll 146 = .ok (.istore_n 3, 1) := dk_62 (dk_at dksX3_joinsAll_6 7 rfl rfl)
theorem dX3_joinsAll_147 : decode cX3_joinsAll 147 = .ok (.aload_n 0, 1) := dk_42 (dk_at dksX3_joinsAll_6 8 rfl rfl)
theorem dX3_joinsAll_148 : decode cX3_joinsAll 148 = .ok (.getfield 54, 3) := dk_180 0 54 (dk_at dksX3_joinsAll_6 9 rfl rfl)
theorem dX3_joinsAll_151 : decode cX3_joinsAll 151 = .ok (.aload_n 0, 1) := dk_42 (dk_at dksX3_joinsAll_6 12 rfl rfl)
theorem dX3_joinsAll_152 : decode cX3_joinsAll 152 = .ok (.getfield 51, 3) := dk_180 0 51 (dk_at dksX3_joinsAll_6 13 rfl rfl)
theorem dX3_joinsAll_155 : decode cX3_joinsAll 155 = .ok (.iload_n 3, 1) := dk_29 (dk_at dksX3_joinsAll_6 16 rfl rfl)
theorem dX3_joinsAll_156 : decode cX3_joinsAll 156 = .ok (.iaload, 1) := dk_46 (dk_at dksX3_joinsAll_6 17 rfl rfl)
theorem dX3_joinsAll_157 : decode cX3_joinsAll 157 = .ok (.iaload, 1) := dk_46 (dk_at dksX3_joinsAll_6 18 rfl rfl)
theorem dX3_joinsAll_158 : decode cX3_joinsAll 158 = .ok (.iload_n 3, 1) := dk_29 (dk_at dksX3_joinsAll_6 19 rfl rfl)
theorem dX3_joinsAll_159 : decode cX3_joinsAll 159 = .ok (.if_icmp .ne 34, 3) := dk_160 0 34 (dk_at dksX3_joinsAll_6 20 rfl rfl)
theorem dX3_joinsAll_162 : decode cX3_joinsAll 162 = .ok (.aload_n 0, 1) := dk_42 (dk_at dksX3_joinsAll_6 23 rfl rfl)
theorem dX3_joinsAll_163 : decode cX3_joinsAll 163 = .ok (.getfield 63, 3) := dk_180 0 63 (dk_at dksX3_joinsAll_7 0 rfl rfl)
theorem dX3_joinsAll_166 : decode cX3_joinsAll 166 = .ok (.aload_n 0, 1) := dk_42 (dk_at dksX3_joinsAll_7 3 rfl rfl)
theorem dX3_joinsAll_167 : decode cX3_joinsAll 167 = .ok (.aload_n 0, 1) := dk_42 (dk_at dksX3_joinsAll_7 4 rfl rfl)
theorem dX3_joinsAll_168 : decode cX3_joinsAll 168 = .ok (.getfield 51, 3) := dk_180 0 51 (dk_at dksX3_joinsAll_7 5 rfl rfl)
theorem dX3_joinsAll_171 : decode cX3_joinsAll 171 = .ok (.iload_n 1, 1) := dk_27 (dk_at dksX3_joinsAll_7 8 rfl rfl)
theorem dX3_joinsAll_172 : decode cX3_joinsAll 172 = .ok (.iaload, 1) := dk_46 (dk_at dksX3_joinsAll_7 9 rfl rfl)
theorem dX3_joinsAll_173 : decode cX3_joinsAll 173 = .ok (.aload_n 0, 1) := dk_42 (dk_at dksX3_joinsAll_7 10 rfl rfl)
theorem dX3_joinsAll_174 : decode cX3_joinsAll 174 = .ok (.getfield 51, 3) := dk_180 0 51 (dk_at dksX3_joinsAll_7 11 rfl rfl)
theorem dX3_joinsAll_177 : decode cX3_joinsAll 177 = .ok (.iload_n 2, 1) := dk_28 (dk_at dksX3_joinsAll_7 14 rfl rfl)
theorem dX3_joinsAll_178 : decode cX3_joinsAll 178 = .ok (.iaload, 1) := dk_46 (dk_at dksX3_joinsAll_7 15 rfl rfl)
theorem dX3_joinsAll_179 : decode cX3_joinsAll 179 = .ok (.aload_n 0, 1) := dk_42 (dk_at dksX3_joinsAll_7 16 rfl rfl)
theorem dX3_joinsAll_180 : decode cX3_joinsAll 180 = .ok (.getfield 51, 3) := dk_180 0 51 (dk_at dksX3_joinsAll_7 17 rfl rfl)
theorem dX3_joinsAll_183 : decode cX3_joinsAll 183 = .ok (.iload_n 3, 1) := dk_29 (dk_at dksX3_joinsAll_7 20 rfl rfl)
theorem dX3_joinsAll_184 : decode cX3_joinsAll 184 = .ok (.iaload, 1) := dk_46 (dk_at dksX3_joinsAll_7 21 rfl rfl)
theorem dX3_joinsAll_185 : decode cX3_joinsAll 185 = .ok (.invokevirtual 171, 3) := dk_182 0 171 (dk_at dksX3_joinsAll_8 0 rfl rfl)
theorem dX3_joinsAll_188 : decode cX3_joinsAll 188 = .ok (.dup2, 1) := dk_92 (dk_at dksX3_joinsAll_8 3 rfl rfl)
theorem dX3_joinsAll_189 : decode cX3_joinsAll 189 = .ok (.iaload, 1) := dk_46 (dk_at dksX3_joinsAll_8 4 rfl rfl)
theorem dX3_joinsAll_190 : decode cX3_joinsAll 190 = .ok (.iconst 1, 1) := dk_4 (dk_at dksX3_joinsAll_8 5 rfl rfl)
theorem dX3_joinsAll_191 : decode cX3_joinsAll 191 = .ok (.iadd, 1) := dk_96 (dk_at dksX3_joinsAll_8 6 rfl rfl)
theorem dX3_joinsAll_192 : decode cX3_joinsAll 192 = .ok (.iastore, 1) := dk_79 (dk_at dksX3_joinsAll_8 7 rfl rfl)
theorem dX3_joinsAll_193 : decode cX3_joinsAll 193 = .ok (.iinc 2 1, 3) := dk_132 2 1 (dk_at dksX3_joinsAll_8 8 rfl rfl)
theorem dX3_joinsAll_196 : decode cX3_joinsAll 196 = .ok (.goto (-66), 3) := dk_167 255 190 (dk_at dksX3_joinsAll_8 11 rfl rfl)
theorem dX3_joinsAll_199 : decode cX3_joinsAll 199 = .ok (.iinc 1 1, 3) := dk_132 1 1 (dk_at dksX3_joinsAll_8 14 rfl rfl)
theorem dX3_joinsAll_202 : decode cX3_joinsAll 202 = .ok (.goto (-82), 3) := dk_167 255 174 (dk_at dksX3_joinsAll_8 17 rfl rfl)
theorem dX3_joinsAll_205 : decode cX3_joinsAll 205 = .ok (.return_, 1) := dk_177 (dk_at dksX3_joinsAll_8 20 rfl rfl)
abbrev cX3_numberOf : ByteArray := prog_6_method_7_code
def yX3_numberOf : MethodName := ⟨RX3, "numberOf", "(LVibrationDesk$Move;)I"⟩
def dkwX3_numberOf_1 : List UInt8 := [154, 0, 9, 132, 2, 1, 167, 255, 230, 28, 172]
abbrev dktX3_numberOf_1 : List UInt8 := dkwX3_numberOf_1 ++ []
def dkwX3_numberOf_0 : List UInt8 := [3, 61, 28, 42, 180, 0, 84, 4, 100, 162, 0, 22, 42, 180, 0, 11, 28, 50, 43, 184, 0, 152]
abbrev dktX3_numberOf_0 : List UInt8 := dkwX3_numberOf_0 ++ dktX3_numberOf_1
theorem dksX3_numberOf_0 : cX3_numberOf.data.toList.drop 0 = dktX3_numberOf_0 := by decide +kernel
theorem dksX3_numberOf_1 : cX3_numberOf.data.toList.drop 22 = dktX3_numberOf_1 := dk_seg dksX3_numberOf_0 22 rfl rfl
theorem dX3_numberOf_0 : decode cX3_numberOf 0 = .ok (.iconst 0, 1) := dk_3 (dk_at dksX3_numberOf_0 0 rfl rfl)
theorem dX3_numberOf_1 : decode cX3_numberOf 1 = .ok (.istore_n 2, 1) := dk_61 (dk_at dksX3_numberOf_0 1 rfl rfl)
theorem dX3_numberOf_2 : decode cX3_numberOf 2 = .ok (.iload_n 2, 1) := dk_28 (dk_at dksX3_numberOf_0 2 rfl rfl)
theorem dX3_numberOf_3 : decode cX3_numberOf 3 = .ok (.aload_n 0, 1) := dk_42 (dk_at dksX3_numberOf_0 3 rfl rfl)
theorem dX3_numberOf_4 : decode cX3_numberOf 4 = .ok (.getfield 84, 3) := dk_180 0 84 (dk_at dksX3_numberOf_0 4 rfl rfl)
theorem dX3_numberOf_7 : decode cX3_numberOf 7 = .ok (.iconst 1, 1) := dk_4 (dk_at dksX3_numberOf_0 7 rfl rfl)
theorem dX3_numberOf_8 : decode cX3_numberOf 8 = .ok (.isub, 1) := dk_100 (dk_at dksX3_numberOf_0 8 rfl rfl)
theorem dX3_numberOf_9 : decode cX3_numberOf 9 = .ok (.if_icmp .ge 22, 3) := dk_162 0 22 (dk_at dksX3_numberOf_0 9 rfl rfl)
theorem dX3_numberOf_12 : decode cX3_numberOf 12 = .ok (.aload_n 0, 1) := dk_42 (dk_at dksX3_numberOf_0 12 rfl rfl)
theorem dX3_numberOf_13 : decode cX3_numberOf 13 = .ok (.getfield 11, 3) := dk_180 0 11 (dk_at dksX3_numberOf_0 13 rfl rfl)
theorem dX3_numberOf_16 : decode cX3_numberOf 16 = .ok (.iload_n 2, 1) := dk_28 (dk_at dksX3_numberOf_0 16 rfl rfl)
theorem dX3_numberOf_17 : decode cX3_numberOf 17 = .ok (.aaload, 1) := dk_50 (dk_at dksX3_numberOf_0 17 rfl rfl)
theorem dX3_numberOf_18 : decode cX3_numberOf 18 = .ok (.aload_n 1, 1) := dk_43 (dk_at dksX3_numberOf_0 18 rfl rfl)
theorem dX3_numberOf_19 : decode cX3_numberOf 19 = .ok (.invokestatic 152, 3) := dk_184 0 152 (dk_at dksX3_numberOf_0 19 rfl rfl)
theorem dX3_numberOf_22 : decode cX3_numberOf 22 = .ok (.ifCond .ne 9, 3) := dk_154 0 9 (dk_at dksX3_numberOf_1 0 rfl rfl)
theorem dX3_numberOf_25 : decode cX3_numberOf 25 = .ok (.iinc 2 1, 3) := dk_132 2 1 (dk_at dksX3_numberOf_1 3 rfl rfl)
theorem dX3_numberOf_28 : decode cX3_numberOf 28 = .ok (.goto (-26), 3) := dk_167 255 230 (dk_at dksX3_numberOf_1 6 rfl rfl)
theorem dX3_numberOf_31 : decode cX3_numberOf 31 = .ok (.iload_n 2, 1) := dk_28 (dk_at dksX3_numberOf_1 9 rfl rfl)
theorem dX3_numberOf_32 : decode cX3_numberOf 32 = .ok (.ireturn, 1) := dk_172 (dk_at dksX3_numberOf_1 10 rfl rfl)
abbrev cX3_laysSorts : ByteArray := prog_6_method_11_code
def yX3_laysSorts : MethodName := ⟨RX3, "laysSorts", "()V"⟩
def dkwX3_laysSorts_7 : List UInt8 := [180, 0, 47, 42, 180, 0, 54, 27, 46, 46, 46, 79, 132, 1, 1, 167, 255, 223, 177]
abbrev dktX3_laysSorts_7 : List UInt8 := dkwX3_laysSorts_7 ++ []
def dkwX3_laysSorts_6 : List UInt8 := [167, 255, 148, 3, 60, 27, 42, 180, 0, 168, 162, 0, 31, 42, 180, 0, 60, 27, 42, 180, 0, 51, 42]
abbrev dktX3_laysSorts_6 : List UInt8 := dkwX3_laysSorts_6 ++ dktX3_laysSorts_7
def dkwX3_laysSorts_5 : List UInt8 := [180, 0, 57, 42, 180, 0, 168, 28, 79, 42, 89, 180, 0, 168, 4, 96, 181, 0, 168, 132, 1, 1]
abbrev dktX3_laysSorts_5 : List UInt8 := dkwX3_laysSorts_5 ++ dktX3_laysSorts_6
def dkwX3_laysSorts_4 : List UInt8 := [21, 4, 42, 180, 0, 168, 79, 132, 3, 1, 167, 255, 208, 42, 180, 0, 54, 42, 180, 0, 168, 27, 79, 42]
abbrev dktX3_laysSorts_4 : List UInt8 := dkwX3_laysSorts_4 ++ dktX3_laysSorts_5
def dkwX3_laysSorts_3 : List UInt8 := [54, 4, 28, 42, 180, 0, 51, 21, 4, 46, 156, 0, 7, 4, 167, 0, 4, 3, 96, 61, 42, 180, 0, 51]
abbrev dktX3_laysSorts_3 : List UInt8 := dkwX3_laysSorts_3 ++ dktX3_laysSorts_4
def dkwX3_laysSorts_2 : List UInt8 := [155, 0, 6, 167, 0, 88, 3, 61, 3, 62, 29, 42, 180, 0, 84, 162, 0, 46, 42, 27, 29, 182, 0, 175]
abbrev dktX3_laysSorts_2 : List UInt8 := dkwX3_laysSorts_2 ++ dktX3_laysSorts_3
def dkwX3_laysSorts_1 : List UInt8 := [132, 1, 1, 167, 255, 238, 3, 60, 27, 42, 180, 0, 84, 162, 0, 106, 42, 180, 0, 51, 27, 46]
abbrev dktX3_laysSorts_1 : List UInt8 := dkwX3_laysSorts_1 ++ dktX3_laysSorts_2
def dkwX3_laysSorts_0 : List UInt8 := [42, 3, 181, 0, 168, 3, 60, 27, 42, 180, 0, 84, 162, 0, 16, 42, 180, 0, 51, 27, 2, 79]
abbrev dktX3_laysSorts_0 : List UInt8 := dkwX3_laysSorts_0 ++ dktX3_laysSorts_1
theorem dksX3_laysSorts_0 : cX3_laysSorts.data.toList.drop 0 = dktX3_laysSorts_0 := by decide +kernel
theorem dksX3_laysSorts_1 : cX3_laysSorts.data.toList.drop 22 = dktX3_laysSorts_1 := dk_seg dksX3_laysSorts_0 22 rfl rfl
theorem dksX3_laysSorts_2 : cX3_laysSorts.data.toList.drop 44 = dktX3_laysSorts_2 := dk_seg dksX3_laysSorts_1 22 rfl rfl
theorem dksX3_laysSorts_3 : cX3_laysSorts.data.toList.drop 68 = dktX3_laysSorts_3 := dk_seg dksX3_laysSorts_2 24 rfl rfl
theorem dksX3_laysSorts_4 : cX3_laysSorts.data.toList.drop 92 = dktX3_laysSorts_4 := dk_seg dksX3_laysSorts_3 24 rfl rfl
theorem dksX3_laysSorts_5 : cX3_laysSorts.data.toList.drop 116 = dktX3_laysSorts_5 := dk_seg dksX3_laysSorts_4 24 rfl rfl
theorem dksX3_laysSorts_6 : cX3_laysSorts.data.toList.drop 138 = dktX3_laysSorts_6 := dk_seg dksX3_laysSorts_5 22 rfl rfl
theorem dksX3_laysSorts_7 : cX3_laysSorts.data.toList.drop 161 = dktX3_laysSorts_7 := dk_seg dksX3_laysSorts_6 23 rfl rfl
theorem dX3_laysSorts_0 : decode cX3_laysSorts 0 = .ok (.aload_n 0, 1) := dk_42 (dk_at dksX3_laysSorts_0 0 rfl rfl)
theorem dX3_laysSorts_1 : decode cX3_laysSorts 1 = .ok (.iconst 0, 1) := dk_3 (dk_at dksX3_laysSorts_0 1 rfl rfl)
theorem dX3_laysSorts_2 : decode cX3_laysSorts 2 = .ok (.putfield 168, 3) := dk_181 0 168 (dk_at dksX3_laysSorts_0 2 rfl rfl)
theorem dX3_laysSorts_5 : decode cX3_laysSorts 5 = .ok (.iconst 0, 1) := dk_3 (dk_at dksX3_laysSorts_0 5 rfl rfl)
theorem dX3_laysSorts_6 : decode cX3_laysSorts 6 = .ok (.istore_n 1, 1) := dk_60 (dk_at dksX3_laysSorts_0 6 rfl rfl)
theorem dX3_laysSorts_7 : decode cX3_laysSorts 7 = .ok (.iload_n 1, 1) := dk_27 (dk_at dksX3_laysSorts_0 7 rfl rfl)
theorem dX3_laysSorts_8 : decode cX3_laysSorts 8 = .ok (.aload_n 0, 1) := dk_42 (dk_at dksX3_laysSorts_0 8 rfl rfl)
theorem dX3_laysSorts_9 : decode cX3_laysSorts 9 = .ok (.getfield 84, 3) := dk_180 0 84 (dk_at dksX3_laysSorts_0 9 rfl rfl)
theorem dX3_laysSorts_12 : decode cX3_laysSorts 12 = .ok (.if_icmp .ge 16, 3) := dk_162 0 16 (dk_at dksX3_laysSorts_0 12 rfl rfl)
theorem dX3_laysSorts_15 : decode cX3_laysSorts 15 = .ok (.aload_n 0, 1) := dk_42 (dk_at dksX3_laysSorts_0 15 rfl rfl)
theorem dX3_laysSorts_16 : decode cX3_laysSorts 16 = .ok (.getfield 51, 3) := dk_180 0 51 (dk_at dksX3_laysSorts_0 16 rfl rfl)
theorem dX3_laysSorts_19 : decode cX3_laysSorts 19 = .ok (.iload_n 1, 1) := dk_27 (dk_at dksX3_laysSorts_0 19 rfl rfl)
theorem dX3_laysSorts_20 : decode cX3_laysSorts 20 = .ok (.iconst (-1), 1) := dk_2 (dk_at dksX3_laysSorts_0 20 rfl rfl)
theorem dX3_laysSorts_21 : decode cX3_laysSorts 21 = .ok (.iastore, 1) := dk_79 (dk_at dksX3_laysSorts_0 21 rfl rfl)
theorem dX3_laysSorts_22 : decode cX3_laysSorts 22 = .ok (.iinc 1 1, 3) := dk_132 1 1 (dk_at dksX3_laysSorts_1 0 rfl rfl)
theorem dX3_laysSorts_25 : decode cX3_laysSorts 25 = .ok (.goto (-18), 3) := dk_167 255 238 (dk_at dksX3_laysSorts_1 3 rfl rfl)
theorem dX3_laysSorts_28 : decode cX3_laysSorts 28 = .ok (.iconst 0, 1) := dk_3 (dk_at dksX3_laysSorts_1 6 rfl rfl)
theorem dX3_laysSorts_29 : decode cX3_laysSorts 29 = .ok (.istore_n 1, 1) := dk_60 (dk_at dksX3_laysSorts_1 7 rfl rfl)
theorem dX3_laysSorts_30 : decode cX3_laysSorts 30 = .ok (.iload_n 1, 1) := dk_27 (dk_at dksX3_laysSorts_1 8 rfl rfl)
theorem dX3_laysSorts_31 : decode cX3_laysSorts 31 = .ok (.aload_n 0, 1) := dk_42 (dk_at dksX3_laysSorts_1 9 rfl rfl)
theorem dX3_laysSorts_32 : decode cX3_laysSorts 32 = .ok (.getfield 84, 3) := dk_180 0 84 (dk_at dksX3_laysSorts_1 10 rfl rfl)
theorem dX3_laysSorts_35 : decode cX3_laysSorts 35 = .ok (.if_icmp .ge 106, 3) := dk_162 0 106 (dk_at dksX3_laysSorts_1 13 rfl rfl)
theorem dX3_laysSorts_38 : decode cX3_laysSorts 38 = .ok (.aload_n 0, 1) := dk_42 (dk_at dksX3_laysSorts_1 16 rfl rfl)
theorem dX3_laysSorts_39 : decode cX3_laysSorts 39 = .ok (.getfield 51, 3) := dk_180 0 51 (dk_at dksX3_laysSorts_1 17 rfl rfl)
theorem dX3_laysSorts_42 : decode cX3_laysSorts 42 = .ok (.iload_n 1, 1) := dk_27 (dk_at dksX3_laysSorts_1 20 rfl rfl)
theorem dX3_laysSorts_43 : decode cX3_laysSorts 43 = .ok (.iaload, 1) := dk_46 (dk_at dksX3_laysSorts_1 21 rfl rfl)
theorem dX3_laysSorts_44 : decode cX3_laysSorts 44 = .ok (.ifCond .lt 6, 3) := dk_155 0 6 (dk_at dksX3_laysSorts_2 0 rfl rfl)
theorem dX3_laysSorts_47 : decode cX3_laysSorts 47 = .ok (.goto 88, 3) := dk_167 0 88 (dk_at dksX3_laysSorts_2 3 rfl rfl)
theorem dX3_laysSorts_50 : decode cX3_laysSorts 50 = .ok (.iconst 0, 1) := dk_3 (dk_at dksX3_laysSorts_2 6 rfl rfl)
theorem dX3_laysSorts_51 : decode cX3_laysSorts 51 = .ok (.istore_n 2, 1) := dk_61 (dk_at dksX3_laysSorts_2 7 rfl rfl)
theorem dX3_laysSorts_52 : decode cX3_laysSorts 52 = .ok (.iconst 0, 1) := dk_3 (dk_at dksX3_laysSorts_2 8 rfl rfl)
theorem dX3_laysSorts_53 : decode cX3_laysSorts 53 = .ok (.istore_n 3, 1) := dk_62 (dk_at dksX3_laysSorts_2 9 rfl rfl)
theorem dX3_laysSorts_54 : decode cX3_laysSorts 54 = .ok (.iload_n 3, 1) := dk_29 (dk_at dksX3_laysSorts_2 10 rfl rfl)
theorem dX3_laysSorts_55 : decode cX3_laysSorts 55 = .ok (.aload_n 0, 1) := dk_42 (dk_at dksX3_laysSorts_2 11 rfl rfl)
theorem dX3_laysSorts_56 : decode cX3_laysSorts 56 = .ok (.getfield 84, 3) := dk_180 0 84 (dk_at dksX3_laysSorts_2 12 rfl rfl)
theorem dX3_laysSorts_59 : decode cX3_laysSorts 59 = .ok (.if_icmp .ge 46, 3) := dk_162 0 46 (dk_at dksX3_laysSorts_2 15 rfl rfl)
theorem dX3_laysSorts_62 : decode cX3_laysSorts 62 = .ok (.aload_n 0, 1) := dk_42 (dk_at dksX3_laysSorts_2 18 rfl rfl)
theorem dX3_laysSorts_63 : decode cX3_laysSorts 63 = .ok (.iload_n 1, 1) := dk_27 (dk_at dksX3_laysSorts_2 19 rfl rfl)
theorem dX3_laysSorts_64 : decode cX3_laysSorts 64 = .ok (.iload_n 3, 1) := dk_29 (dk_at dksX3_laysSorts_2 20 rfl rfl)
theorem dX3_laysSorts_65 : decode cX3_laysSorts 65 = .ok (.invokevirtual 175, 3) := dk_182 0 175 (dk_at dksX3_laysSorts_2 21 rfl rfl)
theorem dX3_laysSorts_68 : decode cX3_laysSorts 68 = .ok (.istore 4, 2) := dk_54 4 (dk_at dksX3_laysSorts_3 0 rfl rfl)
theorem dX3_laysSorts_70 : decode cX3_laysSorts 70 = .ok (.iload_n 2, 1) := dk_28 (dk_at dksX3_laysSorts_3 2 rfl rfl)
theorem dX3_laysSorts_71 : decode cX3_laysSorts 71 = .ok (.aload_n 0, 1) := dk_42 (dk_at dksX3_laysSorts_3 3 rfl rfl)
theorem dX3_laysSorts_72 : decode cX3_laysSorts 72 = .ok (.getfield 51, 3) := dk_180 0 51 (dk_at dksX3_laysSorts_3 4 rfl rfl)
theorem dX3_laysSorts_75 : decode cX3_laysSorts 75 = .ok (.iload 4, 2) := dk_21 4 (dk_at dksX3_laysSorts_3 7 rfl rfl)
theorem dX3_laysSorts_77 : decode cX3_laysSorts 77 = .ok (.iaload, 1) := dk_46 (dk_at dksX3_laysSorts_3 9 rfl rfl)
theorem dX3_laysSorts_78 : decode cX3_laysSorts 78 = .ok (.ifCond .ge 7, 3) := dk_156 0 7 (dk_at dksX3_laysSorts_3 10 rfl rfl)
theorem dX3_laysSorts_81 : decode cX3_laysSorts 81 = .ok (.iconst 1, 1) := dk_4 (dk_at dksX3_laysSorts_3 13 rfl rfl)
theorem dX3_laysSorts_82 : decode cX3_laysSorts 82 = .ok (.goto 4, 3) := dk_167 0 4 (dk_at dksX3_laysSorts_3 14 rfl rfl)
theorem dX3_laysSorts_85 : decode cX3_laysSorts 85 = .ok (.iconst 0, 1) := dk_3 (dk_at dksX3_laysSorts_3 17 rfl rfl)
theorem dX3_laysSorts_86 : decode cX3_laysSorts 86 = .ok (.iadd, 1) := dk_96 (dk_at dksX3_laysSorts_3 18 rfl rfl)
theorem dX3_laysSorts_87 : decode cX3_laysSorts 87 = .ok (.istore_n 2, 1) := dk_61 (dk_at dksX3_laysSorts_3 19 rfl rfl)
theorem dX3_laysSorts_88 : decode cX3_laysSorts 88 = .ok (.aload_n 0, 1) := dk_42 (dk_at dksX3_laysSorts_3 20 rfl rfl)
theorem dX3_laysSorts_89 : decode cX3_laysSorts 89 = .ok (.getfield 51, 3) := dk_180 0 51 (dk_at dksX3_laysSorts_3 21 rfl rfl)
theorem dX3_laysSorts_92 : decode cX3_laysSorts 92 = .ok (.iload 4, 2) := dk_21 4 (dk_at dksX3_laysSorts_4 0 rfl rfl)
theorem dX3_laysSorts_94 : decode cX3_laysSorts 94 = .ok (.aload_n 0, 1) := dk_42 (dk_at dksX3_laysSorts_4 2 rfl rfl)
theorem dX3_laysSorts_95 : decode cX3_laysSorts 95 = .ok (.getfield 168, 3) := dk_180 0 168 (dk_at dksX3_laysSorts_4 3 rfl rfl)
theorem dX3_laysSorts_98 : decode cX3_laysSorts 98 = .ok (.iastore, 1) := dk_79 (dk_at dksX3_laysSorts_4 6 rfl rfl)
theorem dX3_laysSorts_99 : decode cX3_laysSorts 99 = .ok (.iinc 3 1, 3) := dk_132 3 1 (dk_at dksX3_laysSorts_4 7 rfl rfl)
theorem dX3_laysSorts_102 : decode cX3_laysSorts 102 = .ok (.goto (-48), 3) := dk_167 255 208 (dk_at dksX3_laysSorts_4 10 rfl rfl)
theorem dX3_laysSorts_105 : decode cX3_laysSorts 105 = .ok (.aload_n 0, 1) := dk_42 (dk_at dksX3_laysSorts_4 13 rfl rfl)
theorem dX3_laysSorts_106 : decode cX3_laysSorts 106 = .ok (.getfield 54, 3) := dk_180 0 54 (dk_at dksX3_laysSorts_4 14 rfl rfl)
theorem dX3_laysSorts_109 : decode cX3_laysSorts 109 = .ok (.aload_n 0, 1) := dk_42 (dk_at dksX3_laysSorts_4 17 rfl rfl)
theorem dX3_laysSorts_110 : decode cX3_laysSorts 110 = .ok (.getfield 168, 3) := dk_180 0 168 (dk_at dksX3_laysSorts_4 18 rfl rfl)
theorem dX3_laysSorts_113 : decode cX3_laysSorts 113 = .ok (.iload_n 1, 1) := dk_27 (dk_at dksX3_laysSorts_4 21 rfl rfl)
theorem dX3_laysSorts_114 : decode cX3_laysSorts 114 = .ok (.iastore, 1) := dk_79 (dk_at dksX3_laysSorts_4 22 rfl rfl)
theorem dX3_laysSorts_115 : decode cX3_laysSorts 115 = .ok (.aload_n 0, 1) := dk_42 (dk_at dksX3_laysSorts_4 23 rfl rfl)
theorem dX3_laysSorts_116 : decode cX3_laysSorts 116 = .ok (.getfield 57, 3) := dk_180 0 57 (dk_at dksX3_laysSorts_5 0 rfl rfl)
theorem dX3_laysSorts_119 : decode cX3_laysSorts 119 = .ok (.aload_n 0, 1) := dk_42 (dk_at dksX3_laysSorts_5 3 rfl rfl)
theorem dX3_laysSorts_120 : decode cX3_laysSorts 120 = .ok (.getfield 168, 3) := dk_180 0 168 (dk_at dksX3_laysSorts_5 4 rfl rfl)
theorem dX3_laysSorts_123 : decode cX3_laysSorts 123 = .ok (.iload_n 2, 1) := dk_28 (dk_at dksX3_laysSorts_5 7 rfl rfl)
theorem dX3_laysSorts_124 : decode cX3_laysSorts 124 = .ok (.iastore, 1) := dk_79 (dk_at dksX3_laysSorts_5 8 rfl rfl)
theorem dX3_laysSorts_125 : decode cX3_laysSorts 125 = .ok (.aload_n 0, 1) := dk_42 (dk_at dksX3_laysSorts_5 9 rfl rfl)
theorem dX3_laysSorts_126 : decode cX3_laysSorts 126 = .ok (.dup, 1) := dk_89 (dk_at dksX3_laysSorts_5 10 rfl rfl)
theorem dX3_laysSorts_127 : decode cX3_laysSorts 127 = .ok (.getfield 168, 3) := dk_180 0 168 (dk_at dksX3_laysSorts_5 11 rfl rfl)
theorem dX3_laysSorts_130 : decode cX3_laysSorts 130 = .ok (.iconst 1, 1) := dk_4 (dk_at dksX3_laysSorts_5 14 rfl rfl)
theorem dX3_laysSorts_131 : decode cX3_laysSorts 131 = .ok (.iadd, 1) := dk_96 (dk_at dksX3_laysSorts_5 15 rfl rfl)
theorem dX3_laysSorts_132 : decode cX3_laysSorts 132 = .ok (.putfield 168, 3) := dk_181 0 168 (dk_at dksX3_laysSorts_5 16 rfl rfl)
theorem dX3_laysSorts_135 : decode cX3_laysSorts 135 = .ok (.iinc 1 1, 3) := dk_132 1 1 (dk_at dksX3_laysSorts_5 19 rfl rfl)
theorem dX3_laysSorts_138 : decode cX3_laysSorts 138 = .ok (.goto (-108), 3) := dk_167 255 148 (dk_at dksX3_laysSorts_6 0 rfl rfl)
theorem dX3_laysSorts_141 : decode cX3_laysSorts 141 = .ok (.iconst 0, 1) := dk_3 (dk_at dksX3_laysSorts_6 3 rfl rfl)
theorem dX3_laysSorts_142 : decode cX3_laysSorts 142 = .ok (.istore_n 1, 1) := dk_60 (dk_at dksX3_laysSorts_6 4 rfl rfl)
theorem dX3_laysSorts_143 : decode cX3_laysSorts 143 = .ok (.iload_n 1, 1) := dk_27 (dk_at dksX3_laysSorts_6 5 rfl rfl)
theorem dX3_laysSorts_144 : decode cX3_laysSorts 144 = .ok (.aload_n 0, 1) := dk_42 (dk_at dksX3_laysSorts_6 6 rfl rfl)
theorem dX3_laysSorts_145 : decode cX3_laysSorts 145 = .ok (.getfield 168, 3) := dk_180 0 168 (dk_at dksX3_laysSorts_6 7 rfl rfl)
theorem dX3_laysSorts_148 : decode cX3_laysSorts 148 = .ok (.if_icmp .ge 31, 3) := dk_162 0 31 (dk_at dksX3_laysSorts_6 10 rfl rfl)
theorem dX3_laysSorts_151 : decode cX3_laysSorts 151 = .ok (.aload_n 0, 1) := dk_42 (dk_at dksX3_laysSorts_6 13 rfl rfl)
theorem dX3_laysSorts_152 : decode cX3_laysSorts 152 = .ok (.getfield 60, 3) := dk_180 0 60 (dk_at dksX3_laysSorts_6 14 rfl rfl)
theorem dX3_laysSorts_155 : decode cX3_laysSorts 155 = .ok (.iload_n 1, 1) := dk_27 (dk_at dksX3_laysSorts_6 17 rfl rfl)
theorem dX3_laysSorts_156 : decode cX3_laysSorts 156 = .ok (.aload_n 0, 1) := dk_42 (dk_at dksX3_laysSorts_6 18 rfl rfl)
theorem dX3_laysSorts_157 : decode cX3_laysSorts 157 = .ok (.getfield 51, 3) := dk_180 0 51 (dk_at dksX3_laysSorts_6 19 rfl rfl)
theorem dX3_laysSorts_160 : decode cX3_laysSorts 160 = .ok (.aload_n 0, 1) := dk_42 (dk_at dksX3_laysSorts_6 22 rfl rfl)
theorem dX3_laysSorts_161 : decode cX3_laysSorts 161 = .ok (.getfield 47, 3) := dk_180 0 47 (dk_at dksX3_laysSorts_7 0 rfl rfl)
theorem dX3_laysSorts_164 : decode cX3_laysSorts 164 = .ok (.aload_n 0, 1) := dk_42 (dk_at dksX3_laysSorts_7 3 rfl rfl)
theorem dX3_laysSorts_165 : decode cX3_laysSorts 165 = .ok (.getfield 54, 3) := dk_180 0 54 (dk_at dksX3_laysSorts_7 4 rfl rfl)
theorem dX3_laysSorts_168 : decode cX3_laysSorts 168 = .ok (.iload_n 1, 1) := dk_27 (dk_at dksX3_laysSorts_7 7 rfl rfl)
theorem dX3_laysSorts_169 : decode cX3_laysSorts 169 = .ok (.iaload, 1) := dk_46 (dk_at dksX3_laysSorts_7 8 rfl rfl)
theorem dX3_laysSorts_170 : decode cX3_laysSorts 170 = .ok (.iaload, 1) := dk_46 (dk_at dksX3_laysSorts_7 9 rfl rfl)
theorem dX3_laysSorts_171 : decode cX3_laysSorts 171 = .ok (.iaload, 1) := dk_46 (dk_at dksX3_laysSorts_7 10 rfl rfl)
theorem dX3_laysSorts_172 : decode cX3_laysSorts 172 = .ok (.iastore, 1) := dk_79 (dk_at dksX3_laysSorts_7 11 rfl rfl)
theorem dX3_laysSorts_173 : decode cX3_laysSorts 173 = .ok (.iinc 1 1, 3) := dk_132 1 1 (dk_at dksX3_laysSorts_7 12 rfl rfl)
theorem dX3_laysSorts_176 : decode cX3_laysSorts 176 = .ok (.goto (-33), 3) := dk_167 255 223 (dk_at dksX3_laysSorts_7 15 rfl rfl)
theorem dX3_laysSorts_179 : decode cX3_laysSorts 179 = .ok (.return_, 1) := dk_177 (dk_at dksX3_laysSorts_7 18 rfl rfl)
abbrev cX3_turned : ByteArray := prog_6_method_10_code
def yX3_turned : MethodName := ⟨RX3, "turned", "(II)I"⟩
def dkwX3_turned_0 : List UInt8 := [42, 180, 0, 44, 42, 180, 0, 44, 28, 50, 27, 46, 50, 42, 180, 0, 47, 28, 46, 46, 172]
abbrev dktX3_turned_0 : List UInt8 := dkwX3_turned_0 ++ []
theorem dksX3_turned_0 : cX3_turned.data.toList.drop 0 = dktX3_turned_0 := by decide +kernel
theorem dX3_turned_0 : decode cX3_turned 0 = .ok (.aload_n 0, 1) := dk_42 (dk_at dksX3_turned_0 0 rfl rfl)
theorem dX3_turned_1 : decode cX3_turned 1 = .ok (.getfield 44, 3) := dk_180 0 44 (dk_at dksX3_turned_0 1 rfl rfl)
theorem dX3_turned_4 : decode cX3_turned 4 = .ok (.aload_n 0, 1) := dk_42 (dk_at dksX3_turned_0 4 rfl rfl)
theorem dX3_turned_5 : decode cX3_turned 5 = .ok (.getfield 44, 3) := dk_180 0 44 (dk_at dksX3_turned_0 5 rfl rfl)
theorem dX3_turned_8 : decode cX3_turned 8 = .ok (.iload_n 2, 1) := dk_28 (dk_at dksX3_turned_0 8 rfl rfl)
theorem dX3_turned_9 : decode cX3_turned 9 = .ok (.aaload, 1) := dk_50 (dk_at dksX3_turned_0 9 rfl rfl)
theorem dX3_turned_10 : decode cX3_turned 10 = .ok (.iload_n 1, 1) := dk_27 (dk_at dksX3_turned_0 10 rfl rfl)
theorem dX3_turned_11 : decode cX3_turned 11 = .ok (.iaload, 1) := dk_46 (dk_at dksX3_turned_0 11 rfl rfl)
theorem dX3_turned_12 : decode cX3_turned 12 = .ok (.aaload, 1) := dk_50 (dk_at dksX3_turned_0 12 rfl rfl)
theorem dX3_turned_13 : decode cX3_turned 13 = .ok (.aload_n 0, 1) := dk_42 (dk_at dksX3_turned_0 13 rfl rfl)
theorem dX3_turned_14 : decode cX3_turned 14 = .ok (.getfield 47, 3) := dk_180 0 47 (dk_at dksX3_turned_0 14 rfl rfl)
theorem dX3_turned_17 : decode cX3_turned 17 = .ok (.iload_n 2, 1) := dk_28 (dk_at dksX3_turned_0 17 rfl rfl)
theorem dX3_turned_18 : decode cX3_turned 18 = .ok (.iaload, 1) := dk_46 (dk_at dksX3_turned_0 18 rfl rfl)
theorem dX3_turned_19 : decode cX3_turned 19 = .ok (.iaload, 1) := dk_46 (dk_at dksX3_turned_0 19 rfl rfl)
theorem dX3_turned_20 : decode cX3_turned 20 = .ok (.ireturn, 1) := dk_172 (dk_at dksX3_turned_0 20 rfl rfl)
abbrev cX3_place : ByteArray := prog_6_method_9_code
def yX3_place : MethodName := ⟨RX3, "place", "(III)I"⟩
def dkwX3_place_0 : List UInt8 := [27, 42, 180, 0, 168, 104, 28, 96, 42, 180, 0, 168, 104, 29, 96, 172]
abbrev dktX3_place_0 : List UInt8 := dkwX3_place_0 ++ []
theorem dksX3_place_0 : cX3_place.data.toList.drop 0 = dktX3_place_0 := by decide +kernel
theorem dX3_place_0 : decode cX3_place 0 = .ok (.iload_n 1, 1) := dk_27 (dk_at dksX3_place_0 0 rfl rfl)
theorem dX3_place_1 : decode cX3_place 1 = .ok (.aload_n 0, 1) := dk_42 (dk_at dksX3_place_0 1 rfl rfl)
theorem dX3_place_2 : decode cX3_place 2 = .ok (.getfield 168, 3) := dk_180 0 168 (dk_at dksX3_place_0 2 rfl rfl)
theorem dX3_place_5 : decode cX3_place 5 = .ok (.imul, 1) := dk_104 (dk_at dksX3_place_0 5 rfl rfl)
theorem dX3_place_6 : decode cX3_place 6 = .ok (.iload_n 2, 1) := dk_28 (dk_at dksX3_place_0 6 rfl rfl)
theorem dX3_place_7 : decode cX3_place 7 = .ok (.iadd, 1) := dk_96 (dk_at dksX3_place_0 7 rfl rfl)
theorem dX3_place_8 : decode cX3_place 8 = .ok (.aload_n 0, 1) := dk_42 (dk_at dksX3_place_0 8 rfl rfl)
theorem dX3_place_9 : decode cX3_place 9 = .ok (.getfield 168, 3) := dk_180 0 168 (dk_at dksX3_place_0 9 rfl rfl)
theorem dX3_place_12 : decode cX3_place 12 = .ok (.imul, 1) := dk_104 (dk_at dksX3_place_0 12 rfl rfl)
theorem dX3_place_13 : decode cX3_place 13 = .ok (.iload_n 3, 1) := dk_29 (dk_at dksX3_place_0 13 rfl rfl)
theorem dX3_place_14 : decode cX3_place 14 = .ok (.iadd, 1) := dk_96 (dk_at dksX3_place_0 14 rfl rfl)
theorem dX3_place_15 : decode cX3_place 15 = .ok (.ireturn, 1) := dk_172 (dk_at dksX3_place_0 15 rfl rfl)
abbrev cX3_named : ByteArray := prog_6_method_30_code
def yX3_named : MethodName := ⟨RX3, "named", "()Ljava/lang/String;"⟩
def dkwX3_named_15 : List UInt8 := [182, 1, 10, 182, 1, 24, 176]
abbrev dktX3_named_15 : List UInt8 := dkwX3_named_15 ++ []
def dkwX3_named_14 : List UInt8 := [167, 0, 28, 187, 1, 5, 89, 183, 1, 7, 19, 1, 46, 182, 1, 10, 5, 28, 104, 184, 1, 28]
abbrev dktX3_named_14 : List UInt8 := dkwX3_named_14 ++ dktX3_named_15
def dkwX3_named_13 : List UInt8 := [183, 1, 7, 19, 1, 38, 182, 1, 10, 25, 4, 182, 1, 10, 19, 1, 34, 182, 1, 10, 182, 1, 24]
abbrev dktX3_named_13 : List UInt8 := dkwX3_named_13 ++ dktX3_named_14
def dkwX3_named_12 : List UInt8 := [182, 1, 10, 19, 1, 44, 182, 1, 10, 182, 1, 24, 167, 0, 63, 29, 4, 160, 0, 33, 187, 1, 5, 89]
abbrev dktX3_named_12 : List UInt8 := dkwX3_named_12 ++ dktX3_named_13
def dkwX3_named_11 : List UInt8 := [19, 1, 42, 176, 29, 28, 160, 0, 33, 187, 1, 5, 89, 183, 1, 7, 19, 1, 38, 182, 1, 10, 25, 4]
abbrev dktX3_named_11 : List UInt8 := dkwX3_named_11 ++ dktX3_named_12
def dkwX3_named_10 : List UInt8 := [182, 1, 10, 182, 1, 24, 176, 28, 4, 160, 0, 18, 29, 4, 160, 0, 9, 19, 1, 40, 167, 0, 6]
abbrev dktX3_named_10 : List UInt8 := dkwX3_named_10 ++ dktX3_named_11
def dkwX3_named_9 : List UInt8 := [42, 180, 0, 84, 27, 160, 0, 25, 187, 1, 5, 89, 183, 1, 7, 19, 1, 38, 182, 1, 10, 25, 4]
abbrev dktX3_named_9 : List UInt8 := dkwX3_named_9 ++ dktX3_named_10
def dkwX3_named_8 : List UInt8 := [167, 0, 17, 29, 28, 164, 0, 9, 19, 1, 34, 167, 0, 6, 19, 1, 36, 182, 1, 10, 182, 1, 24, 176]
abbrev dktX3_named_8 : List UInt8 := dkwX3_named_8 ++ dktX3_named_9
def dkwX3_named_7 : List UInt8 := [19, 1, 32, 182, 1, 10, 25, 4, 182, 1, 10, 42, 180, 0, 84, 27, 160, 0, 9, 19, 1, 8]
abbrev dktX3_named_7 : List UInt8 := dkwX3_named_7 ++ dktX3_named_8
def dkwX3_named_6 : List UInt8 := [182, 1, 24, 176, 28, 184, 1, 28, 58, 4, 27, 28, 159, 0, 56, 187, 1, 5, 89, 183, 1, 7]
abbrev dktX3_named_6 : List UInt8 := dkwX3_named_6 ++ dktX3_named_7
def dkwX3_named_5 : List UInt8 := [19, 1, 18, 167, 0, 18, 29, 16, 6, 160, 0, 9, 19, 1, 20, 167, 0, 6, 19, 1, 22, 182, 1, 10]
abbrev dktX3_named_5 : List UInt8 := dkwX3_named_5 ++ dktX3_named_6
def dkwX3_named_4 : List UInt8 := [167, 0, 45, 42, 180, 0, 84, 16, 48, 160, 0, 9, 19, 1, 16, 167, 0, 30, 27, 16, 24, 160, 0, 9]
abbrev dktX3_named_4 : List UInt8 := dkwX3_named_4 ++ dktX3_named_5
def dkwX3_named_3 : List UInt8 := [89, 183, 1, 7, 19, 1, 8, 182, 1, 10, 42, 180, 0, 84, 16, 12, 160, 0, 9, 19, 1, 14]
abbrev dktX3_named_3 : List UInt8 := dkwX3_named_3 ++ dktX3_named_4
def dkwX3_named_2 : List UInt8 := [167, 255, 217, 42, 2, 4, 182, 1, 2, 62, 42, 4, 3, 182, 1, 2, 16, 8, 160, 0, 80, 187, 1, 5]
abbrev dktX3_named_2 : List UInt8 := dkwX3_named_2 ++ dktX3_named_3
def dkwX3_named_1 : List UInt8 := [156, 0, 6, 167, 0, 16, 132, 1, 1, 28, 42, 29, 182, 0, 255, 184, 0, 235, 61, 132, 3, 1]
abbrev dktX3_named_1 : List UInt8 := dkwX3_named_1 ++ dktX3_named_2
def dkwX3_named_0 : List UInt8 := [3, 60, 4, 61, 3, 62, 29, 42, 180, 0, 84, 162, 0, 37, 42, 180, 0, 11, 29, 50, 180, 0, 143]
abbrev dktX3_named_0 : List UInt8 := dkwX3_named_0 ++ dktX3_named_1
theorem dksX3_named_0 : cX3_named.data.toList.drop 0 = dktX3_named_0 := by decide +kernel
theorem dksX3_named_1 : cX3_named.data.toList.drop 23 = dktX3_named_1 := dk_seg dksX3_named_0 23 rfl rfl
theorem dksX3_named_2 : cX3_named.data.toList.drop 45 = dktX3_named_2 := dk_seg dksX3_named_1 22 rfl rfl
theorem dksX3_named_3 : cX3_named.data.toList.drop 69 = dktX3_named_3 := dk_seg dksX3_named_2 24 rfl rfl
theorem dksX3_named_4 : cX3_named.data.toList.drop 91 = dktX3_named_4 := dk_seg dksX3_named_3 22 rfl rfl
theorem dksX3_named_5 : cX3_named.data.toList.drop 115 = dktX3_named_5 := dk_seg dksX3_named_4 24 rfl rfl
theorem dksX3_named_6 : cX3_named.data.toList.drop 139 = dktX3_named_6 := dk_seg dksX3_named_5 24 rfl rfl
theorem dksX3_named_7 : cX3_named.data.toList.drop 161 = dktX3_named_7 := dk_seg dksX3_named_6 22 rfl rfl
theorem dksX3_named_8 : cX3_named.data.toList.drop 183 = dktX3_named_8 := dk_seg dksX3_named_7 22 rfl rfl
theorem dksX3_named_9 : cX3_named.data.toList.drop 207 = dktX3_named_9 := dk_seg dksX3_named_8 24 rfl rfl
theorem dksX3_named_10 : cX3_named.data.toList.drop 230 = dktX3_named_10 := dk_seg dksX3_named_9 23 rfl rfl
theorem dksX3_named_11 : cX3_named.data.toList.drop 253 = dktX3_named_11 := dk_seg dksX3_named_10 23 rfl rfl
theorem dksX3_named_12 : cX3_named.data.toList.drop 277 = dktX3_named_12 := dk_seg dksX3_named_11 24 rfl rfl
theorem dksX3_named_13 : cX3_named.data.toList.drop 301 = dktX3_named_13 := dk_seg dksX3_named_12 24 rfl rfl
theorem dksX3_named_14 : cX3_named.data.toList.drop 324 = dktX3_named_14 := dk_seg dksX3_named_13 23 rfl rfl
theorem dksX3_named_15 : cX3_named.data.toList.drop 346 = dktX3_named_15 := dk_seg dksX3_named_14 22 rfl rfl
theorem dX3_named_0 : decode cX3_named 0 = .ok (.iconst 0, 1) := dk_3 (dk_at dksX3_named_0 0 rfl rfl)
theorem dX3_named_1 : decode cX3_named 1 = .ok (.istore_n 1, 1) := dk_60 (dk_at dksX3_named_0 1 rfl rfl)
theorem dX3_named_2 : decode cX3_named 2 = .ok (.iconst 1, 1) := dk_4 (dk_at dksX3_named_0 2 rfl rfl)
theorem dX3_named_3 : decode cX3_named 3 = .ok (.istore_n 2, 1) := dk_61 (dk_at dksX3_named_0 3 rfl rfl)
theorem dX3_named_4 : decode cX3_named 4 = .ok (.iconst 0, 1) := dk_3 (dk_at dksX3_named_0 4 rfl rfl)
theorem dX3_named_5 : decode cX3_named 5 = .ok (.istore_n 3, 1) := dk_62 (dk_at dksX3_named_0 5 rfl rfl)
theorem dX3_named_6 : decode cX3_named 6 = .ok (.iload_n 3, 1) := dk_29 (dk_at dksX3_named_0 6 rfl rfl)
theorem dX3_named_7 : decode cX3_named 7 = .ok (.aload_n 0, 1) := dk_42 (dk_at dksX3_named_0 7 rfl rfl)
theorem dX3_named_8 : decode cX3_named 8 = .ok (.getfield 84, 3) := dk_180 0 84 (dk_at dksX3_named_0 8 rfl rfl)
theorem dX3_named_11 : decode cX3_named 11 = .ok (.if_icmp .ge 37, 3) := dk_162 0 37 (dk_at dksX3_named_0 11 rfl rfl)
theorem dX3_named_14 : decode cX3_named 14 = .ok (.aload_n 0, 1) := dk_42 (dk_at dksX3_named_0 14 rfl rfl)
theorem dX3_named_15 : decode cX3_named 15 = .ok (.getfield 11, 3) := dk_180 0 11 (dk_at dksX3_named_0 15 rfl rfl)
theorem dX3_named_18 : decode cX3_named 18 = .ok (.iload_n 3, 1) := dk_29 (dk_at dksX3_named_0 18 rfl rfl)
theorem dX3_named_19 : decode cX3_named 19 = .ok (.aaload, 1) := dk_50 (dk_at dksX3_named_0 19 rfl rfl)
theorem dX3_named_20 : decode cX3_named 20 = .ok (.getfield 143, 3) := dk_180 0 143 (dk_at dksX3_named_0 20 rfl rfl)
theorem dX3_named_23 : decode cX3_named 23 = .ok (.ifCond .ge 6, 3) := dk_156 0 6 (dk_at dksX3_named_1 0 rfl rfl)
theorem dX3_named_26 : decode cX3_named 26 = .ok (.goto 16, 3) := dk_167 0 16 (dk_at dksX3_named_1 3 rfl rfl)
theorem dX3_named_29 : decode cX3_named 29 = .ok (.iinc 1 1, 3) := dk_132 1 1 (dk_at dksX3_named_1 6 rfl rfl)
theorem dX3_named_32 : decode cX3_named 32 = .ok (.iload_n 2, 1) := dk_28 (dk_at dksX3_named_1 9 rfl rfl)
theorem dX3_named_33 : decode cX3_named 33 = .ok (.aload_n 0, 1) := dk_42 (dk_at dksX3_named_1 10 rfl rfl)
theorem dX3_named_34 : decode cX3_named 34 = .ok (.iload_n 3, 1) := dk_29 (dk_at dksX3_named_1 11 rfl rfl)
theorem dX3_named_35 : decode cX3_named 35 = .ok (.invokevirtual 255, 3) := dk_182 0 255 (dk_at dksX3_named_1 12 rfl rfl)
theorem dX3_named_38 : decode cX3_named 38 = .ok (.invokestatic 235, 3) := dk_184 0 235 (dk_at dksX3_named_1 15 rfl rfl)
theorem dX3_named_41 : decode cX3_named 41 = .ok (.istore_n 2, 1) := dk_61 (dk_at dksX3_named_1 18 rfl rfl)
theorem dX3_named_42 : decode cX3_named 42 = .ok (.iinc 3 1, 3) := dk_132 3 1 (dk_at dksX3_named_1 19 rfl rfl)
theorem dX3_named_45 : decode cX3_named 45 = .ok (.goto (-39), 3) := dk_167 255 217 (dk_at dksX3_named_2 0 rfl rfl)
theorem dX3_named_48 : decode cX3_named 48 = .ok (.aload_n 0, 1) := dk_42 (dk_at dksX3_named_2 3 rfl rfl)
theorem dX3_named_49 : decode cX3_named 49 = .ok (.iconst (-1), 1) := dk_2 (dk_at dksX3_named_2 4 rfl rfl)
theorem dX3_named_50 : decode cX3_named 50 = .ok (.iconst 1, 1) := dk_4 (dk_at dksX3_named_2 5 rfl rfl)
theorem dX3_named_51 : decode cX3_named 51 = .ok (.invokevirtual 258, 3) := dk_182 1 2 (dk_at dksX3_named_2 6 rfl rfl)
theorem dX3_named_54 : decode cX3_named 54 = .ok (.istore_n 3, 1) := dk_62 (dk_at dksX3_named_2 9 rfl rfl)
theorem dX3_named_55 : decode cX3_named 55 = .ok (.aload_n 0, 1) := dk_42 (dk_at dksX3_named_2 10 rfl rfl)
theorem dX3_named_56 : decode cX3_named 56 = .ok (.iconst 1, 1) := dk_4 (dk_at dksX3_named_2 11 rfl rfl)
theorem dX3_named_57 : decode cX3_named 57 = .ok (.iconst 0, 1) := dk_3 (dk_at dksX3_named_2 12 rfl rfl)
theorem dX3_named_58 : decode cX3_named 58 = .ok (.invokevirtual 258, 3) := dk_182 1 2 (dk_at dksX3_named_2 13 rfl rfl)
theorem dX3_named_61 : decode cX3_named 61 = .ok (.bipush 8, 2) := dk_16 8 (dk_at dksX3_named_2 16 rfl rfl)
theorem dX3_named_63 : decode cX3_named 63 = .ok (.if_icmp .ne 80, 3) := dk_160 0 80 (dk_at dksX3_named_2 18 rfl rfl)
theorem dX3_named_66 : decode cX3_named 66 = .ok (.new 261, 3) := dk_187 1 5 (dk_at dksX3_named_2 21 rfl rfl)
theorem dX3_named_69 : decode cX3_named 69 = .ok (.dup, 1) := dk_89 (dk_at dksX3_named_3 0 rfl rfl)
theorem dX3_named_70 : decode cX3_named 70 = .ok (.invokespecial 263, 3) := dk_183 1 7 (dk_at dksX3_named_3 1 rfl rfl)
theorem dX3_named_73 : decode cX3_named 73 = .ok (.ldc_w 264, 3) := dk_19 1 8 (dk_at dksX3_named_3 4 rfl rfl)
theorem dX3_named_76 : decode cX3_named 76 = .ok (.invokevirtual 266, 3) := dk_182 1 10 (dk_at dksX3_named_3 7 rfl rfl)
theorem dX3_named_79 : decode cX3_named 79 = .ok (.aload_n 0, 1) := dk_42 (dk_at dksX3_named_3 10 rfl rfl)
theorem dX3_named_80 : decode cX3_named 80 = .ok (.getfield 84, 3) := dk_180 0 84 (dk_at dksX3_named_3 11 rfl rfl)
theorem dX3_named_83 : decode cX3_named 83 = .ok (.bipush 12, 2) := dk_16 12 (dk_at dksX3_named_3 14 rfl rfl)
theorem dX3_named_85 : decode cX3_named 85 = .ok (.if_icmp .ne 9, 3) := dk_160 0 9 (dk_at dksX3_named_3 16 rfl rfl)
theorem dX3_named_88 : decode cX3_named 88 = .ok (.ldc_w 270, 3) := dk_19 1 14 (dk_at dksX3_named_3 19 rfl rfl)
theorem dX3_named_91 : decode cX3_named 91 = .ok (.goto 45, 3) := dk_167 0 45 (dk_at dksX3_named_4 0 rfl rfl)
theorem dX3_named_94 : decode cX3_named 94 = .ok (.aload_n 0, 1) := dk_42 (dk_at dksX3_named_4 3 rfl rfl)
theorem dX3_named_95 : decode cX3_named 95 = .ok (.getfield 84, 3) := dk_180 0 84 (dk_at dksX3_named_4 4 rfl rfl)
theorem dX3_named_98 : decode cX3_named 98 = .ok (.bipush 48, 2) := dk_16 48 (dk_at dksX3_named_4 7 rfl rfl)
theorem dX3_named_100 : decode cX3_named 100 = .ok (.if_icmp .ne 9, 3) := dk_160 0 9 (dk_at dksX3_named_4 9 rfl rfl)
theorem dX3_named_103 : decode cX3_named 103 = .ok (.ldc_w 272, 3) := dk_19 1 16 (dk_at dksX3_named_4 12 rfl rfl)
theorem dX3_named_106 : decode cX3_named 106 = .ok (.goto 30, 3) := dk_167 0 30 (dk_at dksX3_named_4 15 rfl rfl)
theorem dX3_named_109 : decode cX3_named 109 = .ok (.iload_n 1, 1) := dk_27 (dk_at dksX3_named_4 18 rfl rfl)
theorem dX3_named_110 : decode cX3_named 110 = .ok (.bipush 24, 2) := dk_16 24 (dk_at dksX3_named_4 19 rfl rfl)
theorem dX3_named_112 : decode cX3_named 112 = .ok (.if_icmp .ne 9, 3) := dk_160 0 9 (dk_at dksX3_named_4 21 rfl rfl)
theorem dX3_named_115 : decode cX3_named 115 = .ok (.ldc_w 274, 3) := dk_19 1 18 (dk_at dksX3_named_5 0 rfl rfl)
theorem dX3_named_118 : decode cX3_named 118 = .ok (.goto 18, 3) := dk_167 0 18 (dk_at dksX3_named_5 3 rfl rfl)
theorem dX3_named_121 : decode cX3_named 121 = .ok (.iload_n 3, 1) := dk_29 (dk_at dksX3_named_5 6 rfl rfl)
theorem dX3_named_122 : decode cX3_named 122 = .ok (.bipush 6, 2) := dk_16 6 (dk_at dksX3_named_5 7 rfl rfl)
theorem dX3_named_124 : decode cX3_named 124 = .ok (.if_icmp .ne 9, 3) := dk_160 0 9 (dk_at dksX3_named_5 9 rfl rfl)
theorem dX3_named_127 : decode cX3_named 127 = .ok (.ldc_w 276, 3) := dk_19 1 20 (dk_at dksX3_named_5 12 rfl rfl)
theorem dX3_named_130 : decode cX3_named 130 = .ok (.goto 6, 3) := dk_167 0 6 (dk_at dksX3_named_5 15 rfl rfl)
theorem dX3_named_133 : decode cX3_named 133 = .ok (.ldc_w 278, 3) := dk_19 1 22 (dk_at dksX3_named_5 18 rfl rfl)
theorem dX3_named_136 : decode cX3_named 136 = .ok (.invokevirtual 266, 3) := dk_182 1 10 (dk_at dksX3_named_5 21 rfl rfl)
theorem dX3_named_139 : decode cX3_named 139 = .ok (.invokevirtual 280, 3) := dk_182 1 24 (dk_at dksX3_named_6 0 rfl rfl)
theorem dX3_named_142 : decode cX3_named 142 = .ok (.areturn, 1) := dk_176 (dk_at dksX3_named_6 3 rfl rfl)
theorem dX3_named_143 : decode cX3_named 143 = .ok (.iload_n 2, 1) := dk_28 (dk_at dksX3_named_6 4 rfl rfl)
theorem dX3_named_144 : decode cX3_named 144 = .ok (.invokestatic 284, 3) := dk_184 1 28 (dk_at dksX3_named_6 5 rfl rfl)
theorem dX3_named_147 : decode cX3_named 147 = .ok (.astore 4, 2) := dk_58 4 (dk_at dksX3_named_6 8 rfl rfl)
theorem dX3_named_149 : decode cX3_named 149 = .ok (.iload_n 1, 1) := dk_27 (dk_at dksX3_named_6 10 rfl rfl)
theorem dX3_named_150 : decode cX3_named 150 = .ok (.iload_n 2, 1) := dk_28 (dk_at dksX3_named_6 11 rfl rfl)
theorem dX3_named_151 : decode cX3_named 151 = .ok (.if_icmp .eq 56, 3) := dk_159 0 56 (dk_at dksX3_named_6 12 rfl rfl)
theorem dX3_named_154 : decode cX3_named 154 = .ok (.new 261, 3) := dk_187 1 5 (dk_at dksX3_named_6 15 rfl rfl)
theorem dX3_named_157 : decode cX3_named 157 = .ok (.dup, 1) := dk_89 (dk_at dksX3_named_6 18 rfl rfl)
theorem dX3_named_158 : decode cX3_named 158 = .ok (.invokespecial 263, 3) := dk_183 1 7 (dk_at dksX3_named_6 19 rfl rfl)
theorem dX3_named_161 : decode cX3_named 161 = .ok (.ldc_w 288, 3) := dk_19 1 32 (dk_at dksX3_named_7 0 rfl rfl)
theorem dX3_named_164 : decode cX3_named 164 = .ok (.invokevirtual 266, 3) := dk_182 1 10 (dk_at dksX3_named_7 3 rfl rfl)
theorem dX3_named_167 : decode cX3_named 167 = .ok (.aload 4, 2) := dk_25 4 (dk_at dksX3_named_7 6 rfl rfl)
theorem dX3_named_169 : decode cX3_named 169 = .ok (.invokevirtual 266, 3) := dk_182 1 10 (dk_at dksX3_named_7 8 rfl rfl)
theorem dX3_named_172 : decode cX3_named 172 = .ok (.aload_n 0, 1) := dk_42 (dk_at dksX3_named_7 11 rfl rfl)
theorem dX3_named_173 : decode cX3_named 173 = .ok (.getfield 84, 3) := dk_180 0 84 (dk_at dksX3_named_7 12 rfl rfl)
theorem dX3_named_176 : decode cX3_named 176 = .ok (.iload_n 1, 1) := dk_27 (dk_at dksX3_named_7 15 rfl rfl)
theorem dX3_named_177 : decode cX3_named 177 = .ok (.if_icmp .ne 9, 3) := dk_160 0 9 (dk_at dksX3_named_7 16 rfl rfl)
theorem dX3_named_180 : decode cX3_named 180 = .ok (.ldc_w 264, 3) := dk_19 1 8 (dk_at dksX3_named_7 19 rfl rfl)
theorem dX3_named_183 : decode cX3_named 183 = .ok (.goto 17, 3) := dk_167 0 17 (dk_at dksX3_named_8 0 rfl rfl)
theorem dX3_named_186 : decode cX3_named 186 = .ok (.iload_n 3, 1) := dk_29 (dk_at dksX3_named_8 3 rfl rfl)
theorem dX3_named_187 : decode cX3_named 187 = .ok (.iload_n 2, 1) := dk_28 (dk_at dksX3_named_8 4 rfl rfl)
theorem dX3_named_188 : decode cX3_named 188 = .ok (.if_icmp .le 9, 3) := dk_164 0 9 (dk_at dksX3_named_8 5 rfl rfl)
theorem dX3_named_191 : decode cX3_named 191 = .ok (.ldc_w 290, 3) := dk_19 1 34 (dk_at dksX3_named_8 8 rfl rfl)
theorem dX3_named_194 : decode cX3_named 194 = .ok (.goto 6, 3) := dk_167 0 6 (dk_at dksX3_named_8 11 rfl rfl)
theorem dX3_named_197 : decode cX3_named 197 = .ok (.ldc_w 292, 3) := dk_19 1 36 (dk_at dksX3_named_8 14 rfl rfl)
theorem dX3_named_200 : decode cX3_named 200 = .ok (.invokevirtual 266, 3) := dk_182 1 10 (dk_at dksX3_named_8 17 rfl rfl)
theorem dX3_named_203 : decode cX3_named 203 = .ok (.invokevirtual 280, 3) := dk_182 1 24 (dk_at dksX3_named_8 20 rfl rfl)
theorem dX3_named_206 : decode cX3_named 206 = .ok (.areturn, 1) := dk_176 (dk_at dksX3_named_8 23 rfl rfl)
theorem dX3_named_207 : decode cX3_named 207 = .ok (.aload_n 0, 1) := dk_42 (dk_at dksX3_named_9 0 rfl rfl)
theorem dX3_named_208 : decode cX3_named 208 = .ok (.getfield 84, 3) := dk_180 0 84 (dk_at dksX3_named_9 1 rfl rfl)
theorem dX3_named_211 : decode cX3_named 211 = .ok (.iload_n 1, 1) := dk_27 (dk_at dksX3_named_9 4 rfl rfl)
theorem dX3_named_212 : decode cX3_named 212 = .ok (.if_icmp .ne 25, 3) := dk_160 0 25 (dk_at dksX3_named_9 5 rfl rfl)
theorem dX3_named_215 : decode cX3_named 215 = .ok (.new 261, 3) := dk_187 1 5 (dk_at dksX3_named_9 8 rfl rfl)
theorem dX3_named_218 : decode cX3_named 218 = .ok (.dup, 1) := dk_89 (dk_at dksX3_named_9 11 rfl rfl)
theorem dX3_named_219 : decode cX3_named 219 = .ok (.invokespecial 263, 3) := dk_183 1 7 (dk_at dksX3_named_9 12 rfl rfl)
theorem dX3_named_222 : decode cX3_named 222 = .ok (.ldc_w 294, 3) := dk_19 1 38 (dk_at dksX3_named_9 15 rfl rfl)
theorem dX3_named_225 : decode cX3_named 225 = .ok (.invokevirtual 266, 3) := dk_182 1 10 (dk_at dksX3_named_9 18 rfl rfl)
theorem dX3_named_228 : decode cX3_named 228 = .ok (.aload 4, 2) := dk_25 4 (dk_at dksX3_named_9 21 rfl rfl)
theorem dX3_named_230 : decode cX3_named 230 = .ok (.invokevirtual 266, 3) := dk_182 1 10 (dk_at dksX3_named_10 0 rfl rfl)
theorem dX3_named_233 : decode cX3_named 233 = .ok (.invokevirtual 280, 3) := dk_182 1 24 (dk_at dksX3_named_10 3 rfl rfl)
theorem dX3_named_236 : decode cX3_named 236 = .ok (.areturn, 1) := dk_176 (dk_at dksX3_named_10 6 rfl rfl)
theorem dX3_named_237 : decode cX3_named 237 = .ok (.iload_n 2, 1) := dk_28 (dk_at dksX3_named_10 7 rfl rfl)
theorem dX3_named_238 : decode cX3_named 238 = .ok (.iconst 1, 1) := dk_4 (dk_at dksX3_named_10 8 rfl rfl)
theorem dX3_named_239 : decode cX3_named 239 = .ok (.if_icmp .ne 18, 3) := dk_160 0 18 (dk_at dksX3_named_10 9 rfl rfl)
theorem dX3_named_242 : decode cX3_named 242 = .ok (.iload_n 3, 1) := dk_29 (dk_at dksX3_named_10 12 rfl rfl)
theorem dX3_named_243 : decode cX3_named 243 = .ok (.iconst 1, 1) := dk_4 (dk_at dksX3_named_10 13 rfl rfl)
theorem dX3_named_244 : decode cX3_named 244 = .ok (.if_icmp .ne 9, 3) := dk_160 0 9 (dk_at dksX3_named_10 14 rfl rfl)
theorem dX3_named_247 : decode cX3_named 247 = .ok (.ldc_w 296, 3) := dk_19 1 40 (dk_at dksX3_named_10 17 rfl rfl)
theorem dX3_named_250 : decode cX3_named 250 = .ok (.goto 6, 3) := dk_167 0 6 (dk_at dksX3_named_10 20 rfl rfl)
theorem dX3_named_253 : decode cX3_named 253 = .ok (.ldc_w 298, 3) := dk_19 1 42 (dk_at dksX3_named_11 0 rfl rfl)
theorem dX3_named_256 : decode cX3_named 256 = .ok (.areturn, 1) := dk_176 (dk_at dksX3_named_11 3 rfl rfl)
theorem dX3_named_257 : decode cX3_named 257 = .ok (.iload_n 3, 1) := dk_29 (dk_at dksX3_named_11 4 rfl rfl)
theorem dX3_named_258 : decode cX3_named 258 = .ok (.iload_n 2, 1) := dk_28 (dk_at dksX3_named_11 5 rfl rfl)
theorem dX3_named_259 : decode cX3_named 259 = .ok (.if_icmp .ne 33, 3) := dk_160 0 33 (dk_at dksX3_named_11 6 rfl rfl)
theorem dX3_named_262 : decode cX3_named 262 = .ok (.new 261, 3) := dk_187 1 5 (dk_at dksX3_named_11 9 rfl rfl)
theorem dX3_named_265 : decode cX3_named 265 = .ok (.dup, 1) := dk_89 (dk_at dksX3_named_11 12 rfl rfl)
theorem dX3_named_266 : decode cX3_named 266 = .ok (.invokespecial 263, 3) := dk_183 1 7 (dk_at dksX3_named_11 13 rfl rfl)
theorem dX3_named_269 : decode cX3_named 269 = .ok (.ldc_w 294, 3) := dk_19 1 38 (dk_at dksX3_named_11 16 rfl rfl)
theorem dX3_named_272 : decode cX3_named 272 = .ok (.invokevirtual 266, 3) := dk_182 1 10 (dk_at dksX3_named_11 19 rfl rfl)
theorem dX3_named_275 : decode cX3_named 275 = .ok (.aload 4, 2) := dk_25 4 (dk_at dksX3_named_11 22 rfl rfl)
theorem dX3_named_277 : decode cX3_named 277 = .ok (.invokevirtual 266, 3) := dk_182 1 10 (dk_at dksX3_named_12 0 rfl rfl)
theorem dX3_named_280 : decode cX3_named 280 = .ok (.ldc_w 300, 3) := dk_19 1 44 (dk_at dksX3_named_12 3 rfl rfl)
theorem dX3_named_283 : decode cX3_named 283 = .ok (.invokevirtual 266, 3) := dk_182 1 10 (dk_at dksX3_named_12 6 rfl rfl)
theorem dX3_named_286 : decode cX3_named 286 = .ok (.invokevirtual 280, 3) := dk_182 1 24 (dk_at dksX3_named_12 9 rfl rfl)
theorem dX3_named_289 : decode cX3_named 289 = .ok (.goto 63, 3) := dk_167 0 63 (dk_at dksX3_named_12 12 rfl rfl)
theorem dX3_named_292 : decode cX3_named 292 = .ok (.iload_n 3, 1) := dk_29 (dk_at dksX3_named_12 15 rfl rfl)
theorem dX3_named_293 : decode cX3_named 293 = .ok (.iconst 1, 1) := dk_4 (dk_at dksX3_named_12 16 rfl rfl)
theorem dX3_named_294 : decode cX3_named 294 = .ok (.if_icmp .ne 33, 3) := dk_160 0 33 (dk_at dksX3_named_12 17 rfl rfl)
theorem dX3_named_297 : decode cX3_named 297 = .ok (.new 261, 3) := dk_187 1 5 (dk_at dksX3_named_12 20 rfl rfl)
theorem dX3_named_300 : decode cX3_named 300 = .ok (.dup, 1) := dk_89 (dk_at dksX3_named_12 23 rfl rfl)
theorem dX3_named_301 : decode cX3_named 301 = .ok (.invokespecial 263, 3) := dk_183 1 7 (dk_at dksX3_named_13 0 rfl rfl)
theorem dX3_named_304 : decode cX3_named 304 = .ok (.ldc_w 294, 3) := dk_19 1 38 (dk_at dksX3_named_13 3 rfl rfl)
theorem dX3_named_307 : decode cX3_named 307 = .ok (.invokevirtual 266, 3) := dk_182 1 10 (dk_at dksX3_named_13 6 rfl rfl)
theorem dX3_named_310 : decode cX3_named 310 = .ok (.aload 4, 2) := dk_25 4 (dk_at dksX3_named_13 9 rfl rfl)
theorem dX3_named_312 : decode cX3_named 312 = .ok (.invokevirtual 266, 3) := dk_182 1 10 (dk_at dksX3_named_13 11 rfl rfl)
theorem dX3_named_315 : decode cX3_named 315 = .ok (.ldc_w 290, 3) := dk_19 1 34 (dk_at dksX3_named_13 14 rfl rfl)
theorem dX3_named_318 : decode cX3_named 318 = .ok (.invokevirtual 266, 3) := dk_182 1 10 (dk_at dksX3_named_13 17 rfl rfl)
theorem dX3_named_321 : decode cX3_named 321 = .ok (.invokevirtual 280, 3) := dk_182 1 24 (dk_at dksX3_named_13 20 rfl rfl)
theorem dX3_named_324 : decode cX3_named 324 = .ok (.goto 28, 3) := dk_167 0 28 (dk_at dksX3_named_14 0 rfl rfl)
theorem dX3_named_327 : decode cX3_named 327 = .ok (.new 261, 3) := dk_187 1 5 (dk_at dksX3_named_14 3 rfl rfl)
theorem dX3_named_330 : decode cX3_named 330 = .ok (.dup, 1) := dk_89 (dk_at dksX3_named_14 6 rfl rfl)
theorem dX3_named_331 : decode cX3_named 331 = .ok (.invokespecial 263, 3) := dk_183 1 7 (dk_at dksX3_named_14 7 rfl rfl)
theorem dX3_named_334 : decode cX3_named 334 = .ok (.ldc_w 302, 3) := dk_19 1 46 (dk_at dksX3_named_14 10 rfl rfl)
theorem dX3_named_337 : decode cX3_named 337 = .ok (.invokevirtual 266, 3) := dk_182 1 10 (dk_at dksX3_named_14 13 rfl rfl)
theorem dX3_named_340 : decode cX3_named 340 = .ok (.iconst 2, 1) := dk_5 (dk_at dksX3_named_14 16 rfl rfl)
theorem dX3_named_341 : decode cX3_named 341 = .ok (.iload_n 2, 1) := dk_28 (dk_at dksX3_named_14 17 rfl rfl)
theorem dX3_named_342 : decode cX3_named 342 = .ok (.imul, 1) := dk_104 (dk_at dksX3_named_14 18 rfl rfl)
theorem dX3_named_343 : decode cX3_named 343 = .ok (.invokestatic 284, 3) := dk_184 1 28 (dk_at dksX3_named_14 19 rfl rfl)
theorem dX3_named_346 : decode cX3_named 346 = .ok (.invokevirtual 266, 3) := dk_182 1 10 (dk_at dksX3_named_15 0 rfl rfl)
theorem dX3_named_349 : decode cX3_named 349 = .ok (.invokevirtual 280, 3) := dk_182 1 24 (dk_at dksX3_named_15 3 rfl rfl)
theorem dX3_named_352 : decode cX3_named 352 = .ok (.areturn, 1) := dk_176 (dk_at dksX3_named_15 6 rfl rfl)
abbrev cX3_periodOf : ByteArray := prog_6_method_12_code
def yX3_periodOf : MethodName := ⟨RX3, "periodOf", "(I)I"⟩
def dkwX3_periodOf_1 : List UInt8 := [46, 62, 167, 255, 234, 28, 172]
abbrev dktX3_periodOf_1 : List UInt8 := dkwX3_periodOf_1 ++ []
def dkwX3_periodOf_0 : List UInt8 := [4, 61, 27, 62, 29, 153, 0, 24, 28, 16, 48, 162, 0, 18, 132, 2, 1, 42, 180, 0, 44, 29, 50, 27]
abbrev dktX3_periodOf_0 : List UInt8 := dkwX3_periodOf_0 ++ dktX3_periodOf_1
theorem dksX3_periodOf_0 : cX3_periodOf.data.toList.drop 0 = dktX3_periodOf_0 := by decide +kernel
theorem dksX3_periodOf_1 : cX3_periodOf.data.toList.drop 24 = dktX3_periodOf_1 := dk_seg dksX3_periodOf_0 24 rfl rfl
theorem dX3_periodOf_0 : decode cX3_periodOf 0 = .ok (.iconst 1, 1) := dk_4 (dk_at dksX3_periodOf_0 0 rfl rfl)
theorem dX3_periodOf_1 : decode cX3_periodOf 1 = .ok (.istore_n 2, 1) := dk_61 (dk_at dksX3_periodOf_0 1 rfl rfl)
theorem dX3_periodOf_2 : decode cX3_periodOf 2 = .ok (.iload_n 1, 1) := dk_27 (dk_at dksX3_periodOf_0 2 rfl rfl)
theorem dX3_periodOf_3 : decode cX3_periodOf 3 = .ok (.istore_n 3, 1) := dk_62 (dk_at dksX3_periodOf_0 3 rfl rfl)
theorem dX3_periodOf_4 : decode cX3_periodOf 4 = .ok (.iload_n 3, 1) := dk_29 (dk_at dksX3_periodOf_0 4 rfl rfl)
theorem dX3_periodOf_5 : decode cX3_periodOf 5 = .ok (.ifCond .eq 24, 3) := dk_153 0 24 (dk_at dksX3_periodOf_0 5 rfl rfl)
theorem dX3_periodOf_8 : decode cX3_periodOf 8 = .ok (.iload_n 2, 1) := dk_28 (dk_at dksX3_periodOf_0 8 rfl rfl)
theorem dX3_periodOf_9 : decode cX3_periodOf 9 = .ok (.bipush 48, 2) := dk_16 48 (dk_at dksX3_periodOf_0 9 rfl rfl)
theorem dX3_periodOf_11 : decode cX3_periodOf 11 = .ok (.if_icmp .ge 18, 3) := dk_162 0 18 (dk_at dksX3_periodOf_0 11 rfl rfl)
theorem dX3_periodOf_14 : decode cX3_periodOf 14 = .ok (.iinc 2 1, 3) := dk_132 2 1 (dk_at dksX3_periodOf_0 14 rfl rfl)
theorem dX3_periodOf_17 : decode cX3_periodOf 17 = .ok (.aload_n 0, 1) := dk_42 (dk_at dksX3_periodOf_0 17 rfl rfl)
theorem dX3_periodOf_18 : decode cX3_periodOf 18 = .ok (.getfield 44, 3) := dk_180 0 44 (dk_at dksX3_periodOf_0 18 rfl rfl)
theorem dX3_periodOf_21 : decode cX3_periodOf 21 = .ok (.iload_n 3, 1) := dk_29 (dk_at dksX3_periodOf_0 21 rfl rfl)
theorem dX3_periodOf_22 : decode cX3_periodOf 22 = .ok (.aaload, 1) := dk_50 (dk_at dksX3_periodOf_0 22 rfl rfl)
theorem dX3_periodOf_23 : decode cX3_periodOf 23 = .ok (.iload_n 1, 1) := dk_27 (dk_at dksX3_periodOf_0 23 rfl rfl)
theorem dX3_periodOf_24 : decode cX3_periodOf 24 = .ok (.iaload, 1) := dk_46 (dk_at dksX3_periodOf_1 0 rfl rfl)
theorem dX3_periodOf_25 : decode cX3_periodOf 25 = .ok (.istore_n 3, 1) := dk_62 (dk_at dksX3_periodOf_1 1 rfl rfl)
theorem dX3_periodOf_26 : decode cX3_periodOf 26 = .ok (.goto (-22), 3) := dk_167 255 234 (dk_at dksX3_periodOf_1 2 rfl rfl)
theorem dX3_periodOf_29 : decode cX3_periodOf 29 = .ok (.iload_n 2, 1) := dk_28 (dk_at dksX3_periodOf_1 5 rfl rfl)
theorem dX3_periodOf_30 : decode cX3_periodOf 30 = .ok (.ireturn, 1) := dk_172 (dk_at dksX3_periodOf_1 6 rfl rfl)
abbrev cX3_has : ByteArray := prog_6_method_6_code
def yX3_has : MethodName := ⟨RX3, "has", "(II)I"⟩
def dkwX3_has_2 : List UInt8 := [167, 0, 4, 3, 96, 62, 132, 4, 1, 167, 255, 208, 29, 172]
abbrev dktX3_has_2 : List UInt8 := dkwX3_has_2 ++ []
def dkwX3_has_1 : List UInt8 := [180, 0, 143, 27, 160, 0, 21, 42, 180, 0, 11, 21, 4, 50, 180, 0, 149, 28, 160, 0, 7, 4]
abbrev dktX3_has_1 : List UInt8 := dkwX3_has_1 ++ dktX3_has_2
def dkwX3_has_0 : List UInt8 := [3, 62, 3, 54, 4, 21, 4, 42, 180, 0, 84, 162, 0, 45, 29, 42, 180, 0, 11, 21, 4, 50]
abbrev dktX3_has_0 : List UInt8 := dkwX3_has_0 ++ dktX3_has_1
theorem dksX3_has_0 : cX3_has.data.toList.drop 0 = dktX3_has_0 := by decide +kernel
theorem dksX3_has_1 : cX3_has.data.toList.drop 22 = dktX3_has_1 := dk_seg dksX3_has_0 22 rfl rfl
theorem dksX3_has_2 : cX3_has.data.toList.drop 44 = dktX3_has_2 := dk_seg dksX3_has_1 22 rfl rfl
theorem dX3_has_0 : decode cX3_has 0 = .ok (.iconst 0, 1) := dk_3 (dk_at dksX3_has_0 0 rfl rfl)
theorem dX3_has_1 : decode cX3_has 1 = .ok (.istore_n 3, 1) := dk_62 (dk_at dksX3_has_0 1 rfl rfl)
theorem dX3_has_2 : decode cX3_has 2 = .ok (.iconst 0, 1) := dk_3 (dk_at dksX3_has_0 2 rfl rfl)
theorem dX3_has_3 : decode cX3_has 3 = .ok (.istore 4, 2) := dk_54 4 (dk_at dksX3_has_0 3 rfl rfl)
theorem dX3_has_5 : decode cX3_has 5 = .ok (.iload 4, 2) := dk_21 4 (dk_at dksX3_has_0 5 rfl rfl)
theorem dX3_has_7 : decode cX3_has 7 = .ok (.aload_n 0, 1) := dk_42 (dk_at dksX3_has_0 7 rfl rfl)
theorem dX3_has_8 : decode cX3_has 8 = .ok (.getfield 84, 3) := dk_180 0 84 (dk_at dksX3_has_0 8 rfl rfl)
theorem dX3_has_11 : decode cX3_has 11 = .ok (.if_icmp .ge 45, 3) := dk_162 0 45 (dk_at dksX3_has_0 11 rfl rfl)
theorem dX3_has_14 : decode cX3_has 14 = .ok (.iload_n 3, 1) := dk_29 (dk_at dksX3_has_0 14 rfl rfl)
theorem dX3_has_15 : decode cX3_has 15 = .ok (.aload_n 0, 1) := dk_42 (dk_at dksX3_has_0 15 rfl rfl)
theorem dX3_has_16 : decode cX3_has 16 = .ok (.getfield 11, 3) := dk_180 0 11 (dk_at dksX3_has_0 16 rfl rfl)
theorem dX3_has_19 : decode cX3_has 19 = .ok (.iload 4, 2) := dk_21 4 (dk_at dksX3_has_0 19 rfl rfl)
theorem dX3_has_21 : decode cX3_has 21 = .ok (.aaload, 1) := dk_50 (dk_at dksX3_has_0 21 rfl rfl)
theorem dX3_has_22 : decode cX3_has 22 = .ok (.getfield 143, 3) := dk_180 0 143 (dk_at dksX3_has_1 0 rfl rfl)
theorem dX3_has_25 : decode cX3_has 25 = .ok (.iload_n 1, 1) := dk_27 (dk_at dksX3_has_1 3 rfl rfl)
theorem dX3_has_26 : decode cX3_has 26 = .ok (.if_icmp .ne 21, 3) := dk_160 0 21 (dk_at dksX3_has_1 4 rfl rfl)
theorem dX3_has_29 : decode cX3_has 29 = .ok (.aload_n 0, 1) := dk_42 (dk_at dksX3_has_1 7 rfl rfl)
theorem dX3_has_30 : decode cX3_has 30 = .ok (.getfield 11, 3) := dk_180 0 11 (dk_at dksX3_has_1 8 rfl rfl)
theorem dX3_has_33 : decode cX3_has 33 = .ok (.iload 4, 2) := dk_21 4 (dk_at dksX3_has_1 11 rfl rfl)
theorem dX3_has_35 : decode cX3_has 35 = .ok (.aaload, 1) := dk_50 (dk_at dksX3_has_1 13 rfl rfl)
theorem dX3_has_36 : decode cX3_has 36 = .ok (.getfield 149, 3) := dk_180 0 149 (dk_at dksX3_has_1 14 rfl rfl)
theorem dX3_has_39 : decode cX3_has 39 = .ok (.iload_n 2, 1) := dk_28 (dk_at dksX3_has_1 17 rfl rfl)
theorem dX3_has_40 : decode cX3_has 40 = .ok (.if_icmp .ne 7, 3) := dk_160 0 7 (dk_at dksX3_has_1 18 rfl rfl)
theorem dX3_has_43 : decode cX3_has 43 = .ok (.iconst 1, 1) := dk_4 (dk_at dksX3_has_1 21 rfl rfl)
theorem dX3_has_44 : decode cX3_has 44 = .ok (.goto 4, 3) := dk_167 0 4 (dk_at dksX3_has_2 0 rfl rfl)
theorem dX3_has_47 : decode cX3_has 47 = .ok (.iconst 0, 1) := dk_3 (dk_at dksX3_has_2 3 rfl rfl)
theorem dX3_has_48 : decode cX3_has 48 = .ok (.iadd, 1) := dk_96 (dk_at dksX3_has_2 4 rfl rfl)
theorem dX3_has_49 : decode cX3_has 49 = .ok (.istore_n 3, 1) := dk_62 (dk_at dksX3_has_2 5 rfl rfl)
theorem dX3_has_50 : decode cX3_has 50 = .ok (.iinc 4 1, 3) := dk_132 4 1 (dk_at dksX3_has_2 6 rfl rfl)
theorem dX3_has_53 : decode cX3_has 53 = .ok (.goto (-48), 3) := dk_167 255 208 (dk_at dksX3_has_2 9 rfl rfl)
theorem dX3_has_56 : decode cX3_has 56 = .ok (.iload_n 3, 1) := dk_29 (dk_at dksX3_has_2 12 rfl rfl)
theorem dX3_has_57 : decode cX3_has 57 = .ok (.ireturn, 1) := dk_172 (dk_at dksX3_has_2 13 rfl rfl)
abbrev cX3_digit : ByteArray := prog_6_method_29_code
def yX3_digit : MethodName := ⟨RX3, "digit", "(I)Ljava/lang/String;"⟩
def dkwX3_digit_2 : List UInt8 := [18, 245, 167, 0, 20, 18, 247, 167, 0, 15, 18, 249, 167, 0, 10, 18, 251, 167, 0, 5, 18, 253, 176]
abbrev dktX3_digit_2 : List UInt8 := dkwX3_digit_2 ++ []
def dkwX3_digit_1 : List UInt8 := [170, 0, 0, 0, 0, 0, 51, 0, 0, 0, 1, 0, 0, 0, 4, 0, 0, 0, 31, 0, 0, 0, 36, 0, 0, 0, 41, 0, 0, 0, 46]
abbrev dktX3_digit_1 : List UInt8 := dkwX3_digit_1 ++ dktX3_digit_2
def dkwX3_digit_0 : List UInt8 := [26]
abbrev dktX3_digit_0 : List UInt8 := dkwX3_digit_0 ++ dktX3_digit_1
theorem dksX3_digit_0 : cX3_digit.data.toList.drop 0 = dktX3_digit_0 := by decide +kernel
theorem dksX3_digit_1 : cX3_digit.data.toList.drop 1 = dktX3_digit_1 := dk_seg dksX3_digit_0 1 rfl rfl
theorem dksX3_digit_2 : cX3_digit.data.toList.drop 32 = dktX3_digit_2 := dk_seg dksX3_digit_1 31 rfl rfl
theorem dX3_digit_0 : decode cX3_digit 0 = .ok (.iload_n 0, 1) := dk_26 (dk_at dksX3_digit_0 0 rfl rfl)
theorem dX3_digit_1 : decode cX3_digit 1 = .ok (.tableswitch 51 1 4 #[31, 36, 41, 46], 31) := by decide +kernel
theorem dX3_digit_32 : decode cX3_digit 32 = .ok (.ldc 245, 2) := dk_18 245 (dk_at dksX3_digit_2 0 rfl rfl)
theorem dX3_digit_34 : decode cX3_digit 34 = .ok (.goto 20, 3) := dk_167 0 20 (dk_at dksX3_digit_2 2 rfl rfl)
theorem dX3_digit_37 : decode cX3_digit 37 = .ok (.ldc 247, 2) := dk_18 247 (dk_at dksX3_digit_2 5 rfl rfl)
theorem dX3_digit_39 : decode cX3_digit 39 = .ok (.goto 15, 3) := dk_167 0 15 (dk_at dksX3_digit_2 7 rfl rfl)
theorem dX3_digit_42 : decode cX3_digit 42 = .ok (.ldc 249, 2) := dk_18 249 (dk_at dksX3_digit_2 10 rfl rfl)
theorem dX3_digit_44 : decode cX3_digit 44 = .ok (.goto 10, 3) := dk_167 0 10 (dk_at dksX3_digit_2 12 rfl rfl)
theorem dX3_digit_47 : decode cX3_digit 47 = .ok (.ldc 251, 2) := dk_18 251 (dk_at dksX3_digit_2 15 rfl rfl)
theorem dX3_digit_49 : decode cX3_digit 49 = .ok (.goto 5, 3) := dk_167 0 5 (dk_at dksX3_digit_2 17 rfl rfl)
theorem dX3_digit_52 : decode cX3_digit 52 = .ok (.ldc 253, 2) := dk_18 253 (dk_at dksX3_digit_2 20 rfl rfl)
theorem dX3_digit_54 : decode cX3_digit 54 = .ok (.areturn, 1) := dk_176 (dk_at dksX3_digit_2 22 rfl rfl)
abbrev cX3_all : ByteArray := prog_6_method_14_code
def yX3_all : MethodName := ⟨RX3, "all", "()J"⟩
def dkwX3_all_0 : List UInt8 := [10, 42, 180, 0, 84, 121, 10, 101, 173]
abbrev dktX3_all_0 : List UInt8 := dkwX3_all_0 ++ []
theorem dksX3_all_0 : cX3_all.data.toList.drop 0 = dktX3_all_0 := by decide +kernel
theorem dX3_all_0 : decode cX3_all 0 = .ok (.lconst 1, 1) := dk_10 (dk_at dksX3_all_0 0 rfl rfl)
theorem dX3_all_1 : decode cX3_all 1 = .ok (.aload_n 0, 1) := dk_42 (dk_at dksX3_all_0 1 rfl rfl)
theorem dX3_all_2 : decode cX3_all 2 = .ok (.getfield 84, 3) := dk_180 0 84 (dk_at dksX3_all_0 2 rfl rfl)
theorem dX3_all_5 : decode cX3_all 5 = .ok (.lshl, 1) := dk_121 (dk_at dksX3_all_0 5 rfl rfl)
theorem dX3_all_6 : decode cX3_all 6 = .ok (.lconst 1, 1) := dk_10 (dk_at dksX3_all_0 6 rfl rfl)
theorem dX3_all_7 : decode cX3_all 7 = .ok (.lsub, 1) := dk_101 (dk_at dksX3_all_0 7 rfl rfl)
theorem dX3_all_8 : decode cX3_all 8 = .ok (.lreturn, 1) := dk_173 (dk_at dksX3_all_0 8 rfl rfl)
abbrev cX3_orbitMany : ByteArray := prog_6_method_24_code
def yX3_orbitMany : MethodName := ⟨RX3, "orbitMany", "(J)I"⟩
def dkwX3_orbitMany_1 : List UInt8 := [182, 0, 222, 21, 4, 160, 0, 7, 4, 167, 0, 4, 3, 96, 62, 132, 4, 1, 167, 255, 221, 29, 172]
abbrev dktX3_orbitMany_1 : List UInt8 := dkwX3_orbitMany_1 ++ []
def dkwX3_orbitMany_0 : List UInt8 := [3, 62, 3, 54, 4, 21, 4, 42, 180, 0, 80, 180, 0, 98, 162, 0, 29, 29, 42, 31, 21, 4]
abbrev dktX3_orbitMany_0 : List UInt8 := dkwX3_orbitMany_0 ++ dktX3_orbitMany_1
theorem dksX3_orbitMany_0 : cX3_orbitMany.data.toList.drop 0 = dktX3_orbitMany_0 := by decide +kernel
theorem dksX3_orbitMany_1 : cX3_orbitMany.data.toList.drop 22 = dktX3_orbitMany_1 := dk_seg dksX3_orbitMany_0 22 rfl rfl
theorem dX3_orbitMany_0 : decode cX3_orbitMany 0 = .ok (.iconst 0, 1) := dk_3 (dk_at dksX3_orbitMany_0 0 rfl rfl)
theorem dX3_orbitMany_1 : decode cX3_orbitMany 1 = .ok (.istore_n 3, 1) := dk_62 (dk_at dksX3_orbitMany_0 1 rfl rfl)
theorem dX3_orbitMany_2 : decode cX3_orbitMany 2 = .ok (.iconst 0, 1) := dk_3 (dk_at dksX3_orbitMany_0 2 rfl rfl)
theorem dX3_orbitMany_3 : decode cX3_orbitMany 3 = .ok (.istore 4, 2) := dk_54 4 (dk_at dksX3_orbitMany_0 3 rfl rfl)
theorem dX3_orbitMany_5 : decode cX3_orbitMany 5 = .ok (.iload 4, 2) := dk_21 4 (dk_at dksX3_orbitMany_0 5 rfl rfl)
theorem dX3_orbitMany_7 : decode cX3_orbitMany 7 = .ok (.aload_n 0, 1) := dk_42 (dk_at dksX3_orbitMany_0 7 rfl rfl)
theorem dX3_orbitMany_8 : decode cX3_orbitMany 8 = .ok (.getfield 80, 3) := dk_180 0 80 (dk_at dksX3_orbitMany_0 8 rfl rfl)
theorem dX3_orbitMany_11 : decode cX3_orbitMany 11 = .ok (.getfield 98, 3) := dk_180 0 98 (dk_at dksX3_orbitMany_0 11 rfl rfl)
theorem dX3_orbitMany_14 : decode cX3_orbitMany 14 = .ok (.if_icmp .ge 29, 3) := dk_162 0 29 (dk_at dksX3_orbitMany_0 14 rfl rfl)
theorem dX3_orbitMany_17 : decode cX3_orbitMany 17 = .ok (.iload_n 3, 1) := dk_29 (dk_at dksX3_orbitMany_0 17 rfl rfl)
theorem dX3_orbitMany_18 : decode cX3_orbitMany 18 = .ok (.aload_n 0, 1) := dk_42 (dk_at dksX3_orbitMany_0 18 rfl rfl)
theorem dX3_orbitMany_19 : decode cX3_orbitMany 19 = .ok (.lload_n 1, 1) := dk_31 (dk_at dksX3_orbitMany_0 19 rfl rfl)
theorem dX3_orbitMany_20 : decode cX3_orbitMany 20 = .ok (.iload 4, 2) := dk_21 4 (dk_at dksX3_orbitMany_0 20 rfl rfl)
theorem dX3_orbitMany_22 : decode cX3_orbitMany 22 = .ok (.invokevirtual 222, 3) := dk_182 0 222 (dk_at dksX3_orbitMany_1 0 rfl rfl)
theorem dX3_orbitMany_25 : decode cX3_orbitMany 25 = .ok (.iload 4, 2) := dk_21 4 (dk_at dksX3_orbitMany_1 3 rfl rfl)
theorem dX3_orbitMany_27 : decode cX3_orbitMany 27 = .ok (.if_icmp .ne 7, 3) := dk_160 0 7 (dk_at dksX3_orbitMany_1 5 rfl rfl)
theorem dX3_orbitMany_30 : decode cX3_orbitMany 30 = .ok (.iconst 1, 1) := dk_4 (dk_at dksX3_orbitMany_1 8 rfl rfl)
theorem dX3_orbitMany_31 : decode cX3_orbitMany 31 = .ok (.goto 4, 3) := dk_167 0 4 (dk_at dksX3_orbitMany_1 9 rfl rfl)
theorem dX3_orbitMany_34 : decode cX3_orbitMany 34 = .ok (.iconst 0, 1) := dk_3 (dk_at dksX3_orbitMany_1 12 rfl rfl)
theorem dX3_orbitMany_35 : decode cX3_orbitMany 35 = .ok (.iadd, 1) := dk_96 (dk_at dksX3_orbitMany_1 13 rfl rfl)
theorem dX3_orbitMany_36 : decode cX3_orbitMany 36 = .ok (.istore_n 3, 1) := dk_62 (dk_at dksX3_orbitMany_1 14 rfl rfl)
theorem dX3_orbitMany_37 : decode cX3_orbitMany 37 = .ok (.iinc 4 1, 3) := dk_132 4 1 (dk_at dksX3_orbitMany_1 15 rfl rfl)
theorem dX3_orbitMany_40 : decode cX3_orbitMany 40 = .ok (.goto (-35), 3) := dk_167 255 221 (dk_at dksX3_orbitMany_1 18 rfl rfl)
theorem dX3_orbitMany_43 : decode cX3_orbitMany 43 = .ok (.iload_n 3, 1) := dk_29 (dk_at dksX3_orbitMany_1 21 rfl rfl)
theorem dX3_orbitMany_44 : decode cX3_orbitMany 44 = .ok (.ireturn, 1) := dk_172 (dk_at dksX3_orbitMany_1 22 rfl rfl)
abbrev cX3_leastBy : ByteArray := prog_6_method_25_code
def yX3_leastBy : MethodName := ⟨RX3, "leastBy", "(JI)I"⟩
def dkwX3_leastBy_2 : List UInt8 := [21, 4, 172]
abbrev dktX3_leastBy_2 : List UInt8 := dkwX3_leastBy_2 ++ []
def dkwX3_leastBy_1 : List UInt8 := [21, 4, 42, 180, 0, 11, 21, 5, 50, 29, 182, 0, 226, 184, 0, 230, 54, 4, 132, 5, 1, 167, 255, 217]
abbrev dktX3_leastBy_1 : List UInt8 := dkwX3_leastBy_1 ++ dktX3_leastBy_2
def dkwX3_leastBy_0 : List UInt8 := [29, 54, 4, 3, 54, 5, 21, 5, 42, 180, 0, 84, 162, 0, 36, 31, 21, 5, 184, 0, 184, 153, 0, 21]
abbrev dktX3_leastBy_0 : List UInt8 := dkwX3_leastBy_0 ++ dktX3_leastBy_1
theorem dksX3_leastBy_0 : cX3_leastBy.data.toList.drop 0 = dktX3_leastBy_0 := by decide +kernel
theorem dksX3_leastBy_1 : cX3_leastBy.data.toList.drop 24 = dktX3_leastBy_1 := dk_seg dksX3_leastBy_0 24 rfl rfl
theorem dksX3_leastBy_2 : cX3_leastBy.data.toList.drop 48 = dktX3_leastBy_2 := dk_seg dksX3_leastBy_1 24 rfl rfl
theorem dX3_leastBy_0 : decode cX3_leastBy 0 = .ok (.iload_n 3, 1) := dk_29 (dk_at dksX3_leastBy_0 0 rfl rfl)
theorem dX3_leastBy_1 : decode cX3_leastBy 1 = .ok (.istore 4, 2) := dk_54 4 (dk_at dksX3_leastBy_0 1 rfl rfl)
theorem dX3_leastBy_3 : decode cX3_leastBy 3 = .ok (.iconst 0, 1) := dk_3 (dk_at dksX3_leastBy_0 3 rfl rfl)
theorem dX3_leastBy_4 : decode cX3_leastBy 4 = .ok (.istore 5, 2) := dk_54 5 (dk_at dksX3_leastBy_0 4 rfl rfl)
theorem dX3_leastBy_6 : decode cX3_leastBy 6 = .ok (.iload 5, 2) := dk_21 5 (dk_at dksX3_leastBy_0 6 rfl rfl)
theorem dX3_leastBy_8 : decode cX3_leastBy 8 = .ok (.aload_n 0, 1) := dk_42 (dk_at dksX3_leastBy_0 8 rfl rfl)
theorem dX3_leastBy_9 : decode cX3_leastBy 9 = .ok (.getfield 84, 3) := dk_180 0 84 (dk_at dksX3_leastBy_0 9 rfl rfl)
theorem dX3_leastBy_12 : decode cX3_leastBy 12 = .ok (.if_icmp .ge 36, 3) := dk_162 0 36 (dk_at dksX3_leastBy_0 12 rfl rfl)
theorem dX3_leastBy_15 : decode cX3_leastBy 15 = .ok (.lload_n 1, 1) := dk_31 (dk_at dksX3_leastBy_0 15 rfl rfl)
theorem dX3_leastBy_16 : decode cX3_leastBy 16 = .ok (.iload 5, 2) := dk_21 5 (dk_at dksX3_leastBy_0 16 rfl rfl)
theorem dX3_leastBy_18 : decode cX3_leastBy 18 = .ok (.invokestatic 184, 3) := dk_184 0 184 (dk_at dksX3_leastBy_0 18 rfl rfl)
theorem dX3_leastBy_21 : decode cX3_leastBy 21 = .ok (.ifCond .eq 21, 3) := dk_153 0 21 (dk_at dksX3_leastBy_0 21 rfl rfl)
theorem dX3_leastBy_24 : decode cX3_leastBy 24 = .ok (.iload 4, 2) := dk_21 4 (dk_at dksX3_leastBy_1 0 rfl rfl)
theorem dX3_leastBy_26 : decode cX3_leastBy 26 = .ok (.aload_n 0, 1) := dk_42 (dk_at dksX3_leastBy_1 2 rfl rfl)
theorem dX3_leastBy_27 : decode cX3_leastBy 27 = .ok (.getfield 11, 3) := dk_180 0 11 (dk_at dksX3_leastBy_1 3 rfl rfl)
theorem dX3_leastBy_30 : decode cX3_leastBy 30 = .ok (.iload 5, 2) := dk_21 5 (dk_at dksX3_leastBy_1 6 rfl rfl)
theorem dX3_leastBy_32 : decode cX3_leastBy 32 = .ok (.aaload, 1) := dk_50 (dk_at dksX3_leastBy_1 8 rfl rfl)
theorem dX3_leastBy_33 : decode cX3_leastBy 33 = .ok (.iload_n 3, 1) := dk_29 (dk_at dksX3_leastBy_1 9 rfl rfl)
theorem dX3_leastBy_34 : decode cX3_leastBy 34 = .ok (.invokevirtual 226, 3) := dk_182 0 226 (dk_at dksX3_leastBy_1 10 rfl rfl)
theorem dX3_leastBy_37 : decode cX3_leastBy 37 = .ok (.invokestatic 230, 3) := dk_184 0 230 (dk_at dksX3_leastBy_1 13 rfl rfl)
theorem dX3_leastBy_40 : decode cX3_leastBy 40 = .ok (.istore 4, 2) := dk_54 4 (dk_at dksX3_leastBy_1 16 rfl rfl)
theorem dX3_leastBy_42 : decode cX3_leastBy 42 = .ok (.iinc 5 1, 3) := dk_132 5 1 (dk_at dksX3_leastBy_1 18 rfl rfl)
theorem dX3_leastBy_45 : decode cX3_leastBy 45 = .ok (.goto (-39), 3) := dk_167 255 217 (dk_at dksX3_leastBy_1 21 rfl rfl)
theorem dX3_leastBy_48 : decode cX3_leastBy 48 = .ok (.iload 4, 2) := dk_21 4 (dk_at dksX3_leastBy_2 0 rfl rfl)
theorem dX3_leastBy_50 : decode cX3_leastBy 50 = .ok (.ireturn, 1) := dk_172 (dk_at dksX3_leastBy_2 2 rfl rfl)
abbrev cX3_isIn : ByteArray := prog_6_method_13_code
def yX3_isIn : MethodName := ⟨RX3, "isIn", "(JI)Z"⟩
def dkwX3_isIn_0 : List UInt8 := [30, 28, 123, 10, 127, 10, 148, 154, 0, 7, 4, 167, 0, 4, 3, 172]
abbrev dktX3_isIn_0 : List UInt8 := dkwX3_isIn_0 ++ []
theorem dksX3_isIn_0 : cX3_isIn.data.toList.drop 0 = dktX3_isIn_0 := by decide +kernel
theorem dX3_isIn_0 : decode cX3_isIn 0 = .ok (.lload_n 0, 1) := dk_30 (dk_at dksX3_isIn_0 0 rfl rfl)
theorem dX3_isIn_1 : decode cX3_isIn 1 = .ok (.iload_n 2, 1) := dk_28 (dk_at dksX3_isIn_0 1 rfl rfl)
theorem dX3_isIn_2 : decode cX3_isIn 2 = .ok (.lshr, 1) := dk_123 (dk_at dksX3_isIn_0 2 rfl rfl)
theorem dX3_isIn_3 : decode cX3_isIn 3 = .ok (.lconst 1, 1) := dk_10 (dk_at dksX3_isIn_0 3 rfl rfl)
theorem dX3_isIn_4 : decode cX3_isIn 4 = .ok (.land, 1) := dk_127 (dk_at dksX3_isIn_0 4 rfl rfl)
theorem dX3_isIn_5 : decode cX3_isIn 5 = .ok (.lconst 1, 1) := dk_10 (dk_at dksX3_isIn_0 5 rfl rfl)
theorem dX3_isIn_6 : decode cX3_isIn 6 = .ok (.lcmp, 1) := dk_148 (dk_at dksX3_isIn_0 6 rfl rfl)
theorem dX3_isIn_7 : decode cX3_isIn 7 = .ok (.ifCond .ne 7, 3) := dk_154 0 7 (dk_at dksX3_isIn_0 7 rfl rfl)
theorem dX3_isIn_10 : decode cX3_isIn 10 = .ok (.iconst 1, 1) := dk_4 (dk_at dksX3_isIn_0 10 rfl rfl)
theorem dX3_isIn_11 : decode cX3_isIn 11 = .ok (.goto 4, 3) := dk_167 0 4 (dk_at dksX3_isIn_0 11 rfl rfl)
theorem dX3_isIn_14 : decode cX3_isIn 14 = .ok (.iconst 0, 1) := dk_3 (dk_at dksX3_isIn_0 14 rfl rfl)
theorem dX3_isIn_15 : decode cX3_isIn 15 = .ok (.ireturn, 1) := dk_172 (dk_at dksX3_isIn_0 15 rfl rfl)
abbrev cX3_pairMany : ByteArray := prog_6_method_27_code
def yX3_pairMany : MethodName := ⟨RX3, "pairMany", "()I"⟩
def dkwX3_pairMany_2 : List UInt8 := [132, 3, 1, 167, 255, 225, 132, 2, 1, 167, 255, 204, 27, 172]
abbrev dktX3_pairMany_2 : List UInt8 := dkwX3_pairMany_2 ++ []
def dkwX3_pairMany_1 : List UInt8 := [180, 0, 98, 162, 0, 26, 27, 42, 28, 29, 182, 0, 238, 153, 0, 7, 4, 167, 0, 4, 3, 96, 60]
abbrev dktX3_pairMany_1 : List UInt8 := dkwX3_pairMany_1 ++ dktX3_pairMany_2
def dkwX3_pairMany_0 : List UInt8 := [3, 60, 3, 61, 28, 42, 180, 0, 80, 180, 0, 98, 162, 0, 47, 28, 4, 96, 62, 29, 42, 180, 0, 80]
abbrev dktX3_pairMany_0 : List UInt8 := dkwX3_pairMany_0 ++ dktX3_pairMany_1
theorem dksX3_pairMany_0 : cX3_pairMany.data.toList.drop 0 = dktX3_pairMany_0 := by decide +kernel
theorem dksX3_pairMany_1 : cX3_pairMany.data.toList.drop 24 = dktX3_pairMany_1 := dk_seg dksX3_pairMany_0 24 rfl rfl
theorem dksX3_pairMany_2 : cX3_pairMany.data.toList.drop 47 = dktX3_pairMany_2 := dk_seg dksX3_pairMany_1 23 rfl rfl
theorem dX3_pairMany_0 : decode cX3_pairMany 0 = .ok (.iconst 0, 1) := dk_3 (dk_at dksX3_pairMany_0 0 rfl rfl)
theorem dX3_pairMany_1 : decode cX3_pairMany 1 = .ok (.istore_n 1, 1) := dk_60 (dk_at dksX3_pairMany_0 1 rfl rfl)
theorem dX3_pairMany_2 : decode cX3_pairMany 2 = .ok (.iconst 0, 1) := dk_3 (dk_at dksX3_pairMany_0 2 rfl rfl)
theorem dX3_pairMany_3 : decode cX3_pairMany 3 = .ok (.istore_n 2, 1) := dk_61 (dk_at dksX3_pairMany_0 3 rfl rfl)
theorem dX3_pairMany_4 : decode cX3_pairMany 4 = .ok (.iload_n 2, 1) := dk_28 (dk_at dksX3_pairMany_0 4 rfl rfl)
theorem dX3_pairMany_5 : decode cX3_pairMany 5 = .ok (.aload_n 0, 1) := dk_42 (dk_at dksX3_pairMany_0 5 rfl rfl)
theorem dX3_pairMany_6 : decode cX3_pairMany 6 = .ok (.getfield 80, 3) := dk_180 0 80 (dk_at dksX3_pairMany_0 6 rfl rfl)
theorem dX3_pairMany_9 : decode cX3_pairMany 9 = .ok (.getfield 98, 3) := dk_180 0 98 (dk_at dksX3_pairMany_0 9 rfl rfl)
theorem dX3_pairMany_12 : decode cX3_pairMany 12 = .ok (.if_icmp .ge 47, 3) := dk_162 0 47 (dk_at dksX3_pairMany_0 12 rfl rfl)
theorem dX3_pairMany_15 : decode cX3_pairMany 15 = .ok (.iload_n 2, 1) := dk_28 (dk_at dksX3_pairMany_0 15 rfl rfl)
theorem dX3_pairMany_16 : decode cX3_pairMany 16 = .ok (.iconst 1, 1) := dk_4 (dk_at dksX3_pairMany_0 16 rfl rfl)
theorem dX3_pairMany_17 : decode cX3_pairMany 17 = .ok (.iadd, 1) := dk_96 (dk_at dksX3_pairMany_0 17 rfl rfl)
theorem dX3_pairMany_18 : decode cX3_pairMany 18 = .ok (.istore_n 3, 1) := dk_62 (dk_at dksX3_pairMany_0 18 rfl rfl)
theorem dX3_pairMany_19 : decode cX3_pairMany 19 = .ok (.iload_n 3, 1) := dk_29 (dk_at dksX3_pairMany_0 19 rfl rfl)
theorem dX3_pairMany_20 : decode cX3_pairMany 20 = .ok (.aload_n 0, 1) := dk_42 (dk_at dksX3_pairMany_0 20 rfl rfl)
theorem dX3_pairMany_21 : decode cX3_pairMany 21 = .ok (.getfield 80, 3) := dk_180 0 80 (dk_at dksX3_pairMany_0 21 rfl rfl)
theorem dX3_pairMany_24 : decode cX3_pairMany 24 = .ok (.getfield 98, 3) := dk_180 0 98 (dk_at dksX3_pairMany_1 0 rfl rfl)
theorem dX3_pairMany_27 : decode cX3_pairMany 27 = .ok (.if_icmp .ge 26, 3) := dk_162 0 26 (dk_at dksX3_pairMany_1 3 rfl rfl)
theorem dX3_pairMany_30 : decode cX3_pairMany 30 = .ok (.iload_n 1, 1) := dk_27 (dk_at dksX3_pairMany_1 6 rfl rfl)
theorem dX3_pairMany_31 : decode cX3_pairMany 31 = .ok (.aload_n 0, 1) := dk_42 (dk_at dksX3_pairMany_1 7 rfl rfl)
theorem dX3_pairMany_32 : decode cX3_pairMany 32 = .ok (.iload_n 2, 1) := dk_28 (dk_at dksX3_pairMany_1 8 rfl rfl)
theorem dX3_pairMany_33 : decode cX3_pairMany 33 = .ok (.iload_n 3, 1) := dk_29 (dk_at dksX3_pairMany_1 9 rfl rfl)
theorem dX3_pairMany_34 : decode cX3_pairMany 34 = .ok (.invokevirtual 238, 3) := dk_182 0 238 (dk_at dksX3_pairMany_1 10 rfl rfl)
theorem dX3_pairMany_37 : decode cX3_pairMany 37 = .ok (.ifCond .eq 7, 3) := dk_153 0 7 (dk_at dksX3_pairMany_1 13 rfl rfl)
theorem dX3_pairMany_40 : decode cX3_pairMany 40 = .ok (.iconst 1, 1) := dk_4 (dk_at dksX3_pairMany_1 16 rfl rfl)
theorem dX3_pairMany_41 : decode cX3_pairMany 41 = .ok (.goto 4, 3) := dk_167 0 4 (dk_at dksX3_pairMany_1 17 rfl rfl)
theorem dX3_pairMany_44 : decode cX3_pairMany 44 = .ok (.iconst 0, 1) := dk_3 (dk_at dksX3_pairMany_1 20 rfl rfl)
theorem dX3_pairMany_45 : decode cX3_pairMany 45 = .ok (.iadd, 1) := dk_96 (dk_at dksX3_pairMany_1 21 rfl rfl)
theorem dX3_pairMany_46 : decode cX3_pairMany 46 = .ok (.istore_n 1, 1) := dk_60 (dk_at dksX3_pairMany_1 22 rfl rfl)
theorem dX3_pairMany_47 : decode cX3_pairMany 47 = .ok (.iinc 3 1, 3) := dk_132 3 1 (dk_at dksX3_pairMany_2 0 rfl rfl)
theorem dX3_pairMany_50 : decode cX3_pairMany 50 = .ok (.goto (-31), 3) := dk_167 255 225 (dk_at dksX3_pairMany_2 3 rfl rfl)
theorem dX3_pairMany_53 : decode cX3_pairMany 53 = .ok (.iinc 2 1, 3) := dk_132 2 1 (dk_at dksX3_pairMany_2 6 rfl rfl)
theorem dX3_pairMany_56 : decode cX3_pairMany 56 = .ok (.goto (-52), 3) := dk_167 255 204 (dk_at dksX3_pairMany_2 9 rfl rfl)
theorem dX3_pairMany_59 : decode cX3_pairMany 59 = .ok (.iload_n 1, 1) := dk_27 (dk_at dksX3_pairMany_2 12 rfl rfl)
theorem dX3_pairMany_60 : decode cX3_pairMany 60 = .ok (.ireturn, 1) := dk_172 (dk_at dksX3_pairMany_2 13 rfl rfl)
abbrev cX3_isLeastPair : ByteArray := prog_6_method_26_code
def yX3_isLeastPair : MethodName := ⟨RX3, "isLeastPair", "(II)Z"⟩
def dkwX3_isLeastPair_3 : List UInt8 := [160, 0, 11, 21, 5, 28, 162, 0, 5, 3, 172, 132, 3, 1, 167, 255, 175, 4, 172]
abbrev dktX3_isLeastPair_3 : List UInt8 := dkwX3_isLeastPair_3 ++ []
def dkwX3_isLeastPair_2 : List UInt8 := [180, 0, 11, 29, 50, 28, 182, 0, 226, 184, 0, 235, 54, 5, 21, 4, 27, 161, 0, 15, 21, 4, 27]
abbrev dktX3_isLeastPair_2 : List UInt8 := dkwX3_isLeastPair_2 ++ dktX3_isLeastPair_3
def dkwX3_isLeastPair_1 : List UInt8 := [29, 50, 28, 182, 0, 226, 184, 0, 230, 54, 4, 42, 180, 0, 11, 29, 50, 27, 182, 0, 226, 42]
abbrev dktX3_isLeastPair_1 : List UInt8 := dkwX3_isLeastPair_1 ++ dktX3_isLeastPair_2
def dkwX3_isLeastPair_0 : List UInt8 := [3, 62, 29, 42, 180, 0, 84, 162, 0, 79, 42, 180, 0, 11, 29, 50, 27, 182, 0, 226, 42, 180, 0, 11]
abbrev dktX3_isLeastPair_0 : List UInt8 := dkwX3_isLeastPair_0 ++ dktX3_isLeastPair_1
theorem dksX3_isLeastPair_0 : cX3_isLeastPair.data.toList.drop 0 = dktX3_isLeastPair_0 := by decide +kernel
theorem dksX3_isLeastPair_1 : cX3_isLeastPair.data.toList.drop 24 = dktX3_isLeastPair_1 := dk_seg dksX3_isLeastPair_0 24 rfl rfl
theorem dksX3_isLeastPair_2 : cX3_isLeastPair.data.toList.drop 46 = dktX3_isLeastPair_2 := dk_seg dksX3_isLeastPair_1 22 rfl rfl
theorem dksX3_isLeastPair_3 : cX3_isLeastPair.data.toList.drop 69 = dktX3_isLeastPair_3 := dk_seg dksX3_isLeastPair_2 23 rfl rfl
theorem dX3_isLeastPair_0 : decode cX3_isLeastPair 0 = .ok (.iconst 0, 1) := dk_3 (dk_at dksX3_isLeastPair_0 0 rfl rfl)
theorem dX3_isLeastPair_1 : decode cX3_isLeastPair 1 = .ok (.istore_n 3, 1) := dk_62 (dk_at dksX3_isLeastPair_0 1 rfl rfl)
theorem dX3_isLeastPair_2 : decode cX3_isLeastPair 2 = .ok (.iload_n 3, 1) := dk_29 (dk_at dksX3_isLeastPair_0 2 rfl rfl)
theorem dX3_isLeastPair_3 : decode cX3_isLeastPair 3 = .ok (.aload_n 0, 1) := dk_42 (dk_at dksX3_isLeastPair_0 3 rfl rfl)
theorem dX3_isLeastPair_4 : decode cX3_isLeastPair 4 = .ok (.getfield 84, 3) := dk_180 0 84 (dk_at dksX3_isLeastPair_0 4 rfl rfl)
theorem dX3_isLeastPair_7 : decode cX3_isLeastPair 7 = .ok (.if_icmp .ge 79, 3) := dk_162 0 79 (dk_at dksX3_isLeastPair_0 7 rfl rfl)
theorem dX3_isLeastPair_10 : decode cX3_isLeastPair 10 = .ok (.aload_n 0, 1) := dk_42 (dk_at dksX3_isLeastPair_0 10 rfl rfl)
theorem dX3_isLeastPair_11 : decode cX3_isLeastPair 11 = .ok (.getfield 11, 3) := dk_180 0 11 (dk_at dksX3_isLeastPair_0 11 rfl rfl)
theorem dX3_isLeastPair_14 : decode cX3_isLeastPair 14 = .ok (.iload_n 3, 1) := dk_29 (dk_at dksX3_isLeastPair_0 14 rfl rfl)
theorem dX3_isLeastPair_15 : decode cX3_isLeastPair 15 = .ok (.aaload, 1) := dk_50 (dk_at dksX3_isLeastPair_0 15 rfl rfl)
theorem dX3_isLeastPair_16 : decode cX3_isLeastPair 16 = .ok (.iload_n 1, 1) := dk_27 (dk_at dksX3_isLeastPair_0 16 rfl rfl)
theorem dX3_isLeastPair_17 : decode cX3_isLeastPair 17 = .ok (.invokevirtual 226, 3) := dk_182 0 226 (dk_at dksX3_isLeastPair_0 17 rfl rfl)
theorem dX3_isLeastPair_20 : decode cX3_isLeastPair 20 = .ok (.aload_n 0, 1) := dk_42 (dk_at dksX3_isLeastPair_0 20 rfl rfl)
theorem dX3_isLeastPair_21 : decode cX3_isLeastPair 21 = .ok (.getfield 11, 3) := dk_180 0 11 (dk_at dksX3_isLeastPair_0 21 rfl rfl)
theorem dX3_isLeastPair_24 : decode cX3_isLeastPair 24 = .ok (.iload_n 3, 1) := dk_29 (dk_at dksX3_isLeastPair_1 0 rfl rfl)
theorem dX3_isLeastPair_25 : decode cX3_isLeastPair 25 = .ok (.aaload, 1) := dk_50 (dk_at dksX3_isLeastPair_1 1 rfl rfl)
theorem dX3_isLeastPair_26 : decode cX3_isLeastPair 26 = .ok (.iload_n 2, 1) := dk_28 (dk_at dksX3_isLeastPair_1 2 rfl rfl)
theorem dX3_isLeastPair_27 : decode cX3_isLeastPair 27 = .ok (.invokevirtual 226, 3) := dk_182 0 226 (dk_at dksX3_isLeastPair_1 3 rfl rfl)
theorem dX3_isLeastPair_30 : decode cX3_isLeastPair 30 = .ok (.invokestatic 230, 3) := dk_184 0 230 (dk_at dksX3_isLeastPair_1 6 rfl rfl)
theorem dX3_isLeastPair_33 : decode cX3_isLeastPair 33 = .ok (.istore 4, 2) := dk_54 4 (dk_at dksX3_isLeastPair_1 9 rfl rfl)
theorem dX3_isLeastPair_35 : decode cX3_isLeastPair 35 = .ok (.aload_n 0, 1) := dk_42 (dk_at dksX3_isLeastPair_1 11 rfl rfl)
theorem dX3_isLeastPair_36 : decode cX3_isLeastPair 36 = .ok (.getfield 11, 3) := dk_180 0 11 (dk_at dksX3_isLeastPair_1 12 rfl rfl)
theorem dX3_isLeastPair_39 : decode cX3_isLeastPair 39 = .ok (.iload_n 3, 1) := dk_29 (dk_at dksX3_isLeastPair_1 15 rfl rfl)
theorem dX3_isLeastPair_40 : decode cX3_isLeastPair 40 = .ok (.aaload, 1) := dk_50 (dk_at dksX3_isLeastPair_1 16 rfl rfl)
theorem dX3_isLeastPair_41 : decode cX3_isLeastPair 41 = .ok (.iload_n 1, 1) := dk_27 (dk_at dksX3_isLeastPair_1 17 rfl rfl)
theorem dX3_isLeastPair_42 : decode cX3_isLeastPair 42 = .ok (.invokevirtual 226, 3) := dk_182 0 226 (dk_at dksX3_isLeastPair_1 18 rfl rfl)
theorem dX3_isLeastPair_45 : decode cX3_isLeastPair 45 = .ok (.aload_n 0, 1) := dk_42 (dk_at dksX3_isLeastPair_1 21 rfl rfl)
theorem dX3_isLeastPair_46 : decode cX3_isLeastPair 46 = .ok (.getfield 11, 3) := dk_180 0 11 (dk_at dksX3_isLeastPair_2 0 rfl rfl)
theorem dX3_isLeastPair_49 : decode cX3_isLeastPair 49 = .ok (.iload_n 3, 1) := dk_29 (dk_at dksX3_isLeastPair_2 3 rfl rfl)
theorem dX3_isLeastPair_50 : decode cX3_isLeastPair 50 = .ok (.aaload, 1) := dk_50 (dk_at dksX3_isLeastPair_2 4 rfl rfl)
theorem dX3_isLeastPair_51 : decode cX3_isLeastPair 51 = .ok (.iload_n 2, 1) := dk_28 (dk_at dksX3_isLeastPair_2 5 rfl rfl)
theorem dX3_isLeastPair_52 : decode cX3_isLeastPair 52 = .ok (.invokevirtual 226, 3) := dk_182 0 226 (dk_at dksX3_isLeastPair_2 6 rfl rfl)
theorem dX3_isLeastPair_55 : decode cX3_isLeastPair 55 = .ok (.invokestatic 235, 3) := dk_184 0 235 (dk_at dksX3_isLeastPair_2 9 rfl rfl)
theorem dX3_isLeastPair_58 : decode cX3_isLeastPair 58 = .ok (.istore 5, 2) := dk_54 5 (dk_at dksX3_isLeastPair_2 12 rfl rfl)
theorem dX3_isLeastPair_60 : decode cX3_isLeastPair 60 = .ok (.iload 4, 2) := dk_21 4 (dk_at dksX3_isLeastPair_2 14 rfl rfl)
theorem dX3_isLeastPair_62 : decode cX3_isLeastPair 62 = .ok (.iload_n 1, 1) := dk_27 (dk_at dksX3_isLeastPair_2 16 rfl rfl)
theorem dX3_isLeastPair_63 : decode cX3_isLeastPair 63 = .ok (.if_icmp .lt 15, 3) := dk_161 0 15 (dk_at dksX3_isLeastPair_2 17 rfl rfl)
theorem dX3_isLeastPair_66 : decode cX3_isLeastPair 66 = .ok (.iload 4, 2) := dk_21 4 (dk_at dksX3_isLeastPair_2 20 rfl rfl)
theorem dX3_isLeastPair_68 : decode cX3_isLeastPair 68 = .ok (.iload_n 1, 1) := dk_27 (dk_at dksX3_isLeastPair_2 22 rfl rfl)
theorem dX3_isLeastPair_69 : decode cX3_isLeastPair 69 = .ok (.if_icmp .ne 11, 3) := dk_160 0 11 (dk_at dksX3_isLeastPair_3 0 rfl rfl)
theorem dX3_isLeastPair_72 : decode cX3_isLeastPair 72 = .ok (.iload 5, 2) := dk_21 5 (dk_at dksX3_isLeastPair_3 3 rfl rfl)
theorem dX3_isLeastPair_74 : decode cX3_isLeastPair 74 = .ok (.iload_n 2, 1) := dk_28 (dk_at dksX3_isLeastPair_3 5 rfl rfl)
theorem dX3_isLeastPair_75 : decode cX3_isLeastPair 75 = .ok (.if_icmp .ge 5, 3) := dk_162 0 5 (dk_at dksX3_isLeastPair_3 6 rfl rfl)
theorem dX3_isLeastPair_78 : decode cX3_isLeastPair 78 = .ok (.iconst 0, 1) := dk_3 (dk_at dksX3_isLeastPair_3 9 rfl rfl)
theorem dX3_isLeastPair_79 : decode cX3_isLeastPair 79 = .ok (.ireturn, 1) := dk_172 (dk_at dksX3_isLeastPair_3 10 rfl rfl)
theorem dX3_isLeastPair_80 : decode cX3_isLeastPair 80 = .ok (.iinc 3 1, 3) := dk_132 3 1 (dk_at dksX3_isLeastPair_3 11 rfl rfl)
theorem dX3_isLeastPair_83 : decode cX3_isLeastPair 83 = .ok (.goto (-81), 3) := dk_167 255 175 (dk_at dksX3_isLeastPair_3 14 rfl rfl)
theorem dX3_isLeastPair_86 : decode cX3_isLeastPair 86 = .ok (.iconst 1, 1) := dk_4 (dk_at dksX3_isLeastPair_3 17 rfl rfl)
theorem dX3_isLeastPair_87 : decode cX3_isLeastPair 87 = .ok (.ireturn, 1) := dk_172 (dk_at dksX3_isLeastPair_3 18 rfl rfl)
abbrev cX3_closes : ByteArray := prog_6_method_15_code
def yX3_closes : MethodName := ⟨RX3, "closes", "(J)J"⟩
def dkwX3_closes_4 : List UInt8 := [167, 255, 168, 33, 173]
abbrev dktX3_closes_4 : List UInt8 := dkwX3_closes_4 ++ []
def dkwX3_closes_3 : List UInt8 := [66, 22, 5, 10, 21, 10, 121, 129, 55, 5, 22, 8, 22, 8, 10, 101, 127, 55, 8, 167, 255, 197]
abbrev dktX3_closes_3 : List UInt8 := dkwX3_closes_3 ++ dktX3_closes_4
def dkwX3_closes_2 : List UInt8 := [184, 0, 178, 46, 54, 10, 33, 21, 10, 184, 0, 184, 153, 0, 6, 167, 0, 19, 33, 10, 21, 10, 121, 129]
abbrev dktX3_closes_2 : List UInt8 := dkwX3_closes_2 ++ dktX3_closes_3
def dkwX3_closes_1 : List UInt8 := [101, 127, 55, 5, 31, 55, 8, 22, 8, 9, 148, 153, 0, 58, 42, 180, 0, 44, 21, 7, 50, 22, 8]
abbrev dktX3_closes_1 : List UInt8 := dkwX3_closes_1 ++ dktX3_closes_2
def dkwX3_closes_0 : List UInt8 := [10, 66, 10, 55, 5, 22, 5, 9, 148, 153, 0, 87, 22, 5, 184, 0, 178, 54, 7, 22, 5, 22, 5, 10]
abbrev dktX3_closes_0 : List UInt8 := dkwX3_closes_0 ++ dktX3_closes_1
theorem dksX3_closes_0 : cX3_closes.data.toList.drop 0 = dktX3_closes_0 := by decide +kernel
theorem dksX3_closes_1 : cX3_closes.data.toList.drop 24 = dktX3_closes_1 := dk_seg dksX3_closes_0 24 rfl rfl
theorem dksX3_closes_2 : cX3_closes.data.toList.drop 47 = dktX3_closes_2 := dk_seg dksX3_closes_1 23 rfl rfl
theorem dksX3_closes_3 : cX3_closes.data.toList.drop 71 = dktX3_closes_3 := dk_seg dksX3_closes_2 24 rfl rfl
theorem dksX3_closes_4 : cX3_closes.data.toList.drop 93 = dktX3_closes_4 := dk_seg dksX3_closes_3 22 rfl rfl
theorem dX3_closes_0 : decode cX3_closes 0 = .ok (.lconst 1, 1) := dk_10 (dk_at dksX3_closes_0 0 rfl rfl)
theorem dX3_closes_1 : decode cX3_closes 1 = .ok (.lstore_n 3, 1) := dk_66 (dk_at dksX3_closes_0 1 rfl rfl)
theorem dX3_closes_2 : decode cX3_closes 2 = .ok (.lconst 1, 1) := dk_10 (dk_at dksX3_closes_0 2 rfl rfl)
theorem dX3_closes_3 : decode cX3_closes 3 = .ok (.lstore 5, 2) := dk_55 5 (dk_at dksX3_closes_0 3 rfl rfl)
theorem dX3_closes_5 : decode cX3_closes 5 = .ok (.lload 5, 2) := dk_22 5 (dk_at dksX3_closes_0 5 rfl rfl)
theorem dX3_closes_7 : decode cX3_closes 7 = .ok (.lconst 0, 1) := dk_9 (dk_at dksX3_closes_0 7 rfl rfl)
theorem dX3_closes_8 : decode cX3_closes 8 = .ok (.lcmp, 1) := dk_148 (dk_at dksX3_closes_0 8 rfl rfl)
theorem dX3_closes_9 : decode cX3_closes 9 = .ok (.ifCond .eq 87, 3) := dk_153 0 87 (dk_at dksX3_closes_0 9 rfl rfl)
theorem dX3_closes_12 : decode cX3_closes 12 = .ok (.lload 5, 2) := dk_22 5 (dk_at dksX3_closes_0 12 rfl rfl)
theorem dX3_closes_14 : decode cX3_closes 14 = .ok (.invokestatic 178, 3) := dk_184 0 178 (dk_at dksX3_closes_0 14 rfl rfl)
theorem dX3_closes_17 : decode cX3_closes 17 = .ok (.istore 7, 2) := dk_54 7 (dk_at dksX3_closes_0 17 rfl rfl)
theorem dX3_closes_19 : decode cX3_closes 19 = .ok (.lload 5, 2) := dk_22 5 (dk_at dksX3_closes_0 19 rfl rfl)
theorem dX3_closes_21 : decode cX3_closes 21 = .ok (.lload 5, 2) := dk_22 5 (dk_at dksX3_closes_0 21 rfl rfl)
theorem dX3_closes_23 : decode cX3_closes 23 = .ok (.lconst 1, 1) := dk_10 (dk_at dksX3_closes_0 23 rfl rfl)
theorem dX3_closes_24 : decode cX3_closes 24 = .ok (.lsub, 1) := dk_101 (dk_at dksX3_closes_1 0 rfl rfl)
theorem dX3_closes_25 : decode cX3_closes 25 = .ok (.land, 1) := dk_127 (dk_at dksX3_closes_1 1 rfl rfl)
theorem dX3_closes_26 : decode cX3_closes 26 = .ok (.lstore 5, 2) := dk_55 5 (dk_at dksX3_closes_1 2 rfl rfl)
theorem dX3_closes_28 : decode cX3_closes 28 = .ok (.lload_n 1, 1) := dk_31 (dk_at dksX3_closes_1 4 rfl rfl)
theorem dX3_closes_29 : decode cX3_closes 29 = .ok (.lstore 8, 2) := dk_55 8 (dk_at dksX3_closes_1 5 rfl rfl)
theorem dX3_closes_31 : decode cX3_closes 31 = .ok (.lload 8, 2) := dk_22 8 (dk_at dksX3_closes_1 7 rfl rfl)
theorem dX3_closes_33 : decode cX3_closes 33 = .ok (.lconst 0, 1) := dk_9 (dk_at dksX3_closes_1 9 rfl rfl)
theorem dX3_closes_34 : decode cX3_closes 34 = .ok (.lcmp, 1) := dk_148 (dk_at dksX3_closes_1 10 rfl rfl)
theorem dX3_closes_35 : decode cX3_closes 35 = .ok (.ifCond .eq 58, 3) := dk_153 0 58 (dk_at dksX3_closes_1 11 rfl rfl)
theorem dX3_closes_38 : decode cX3_closes 38 = .ok (.aload_n 0, 1) := dk_42 (dk_at dksX3_closes_1 14 rfl rfl)
theorem dX3_closes_39 : decode cX3_closes 39 = .ok (.getfield 44, 3) := dk_180 0 44 (dk_at dksX3_closes_1 15 rfl rfl)
theorem dX3_closes_42 : decode cX3_closes 42 = .ok (.iload 7, 2) := dk_21 7 (dk_at dksX3_closes_1 18 rfl rfl)
theorem dX3_closes_44 : decode cX3_closes 44 = .ok (.aaload, 1) := dk_50 (dk_at dksX3_closes_1 20 rfl rfl)
theorem dX3_closes_45 : decode cX3_closes 45 = .ok (.lload 8, 2) := dk_22 8 (dk_at dksX3_closes_1 21 rfl rfl)
theorem dX3_closes_47 : decode cX3_closes 47 = .ok (.invokestatic 178, 3) := dk_184 0 178 (dk_at dksX3_closes_2 0 rfl rfl)
theorem dX3_closes_50 : decode cX3_closes 50 = .ok (.iaload, 1) := dk_46 (dk_at dksX3_closes_2 3 rfl rfl)
theorem dX3_closes_51 : decode cX3_closes 51 = .ok (.istore 10, 2) := dk_54 10 (dk_at dksX3_closes_2 4 rfl rfl)
theorem dX3_closes_53 : decode cX3_closes 53 = .ok (.lload_n 3, 1) := dk_33 (dk_at dksX3_closes_2 6 rfl rfl)
theorem dX3_closes_54 : decode cX3_closes 54 = .ok (.iload 10, 2) := dk_21 10 (dk_at dksX3_closes_2 7 rfl rfl)
theorem dX3_closes_56 : decode cX3_closes 56 = .ok (.invokestatic 184, 3) := dk_184 0 184 (dk_at dksX3_closes_2 9 rfl rfl)
theorem dX3_closes_59 : decode cX3_closes 59 = .ok (.ifCond .eq 6, 3) := dk_153 0 6 (dk_at dksX3_closes_2 12 rfl rfl)
theorem dX3_closes_62 : decode cX3_closes 62 = .ok (.goto 19, 3) := dk_167 0 19 (dk_at dksX3_closes_2 15 rfl rfl)
theorem dX3_closes_65 : decode cX3_closes 65 = .ok (.lload_n 3, 1) := dk_33 (dk_at dksX3_closes_2 18 rfl rfl)
theorem dX3_closes_66 : decode cX3_closes 66 = .ok (.lconst 1, 1) := dk_10 (dk_at dksX3_closes_2 19 rfl rfl)
theorem dX3_closes_67 : decode cX3_closes 67 = .ok (.iload 10, 2) := dk_21 10 (dk_at dksX3_closes_2 20 rfl rfl)
theorem dX3_closes_69 : decode cX3_closes 69 = .ok (.lshl, 1) := dk_121 (dk_at dksX3_closes_2 22 rfl rfl)
theorem dX3_closes_70 : decode cX3_closes 70 = .ok (.lor, 1) := dk_129 (dk_at dksX3_closes_2 23 rfl rfl)
theorem dX3_closes_71 : decode cX3_closes 71 = .ok (.lstore_n 3, 1) := dk_66 (dk_at dksX3_closes_3 0 rfl rfl)
theorem dX3_closes_72 : decode cX3_closes 72 = .ok (.lload 5, 2) := dk_22 5 (dk_at dksX3_closes_3 1 rfl rfl)
theorem dX3_closes_74 : decode cX3_closes 74 = .ok (.lconst 1, 1) := dk_10 (dk_at dksX3_closes_3 3 rfl rfl)
theorem dX3_closes_75 : decode cX3_closes 75 = .ok (.iload 10, 2) := dk_21 10 (dk_at dksX3_closes_3 4 rfl rfl)
theorem dX3_closes_77 : decode cX3_closes 77 = .ok (.lshl, 1) := dk_121 (dk_at dksX3_closes_3 6 rfl rfl)
theorem dX3_closes_78 : decode cX3_closes 78 = .ok (.lor, 1) := dk_129 (dk_at dksX3_closes_3 7 rfl rfl)
theorem dX3_closes_79 : decode cX3_closes 79 = .ok (.lstore 5, 2) := dk_55 5 (dk_at dksX3_closes_3 8 rfl rfl)
theorem dX3_closes_81 : decode cX3_closes 81 = .ok (.lload 8, 2) := dk_22 8 (dk_at dksX3_closes_3 10 rfl rfl)
theorem dX3_closes_83 : decode cX3_closes 83 = .ok (.lload 8, 2) := dk_22 8 (dk_at dksX3_closes_3 12 rfl rfl)
theorem dX3_closes_85 : decode cX3_closes 85 = .ok (.lconst 1, 1) := dk_10 (dk_at dksX3_closes_3 14 rfl rfl)
theorem dX3_closes_86 : decode cX3_closes 86 = .ok (.lsub, 1) := dk_101 (dk_at dksX3_closes_3 15 rfl rfl)
theorem dX3_closes_87 : decode cX3_closes 87 = .ok (.land, 1) := dk_127 (dk_at dksX3_closes_3 16 rfl rfl)
theorem dX3_closes_88 : decode cX3_closes 88 = .ok (.lstore 8, 2) := dk_55 8 (dk_at dksX3_closes_3 17 rfl rfl)
theorem dX3_closes_90 : decode cX3_closes 90 = .ok (.goto (-59), 3) := dk_167 255 197 (dk_at dksX3_closes_3 19 rfl rfl)
theorem dX3_closes_93 : decode cX3_closes 93 = .ok (.goto (-88), 3) := dk_167 255 168 (dk_at dksX3_closes_4 0 rfl rfl)
theorem dX3_closes_96 : decode cX3_closes 96 = .ok (.lload_n 3, 1) := dk_33 (dk_at dksX3_closes_4 3 rfl rfl)
theorem dX3_closes_97 : decode cX3_closes 97 = .ok (.lreturn, 1) := dk_173 (dk_at dksX3_closes_4 4 rfl rfl)
abbrev cX3_fewestOf : ByteArray := prog_6_method_23_code
def yX3_fewestOf : MethodName := ⟨RX3, "fewestOf", "()I"⟩
def dkwX3_fewestOf_1 : List UInt8 := [27, 172]
abbrev dktX3_fewestOf_1 : List UInt8 := dkwX3_fewestOf_1 ++ []
def dkwX3_fewestOf_0 : List UInt8 := [3, 60, 27, 16, 48, 162, 0, 19, 42, 27, 10, 4, 182, 0, 218, 154, 0, 9, 132, 1, 1, 167, 255, 237]
abbrev dktX3_fewestOf_0 : List UInt8 := dkwX3_fewestOf_0 ++ dktX3_fewestOf_1
theorem dksX3_fewestOf_0 : cX3_fewestOf.data.toList.drop 0 = dktX3_fewestOf_0 := by decide +kernel
theorem dksX3_fewestOf_1 : cX3_fewestOf.data.toList.drop 24 = dktX3_fewestOf_1 := dk_seg dksX3_fewestOf_0 24 rfl rfl
theorem dX3_fewestOf_0 : decode cX3_fewestOf 0 = .ok (.iconst 0, 1) := dk_3 (dk_at dksX3_fewestOf_0 0 rfl rfl)
theorem dX3_fewestOf_1 : decode cX3_fewestOf 1 = .ok (.istore_n 1, 1) := dk_60 (dk_at dksX3_fewestOf_0 1 rfl rfl)
theorem dX3_fewestOf_2 : decode cX3_fewestOf 2 = .ok (.iload_n 1, 1) := dk_27 (dk_at dksX3_fewestOf_0 2 rfl rfl)
theorem dX3_fewestOf_3 : decode cX3_fewestOf 3 = .ok (.bipush 48, 2) := dk_16 48 (dk_at dksX3_fewestOf_0 3 rfl rfl)
theorem dX3_fewestOf_5 : decode cX3_fewestOf 5 = .ok (.if_icmp .ge 19, 3) := dk_162 0 19 (dk_at dksX3_fewestOf_0 5 rfl rfl)
theorem dX3_fewestOf_8 : decode cX3_fewestOf 8 = .ok (.aload_n 0, 1) := dk_42 (dk_at dksX3_fewestOf_0 8 rfl rfl)
theorem dX3_fewestOf_9 : decode cX3_fewestOf 9 = .ok (.iload_n 1, 1) := dk_27 (dk_at dksX3_fewestOf_0 9 rfl rfl)
theorem dX3_fewestOf_10 : decode cX3_fewestOf 10 = .ok (.lconst 1, 1) := dk_10 (dk_at dksX3_fewestOf_0 10 rfl rfl)
theorem dX3_fewestOf_11 : decode cX3_fewestOf 11 = .ok (.iconst 1, 1) := dk_4 (dk_at dksX3_fewestOf_0 11 rfl rfl)
theorem dX3_fewestOf_12 : decode cX3_fewestOf 12 = .ok (.invokevirtual 218, 3) := dk_182 0 218 (dk_at dksX3_fewestOf_0 12 rfl rfl)
theorem dX3_fewestOf_15 : decode cX3_fewestOf 15 = .ok (.ifCond .ne 9, 3) := dk_154 0 9 (dk_at dksX3_fewestOf_0 15 rfl rfl)
theorem dX3_fewestOf_18 : decode cX3_fewestOf 18 = .ok (.iinc 1 1, 3) := dk_132 1 1 (dk_at dksX3_fewestOf_0 18 rfl rfl)
theorem dX3_fewestOf_21 : decode cX3_fewestOf 21 = .ok (.goto (-19), 3) := dk_167 255 237 (dk_at dksX3_fewestOf_0 21 rfl rfl)
theorem dX3_fewestOf_24 : decode cX3_fewestOf 24 = .ok (.iload_n 1, 1) := dk_27 (dk_at dksX3_fewestOf_1 0 rfl rfl)
theorem dX3_fewestOf_25 : decode cX3_fewestOf 25 = .ok (.ireturn, 1) := dk_172 (dk_at dksX3_fewestOf_1 1 rfl rfl)
abbrev cX3_canMake : ByteArray := prog_6_method_22_code
def yX3_canMake : MethodName := ⟨RX3, "canMake", "(IJI)Z"⟩
def dkwX3_canMake_3 : List UInt8 := [172]
abbrev dktX3_canMake_3 : List UInt8 := dkwX3_canMake_3 ++ []
def dkwX3_canMake_2 : List UInt8 := [121, 129, 182, 0, 206, 21, 5, 4, 96, 182, 0, 218, 153, 0, 5, 4, 172, 132, 5, 1, 167, 255, 209, 3]
abbrev dktX3_canMake_2 : List UInt8 := dkwX3_canMake_2 ++ dktX3_canMake_3
def dkwX3_canMake_1 : List UInt8 := [180, 0, 84, 162, 0, 44, 32, 21, 5, 184, 0, 184, 154, 0, 29, 42, 27, 4, 100, 42, 32, 10, 21, 5]
abbrev dktX3_canMake_1 : List UInt8 := dkwX3_canMake_1 ++ dktX3_canMake_2
def dkwX3_canMake_0 : List UInt8 := [32, 42, 182, 0, 214, 148, 154, 0, 5, 4, 172, 27, 154, 0, 5, 3, 172, 21, 4, 54, 5, 21, 5, 42]
abbrev dktX3_canMake_0 : List UInt8 := dkwX3_canMake_0 ++ dktX3_canMake_1
theorem dksX3_canMake_0 : cX3_canMake.data.toList.drop 0 = dktX3_canMake_0 := by decide +kernel
theorem dksX3_canMake_1 : cX3_canMake.data.toList.drop 24 = dktX3_canMake_1 := dk_seg dksX3_canMake_0 24 rfl rfl
theorem dksX3_canMake_2 : cX3_canMake.data.toList.drop 48 = dktX3_canMake_2 := dk_seg dksX3_canMake_1 24 rfl rfl
theorem dksX3_canMake_3 : cX3_canMake.data.toList.drop 72 = dktX3_canMake_3 := dk_seg dksX3_canMake_2 24 rfl rfl
theorem dX3_canMake_0 : decode cX3_canMake 0 = .ok (.lload_n 2, 1) := dk_32 (dk_at dksX3_canMake_0 0 rfl rfl)
theorem dX3_canMake_1 : decode cX3_canMake 1 = .ok (.aload_n 0, 1) := dk_42 (dk_at dksX3_canMake_0 1 rfl rfl)
theorem dX3_canMake_2 : decode cX3_canMake 2 = .ok (.invokevirtual 214, 3) := dk_182 0 214 (dk_at dksX3_canMake_0 2 rfl rfl)
theorem dX3_canMake_5 : decode cX3_canMake 5 = .ok (.lcmp, 1) := dk_148 (dk_at dksX3_canMake_0 5 rfl rfl)
theorem dX3_canMake_6 : decode cX3_canMake 6 = .ok (.ifCond .ne 5, 3) := dk_154 0 5 (dk_at dksX3_canMake_0 6 rfl rfl)
theorem dX3_canMake_9 : decode cX3_canMake 9 = .ok (.iconst 1, 1) := dk_4 (dk_at dksX3_canMake_0 9 rfl rfl)
theorem dX3_canMake_10 : decode cX3_canMake 10 = .ok (.ireturn, 1) := dk_172 (dk_at dksX3_canMake_0 10 rfl rfl)
theorem dX3_canMake_11 : decode cX3_canMake 11 = .ok (.iload_n 1, 1) := dk_27 (dk_at dksX3_canMake_0 11 rfl rfl)
theorem dX3_canMake_12 : decode cX3_canMake 12 = .ok (.ifCond .ne 5, 3) := dk_154 0 5 (dk_at dksX3_canMake_0 12 rfl rfl)
theorem dX3_canMake_15 : decode cX3_canMake 15 = .ok (.iconst 0, 1) := dk_3 (dk_at dksX3_canMake_0 15 rfl rfl)
theorem dX3_canMake_16 : decode cX3_canMake 16 = .ok (.ireturn, 1) := dk_172 (dk_at dksX3_canMake_0 16 rfl rfl)
theorem dX3_canMake_17 : decode cX3_canMake 17 = .ok (.iload 4, 2) := dk_21 4 (dk_at dksX3_canMake_0 17 rfl rfl)
theorem dX3_canMake_19 : decode cX3_canMake 19 = .ok (.istore 5, 2) := dk_54 5 (dk_at dksX3_canMake_0 19 rfl rfl)
theorem dX3_canMake_21 : decode cX3_canMake 21 = .ok (.iload 5, 2) := dk_21 5 (dk_at dksX3_canMake_0 21 rfl rfl)
theorem dX3_canMake_23 : decode cX3_canMake 23 = .ok (.aload_n 0, 1) := dk_42 (dk_at dksX3_canMake_0 23 rfl rfl)
theorem dX3_canMake_24 : decode cX3_canMake 24 = .ok (.getfield 84, 3) := dk_180 0 84 (dk_at dksX3_canMake_1 0 rfl rfl)
theorem dX3_canMake_27 : decode cX3_canMake 27 = .ok (.if_icmp .ge 44, 3) := dk_162 0 44 (dk_at dksX3_canMake_1 3 rfl rfl)
theorem dX3_canMake_30 : decode cX3_canMake 30 = .ok (.lload_n 2, 1) := dk_32 (dk_at dksX3_canMake_1 6 rfl rfl)
theorem dX3_canMake_31 : decode cX3_canMake 31 = .ok (.iload 5, 2) := dk_21 5 (dk_at dksX3_canMake_1 7 rfl rfl)
theorem dX3_canMake_33 : decode cX3_canMake 33 = .ok (.invokestatic 184, 3) := dk_184 0 184 (dk_at dksX3_canMake_1 9 rfl rfl)
theorem dX3_canMake_36 : decode cX3_canMake 36 = .ok (.ifCond .ne 29, 3) := dk_154 0 29 (dk_at dksX3_canMake_1 12 rfl rfl)
theorem dX3_canMake_39 : decode cX3_canMake 39 = .ok (.aload_n 0, 1) := dk_42 (dk_at dksX3_canMake_1 15 rfl rfl)
theorem dX3_canMake_40 : decode cX3_canMake 40 = .ok (.iload_n 1, 1) := dk_27 (dk_at dksX3_canMake_1 16 rfl rfl)
theorem dX3_canMake_41 : decode cX3_canMake 41 = .ok (.iconst 1, 1) := dk_4 (dk_at dksX3_canMake_1 17 rfl rfl)
theorem dX3_canMake_42 : decode cX3_canMake 42 = .ok (.isub, 1) := dk_100 (dk_at dksX3_canMake_1 18 rfl rfl)
theorem dX3_canMake_43 : decode cX3_canMake 43 = .ok (.aload_n 0, 1) := dk_42 (dk_at dksX3_canMake_1 19 rfl rfl)
theorem dX3_canMake_44 : decode cX3_canMake 44 = .ok (.lload_n 2, 1) := dk_32 (dk_at dksX3_canMake_1 20 rfl rfl)
theorem dX3_canMake_45 : decode cX3_canMake 45 = .ok (.lconst 1, 1) := dk_10 (dk_at dksX3_canMake_1 21 rfl rfl)
theorem dX3_canMake_46 : decode cX3_canMake 46 = .ok (.iload 5, 2) := dk_21 5 (dk_at dksX3_canMake_1 22 rfl rfl)
theorem dX3_canMake_48 : decode cX3_canMake 48 = .ok (.lshl, 1) := dk_121 (dk_at dksX3_canMake_2 0 rfl rfl)
theorem dX3_canMake_49 : decode cX3_canMake 49 = .ok (.lor, 1) := dk_129 (dk_at dksX3_canMake_2 1 rfl rfl)
theorem dX3_canMake_50 : decode cX3_canMake 50 = .ok (.invokevirtual 206, 3) := dk_182 0 206 (dk_at dksX3_canMake_2 2 rfl rfl)
theorem dX3_canMake_53 : decode cX3_canMake 53 = .ok (.iload 5, 2) := dk_21 5 (dk_at dksX3_canMake_2 5 rfl rfl)
theorem dX3_canMake_55 : decode cX3_canMake 55 = .ok (.iconst 1, 1) := dk_4 (dk_at dksX3_canMake_2 7 rfl rfl)
theorem dX3_canMake_56 : decode cX3_canMake 56 = .ok (.iadd, 1) := dk_96 (dk_at dksX3_canMake_2 8 rfl rfl)
theorem dX3_canMake_57 : decode cX3_canMake 57 = .ok (.invokevirtual 218, 3) := dk_182 0 218 (dk_at dksX3_canMake_2 9 rfl rfl)
theorem dX3_canMake_60 : decode cX3_canMake 60 = .ok (.ifCond .eq 5, 3) := dk_153 0 5 (dk_at dksX3_canMake_2 12 rfl rfl)
theorem dX3_canMake_63 : decode cX3_canMake 63 = .ok (.iconst 1, 1) := dk_4 (dk_at dksX3_canMake_2 15 rfl rfl)
theorem dX3_canMake_64 : decode cX3_canMake 64 = .ok (.ireturn, 1) := dk_172 (dk_at dksX3_canMake_2 16 rfl rfl)
theorem dX3_canMake_65 : decode cX3_canMake 65 = .ok (.iinc 5 1, 3) := dk_132 5 1 (dk_at dksX3_canMake_2 17 rfl rfl)
theorem dX3_canMake_68 : decode cX3_canMake 68 = .ok (.goto (-47), 3) := dk_167 255 209 (dk_at dksX3_canMake_2 20 rfl rfl)
theorem dX3_canMake_71 : decode cX3_canMake 71 = .ok (.iconst 0, 1) := dk_3 (dk_at dksX3_canMake_2 23 rfl rfl)
theorem dX3_canMake_72 : decode cX3_canMake 72 = .ok (.ireturn, 1) := dk_172 (dk_at dksX3_canMake_3 0 rfl rfl)
abbrev cX3_laysSets : ByteArray := prog_6_method_21_code
def yX3_laysSets : MethodName := ⟨RX3, "laysSets", "()V"⟩
def dkwX3_laysSets_6 : List UInt8 := [180, 0, 77, 21, 4, 32, 80, 132, 1, 1, 167, 255, 183, 177]
abbrev dktX3_laysSets_6 : List UInt8 := dkwX3_laysSets_6 ++ []
def dkwX3_laysSets_5 : List UInt8 := [180, 0, 77, 21, 4, 42, 180, 0, 77, 21, 4, 4, 100, 47, 80, 132, 4, 255, 167, 255, 215, 42]
abbrev dktX3_laysSets_5 : List UInt8 := dkwX3_laysSets_5 ++ dktX3_laysSets_6
def dkwX3_laysSets_4 : List UInt8 := [21, 4, 158, 0, 42, 42, 32, 42, 180, 0, 77, 21, 4, 4, 100, 47, 182, 0, 210, 153, 0, 25, 42]
abbrev dktX3_laysSets_4 : List UInt8 := dkwX3_laysSets_4 ++ dktX3_laysSets_5
def dkwX3_laysSets_3 : List UInt8 := [167, 255, 198, 4, 60, 27, 42, 180, 0, 195, 162, 0, 71, 42, 180, 0, 77, 27, 47, 65, 27, 54, 4]
abbrev dktX3_laysSets_3 : List UInt8 := dkwX3_laysSets_3 ++ dktX3_laysSets_4
def dkwX3_laysSets_2 : List UInt8 := [180, 0, 77, 27, 47, 10, 28, 121, 129, 182, 0, 206, 182, 0, 202, 132, 2, 1, 167, 255, 214, 132, 1, 1]
abbrev dktX3_laysSets_2 : List UInt8 := dkwX3_laysSets_2 ++ dktX3_laysSets_3
def dkwX3_laysSets_1 : List UInt8 := [180, 0, 84, 162, 0, 40, 42, 180, 0, 77, 27, 47, 28, 184, 0, 184, 154, 0, 21, 42, 42, 42]
abbrev dktX3_laysSets_1 : List UInt8 := dkwX3_laysSets_1 ++ dktX3_laysSets_2
def dkwX3_laysSets_0 : List UInt8 := [42, 3, 181, 0, 195, 42, 10, 182, 0, 202, 3, 60, 27, 42, 180, 0, 195, 162, 0, 56, 3, 61, 28, 42]
abbrev dktX3_laysSets_0 : List UInt8 := dkwX3_laysSets_0 ++ dktX3_laysSets_1
theorem dksX3_laysSets_0 : cX3_laysSets.data.toList.drop 0 = dktX3_laysSets_0 := by decide +kernel
theorem dksX3_laysSets_1 : cX3_laysSets.data.toList.drop 24 = dktX3_laysSets_1 := dk_seg dksX3_laysSets_0 24 rfl rfl
theorem dksX3_laysSets_2 : cX3_laysSets.data.toList.drop 46 = dktX3_laysSets_2 := dk_seg dksX3_laysSets_1 22 rfl rfl
theorem dksX3_laysSets_3 : cX3_laysSets.data.toList.drop 70 = dktX3_laysSets_3 := dk_seg dksX3_laysSets_2 24 rfl rfl
theorem dksX3_laysSets_4 : cX3_laysSets.data.toList.drop 93 = dktX3_laysSets_4 := dk_seg dksX3_laysSets_3 23 rfl rfl
theorem dksX3_laysSets_5 : cX3_laysSets.data.toList.drop 116 = dktX3_laysSets_5 := dk_seg dksX3_laysSets_4 23 rfl rfl
theorem dksX3_laysSets_6 : cX3_laysSets.data.toList.drop 138 = dktX3_laysSets_6 := dk_seg dksX3_laysSets_5 22 rfl rfl
theorem dX3_laysSets_0 : decode cX3_laysSets 0 = .ok (.aload_n 0, 1) := dk_42 (dk_at dksX3_laysSets_0 0 rfl rfl)
theorem dX3_laysSets_1 : decode cX3_laysSets 1 = .ok (.iconst 0, 1) := dk_3 (dk_at dksX3_laysSets_0 1 rfl rfl)
theorem dX3_laysSets_2 : decode cX3_laysSets 2 = .ok (.putfield 195, 3) := dk_181 0 195 (dk_at dksX3_laysSets_0 2 rfl rfl)
theorem dX3_laysSets_5 : decode cX3_laysSets 5 = .ok (.aload_n 0, 1) := dk_42 (dk_at dksX3_laysSets_0 5 rfl rfl)
theorem dX3_laysSets_6 : decode cX3_laysSets 6 = .ok (.lconst 1, 1) := dk_10 (dk_at dksX3_laysSets_0 6 rfl rfl)
theorem dX3_laysSets_7 : decode cX3_laysSets 7 = .ok (.invokevirtual 202, 3) := dk_182 0 202 (dk_at dksX3_laysSets_0 7 rfl rfl)
theorem dX3_laysSets_10 : decode cX3_laysSets 10 = .ok (.iconst 0, 1) := dk_3 (dk_at dksX3_laysSets_0 10 rfl rfl)
theorem dX3_laysSets_11 : decode cX3_laysSets 11 = .ok (.istore_n 1, 1) := dk_60 (dk_at dksX3_laysSets_0 11 rfl rfl)
theorem dX3_laysSets_12 : decode cX3_laysSets 12 = .ok (.iload_n 1, 1) := dk_27 (dk_at dksX3_laysSets_0 12 rfl rfl)
theorem dX3_laysSets_13 : decode cX3_laysSets 13 = .ok (.aload_n 0, 1) := dk_42 (dk_at dksX3_laysSets_0 13 rfl rfl)
theorem dX3_laysSets_14 : decode cX3_laysSets 14 = .ok (.getfield 195, 3) := dk_180 0 195 (dk_at dksX3_laysSets_0 14 rfl rfl)
theorem dX3_laysSets_17 : decode cX3_laysSets 17 = .ok (.if_icmp .ge 56, 3) := dk_162 0 56 (dk_at dksX3_laysSets_0 17 rfl rfl)
theorem dX3_laysSets_20 : decode cX3_laysSets 20 = .ok (.iconst 0, 1) := dk_3 (dk_at dksX3_laysSets_0 20 rfl rfl)
theorem dX3_laysSets_21 : decode cX3_laysSets 21 = .ok (.istore_n 2, 1) := dk_61 (dk_at dksX3_laysSets_0 21 rfl rfl)
theorem dX3_laysSets_22 : decode cX3_laysSets 22 = .ok (.iload_n 2, 1) := dk_28 (dk_at dksX3_laysSets_0 22 rfl rfl)
theorem dX3_laysSets_23 : decode cX3_laysSets 23 = .ok (.aload_n 0, 1) := dk_42 (dk_at dksX3_laysSets_0 23 rfl rfl)
theorem dX3_laysSets_24 : decode cX3_laysSets 24 = .ok (.getfield 84, 3) := dk_180 0 84 (dk_at dksX3_laysSets_1 0 rfl rfl)
theorem dX3_laysSets_27 : decode cX3_laysSets 27 = .ok (.if_icmp .ge 40, 3) := dk_162 0 40 (dk_at dksX3_laysSets_1 3 rfl rfl)
theorem dX3_laysSets_30 : decode cX3_laysSets 30 = .ok (.aload_n 0, 1) := dk_42 (dk_at dksX3_laysSets_1 6 rfl rfl)
theorem dX3_laysSets_31 : decode cX3_laysSets 31 = .ok (.getfield 77, 3) := dk_180 0 77 (dk_at dksX3_laysSets_1 7 rfl rfl)
theorem dX3_laysSets_34 : decode cX3_laysSets 34 = .ok (.iload_n 1, 1) := dk_27 (dk_at dksX3_laysSets_1 10 rfl rfl)
theorem dX3_laysSets_35 : decode cX3_laysSets 35 = .ok (.laload, 1) := dk_47 (dk_at dksX3_laysSets_1 11 rfl rfl)
theorem dX3_laysSets_36 : decode cX3_laysSets 36 = .ok (.iload_n 2, 1) := dk_28 (dk_at dksX3_laysSets_1 12 rfl rfl)
theorem dX3_laysSets_37 : decode cX3_laysSets 37 = .ok (.invokestatic 184, 3) := dk_184 0 184 (dk_at dksX3_laysSets_1 13 rfl rfl)
theorem dX3_laysSets_40 : decode cX3_laysSets 40 = .ok (.ifCond .ne 21, 3) := dk_154 0 21 (dk_at dksX3_laysSets_1 16 rfl rfl)
theorem dX3_laysSets_43 : decode cX3_laysSets 43 = .ok (.aload_n 0, 1) := dk_42 (dk_at dksX3_laysSets_1 19 rfl rfl)
theorem dX3_laysSets_44 : decode cX3_laysSets 44 = .ok (.aload_n 0, 1) := dk_42 (dk_at dksX3_laysSets_1 20 rfl rfl)
theorem dX3_laysSets_45 : decode cX3_laysSets 45 = .ok (.aload_n 0, 1) := dk_42 (dk_at dksX3_laysSets_1 21 rfl rfl)
theorem dX3_laysSets_46 : decode cX3_laysSets 46 = .ok (.getfield 77, 3) := dk_180 0 77 (dk_at dksX3_laysSets_2 0 rfl rfl)
theorem dX3_laysSets_49 : decode cX3_laysSets 49 = .ok (.iload_n 1, 1) := dk_27 (dk_at dksX3_laysSets_2 3 rfl rfl)
theorem dX3_laysSets_50 : decode cX3_laysSets 50 = .ok (.laload, 1) := dk_47 (dk_at dksX3_laysSets_2 4 rfl rfl)
theorem dX3_laysSets_51 : decode cX3_laysSets 51 = .ok (.lconst 1, 1) := dk_10 (dk_at dksX3_laysSets_2 5 rfl rfl)
theorem dX3_laysSets_52 : decode cX3_laysSets 52 = .ok (.iload_n 2, 1) := dk_28 (dk_at dksX3_laysSets_2 6 rfl rfl)
theorem dX3_laysSets_53 : decode cX3_laysSets 53 = .ok (.lshl, 1) := dk_121 (dk_at dksX3_laysSets_2 7 rfl rfl)
theorem dX3_laysSets_54 : decode cX3_laysSets 54 = .ok (.lor, 1) := dk_129 (dk_at dksX3_laysSets_2 8 rfl rfl)
theorem dX3_laysSets_55 : decode cX3_laysSets 55 = .ok (.invokevirtual 206, 3) := dk_182 0 206 (dk_at dksX3_laysSets_2 9 rfl rfl)
theorem dX3_laysSets_58 : decode cX3_laysSets 58 = .ok (.invokevirtual 202, 3) := dk_182 0 202 (dk_at dksX3_laysSets_2 12 rfl rfl)
theorem dX3_laysSets_61 : decode cX3_laysSets 61 = .ok (.iinc 2 1, 3) := dk_132 2 1 (dk_at dksX3_laysSets_2 15 rfl rfl)
theorem dX3_laysSets_64 : decode cX3_laysSets 64 = .ok (.goto (-42), 3) := dk_167 255 214 (dk_at dksX3_laysSets_2 18 rfl rfl)
theorem dX3_laysSets_67 : decode cX3_laysSets 67 = .ok (.iinc 1 1, 3) := dk_132 1 1 (dk_at dksX3_laysSets_2 21 rfl rfl)
theorem dX3_laysSets_70 : decode cX3_laysSets 70 = .ok (.goto (-58), 3) := dk_167 255 198 (dk_at dksX3_laysSets_3 0 rfl rfl)
theorem dX3_laysSets_73 : decode cX3_laysSets 73 = .ok (.iconst 1, 1) := dk_4 (dk_at dksX3_laysSets_3 3 rfl rfl)
theorem dX3_laysSets_74 : decode cX3_laysSets 74 = .ok (.istore_n 1, 1) := dk_60 (dk_at dksX3_laysSets_3 4 rfl rfl)
theorem dX3_laysSets_75 : decode cX3_laysSets 75 = .ok (.iload_n 1, 1) := dk_27 (dk_at dksX3_laysSets_3 5 rfl rfl)
theorem dX3_laysSets_76 : decode cX3_laysSets 76 = .ok (.aload_n 0, 1) := dk_42 (dk_at dksX3_laysSets_3 6 rfl rfl)
theorem dX3_laysSets_77 : decode cX3_laysSets 77 = .ok (.getfield 195, 3) := dk_180 0 195 (dk_at dksX3_laysSets_3 7 rfl rfl)
theorem dX3_laysSets_80 : decode cX3_laysSets 80 = .ok (.if_icmp .ge 71, 3) := dk_162 0 71 (dk_at dksX3_laysSets_3 10 rfl rfl)
theorem dX3_laysSets_83 : decode cX3_laysSets 83 = .ok (.aload_n 0, 1) := dk_42 (dk_at dksX3_laysSets_3 13 rfl rfl)
theorem dX3_laysSets_84 : decode cX3_laysSets 84 = .ok (.getfield 77, 3) := dk_180 0 77 (dk_at dksX3_laysSets_3 14 rfl rfl)
theorem dX3_laysSets_87 : decode cX3_laysSets 87 = .ok (.iload_n 1, 1) := dk_27 (dk_at dksX3_laysSets_3 17 rfl rfl)
theorem dX3_laysSets_88 : decode cX3_laysSets 88 = .ok (.laload, 1) := dk_47 (dk_at dksX3_laysSets_3 18 rfl rfl)
theorem dX3_laysSets_89 : decode cX3_laysSets 89 = .ok (.lstore_n 2, 1) := dk_65 (dk_at dksX3_laysSets_3 19 rfl rfl)
theorem dX3_laysSets_90 : decode cX3_laysSets 90 = .ok (.iload_n 1, 1) := dk_27 (dk_at dksX3_laysSets_3 20 rfl rfl)
theorem dX3_laysSets_91 : decode cX3_laysSets 91 = .ok (.istore 4, 2) := dk_54 4 (dk_at dksX3_laysSets_3 21 rfl rfl)
theorem dX3_laysSets_93 : decode cX3_laysSets 93 = .ok (.iload 4, 2) := dk_21 4 (dk_at dksX3_laysSets_4 0 rfl rfl)
theorem dX3_laysSets_95 : decode cX3_laysSets 95 = .ok (.ifCond .le 42, 3) := dk_158 0 42 (dk_at dksX3_laysSets_4 2 rfl rfl)
theorem dX3_laysSets_98 : decode cX3_laysSets 98 = .ok (.aload_n 0, 1) := dk_42 (dk_at dksX3_laysSets_4 5 rfl rfl)
theorem dX3_laysSets_99 : decode cX3_laysSets 99 = .ok (.lload_n 2, 1) := dk_32 (dk_at dksX3_laysSets_4 6 rfl rfl)
theorem dX3_laysSets_100 : decode cX3_laysSets 100 = .ok (.aload_n 0, 1) := dk_42 (dk_at dksX3_laysSets_4 7 rfl rfl)
theorem dX3_laysSets_101 : decode cX3_laysSets 101 = .ok (.getfield 77, 3) := dk_180 0 77 (dk_at dksX3_laysSets_4 8 rfl rfl)
theorem dX3_laysSets_104 : decode cX3_laysSets 104 = .ok (.iload 4, 2) := dk_21 4 (dk_at dksX3_laysSets_4 11 rfl rfl)
theorem dX3_laysSets_106 : decode cX3_laysSets 106 = .ok (.iconst 1, 1) := dk_4 (dk_at dksX3_laysSets_4 13 rfl rfl)
theorem dX3_laysSets_107 : decode cX3_laysSets 107 = .ok (.isub, 1) := dk_100 (dk_at dksX3_laysSets_4 14 rfl rfl)
theorem dX3_laysSets_108 : decode cX3_laysSets 108 = .ok (.laload, 1) := dk_47 (dk_at dksX3_laysSets_4 15 rfl rfl)
theorem dX3_laysSets_109 : decode cX3_laysSets 109 = .ok (.invokevirtual 210, 3) := dk_182 0 210 (dk_at dksX3_laysSets_4 16 rfl rfl)
theorem dX3_laysSets_112 : decode cX3_laysSets 112 = .ok (.ifCond .eq 25, 3) := dk_153 0 25 (dk_at dksX3_laysSets_4 19 rfl rfl)
theorem dX3_laysSets_115 : decode cX3_laysSets 115 = .ok (.aload_n 0, 1) := dk_42 (dk_at dksX3_laysSets_4 22 rfl rfl)
theorem dX3_laysSets_116 : decode cX3_laysSets 116 = .ok (.getfield 77, 3) := dk_180 0 77 (dk_at dksX3_laysSets_5 0 rfl rfl)
theorem dX3_laysSets_119 : decode cX3_laysSets 119 = .ok (.iload 4, 2) := dk_21 4 (dk_at dksX3_laysSets_5 3 rfl rfl)
theorem dX3_laysSets_121 : decode cX3_laysSets 121 = .ok (.aload_n 0, 1) := dk_42 (dk_at dksX3_laysSets_5 5 rfl rfl)
theorem dX3_laysSets_122 : decode cX3_laysSets 122 = .ok (.getfield 77, 3) := dk_180 0 77 (dk_at dksX3_laysSets_5 6 rfl rfl)
theorem dX3_laysSets_125 : decode cX3_laysSets 125 = .ok (.iload 4, 2) := dk_21 4 (dk_at dksX3_laysSets_5 9 rfl rfl)
theorem dX3_laysSets_127 : decode cX3_laysSets 127 = .ok (.iconst 1, 1) := dk_4 (dk_at dksX3_laysSets_5 11 rfl rfl)
theorem dX3_laysSets_128 : decode cX3_laysSets 128 = .ok (.isub, 1) := dk_100 (dk_at dksX3_laysSets_5 12 rfl rfl)
theorem dX3_laysSets_129 : decode cX3_laysSets 129 = .ok (.laload, 1) := dk_47 (dk_at dksX3_laysSets_5 13 rfl rfl)
theorem dX3_laysSets_130 : decode cX3_laysSets 130 = .ok (.lastore, 1) := dk_80 (dk_at dksX3_laysSets_5 14 rfl rfl)
theorem dX3_laysSets_131 : decode cX3_laysSets 131 = .ok (.iinc 4 (-1), 3) := dk_132 4 255 (dk_at dksX3_laysSets_5 15 rfl rfl)
theorem dX3_laysSets_134 : decode cX3_laysSets 134 = .ok (.goto (-41), 3) := dk_167 255 215 (dk_at dksX3_laysSets_5 18 rfl rfl)
theorem dX3_laysSets_137 : decode cX3_laysSets 137 = .ok (.aload_n 0, 1) := dk_42 (dk_at dksX3_laysSets_5 21 rfl rfl)
theorem dX3_laysSets_138 : decode cX3_laysSets 138 = .ok (.getfield 77, 3) := dk_180 0 77 (dk_at dksX3_laysSets_6 0 rfl rfl)
theorem dX3_laysSets_141 : decode cX3_laysSets 141 = .ok (.iload 4, 2) := dk_21 4 (dk_at dksX3_laysSets_6 3 rfl rfl)
theorem dX3_laysSets_143 : decode cX3_laysSets 143 = .ok (.lload_n 2, 1) := dk_32 (dk_at dksX3_laysSets_6 5 rfl rfl)
theorem dX3_laysSets_144 : decode cX3_laysSets 144 = .ok (.lastore, 1) := dk_80 (dk_at dksX3_laysSets_6 6 rfl rfl)
theorem dX3_laysSets_145 : decode cX3_laysSets 145 = .ok (.iinc 1 1, 3) := dk_132 1 1 (dk_at dksX3_laysSets_6 7 rfl rfl)
theorem dX3_laysSets_148 : decode cX3_laysSets 148 = .ok (.goto (-73), 3) := dk_167 255 183 (dk_at dksX3_laysSets_6 10 rfl rfl)
theorem dX3_laysSets_151 : decode cX3_laysSets 151 = .ok (.return_, 1) := dk_177 (dk_at dksX3_laysSets_6 13 rfl rfl)
abbrev cX3_addsSet : ByteArray := prog_6_method_20_code
def yX3_addsSet : MethodName := ⟨RX3, "addsSet", "(J)V"⟩
def dkwX3_addsSet_1 : List UInt8 := [180, 0, 195, 31, 80, 42, 89, 180, 0, 195, 4, 96, 181, 0, 195, 177]
abbrev dktX3_addsSet_1 : List UInt8 := dkwX3_addsSet_1 ++ []
def dkwX3_addsSet_0 : List UInt8 := [42, 180, 0, 195, 17, 0, 128, 159, 0, 11, 42, 31, 182, 0, 198, 153, 0, 4, 177, 42, 180, 0, 77, 42]
abbrev dktX3_addsSet_0 : List UInt8 := dkwX3_addsSet_0 ++ dktX3_addsSet_1
theorem dksX3_addsSet_0 : cX3_addsSet.data.toList.drop 0 = dktX3_addsSet_0 := by decide +kernel
theorem dksX3_addsSet_1 : cX3_addsSet.data.toList.drop 24 = dktX3_addsSet_1 := dk_seg dksX3_addsSet_0 24 rfl rfl
theorem dX3_addsSet_0 : decode cX3_addsSet 0 = .ok (.aload_n 0, 1) := dk_42 (dk_at dksX3_addsSet_0 0 rfl rfl)
theorem dX3_addsSet_1 : decode cX3_addsSet 1 = .ok (.getfield 195, 3) := dk_180 0 195 (dk_at dksX3_addsSet_0 1 rfl rfl)
theorem dX3_addsSet_4 : decode cX3_addsSet 4 = .ok (.sipush 128, 3) := dk_17 0 128 (dk_at dksX3_addsSet_0 4 rfl rfl)
theorem dX3_addsSet_7 : decode cX3_addsSet 7 = .ok (.if_icmp .eq 11, 3) := dk_159 0 11 (dk_at dksX3_addsSet_0 7 rfl rfl)
theorem dX3_addsSet_10 : decode cX3_addsSet 10 = .ok (.aload_n 0, 1) := dk_42 (dk_at dksX3_addsSet_0 10 rfl rfl)
theorem dX3_addsSet_11 : decode cX3_addsSet 11 = .ok (.lload_n 1, 1) := dk_31 (dk_at dksX3_addsSet_0 11 rfl rfl)
theorem dX3_addsSet_12 : decode cX3_addsSet 12 = .ok (.invokevirtual 198, 3) := dk_182 0 198 (dk_at dksX3_addsSet_0 12 rfl rfl)
theorem dX3_addsSet_15 : decode cX3_addsSet 15 = .ok (.ifCond .eq 4, 3) := dk_153 0 4 (dk_at dksX3_addsSet_0 15 rfl rfl)
theorem dX3_addsSet_18 : decode cX3_addsSet 18 = .ok (.return_, 1) := dk_177 (dk_at dksX3_addsSet_0 18 rfl rfl)
theorem dX3_addsSet_19 : decode cX3_addsSet 19 = .ok (.aload_n 0, 1) := dk_42 (dk_at dksX3_addsSet_0 19 rfl rfl)
theorem dX3_addsSet_20 : decode cX3_addsSet 20 = .ok (.getfield 77, 3) := dk_180 0 77 (dk_at dksX3_addsSet_0 20 rfl rfl)
theorem dX3_addsSet_23 : decode cX3_addsSet 23 = .ok (.aload_n 0, 1) := dk_42 (dk_at dksX3_addsSet_0 23 rfl rfl)
theorem dX3_addsSet_24 : decode cX3_addsSet 24 = .ok (.getfield 195, 3) := dk_180 0 195 (dk_at dksX3_addsSet_1 0 rfl rfl)
theorem dX3_addsSet_27 : decode cX3_addsSet 27 = .ok (.lload_n 1, 1) := dk_31 (dk_at dksX3_addsSet_1 3 rfl rfl)
theorem dX3_addsSet_28 : decode cX3_addsSet 28 = .ok (.lastore, 1) := dk_80 (dk_at dksX3_addsSet_1 4 rfl rfl)
theorem dX3_addsSet_29 : decode cX3_addsSet 29 = .ok (.aload_n 0, 1) := dk_42 (dk_at dksX3_addsSet_1 5 rfl rfl)
theorem dX3_addsSet_30 : decode cX3_addsSet 30 = .ok (.dup, 1) := dk_89 (dk_at dksX3_addsSet_1 6 rfl rfl)
theorem dX3_addsSet_31 : decode cX3_addsSet 31 = .ok (.getfield 195, 3) := dk_180 0 195 (dk_at dksX3_addsSet_1 7 rfl rfl)
theorem dX3_addsSet_34 : decode cX3_addsSet 34 = .ok (.iconst 1, 1) := dk_4 (dk_at dksX3_addsSet_1 10 rfl rfl)
theorem dX3_addsSet_35 : decode cX3_addsSet 35 = .ok (.iadd, 1) := dk_96 (dk_at dksX3_addsSet_1 11 rfl rfl)
theorem dX3_addsSet_36 : decode cX3_addsSet 36 = .ok (.putfield 195, 3) := dk_181 0 195 (dk_at dksX3_addsSet_1 12 rfl rfl)
theorem dX3_addsSet_39 : decode cX3_addsSet 39 = .ok (.return_, 1) := dk_177 (dk_at dksX3_addsSet_1 15 rfl rfl)
abbrev cX3_isSet : ByteArray := prog_6_method_19_code
def yX3_isSet : MethodName := ⟨RX3, "isSet", "(J)Z"⟩
def dkwX3_isSet_1 : List UInt8 := [132, 3, 1, 167, 255, 232, 3, 172]
abbrev dktX3_isSet_1 : List UInt8 := dkwX3_isSet_1 ++ []
def dkwX3_isSet_0 : List UInt8 := [3, 62, 29, 42, 180, 0, 195, 162, 0, 22, 42, 180, 0, 77, 29, 47, 31, 148, 154, 0, 5, 4, 172]
abbrev dktX3_isSet_0 : List UInt8 := dkwX3_isSet_0 ++ dktX3_isSet_1
theorem dksX3_isSet_0 : cX3_isSet.data.toList.drop 0 = dktX3_isSet_0 := by decide +kernel
theorem dksX3_isSet_1 : cX3_isSet.data.toList.drop 23 = dktX3_isSet_1 := dk_seg dksX3_isSet_0 23 rfl rfl
theorem dX3_isSet_0 : decode cX3_isSet 0 = .ok (.iconst 0, 1) := dk_3 (dk_at dksX3_isSet_0 0 rfl rfl)
theorem dX3_isSet_1 : decode cX3_isSet 1 = .ok (.istore_n 3, 1) := dk_62 (dk_at dksX3_isSet_0 1 rfl rfl)
theorem dX3_isSet_2 : decode cX3_isSet 2 = .ok (.iload_n 3, 1) := dk_29 (dk_at dksX3_isSet_0 2 rfl rfl)
theorem dX3_isSet_3 : decode cX3_isSet 3 = .ok (.aload_n 0, 1) := dk_42 (dk_at dksX3_isSet_0 3 rfl rfl)
theorem dX3_isSet_4 : decode cX3_isSet 4 = .ok (.getfield 195, 3) := dk_180 0 195 (dk_at dksX3_isSet_0 4 rfl rfl)
theorem dX3_isSet_7 : decode cX3_isSet 7 = .ok (.if_icmp .ge 22, 3) := dk_162 0 22 (dk_at dksX3_isSet_0 7 rfl rfl)
theorem dX3_isSet_10 : decode cX3_isSet 10 = .ok (.aload_n 0, 1) := dk_42 (dk_at dksX3_isSet_0 10 rfl rfl)
theorem dX3_isSet_11 : decode cX3_isSet 11 = .ok (.getfield 77, 3) := dk_180 0 77 (dk_at dksX3_isSet_0 11 rfl rfl)
theorem dX3_isSet_14 : decode cX3_isSet 14 = .ok (.iload_n 3, 1) := dk_29 (dk_at dksX3_isSet_0 14 rfl rfl)
theorem dX3_isSet_15 : decode cX3_isSet 15 = .ok (.laload, 1) := dk_47 (dk_at dksX3_isSet_0 15 rfl rfl)
theorem dX3_isSet_16 : decode cX3_isSet 16 = .ok (.lload_n 1, 1) := dk_31 (dk_at dksX3_isSet_0 16 rfl rfl)
theorem dX3_isSet_17 : decode cX3_isSet 17 = .ok (.lcmp, 1) := dk_148 (dk_at dksX3_isSet_0 17 rfl rfl)
theorem dX3_isSet_18 : decode cX3_isSet 18 = .ok (.ifCond .ne 5, 3) := dk_154 0 5 (dk_at dksX3_isSet_0 18 rfl rfl)
theorem dX3_isSet_21 : decode cX3_isSet 21 = .ok (.iconst 1, 1) := dk_4 (dk_at dksX3_isSet_0 21 rfl rfl)
theorem dX3_isSet_22 : decode cX3_isSet 22 = .ok (.ireturn, 1) := dk_172 (dk_at dksX3_isSet_0 22 rfl rfl)
theorem dX3_isSet_23 : decode cX3_isSet 23 = .ok (.iinc 3 1, 3) := dk_132 3 1 (dk_at dksX3_isSet_1 0 rfl rfl)
theorem dX3_isSet_26 : decode cX3_isSet 26 = .ok (.goto (-24), 3) := dk_167 255 232 (dk_at dksX3_isSet_1 3 rfl rfl)
theorem dX3_isSet_29 : decode cX3_isSet 29 = .ok (.iconst 0, 1) := dk_3 (dk_at dksX3_isSet_1 6 rfl rfl)
theorem dX3_isSet_30 : decode cX3_isSet 30 = .ok (.ireturn, 1) := dk_172 (dk_at dksX3_isSet_1 7 rfl rfl)
abbrev cX3_isAhead : ByteArray := prog_6_method_18_code
def yX3_isAhead : MethodName := ⟨RX3, "isAhead", "(JJ)Z"⟩
def dkwX3_isAhead_1 : List UInt8 := [160, 0, 13, 31, 33, 148, 156, 0, 7, 4, 167, 0, 4, 3, 172]
abbrev dktX3_isAhead_1 : List UInt8 := dkwX3_isAhead_1 ++ []
def dkwX3_isAhead_0 : List UInt8 := [31, 184, 0, 192, 54, 5, 33, 184, 0, 192, 54, 6, 21, 5, 21, 6, 161, 0, 16, 21, 5, 21, 6]
abbrev dktX3_isAhead_0 : List UInt8 := dkwX3_isAhead_0 ++ dktX3_isAhead_1
theorem dksX3_isAhead_0 : cX3_isAhead.data.toList.drop 0 = dktX3_isAhead_0 := by decide +kernel
theorem dksX3_isAhead_1 : cX3_isAhead.data.toList.drop 23 = dktX3_isAhead_1 := dk_seg dksX3_isAhead_0 23 rfl rfl
theorem dX3_isAhead_0 : decode cX3_isAhead 0 = .ok (.lload_n 1, 1) := dk_31 (dk_at dksX3_isAhead_0 0 rfl rfl)
theorem dX3_isAhead_1 : decode cX3_isAhead 1 = .ok (.invokestatic 192, 3) := dk_184 0 192 (dk_at dksX3_isAhead_0 1 rfl rfl)
theorem dX3_isAhead_4 : decode cX3_isAhead 4 = .ok (.istore 5, 2) := dk_54 5 (dk_at dksX3_isAhead_0 4 rfl rfl)
theorem dX3_isAhead_6 : decode cX3_isAhead 6 = .ok (.lload_n 3, 1) := dk_33 (dk_at dksX3_isAhead_0 6 rfl rfl)
theorem dX3_isAhead_7 : decode cX3_isAhead 7 = .ok (.invokestatic 192, 3) := dk_184 0 192 (dk_at dksX3_isAhead_0 7 rfl rfl)
theorem dX3_isAhead_10 : decode cX3_isAhead 10 = .ok (.istore 6, 2) := dk_54 6 (dk_at dksX3_isAhead_0 10 rfl rfl)
theorem dX3_isAhead_12 : decode cX3_isAhead 12 = .ok (.iload 5, 2) := dk_21 5 (dk_at dksX3_isAhead_0 12 rfl rfl)
theorem dX3_isAhead_14 : decode cX3_isAhead 14 = .ok (.iload 6, 2) := dk_21 6 (dk_at dksX3_isAhead_0 14 rfl rfl)
theorem dX3_isAhead_16 : decode cX3_isAhead 16 = .ok (.if_icmp .lt 16, 3) := dk_161 0 16 (dk_at dksX3_isAhead_0 16 rfl rfl)
theorem dX3_isAhead_19 : decode cX3_isAhead 19 = .ok (.iload 5, 2) := dk_21 5 (dk_at dksX3_isAhead_0 19 rfl rfl)
theorem dX3_isAhead_21 : decode cX3_isAhead 21 = .ok (.iload 6, 2) := dk_21 6 (dk_at dksX3_isAhead_0 21 rfl rfl)
theorem dX3_isAhead_23 : decode cX3_isAhead 23 = .ok (.if_icmp .ne 13, 3) := dk_160 0 13 (dk_at dksX3_isAhead_1 0 rfl rfl)
theorem dX3_isAhead_26 : decode cX3_isAhead 26 = .ok (.lload_n 1, 1) := dk_31 (dk_at dksX3_isAhead_1 3 rfl rfl)
theorem dX3_isAhead_27 : decode cX3_isAhead 27 = .ok (.lload_n 3, 1) := dk_33 (dk_at dksX3_isAhead_1 4 rfl rfl)
theorem dX3_isAhead_28 : decode cX3_isAhead 28 = .ok (.lcmp, 1) := dk_148 (dk_at dksX3_isAhead_1 5 rfl rfl)
theorem dX3_isAhead_29 : decode cX3_isAhead 29 = .ok (.ifCond .ge 7, 3) := dk_156 0 7 (dk_at dksX3_isAhead_1 6 rfl rfl)
theorem dX3_isAhead_32 : decode cX3_isAhead 32 = .ok (.iconst 1, 1) := dk_4 (dk_at dksX3_isAhead_1 9 rfl rfl)
theorem dX3_isAhead_33 : decode cX3_isAhead 33 = .ok (.goto 4, 3) := dk_167 0 4 (dk_at dksX3_isAhead_1 10 rfl rfl)
theorem dX3_isAhead_36 : decode cX3_isAhead 36 = .ok (.iconst 0, 1) := dk_3 (dk_at dksX3_isAhead_1 13 rfl rfl)
theorem dX3_isAhead_37 : decode cX3_isAhead 37 = .ok (.ireturn, 1) := dk_172 (dk_at dksX3_isAhead_1 14 rfl rfl)
abbrev cX3_turnedMany : ByteArray := prog_6_method_17_code
def yX3_turnedMany : MethodName := ⟨RX3, "turnedMany", "(J)I"⟩
def dkwX3_turnedMany_3 : List UInt8 := [132, 4, 1, 167, 255, 187, 29, 172]
abbrev dktX3_turnedMany_3 : List UInt8 := dkwX3_turnedMany_3 ++ []
def dkwX3_turnedMany_2 : List UInt8 := [167, 255, 234, 21, 7, 29, 162, 0, 6, 167, 0, 14, 42, 180, 0, 73, 29, 22, 5, 80, 132, 3, 1]
abbrev dktX3_turnedMany_2 : List UInt8 := dkwX3_turnedMany_2 ++ dktX3_turnedMany_3
def dkwX3_turnedMany_1 : List UInt8 := [54, 7, 21, 7, 29, 162, 0, 22, 42, 180, 0, 73, 21, 7, 47, 22, 5, 148, 153, 0, 9, 132, 7, 1]
abbrev dktX3_turnedMany_1 : List UInt8 := dkwX3_turnedMany_1 ++ dktX3_turnedMany_2
def dkwX3_turnedMany_0 : List UInt8 := [3, 62, 3, 54, 4, 21, 4, 42, 180, 0, 84, 162, 0, 66, 42, 31, 21, 4, 182, 0, 188, 55, 5, 3]
abbrev dktX3_turnedMany_0 : List UInt8 := dkwX3_turnedMany_0 ++ dktX3_turnedMany_1
theorem dksX3_turnedMany_0 : cX3_turnedMany.data.toList.drop 0 = dktX3_turnedMany_0 := by decide +kernel
theorem dksX3_turnedMany_1 : cX3_turnedMany.data.toList.drop 24 = dktX3_turnedMany_1 := dk_seg dksX3_turnedMany_0 24 rfl rfl
theorem dksX3_turnedMany_2 : cX3_turnedMany.data.toList.drop 48 = dktX3_turnedMany_2 := dk_seg dksX3_turnedMany_1 24 rfl rfl
theorem dksX3_turnedMany_3 : cX3_turnedMany.data.toList.drop 71 = dktX3_turnedMany_3 := dk_seg dksX3_turnedMany_2 23 rfl rfl
theorem dX3_turnedMany_0 : decode cX3_turnedMany 0 = .ok (.iconst 0, 1) := dk_3 (dk_at dksX3_turnedMany_0 0 rfl rfl)
theorem dX3_turnedMany_1 : decode cX3_turnedMany 1 = .ok (.istore_n 3, 1) := dk_62 (dk_at dksX3_turnedMany_0 1 rfl rfl)
theorem dX3_turnedMany_2 : decode cX3_turnedMany 2 = .ok (.iconst 0, 1) := dk_3 (dk_at dksX3_turnedMany_0 2 rfl rfl)
theorem dX3_turnedMany_3 : decode cX3_turnedMany 3 = .ok (.istore 4, 2) := dk_54 4 (dk_at dksX3_turnedMany_0 3 rfl rfl)
theorem dX3_turnedMany_5 : decode cX3_turnedMany 5 = .ok (.iload 4, 2) := dk_21 4 (dk_at dksX3_turnedMany_0 5 rfl rfl)
theorem dX3_turnedMany_7 : decode cX3_turnedMany 7 = .ok (.aload_n 0, 1) := dk_42 (dk_at dksX3_turnedMany_0 7 rfl rfl)
theorem dX3_turnedMany_8 : decode cX3_turnedMany 8 = .ok (.getfield 84, 3) := dk_180 0 84 (dk_at dksX3_turnedMany_0 8 rfl rfl)
theorem dX3_turnedMany_11 : decode cX3_turnedMany 11 = .ok (.if_icmp .ge 66, 3) := dk_162 0 66 (dk_at dksX3_turnedMany_0 11 rfl rfl)
theorem dX3_turnedMany_14 : decode cX3_turnedMany 14 = .ok (.aload_n 0, 1) := dk_42 (dk_at dksX3_turnedMany_0 14 rfl rfl)
theorem dX3_turnedMany_15 : decode cX3_turnedMany 15 = .ok (.lload_n 1, 1) := dk_31 (dk_at dksX3_turnedMany_0 15 rfl rfl)
theorem dX3_turnedMany_16 : decode cX3_turnedMany 16 = .ok (.iload 4, 2) := dk_21 4 (dk_at dksX3_turnedMany_0 16 rfl rfl)
theorem dX3_turnedMany_18 : decode cX3_turnedMany 18 = .ok (.invokevirtual 188, 3) := dk_182 0 188 (dk_at dksX3_turnedMany_0 18 rfl rfl)
theorem dX3_turnedMany_21 : decode cX3_turnedMany 21 = .ok (.lstore 5, 2) := dk_55 5 (dk_at dksX3_turnedMany_0 21 rfl rfl)
theorem dX3_turnedMany_23 : decode cX3_turnedMany 23 = .ok (.iconst 0, 1) := dk_3 (dk_at dksX3_turnedMany_0 23 rfl rfl)
theorem dX3_turnedMany_24 : decode cX3_turnedMany 24 = .ok (.istore 7, 2) := dk_54 7 (dk_at dksX3_turnedMany_1 0 rfl rfl)
theorem dX3_turnedMany_26 : decode cX3_turnedMany 26 = .ok (.iload 7, 2) := dk_21 7 (dk_at dksX3_turnedMany_1 2 rfl rfl)
theorem dX3_turnedMany_28 : decode cX3_turnedMany 28 = .ok (.iload_n 3, 1) := dk_29 (dk_at dksX3_turnedMany_1 4 rfl rfl)
theorem dX3_turnedMany_29 : decode cX3_turnedMany 29 = .ok (.if_icmp .ge 22, 3) := dk_162 0 22 (dk_at dksX3_turnedMany_1 5 rfl rfl)
theorem dX3_turnedMany_32 : decode cX3_turnedMany 32 = .ok (.aload_n 0, 1) := dk_42 (dk_at dksX3_turnedMany_1 8 rfl rfl)
theorem dX3_turnedMany_33 : decode cX3_turnedMany 33 = .ok (.getfield 73, 3) := dk_180 0 73 (dk_at dksX3_turnedMany_1 9 rfl rfl)
theorem dX3_turnedMany_36 : decode cX3_turnedMany 36 = .ok (.iload 7, 2) := dk_21 7 (dk_at dksX3_turnedMany_1 12 rfl rfl)
theorem dX3_turnedMany_38 : decode cX3_turnedMany 38 = .ok (.laload, 1) := dk_47 (dk_at dksX3_turnedMany_1 14 rfl rfl)
theorem dX3_turnedMany_39 : decode cX3_turnedMany 39 = .ok (.lload 5, 2) := dk_22 5 (dk_at dksX3_turnedMany_1 15 rfl rfl)
theorem dX3_turnedMany_41 : decode cX3_turnedMany 41 = .ok (.lcmp, 1) := dk_148 (dk_at dksX3_turnedMany_1 17 rfl rfl)
theorem dX3_turnedMany_42 : decode cX3_turnedMany 42 = .ok (.ifCond .eq 9, 3) := dk_153 0 9 (dk_at dksX3_turnedMany_1 18 rfl rfl)
theorem dX3_turnedMany_45 : decode cX3_turnedMany 45 = .ok (.iinc 7 1, 3) := dk_132 7 1 (dk_at dksX3_turnedMany_1 21 rfl rfl)
theorem dX3_turnedMany_48 : decode cX3_turnedMany 48 = .ok (.goto (-22), 3) := dk_167 255 234 (dk_at dksX3_turnedMany_2 0 rfl rfl)
theorem dX3_turnedMany_51 : decode cX3_turnedMany 51 = .ok (.iload 7, 2) := dk_21 7 (dk_at dksX3_turnedMany_2 3 rfl rfl)
theorem dX3_turnedMany_53 : decode cX3_turnedMany 53 = .ok (.iload_n 3, 1) := dk_29 (dk_at dksX3_turnedMany_2 5 rfl rfl)
theorem dX3_turnedMany_54 : decode cX3_turnedMany 54 = .ok (.if_icmp .ge 6, 3) := dk_162 0 6 (dk_at dksX3_turnedMany_2 6 rfl rfl)
theorem dX3_turnedMany_57 : decode cX3_turnedMany 57 = .ok (.goto 14, 3) := dk_167 0 14 (dk_at dksX3_turnedMany_2 9 rfl rfl)
theorem dX3_turnedMany_60 : decode cX3_turnedMany 60 = .ok (.aload_n 0, 1) := dk_42 (dk_at dksX3_turnedMany_2 12 rfl rfl)
theorem dX3_turnedMany_61 : decode cX3_turnedMany 61 = .ok (.getfield 73, 3) := dk_180 0 73 (dk_at dksX3_turnedMany_2 13 rfl rfl)
theorem dX3_turnedMany_64 : decode cX3_turnedMany 64 = .ok (.iload_n 3, 1) := dk_29 (dk_at dksX3_turnedMany_2 16 rfl rfl)
theorem dX3_turnedMany_65 : decode cX3_turnedMany 65 = .ok (.lload 5, 2) := dk_22 5 (dk_at dksX3_turnedMany_2 17 rfl rfl)
theorem dX3_turnedMany_67 : decode cX3_turnedMany 67 = .ok (.lastore, 1) := dk_80 (dk_at dksX3_turnedMany_2 19 rfl rfl)
theorem dX3_turnedMany_68 : decode cX3_turnedMany 68 = .ok (.iinc 3 1, 3) := dk_132 3 1 (dk_at dksX3_turnedMany_2 20 rfl rfl)
theorem dX3_turnedMany_71 : decode cX3_turnedMany 71 = .ok (.iinc 4 1, 3) := dk_132 4 1 (dk_at dksX3_turnedMany_3 0 rfl rfl)
theorem dX3_turnedMany_74 : decode cX3_turnedMany 74 = .ok (.goto (-69), 3) := dk_167 255 187 (dk_at dksX3_turnedMany_3 3 rfl rfl)
theorem dX3_turnedMany_77 : decode cX3_turnedMany 77 = .ok (.iload_n 3, 1) := dk_29 (dk_at dksX3_turnedMany_3 6 rfl rfl)
theorem dX3_turnedMany_78 : decode cX3_turnedMany 78 = .ok (.ireturn, 1) := dk_172 (dk_at dksX3_turnedMany_3 7 rfl rfl)
abbrev cX3_setTurned : ByteArray := prog_6_method_16_code
def yX3_setTurned : MethodName := ⟨RX3, "setTurned", "(JI)J"⟩
def dkwX3_setTurned_1 : List UInt8 := [182, 0, 175, 121, 129, 55, 4, 22, 6, 22, 6, 10, 101, 127, 55, 6, 167, 255, 223, 22, 4, 173]
abbrev dktX3_setTurned_1 : List UInt8 := dkwX3_setTurned_1 ++ []
def dkwX3_setTurned_0 : List UInt8 := [9, 55, 4, 31, 55, 6, 22, 6, 9, 148, 153, 0, 32, 22, 4, 10, 42, 22, 6, 184, 0, 178, 29]
abbrev dktX3_setTurned_0 : List UInt8 := dkwX3_setTurned_0 ++ dktX3_setTurned_1
theorem dksX3_setTurned_0 : cX3_setTurned.data.toList.drop 0 = dktX3_setTurned_0 := by decide +kernel
theorem dksX3_setTurned_1 : cX3_setTurned.data.toList.drop 23 = dktX3_setTurned_1 := dk_seg dksX3_setTurned_0 23 rfl rfl
theorem dX3_setTurned_0 : decode cX3_setTurned 0 = .ok (.lconst 0, 1) := dk_9 (dk_at dksX3_setTurned_0 0 rfl rfl)
theorem dX3_setTurned_1 : decode cX3_setTurned 1 = .ok (.lstore 4, 2) := dk_55 4 (dk_at dksX3_setTurned_0 1 rfl rfl)
theorem dX3_setTurned_3 : decode cX3_setTurned 3 = .ok (.lload_n 1, 1) := dk_31 (dk_at dksX3_setTurned_0 3 rfl rfl)
theorem dX3_setTurned_4 : decode cX3_setTurned 4 = .ok (.lstore 6, 2) := dk_55 6 (dk_at dksX3_setTurned_0 4 rfl rfl)
theorem dX3_setTurned_6 : decode cX3_setTurned 6 = .ok (.lload 6, 2) := dk_22 6 (dk_at dksX3_setTurned_0 6 rfl rfl)
theorem dX3_setTurned_8 : decode cX3_setTurned 8 = .ok (.lconst 0, 1) := dk_9 (dk_at dksX3_setTurned_0 8 rfl rfl)
theorem dX3_setTurned_9 : decode cX3_setTurned 9 = .ok (.lcmp, 1) := dk_148 (dk_at dksX3_setTurned_0 9 rfl rfl)
theorem dX3_setTurned_10 : decode cX3_setTurned 10 = .ok (.ifCond .eq 32, 3) := dk_153 0 32 (dk_at dksX3_setTurned_0 10 rfl rfl)
theorem dX3_setTurned_13 : decode cX3_setTurned 13 = .ok (.lload 4, 2) := dk_22 4 (dk_at dksX3_setTurned_0 13 rfl rfl)
theorem dX3_setTurned_15 : decode cX3_setTurned 15 = .ok (.lconst 1, 1) := dk_10 (dk_at dksX3_setTurned_0 15 rfl rfl)
theorem dX3_setTurned_16 : decode cX3_setTurned 16 = .ok (.aload_n 0, 1) := dk_42 (dk_at dksX3_setTurned_0 16 rfl rfl)
theorem dX3_setTurned_17 : decode cX3_setTurned 17 = .ok (.lload 6, 2) := dk_22 6 (dk_at dksX3_setTurned_0 17 rfl rfl)
theorem dX3_setTurned_19 : decode cX3_setTurned 19 = .ok (.invokestatic 178, 3) := dk_184 0 178 (dk_at dksX3_setTurned_0 19 rfl rfl)
theorem dX3_setTurned_22 : decode cX3_setTurned 22 = .ok (.iload_n 3, 1) := dk_29 (dk_at dksX3_setTurned_0 22 rfl rfl)
theorem dX3_setTurned_23 : decode cX3_setTurned 23 = .ok (.invokevirtual 175, 3) := dk_182 0 175 (dk_at dksX3_setTurned_1 0 rfl rfl)
theorem dX3_setTurned_26 : decode cX3_setTurned 26 = .ok (.lshl, 1) := dk_121 (dk_at dksX3_setTurned_1 3 rfl rfl)
theorem dX3_setTurned_27 : decode cX3_setTurned 27 = .ok (.lor, 1) := dk_129 (dk_at dksX3_setTurned_1 4 rfl rfl)
theorem dX3_setTurned_28 : decode cX3_setTurned 28 = .ok (.lstore 4, 2) := dk_55 4 (dk_at dksX3_setTurned_1 5 rfl rfl)
theorem dX3_setTurned_30 : decode cX3_setTurned 30 = .ok (.lload 6, 2) := dk_22 6 (dk_at dksX3_setTurned_1 7 rfl rfl)
theorem dX3_setTurned_32 : decode cX3_setTurned 32 = .ok (.lload 6, 2) := dk_22 6 (dk_at dksX3_setTurned_1 9 rfl rfl)
theorem dX3_setTurned_34 : decode cX3_setTurned 34 = .ok (.lconst 1, 1) := dk_10 (dk_at dksX3_setTurned_1 11 rfl rfl)
theorem dX3_setTurned_35 : decode cX3_setTurned 35 = .ok (.lsub, 1) := dk_101 (dk_at dksX3_setTurned_1 12 rfl rfl)
theorem dX3_setTurned_36 : decode cX3_setTurned 36 = .ok (.land, 1) := dk_127 (dk_at dksX3_setTurned_1 13 rfl rfl)
theorem dX3_setTurned_37 : decode cX3_setTurned 37 = .ok (.lstore 6, 2) := dk_55 6 (dk_at dksX3_setTurned_1 14 rfl rfl)
theorem dX3_setTurned_39 : decode cX3_setTurned 39 = .ok (.goto (-33), 3) := dk_167 255 223 (dk_at dksX3_setTurned_1 16 rfl rfl)
theorem dX3_setTurned_42 : decode cX3_setTurned 42 = .ok (.lload 4, 2) := dk_22 4 (dk_at dksX3_setTurned_1 19 rfl rfl)
theorem dX3_setTurned_44 : decode cX3_setTurned 44 = .ok (.lreturn, 1) := dk_173 (dk_at dksX3_setTurned_1 21 rfl rfl)
abbrev cX3_told : ByteArray := prog_6_method_28_code
def yX3_told : MethodName := ⟨RX3, "told", "(II)I"⟩
def dkwX3_told_5 : List UInt8 := [28, 46, 50, 180, 0, 149, 96, 5, 108, 172]
abbrev dktX3_told_5 : List UInt8 := dkwX3_told_5 ++ []
def dkwX3_told_4 : List UInt8 := [21, 4, 167, 0, 31, 45, 180, 0, 149, 45, 180, 0, 149, 104, 42, 180, 0, 11, 42, 180, 0, 44, 28, 50]
abbrev dktX3_told_4 : List UInt8 := dkwX3_told_4 ++ dktX3_told_5
def dkwX3_told_3 : List UInt8 := [180, 0, 149, 104, 167, 0, 53, 21, 4, 4, 100, 45, 180, 0, 143, 100, 45, 180, 0, 149, 104, 167, 0, 36]
abbrev dktX3_told_3 : List UInt8 := dkwX3_told_3 ++ dktX3_told_4
def dkwX3_told_2 : List UInt8 := [21, 4, 45, 180, 0, 149, 104, 167, 0, 72, 45, 180, 0, 149, 167, 0, 65, 45, 180, 0, 143, 45]
abbrev dktX3_told_2 : List UInt8 := dkwX3_told_2 ++ dktX3_told_3
def dkwX3_told_1 : List UInt8 := [170, 0, 0, 0, 0, 85, 0, 0, 0, 0, 0, 0, 0, 4, 0, 0, 0, 34, 0, 0, 0, 44, 0, 0, 0, 51, 0, 0, 0, 63, 0, 0, 0, 80]
abbrev dktX3_told_1 : List UInt8 := dkwX3_told_1 ++ dktX3_told_2
def dkwX3_told_0 : List UInt8 := [42, 180, 0, 11, 28, 50, 78, 45, 182, 0, 242, 54, 4, 27]
abbrev dktX3_told_0 : List UInt8 := dkwX3_told_0 ++ dktX3_told_1
theorem dksX3_told_0 : cX3_told.data.toList.drop 0 = dktX3_told_0 := by decide +kernel
theorem dksX3_told_1 : cX3_told.data.toList.drop 14 = dktX3_told_1 := dk_seg dksX3_told_0 14 rfl rfl
theorem dksX3_told_2 : cX3_told.data.toList.drop 48 = dktX3_told_2 := dk_seg dksX3_told_1 34 rfl rfl
theorem dksX3_told_3 : cX3_told.data.toList.drop 70 = dktX3_told_3 := dk_seg dksX3_told_2 22 rfl rfl
theorem dksX3_told_4 : cX3_told.data.toList.drop 94 = dktX3_told_4 := dk_seg dksX3_told_3 24 rfl rfl
theorem dksX3_told_5 : cX3_told.data.toList.drop 118 = dktX3_told_5 := dk_seg dksX3_told_4 24 rfl rfl
theorem dX3_told_0 : decode cX3_told 0 = .ok (.aload_n 0, 1) := dk_42 (dk_at dksX3_told_0 0 rfl rfl)
theorem dX3_told_1 : decode cX3_told 1 = .ok (.getfield 11, 3) := dk_180 0 11 (dk_at dksX3_told_0 1 rfl rfl)
theorem dX3_told_4 : decode cX3_told 4 = .ok (.iload_n 2, 1) := dk_28 (dk_at dksX3_told_0 4 rfl rfl)
theorem dX3_told_5 : decode cX3_told 5 = .ok (.aaload, 1) := dk_50 (dk_at dksX3_told_0 5 rfl rfl)
theorem dX3_told_6 : decode cX3_told 6 = .ok (.astore_n 3, 1) := dk_78 (dk_at dksX3_told_0 6 rfl rfl)
theorem dX3_told_7 : decode cX3_told 7 = .ok (.aload_n 3, 1) := dk_45 (dk_at dksX3_told_0 7 rfl rfl)
theorem dX3_told_8 : decode cX3_told 8 = .ok (.invokevirtual 242, 3) := dk_182 0 242 (dk_at dksX3_told_0 8 rfl rfl)
theorem dX3_told_11 : decode cX3_told 11 = .ok (.istore 4, 2) := dk_54 4 (dk_at dksX3_told_0 11 rfl rfl)
theorem dX3_told_13 : decode cX3_told 13 = .ok (.iload_n 1, 1) := dk_27 (dk_at dksX3_told_0 13 rfl rfl)
theorem dX3_told_14 : decode cX3_told 14 = .ok (.tableswitch 85 0 4 #[34, 44, 51, 63, 80], 34) := by decide +kernel
theorem dX3_told_48 : decode cX3_told 48 = .ok (.iload 4, 2) := dk_21 4 (dk_at dksX3_told_2 0 rfl rfl)
theorem dX3_told_50 : decode cX3_told 50 = .ok (.aload_n 3, 1) := dk_45 (dk_at dksX3_told_2 2 rfl rfl)
theorem dX3_told_51 : decode cX3_told 51 = .ok (.getfield 149, 3) := dk_180 0 149 (dk_at dksX3_told_2 3 rfl rfl)
theorem dX3_told_54 : decode cX3_told 54 = .ok (.imul, 1) := dk_104 (dk_at dksX3_told_2 6 rfl rfl)
theorem dX3_told_55 : decode cX3_told 55 = .ok (.goto 72, 3) := dk_167 0 72 (dk_at dksX3_told_2 7 rfl rfl)
theorem dX3_told_58 : decode cX3_told 58 = .ok (.aload_n 3, 1) := dk_45 (dk_at dksX3_told_2 10 rfl rfl)
theorem dX3_told_59 : decode cX3_told 59 = .ok (.getfield 149, 3) := dk_180 0 149 (dk_at dksX3_told_2 11 rfl rfl)
theorem dX3_told_62 : decode cX3_told 62 = .ok (.goto 65, 3) := dk_167 0 65 (dk_at dksX3_told_2 14 rfl rfl)
theorem dX3_told_65 : decode cX3_told 65 = .ok (.aload_n 3, 1) := dk_45 (dk_at dksX3_told_2 17 rfl rfl)
theorem dX3_told_66 : decode cX3_told 66 = .ok (.getfield 143, 3) := dk_180 0 143 (dk_at dksX3_told_2 18 rfl rfl)
theorem dX3_told_69 : decode cX3_told 69 = .ok (.aload_n 3, 1) := dk_45 (dk_at dksX3_told_2 21 rfl rfl)
theorem dX3_told_70 : decode cX3_told 70 = .ok (.getfield 149, 3) := dk_180 0 149 (dk_at dksX3_told_3 0 rfl rfl)
theorem dX3_told_73 : decode cX3_told 73 = .ok (.imul, 1) := dk_104 (dk_at dksX3_told_3 3 rfl rfl)
theorem dX3_told_74 : decode cX3_told 74 = .ok (.goto 53, 3) := dk_167 0 53 (dk_at dksX3_told_3 4 rfl rfl)
theorem dX3_told_77 : decode cX3_told 77 = .ok (.iload 4, 2) := dk_21 4 (dk_at dksX3_told_3 7 rfl rfl)
theorem dX3_told_79 : decode cX3_told 79 = .ok (.iconst 1, 1) := dk_4 (dk_at dksX3_told_3 9 rfl rfl)
theorem dX3_told_80 : decode cX3_told 80 = .ok (.isub, 1) := dk_100 (dk_at dksX3_told_3 10 rfl rfl)
theorem dX3_told_81 : decode cX3_told 81 = .ok (.aload_n 3, 1) := dk_45 (dk_at dksX3_told_3 11 rfl rfl)
theorem dX3_told_82 : decode cX3_told 82 = .ok (.getfield 143, 3) := dk_180 0 143 (dk_at dksX3_told_3 12 rfl rfl)
theorem dX3_told_85 : decode cX3_told 85 = .ok (.isub, 1) := dk_100 (dk_at dksX3_told_3 15 rfl rfl)
theorem dX3_told_86 : decode cX3_told 86 = .ok (.aload_n 3, 1) := dk_45 (dk_at dksX3_told_3 16 rfl rfl)
theorem dX3_told_87 : decode cX3_told 87 = .ok (.getfield 149, 3) := dk_180 0 149 (dk_at dksX3_told_3 17 rfl rfl)
theorem dX3_told_90 : decode cX3_told 90 = .ok (.imul, 1) := dk_104 (dk_at dksX3_told_3 20 rfl rfl)
theorem dX3_told_91 : decode cX3_told 91 = .ok (.goto 36, 3) := dk_167 0 36 (dk_at dksX3_told_3 21 rfl rfl)
theorem dX3_told_94 : decode cX3_told 94 = .ok (.iload 4, 2) := dk_21 4 (dk_at dksX3_told_4 0 rfl rfl)
theorem dX3_told_96 : decode cX3_told 96 = .ok (.goto 31, 3) := dk_167 0 31 (dk_at dksX3_told_4 2 rfl rfl)
theorem dX3_told_99 : decode cX3_told 99 = .ok (.aload_n 3, 1) := dk_45 (dk_at dksX3_told_4 5 rfl rfl)
theorem dX3_told_100 : decode cX3_told 100 = .ok (.getfield 149, 3) := dk_180 0 149 (dk_at dksX3_told_4 6 rfl rfl)
theorem dX3_told_103 : decode cX3_told 103 = .ok (.aload_n 3, 1) := dk_45 (dk_at dksX3_told_4 9 rfl rfl)
theorem dX3_told_104 : decode cX3_told 104 = .ok (.getfield 149, 3) := dk_180 0 149 (dk_at dksX3_told_4 10 rfl rfl)
theorem dX3_told_107 : decode cX3_told 107 = .ok (.imul, 1) := dk_104 (dk_at dksX3_told_4 13 rfl rfl)
theorem dX3_told_108 : decode cX3_told 108 = .ok (.aload_n 0, 1) := dk_42 (dk_at dksX3_told_4 14 rfl rfl)
theorem dX3_told_109 : decode cX3_told 109 = .ok (.getfield 11, 3) := dk_180 0 11 (dk_at dksX3_told_4 15 rfl rfl)
theorem dX3_told_112 : decode cX3_told 112 = .ok (.aload_n 0, 1) := dk_42 (dk_at dksX3_told_4 18 rfl rfl)
theorem dX3_told_113 : decode cX3_told 113 = .ok (.getfield 44, 3) := dk_180 0 44 (dk_at dksX3_told_4 19 rfl rfl)
theorem dX3_told_116 : decode cX3_told 116 = .ok (.iload_n 2, 1) := dk_28 (dk_at dksX3_told_4 22 rfl rfl)
theorem dX3_told_117 : decode cX3_told 117 = .ok (.aaload, 1) := dk_50 (dk_at dksX3_told_4 23 rfl rfl)
theorem dX3_told_118 : decode cX3_told 118 = .ok (.iload_n 2, 1) := dk_28 (dk_at dksX3_told_5 0 rfl rfl)
theorem dX3_told_119 : decode cX3_told 119 = .ok (.iaload, 1) := dk_46 (dk_at dksX3_told_5 1 rfl rfl)
theorem dX3_told_120 : decode cX3_told 120 = .ok (.aaload, 1) := dk_50 (dk_at dksX3_told_5 2 rfl rfl)
theorem dX3_told_121 : decode cX3_told 121 = .ok (.getfield 149, 3) := dk_180 0 149 (dk_at dksX3_told_5 3 rfl rfl)
theorem dX3_told_124 : decode cX3_told 124 = .ok (.iadd, 1) := dk_96 (dk_at dksX3_told_5 6 rfl rfl)
theorem dX3_told_125 : decode cX3_told 125 = .ok (.iconst 2, 1) := dk_5 (dk_at dksX3_told_5 7 rfl rfl)
theorem dX3_told_126 : decode cX3_told 126 = .ok (.idiv, 1) := dk_108 (dk_at dksX3_told_5 8 rfl rfl)
theorem dX3_told_127 : decode cX3_told 127 = .ok (.ireturn, 1) := dk_172 (dk_at dksX3_told_5 9 rfl rfl)
theorem q157 : (Jvm.Cond.initialized "VibrationDesk$Group") ∈ lw_all := lw_g (lw_at lw_m1 10 rfl) rfl
theorem q311 : (Jvm.Cond.fieldLinkNest "VibrationDesk$Group" (98 : Nat) "VibrationDesk$Frame" "many" "I" "VibrationDesk") ∈ lw_tbl := lw_at lw_m1 164 rfl
theorem q327 : (Jvm.Cond.fieldLinkNest "VibrationDesk$Group" (110 : Nat) "VibrationDesk$Frame" "cell" "[I" "VibrationDesk") ∈ lw_tbl := lw_at lw_m1 180 rfl
theorem q357 : (Jvm.Cond.instantiable "VibrationDesk$Group" (19 : Nat)) ∈ lw_all := lw_g (lw_at lw_m1 210 rfl) rfl
theorem q359 : (Jvm.Cond.instanceMethod ({ cls := "VibrationDesk$Group", name := "<init>", desc := "()V" } : Jvm.MethodName)) ∈ lw_all := lw_g (lw_at lw_m1 212 rfl) rfl
theorem q360 : (Jvm.Cond.code ({ cls := "VibrationDesk$Group", name := "<init>", desc := "()V" } : Jvm.MethodName) prog_6_method_1_code (2 : Nat) (Option.none : Option Jvm.ClassFile.FieldType)) ∈ lw_all := lw_g (lw_at lw_m1 213 rfl) rfl
theorem q361 : (Jvm.Cond.methodLink "VibrationDesk$Group" (3 : Nat) ({ cls := "java/lang/Object", name := "<init>", desc := "()V" } : Jvm.MethodName)) ∈ lw_all := lw_g (lw_at lw_m1 214 rfl) rfl
theorem q362 : (Jvm.Cond.classLink "VibrationDesk$Group" (9 : Nat) "VibrationDesk$Op") ∈ lw_all := lw_g (lw_at lw_m1 215 rfl) rfl
theorem q364 : (Jvm.Cond.classLink "VibrationDesk$Group" (17 : Nat) "VibrationDesk$Seat") ∈ lw_all := lw_g (lw_at lw_m1 217 rfl) rfl
theorem q366 : (Jvm.Cond.methodLink "VibrationDesk$Group" (19 : Nat) ({ cls := "VibrationDesk$Seat", name := "<init>", desc := "(I)V" } : Jvm.MethodName)) ∈ lw_all := lw_g (lw_at lw_m1 219 rfl) rfl
theorem q373 : (Jvm.Cond.fieldLinkNest "VibrationDesk$Group" (104 : Nat) "VibrationDesk$Seat" "atom" "I" "VibrationDesk") ∈ lw_tbl := lw_at lw_m1 226 rfl
theorem q375 : (Jvm.Cond.fieldLinkNest "VibrationDesk$Group" (120 : Nat) "VibrationDesk$Seat" "next" "LVibrationDesk$Seat;" "VibrationDesk") ∈ lw_tbl := lw_at lw_m1 228 rfl
theorem q376 : (Jvm.Cond.fieldLinkNest "VibrationDesk$Group" (117 : Nat) "VibrationDesk$Seat" "taken" "I" "VibrationDesk") ∈ lw_tbl := lw_at lw_m1 229 rfl
theorem q384 : (Jvm.Cond.classLink "VibrationDesk$Group" (26 : Nat) "VibrationDesk$Basis") ∈ lw_all := lw_g (lw_at lw_m1 237 rfl) rfl
theorem q386 : (Jvm.Cond.methodLinkNest "VibrationDesk$Group" (28 : Nat) ({ cls := "VibrationDesk$Basis", name := "<init>", desc := "()V" } : Jvm.MethodName) "VibrationDesk") ∈ lw_tbl := lw_at lw_m1 239 rfl
theorem q419 : (Jvm.Cond.methodLinkNest "VibrationDesk$Group" (37 : Nat) ({ cls := "VibrationDesk$Op", name := "<init>", desc := "()V" } : Jvm.MethodName) "VibrationDesk") ∈ lw_tbl := lw_at lw_m2 32 rfl
theorem q424 : (Jvm.Cond.fieldLinkNest "VibrationDesk$Group" (123 : Nat) "VibrationDesk$Op" "row" "[I" "VibrationDesk") ∈ lw_tbl := lw_at lw_m2 37 rfl
theorem q425 : (Jvm.Cond.fieldLinkNest "VibrationDesk$Group" (99 : Nat) "VibrationDesk$Op" "many" "I" "VibrationDesk") ∈ lw_tbl := lw_at lw_m2 38 rfl
theorem q428 : (Jvm.Cond.fieldLinkNest "VibrationDesk$Group" (143 : Nat) "VibrationDesk$Op" "hand" "I" "VibrationDesk") ∈ lw_tbl := lw_at lw_m2 41 rfl
theorem q430 : (Jvm.Cond.fieldLinkNest "VibrationDesk$Group" (149 : Nat) "VibrationDesk$Op" "trace" "I" "VibrationDesk") ∈ lw_tbl := lw_at lw_m2 43 rfl
theorem q442 : (Jvm.Cond.classLink "VibrationDesk$Group" (42 : Nat) "[[I") ∈ lw_all := lw_g (lw_at lw_m2 55 rfl) rfl
theorem q443 : (Jvm.Cond.classLink "VibrationDesk$Group" (66 : Nat) "VibrationDesk$Both") ∈ lw_all := lw_g (lw_at lw_m2 56 rfl) rfl
theorem q445 : (Jvm.Cond.methodLinkNest "VibrationDesk$Group" (68 : Nat) ({ cls := "VibrationDesk$Both", name := "<init>", desc := "()V" } : Jvm.MethodName) "VibrationDesk") ∈ lw_tbl := lw_at lw_m2 58 rfl
theorem q456 : (Jvm.Cond.fieldLink "VibrationDesk$Group" (80 : Nat) "VibrationDesk$Group" "frame" "LVibrationDesk$Frame;") ∈ lw_all := lw_g (lw_at lw_m2 69 rfl) rfl
theorem q457 : (Jvm.Cond.fieldLink "VibrationDesk$Group" (11 : Nat) "VibrationDesk$Group" "ops" "[LVibrationDesk$Op;") ∈ lw_all := lw_g (lw_at lw_m2 70 rfl) rfl
theorem q459 : (Jvm.Cond.fieldLink "VibrationDesk$Group" (84 : Nat) "VibrationDesk$Group" "many" "I") ∈ lw_all := lw_g (lw_at lw_m2 72 rfl) rfl
theorem q462 : (Jvm.Cond.fieldLink "VibrationDesk$Group" (22 : Nat) "VibrationDesk$Group" "first" "LVibrationDesk$Seat;") ∈ lw_all := lw_g (lw_at lw_m2 75 rfl) rfl
theorem q463 : (Jvm.Cond.fieldLink "VibrationDesk$Group" (29 : Nat) "VibrationDesk$Group" "basis" "LVibrationDesk$Basis;") ∈ lw_all := lw_g (lw_at lw_m2 76 rfl) rfl
theorem q465 : (Jvm.Cond.fieldLink "VibrationDesk$Group" (33 : Nat) "VibrationDesk$Group" "used" "[Z") ∈ lw_all := lw_g (lw_at lw_m2 78 rfl) rfl
theorem q466 : (Jvm.Cond.fieldLink "VibrationDesk$Group" (38 : Nat) "VibrationDesk$Group" "tried" "LVibrationDesk$Op;") ∈ lw_all := lw_g (lw_at lw_m2 79 rfl) rfl
theorem q467 : (Jvm.Cond.fieldLink "VibrationDesk$Group" (44 : Nat) "VibrationDesk$Group" "joined" "[[I") ∈ lw_all := lw_g (lw_at lw_m2 80 rfl) rfl
theorem q469 : (Jvm.Cond.fieldLink "VibrationDesk$Group" (47 : Nat) "VibrationDesk$Group" "back" "[I") ∈ lw_all := lw_g (lw_at lw_m2 82 rfl) rfl
theorem q471 : (Jvm.Cond.fieldLink "VibrationDesk$Group" (51 : Nat) "VibrationDesk$Group" "sort" "[I") ∈ lw_all := lw_g (lw_at lw_m2 84 rfl) rfl
theorem q473 : (Jvm.Cond.fieldLink "VibrationDesk$Group" (54 : Nat) "VibrationDesk$Group" "leastOf" "[I") ∈ lw_all := lw_g (lw_at lw_m2 86 rfl) rfl
theorem q476 : (Jvm.Cond.fieldLink "VibrationDesk$Group" (57 : Nat) "VibrationDesk$Group" "sizeOf" "[I") ∈ lw_all := lw_g (lw_at lw_m2 89 rfl) rfl
theorem q479 : (Jvm.Cond.fieldLink "VibrationDesk$Group" (60 : Nat) "VibrationDesk$Group" "backOf" "[I") ∈ lw_all := lw_g (lw_at lw_m2 92 rfl) rfl
theorem q482 : (Jvm.Cond.fieldLink "VibrationDesk$Group" (63 : Nat) "VibrationDesk$Group" "joins" "[I") ∈ lw_all := lw_g (lw_at lw_m2 95 rfl) rfl
theorem q486 : (Jvm.Cond.fieldLink "VibrationDesk$Group" (168 : Nat) "VibrationDesk$Group" "sorts" "I") ∈ lw_all := lw_g (lw_at lw_m2 99 rfl) rfl
theorem q488 : (Jvm.Cond.fieldLink "VibrationDesk$Group" (69 : Nat) "VibrationDesk$Group" "both" "LVibrationDesk$Both;") ∈ lw_all := lw_g (lw_at lw_m2 101 rfl) rfl
theorem q489 : (Jvm.Cond.fieldLink "VibrationDesk$Group" (73 : Nat) "VibrationDesk$Group" "unlike" "[J") ∈ lw_all := lw_g (lw_at lw_m2 102 rfl) rfl
theorem q490 : (Jvm.Cond.fieldLink "VibrationDesk$Group" (77 : Nat) "VibrationDesk$Group" "sets" "[J") ∈ lw_all := lw_g (lw_at lw_m2 103 rfl) rfl
theorem q492 : (Jvm.Cond.fieldLink "VibrationDesk$Group" (195 : Nat) "VibrationDesk$Group" "setMany" "I") ∈ lw_all := lw_g (lw_at lw_m2 105 rfl) rfl
theorem q494 : (Jvm.Cond.lays "VibrationDesk$Group" "VibrationDesk$Group" "frame" "LVibrationDesk$Frame;") ∈ lw_all := lw_g (lw_at lw_m2 107 rfl) rfl
theorem q495 : (Jvm.Cond.soleField "VibrationDesk$Group" "frame") ∈ lw_all := lw_g (lw_at lw_m2 108 rfl) rfl
theorem q496 : (Jvm.Cond.laysFinal "VibrationDesk$Group" "VibrationDesk$Group" "ops" "[LVibrationDesk$Op;") ∈ lw_all := lw_g (lw_at lw_m2 109 rfl) rfl
theorem q497 : (Jvm.Cond.soleField "VibrationDesk$Group" "ops") ∈ lw_all := lw_g (lw_at lw_m2 110 rfl) rfl
theorem q498 : (Jvm.Cond.lays "VibrationDesk$Group" "VibrationDesk$Group" "many" "I") ∈ lw_all := lw_g (lw_at lw_m2 111 rfl) rfl
theorem q499 : (Jvm.Cond.soleField "VibrationDesk$Group" "many") ∈ lw_all := lw_g (lw_at lw_m2 112 rfl) rfl
theorem q500 : (Jvm.Cond.laysFinal "VibrationDesk$Group" "VibrationDesk$Group" "first" "LVibrationDesk$Seat;") ∈ lw_all := lw_g (lw_at lw_m2 113 rfl) rfl
theorem q501 : (Jvm.Cond.soleField "VibrationDesk$Group" "first") ∈ lw_all := lw_g (lw_at lw_m2 114 rfl) rfl
theorem q502 : (Jvm.Cond.laysFinal "VibrationDesk$Group" "VibrationDesk$Group" "basis" "LVibrationDesk$Basis;") ∈ lw_all := lw_g (lw_at lw_m2 115 rfl) rfl
theorem q503 : (Jvm.Cond.soleField "VibrationDesk$Group" "basis") ∈ lw_all := lw_g (lw_at lw_m2 116 rfl) rfl
theorem q504 : (Jvm.Cond.laysFinal "VibrationDesk$Group" "VibrationDesk$Group" "used" "[Z") ∈ lw_all := lw_g (lw_at lw_m2 117 rfl) rfl
theorem q505 : (Jvm.Cond.soleField "VibrationDesk$Group" "used") ∈ lw_all := lw_g (lw_at lw_m2 118 rfl) rfl
theorem q506 : (Jvm.Cond.laysFinal "VibrationDesk$Group" "VibrationDesk$Group" "tried" "LVibrationDesk$Op;") ∈ lw_all := lw_g (lw_at lw_m2 119 rfl) rfl
theorem q507 : (Jvm.Cond.soleField "VibrationDesk$Group" "tried") ∈ lw_all := lw_g (lw_at lw_m2 120 rfl) rfl
theorem q508 : (Jvm.Cond.laysFinal "VibrationDesk$Group" "VibrationDesk$Group" "joined" "[[I") ∈ lw_all := lw_g (lw_at lw_m2 121 rfl) rfl
theorem q509 : (Jvm.Cond.soleField "VibrationDesk$Group" "joined") ∈ lw_all := lw_g (lw_at lw_m2 122 rfl) rfl
theorem q510 : (Jvm.Cond.laysFinal "VibrationDesk$Group" "VibrationDesk$Group" "back" "[I") ∈ lw_all := lw_g (lw_at lw_m2 123 rfl) rfl
theorem q511 : (Jvm.Cond.soleField "VibrationDesk$Group" "back") ∈ lw_all := lw_g (lw_at lw_m2 124 rfl) rfl
theorem q512 : (Jvm.Cond.laysFinal "VibrationDesk$Group" "VibrationDesk$Group" "sort" "[I") ∈ lw_all := lw_g (lw_at lw_m2 125 rfl) rfl
theorem q513 : (Jvm.Cond.soleField "VibrationDesk$Group" "sort") ∈ lw_all := lw_g (lw_at lw_m2 126 rfl) rfl
theorem q514 : (Jvm.Cond.laysFinal "VibrationDesk$Group" "VibrationDesk$Group" "leastOf" "[I") ∈ lw_all := lw_g (lw_at lw_m2 127 rfl) rfl
theorem q515 : (Jvm.Cond.soleField "VibrationDesk$Group" "leastOf") ∈ lw_all := lw_g (lw_at lw_m2 128 rfl) rfl
theorem q516 : (Jvm.Cond.laysFinal "VibrationDesk$Group" "VibrationDesk$Group" "sizeOf" "[I") ∈ lw_all := lw_g (lw_at lw_m2 129 rfl) rfl
theorem q517 : (Jvm.Cond.soleField "VibrationDesk$Group" "sizeOf") ∈ lw_all := lw_g (lw_at lw_m2 130 rfl) rfl
theorem q518 : (Jvm.Cond.laysFinal "VibrationDesk$Group" "VibrationDesk$Group" "backOf" "[I") ∈ lw_all := lw_g (lw_at lw_m2 131 rfl) rfl
theorem q519 : (Jvm.Cond.soleField "VibrationDesk$Group" "backOf") ∈ lw_all := lw_g (lw_at lw_m2 132 rfl) rfl
theorem q520 : (Jvm.Cond.laysFinal "VibrationDesk$Group" "VibrationDesk$Group" "joins" "[I") ∈ lw_all := lw_g (lw_at lw_m2 133 rfl) rfl
theorem q521 : (Jvm.Cond.soleField "VibrationDesk$Group" "joins") ∈ lw_all := lw_g (lw_at lw_m2 134 rfl) rfl
theorem q522 : (Jvm.Cond.lays "VibrationDesk$Group" "VibrationDesk$Group" "sorts" "I") ∈ lw_all := lw_g (lw_at lw_m2 135 rfl) rfl
theorem q523 : (Jvm.Cond.soleField "VibrationDesk$Group" "sorts") ∈ lw_all := lw_g (lw_at lw_m2 136 rfl) rfl
theorem q524 : (Jvm.Cond.laysFinal "VibrationDesk$Group" "VibrationDesk$Group" "both" "LVibrationDesk$Both;") ∈ lw_all := lw_g (lw_at lw_m2 137 rfl) rfl
theorem q525 : (Jvm.Cond.soleField "VibrationDesk$Group" "both") ∈ lw_all := lw_g (lw_at lw_m2 138 rfl) rfl
theorem q526 : (Jvm.Cond.laysFinal "VibrationDesk$Group" "VibrationDesk$Group" "unlike" "[J") ∈ lw_all := lw_g (lw_at lw_m2 139 rfl) rfl
theorem q527 : (Jvm.Cond.soleField "VibrationDesk$Group" "unlike") ∈ lw_all := lw_g (lw_at lw_m2 140 rfl) rfl
theorem q528 : (Jvm.Cond.laysFinal "VibrationDesk$Group" "VibrationDesk$Group" "sets" "[J") ∈ lw_all := lw_g (lw_at lw_m2 141 rfl) rfl
theorem q529 : (Jvm.Cond.soleField "VibrationDesk$Group" "sets") ∈ lw_all := lw_g (lw_at lw_m2 142 rfl) rfl
theorem q530 : (Jvm.Cond.lays "VibrationDesk$Group" "VibrationDesk$Group" "setMany" "I") ∈ lw_all := lw_g (lw_at lw_m2 143 rfl) rfl
theorem q531 : (Jvm.Cond.soleField "VibrationDesk$Group" "setMany") ∈ lw_all := lw_g (lw_at lw_m2 144 rfl) rfl
theorem q532 : (Jvm.Cond.superclass "VibrationDesk$Group" "java/lang/Object") ∈ lw_all := lw_g (lw_at lw_m2 145 rfl) rfl
theorem q1331 : (Jvm.Cond.instanceMethod ({ cls := "VibrationDesk$Group", name := "finds", desc := "(LVibrationDesk$Frame;)V" } : Jvm.MethodName)) ∈ lw_all := lw_g (lw_at lw_m5 224 rfl) rfl
theorem q1332 : (Jvm.Cond.selects "VibrationDesk$Group" ({ cls := "VibrationDesk$Group", name := "finds", desc := "(LVibrationDesk$Frame;)V" } : Jvm.MethodName) ({ cls := "VibrationDesk$Group", name := "finds", desc := "(LVibrationDesk$Frame;)V" } : Jvm.MethodName)) ∈ lw_all := lw_g (lw_at lw_m5 225 rfl) rfl
theorem q1333 : (Jvm.Cond.code ({ cls := "VibrationDesk$Group", name := "finds", desc := "(LVibrationDesk$Frame;)V" } : Jvm.MethodName) prog_6_method_2_code (3 : Nat) (Option.none : Option Jvm.ClassFile.FieldType)) ∈ lw_all := lw_g (lw_at lw_m5 226 rfl) rfl
theorem q1334 : (Jvm.Cond.methodLink "VibrationDesk$Group" (88 : Nat) ({ cls := "VibrationDesk$Basis", name := "lays", desc := "(LVibrationDesk$Frame;)V" } : Jvm.MethodName)) ∈ lw_all := lw_g (lw_at lw_m5 227 rfl) rfl
theorem q1343 : (Jvm.Cond.methodLink "VibrationDesk$Group" (92 : Nat) ({ cls := "VibrationDesk$Frame", name := "laysCells", desc := "()I" } : Jvm.MethodName)) ∈ lw_all := lw_g (lw_at lw_m5 236 rfl) rfl
theorem q1344 : (Jvm.Cond.methodLink "VibrationDesk$Group" (100 : Nat) ({ cls := "VibrationDesk$Group", name := "seats", desc := "(LVibrationDesk$Seat;)V" } : Jvm.MethodName)) ∈ lw_all := lw_g (lw_at lw_m5 237 rfl) rfl
theorem q1345 : (Jvm.Cond.privateMethod ({ cls := "VibrationDesk$Group", name := "seats", desc := "(LVibrationDesk$Seat;)V" } : Jvm.MethodName)) ∈ lw_tbl := lw_at lw_m5 238 rfl
theorem q1346 : (Jvm.Cond.instanceMethod ({ cls := "VibrationDesk$Group", name := "seats", desc := "(LVibrationDesk$Seat;)V" } : Jvm.MethodName)) ∈ lw_all := lw_g (lw_at lw_m5 239 rfl) rfl
theorem q1347 : (Jvm.Cond.code ({ cls := "VibrationDesk$Group", name := "seats", desc := "(LVibrationDesk$Seat;)V" } : Jvm.MethodName) prog_6_method_3_code (4 : Nat) (Option.none : Option Jvm.ClassFile.FieldType)) ∈ lw_all := lw_g (lw_at lw_m6 0 rfl) rfl
theorem q1348 : (Jvm.Cond.methodLink "VibrationDesk$Group" (107 : Nat) ({ cls := "VibrationDesk$Group", name := "found", desc := "()V" } : Jvm.MethodName)) ∈ lw_all := lw_g (lw_at lw_m6 1 rfl) rfl
theorem q1349 : (Jvm.Cond.privateMethod ({ cls := "VibrationDesk$Group", name := "found", desc := "()V" } : Jvm.MethodName)) ∈ lw_tbl := lw_at lw_m6 2 rfl
theorem q1350 : (Jvm.Cond.instanceMethod ({ cls := "VibrationDesk$Group", name := "found", desc := "()V" } : Jvm.MethodName)) ∈ lw_all := lw_g (lw_at lw_m6 3 rfl) rfl
theorem q1351 : (Jvm.Cond.code ({ cls := "VibrationDesk$Group", name := "found", desc := "()V" } : Jvm.MethodName) prog_6_method_4_code (2 : Nat) (Option.none : Option Jvm.ClassFile.FieldType)) ∈ lw_all := lw_g (lw_at lw_m6 4 rfl) rfl
theorem q1352 : (Jvm.Cond.methodLink "VibrationDesk$Group" (126 : Nat) ({ cls := "VibrationDesk$Basis", name := "isFlat", desc := "()Z" } : Jvm.MethodName)) ∈ lw_all := lw_g (lw_at lw_m6 5 rfl) rfl
theorem q1356 : (Jvm.Cond.methodLink "VibrationDesk$Group" (130 : Nat) ({ cls := "VibrationDesk$Group", name := "adds", desc := "(I)V" } : Jvm.MethodName)) ∈ lw_all := lw_g (lw_at lw_m6 9 rfl) rfl
theorem q1357 : (Jvm.Cond.privateMethod ({ cls := "VibrationDesk$Group", name := "adds", desc := "(I)V" } : Jvm.MethodName)) ∈ lw_tbl := lw_at lw_m6 10 rfl
theorem q1358 : (Jvm.Cond.instanceMethod ({ cls := "VibrationDesk$Group", name := "adds", desc := "(I)V" } : Jvm.MethodName)) ∈ lw_all := lw_g (lw_at lw_m6 11 rfl) rfl
theorem q1359 : (Jvm.Cond.code ({ cls := "VibrationDesk$Group", name := "adds", desc := "(I)V" } : Jvm.MethodName) prog_6_method_5_code (3 : Nat) (Option.none : Option Jvm.ClassFile.FieldType)) ∈ lw_all := lw_g (lw_at lw_m6 12 rfl) rfl
theorem q1360 : (Jvm.Cond.methodLink "VibrationDesk$Group" (137 : Nat) ({ cls := "java/lang/System", name := "arraycopy", desc := "(Ljava/lang/Object;ILjava/lang/Object;II)V" } : Jvm.MethodName)) ∈ lw_all := lw_g (lw_at lw_m6 13 rfl) rfl
theorem q1361 : (Jvm.Cond.methodLink "VibrationDesk$Group" (146 : Nat) ({ cls := "VibrationDesk$Basis", name := "diagonal", desc := "(LVibrationDesk$Move;)I" } : Jvm.MethodName)) ∈ lw_all := lw_g (lw_at lw_m6 14 rfl) rfl
theorem q1408 : (Jvm.Cond.methodLink "VibrationDesk$Group" (133 : Nat) ({ cls := "VibrationDesk$Basis", name := "handed", desc := "(LVibrationDesk$Move;)I" } : Jvm.MethodName)) ∈ lw_all := lw_g (lw_at lw_m6 61 rfl) rfl
theorem q1412 : (Jvm.Cond.methodLink "VibrationDesk$Group" (113 : Nat) ({ cls := "VibrationDesk$Frame", name := "apart", desc := "(II)I" } : Jvm.MethodName)) ∈ lw_all := lw_g (lw_at lw_m6 65 rfl) rfl
theorem q1414 : (Jvm.Cond.instanceMethod ({ cls := "VibrationDesk$Group", name := "joinsAll", desc := "()V" } : Jvm.MethodName)) ∈ lw_all := lw_g (lw_at lw_m6 67 rfl) rfl
theorem q1415 : (Jvm.Cond.selects "VibrationDesk$Group" ({ cls := "VibrationDesk$Group", name := "joinsAll", desc := "()V" } : Jvm.MethodName) ({ cls := "VibrationDesk$Group", name := "joinsAll", desc := "()V" } : Jvm.MethodName)) ∈ lw_all := lw_g (lw_at lw_m6 68 rfl) rfl
theorem q1416 : (Jvm.Cond.code ({ cls := "VibrationDesk$Group", name := "joinsAll", desc := "()V" } : Jvm.MethodName) prog_6_method_8_code (4 : Nat) (Option.none : Option Jvm.ClassFile.FieldType)) ∈ lw_all := lw_g (lw_at lw_m6 69 rfl) rfl
theorem q1417 : (Jvm.Cond.methodLink "VibrationDesk$Group" (158 : Nat) ({ cls := "VibrationDesk$Both", name := "be", desc := "(LVibrationDesk$Move;LVibrationDesk$Move;)LVibrationDesk$Both;" } : Jvm.MethodName)) ∈ lw_all := lw_g (lw_at lw_m6 70 rfl) rfl
theorem q1421 : (Jvm.Cond.methodLink "VibrationDesk$Group" (162 : Nat) ({ cls := "VibrationDesk$Group", name := "numberOf", desc := "(LVibrationDesk$Move;)I" } : Jvm.MethodName)) ∈ lw_all := lw_g (lw_at lw_m6 74 rfl) rfl
theorem q1422 : (Jvm.Cond.privateMethod ({ cls := "VibrationDesk$Group", name := "numberOf", desc := "(LVibrationDesk$Move;)I" } : Jvm.MethodName)) ∈ lw_tbl := lw_at lw_m6 75 rfl
theorem q1423 : (Jvm.Cond.instanceMethod ({ cls := "VibrationDesk$Group", name := "numberOf", desc := "(LVibrationDesk$Move;)I" } : Jvm.MethodName)) ∈ lw_all := lw_g (lw_at lw_m6 76 rfl) rfl
theorem q1424 : (Jvm.Cond.code ({ cls := "VibrationDesk$Group", name := "numberOf", desc := "(LVibrationDesk$Move;)I" } : Jvm.MethodName) prog_6_method_7_code (3 : Nat) (Option.some Jvm.ClassFile.FieldType.int)) ∈ lw_all := lw_g (lw_at lw_m6 77 rfl) rfl
theorem q1425 : (Jvm.Cond.methodLink "VibrationDesk$Group" (152 : Nat) ({ cls := "VibrationDesk$Move", name := "same", desc := "(LVibrationDesk$Move;LVibrationDesk$Move;)Z" } : Jvm.MethodName)) ∈ lw_all := lw_g (lw_at lw_m6 78 rfl) rfl
theorem q1448 : (Jvm.Cond.methodLink "VibrationDesk$Group" (165 : Nat) ({ cls := "VibrationDesk$Group", name := "laysSorts", desc := "()V" } : Jvm.MethodName)) ∈ lw_all := lw_g (lw_at lw_m6 101 rfl) rfl
theorem q1449 : (Jvm.Cond.privateMethod ({ cls := "VibrationDesk$Group", name := "laysSorts", desc := "()V" } : Jvm.MethodName)) ∈ lw_tbl := lw_at lw_m6 102 rfl
theorem q1450 : (Jvm.Cond.instanceMethod ({ cls := "VibrationDesk$Group", name := "laysSorts", desc := "()V" } : Jvm.MethodName)) ∈ lw_all := lw_g (lw_at lw_m6 103 rfl) rfl
theorem q1451 : (Jvm.Cond.code ({ cls := "VibrationDesk$Group", name := "laysSorts", desc := "()V" } : Jvm.MethodName) prog_6_method_11_code (5 : Nat) (Option.none : Option Jvm.ClassFile.FieldType)) ∈ lw_all := lw_g (lw_at lw_m6 104 rfl) rfl
theorem q1452 : (Jvm.Cond.methodLink "VibrationDesk$Group" (175 : Nat) ({ cls := "VibrationDesk$Group", name := "turned", desc := "(II)I" } : Jvm.MethodName)) ∈ lw_all := lw_g (lw_at lw_m6 105 rfl) rfl
theorem q1453 : (Jvm.Cond.instanceMethod ({ cls := "VibrationDesk$Group", name := "turned", desc := "(II)I" } : Jvm.MethodName)) ∈ lw_all := lw_g (lw_at lw_m6 106 rfl) rfl
theorem q1454 : (Jvm.Cond.selects "VibrationDesk$Group" ({ cls := "VibrationDesk$Group", name := "turned", desc := "(II)I" } : Jvm.MethodName) ({ cls := "VibrationDesk$Group", name := "turned", desc := "(II)I" } : Jvm.MethodName)) ∈ lw_all := lw_g (lw_at lw_m6 107 rfl) rfl
theorem q1455 : (Jvm.Cond.code ({ cls := "VibrationDesk$Group", name := "turned", desc := "(II)I" } : Jvm.MethodName) prog_6_method_10_code (3 : Nat) (Option.some Jvm.ClassFile.FieldType.int)) ∈ lw_all := lw_g (lw_at lw_m6 108 rfl) rfl
theorem q1456 : (Jvm.Cond.methodLink "VibrationDesk$Group" (171 : Nat) ({ cls := "VibrationDesk$Group", name := "place", desc := "(III)I" } : Jvm.MethodName)) ∈ lw_all := lw_g (lw_at lw_m6 109 rfl) rfl
theorem q1457 : (Jvm.Cond.privateMethod ({ cls := "VibrationDesk$Group", name := "place", desc := "(III)I" } : Jvm.MethodName)) ∈ lw_tbl := lw_at lw_m6 110 rfl
theorem q1458 : (Jvm.Cond.instanceMethod ({ cls := "VibrationDesk$Group", name := "place", desc := "(III)I" } : Jvm.MethodName)) ∈ lw_all := lw_g (lw_at lw_m6 111 rfl) rfl
theorem q1459 : (Jvm.Cond.code ({ cls := "VibrationDesk$Group", name := "place", desc := "(III)I" } : Jvm.MethodName) prog_6_method_9_code (4 : Nat) (Option.some Jvm.ClassFile.FieldType.int)) ∈ lw_all := lw_g (lw_at lw_m6 112 rfl) rfl
theorem q1461 : (Jvm.Cond.instanceMethod ({ cls := "VibrationDesk$Group", name := "named", desc := "()Ljava/lang/String;" } : Jvm.MethodName)) ∈ lw_all := lw_g (lw_at lw_m6 114 rfl) rfl
theorem q1462 : (Jvm.Cond.selects "VibrationDesk$Group" ({ cls := "VibrationDesk$Group", name := "named", desc := "()Ljava/lang/String;" } : Jvm.MethodName) ({ cls := "VibrationDesk$Group", name := "named", desc := "()Ljava/lang/String;" } : Jvm.MethodName)) ∈ lw_all := lw_g (lw_at lw_m6 115 rfl) rfl
theorem q1463 : (Jvm.Cond.code ({ cls := "VibrationDesk$Group", name := "named", desc := "()Ljava/lang/String;" } : Jvm.MethodName) prog_6_method_30_code (5 : Nat) (Option.some (Jvm.ClassFile.FieldType.object "java/lang/String"))) ∈ lw_all := lw_g (lw_at lw_m6 116 rfl) rfl
theorem q1464 : (Jvm.Cond.methodLink "VibrationDesk$Group" (255 : Nat) ({ cls := "VibrationDesk$Group", name := "periodOf", desc := "(I)I" } : Jvm.MethodName)) ∈ lw_all := lw_g (lw_at lw_m6 117 rfl) rfl
theorem q1465 : (Jvm.Cond.instanceMethod ({ cls := "VibrationDesk$Group", name := "periodOf", desc := "(I)I" } : Jvm.MethodName)) ∈ lw_all := lw_g (lw_at lw_m6 118 rfl) rfl
theorem q1466 : (Jvm.Cond.selects "VibrationDesk$Group" ({ cls := "VibrationDesk$Group", name := "periodOf", desc := "(I)I" } : Jvm.MethodName) ({ cls := "VibrationDesk$Group", name := "periodOf", desc := "(I)I" } : Jvm.MethodName)) ∈ lw_all := lw_g (lw_at lw_m6 119 rfl) rfl
theorem q1467 : (Jvm.Cond.code ({ cls := "VibrationDesk$Group", name := "periodOf", desc := "(I)I" } : Jvm.MethodName) prog_6_method_12_code (4 : Nat) (Option.some Jvm.ClassFile.FieldType.int)) ∈ lw_all := lw_g (lw_at lw_m6 120 rfl) rfl
theorem q1468 : (Jvm.Cond.methodLink "VibrationDesk$Group" (235 : Nat) ({ cls := "java/lang/Math", name := "max", desc := "(II)I" } : Jvm.MethodName)) ∈ lw_all := lw_g (lw_at lw_m6 121 rfl) rfl
theorem q1469 : (Jvm.Cond.methodLink "VibrationDesk$Group" (258 : Nat) ({ cls := "VibrationDesk$Group", name := "has", desc := "(II)I" } : Jvm.MethodName)) ∈ lw_all := lw_g (lw_at lw_m6 122 rfl) rfl
theorem q1470 : (Jvm.Cond.instanceMethod ({ cls := "VibrationDesk$Group", name := "has", desc := "(II)I" } : Jvm.MethodName)) ∈ lw_all := lw_g (lw_at lw_m6 123 rfl) rfl
theorem q1471 : (Jvm.Cond.selects "VibrationDesk$Group" ({ cls := "VibrationDesk$Group", name := "has", desc := "(II)I" } : Jvm.MethodName) ({ cls := "VibrationDesk$Group", name := "has", desc := "(II)I" } : Jvm.MethodName)) ∈ lw_all := lw_g (lw_at lw_m6 124 rfl) rfl
theorem q1472 : (Jvm.Cond.code ({ cls := "VibrationDesk$Group", name := "has", desc := "(II)I" } : Jvm.MethodName) prog_6_method_6_code (5 : Nat) (Option.some Jvm.ClassFile.FieldType.int)) ∈ lw_all := lw_g (lw_at lw_m6 125 rfl) rfl
theorem q1473 : (Jvm.Cond.classLink "VibrationDesk$Group" (261 : Nat) "java/lang/StringBuilder") ∈ lw_all := lw_g (lw_at lw_m6 126 rfl) rfl
theorem q1474 : (Jvm.Cond.methodLink "VibrationDesk$Group" (263 : Nat) ({ cls := "java/lang/StringBuilder", name := "<init>", desc := "()V" } : Jvm.MethodName)) ∈ lw_all := lw_g (lw_at lw_m6 127 rfl) rfl
theorem q1477 : (Jvm.Cond.stringRef "VibrationDesk$Group" (264 : Nat) "") ∈ lw_tbl := lw_at lw_m6 130 rfl
theorem q1478 : (Jvm.Cond.methodLink "VibrationDesk$Group" (266 : Nat) ({ cls := "java/lang/StringBuilder", name := "append", desc := "(Ljava/lang/String;)Ljava/lang/StringBuilder;" } : Jvm.MethodName)) ∈ lw_all := lw_g (lw_at lw_m6 131 rfl) rfl
theorem q1524 : (Jvm.Cond.stringRef "VibrationDesk$Group" (270 : Nat) "T") ∈ lw_tbl := lw_at lw_m6 177 rfl
theorem q1525 : (Jvm.Cond.stringRef "VibrationDesk$Group" (272 : Nat) "Oh") ∈ lw_tbl := lw_at lw_m6 178 rfl
theorem q1526 : (Jvm.Cond.stringRef "VibrationDesk$Group" (274 : Nat) "O") ∈ lw_tbl := lw_at lw_m6 179 rfl
theorem q1527 : (Jvm.Cond.stringRef "VibrationDesk$Group" (276 : Nat) "Td") ∈ lw_tbl := lw_at lw_m6 180 rfl
theorem q1528 : (Jvm.Cond.stringRef "VibrationDesk$Group" (278 : Nat) "Th") ∈ lw_tbl := lw_at lw_m6 181 rfl
theorem q1529 : (Jvm.Cond.methodLink "VibrationDesk$Group" (280 : Nat) ({ cls := "java/lang/StringBuilder", name := "toString", desc := "()Ljava/lang/String;" } : Jvm.MethodName)) ∈ lw_all := lw_g (lw_at lw_m6 182 rfl) rfl
theorem q1530 : (Jvm.Cond.methodLink "VibrationDesk$Group" (284 : Nat) ({ cls := "VibrationDesk$Group", name := "digit", desc := "(I)Ljava/lang/String;" } : Jvm.MethodName)) ∈ lw_all := lw_g (lw_at lw_m6 183 rfl) rfl
theorem q1531 : (Jvm.Cond.static ({ cls := "VibrationDesk$Group", name := "digit", desc := "(I)Ljava/lang/String;" } : Jvm.MethodName)) ∈ lw_all := lw_g (lw_at lw_m6 184 rfl) rfl
theorem q1532 : (Jvm.Cond.code ({ cls := "VibrationDesk$Group", name := "digit", desc := "(I)Ljava/lang/String;" } : Jvm.MethodName) prog_6_method_29_code (1 : Nat) (Option.some (Jvm.ClassFile.FieldType.object "java/lang/String"))) ∈ lw_all := lw_g (lw_at lw_m6 185 rfl) rfl
theorem q1533 : (Jvm.Cond.stringRef "VibrationDesk$Group" (245 : Nat) "1") ∈ lw_tbl := lw_at lw_m6 186 rfl
theorem q1534 : (Jvm.Cond.stringRef "VibrationDesk$Group" (247 : Nat) "2") ∈ lw_tbl := lw_at lw_m6 187 rfl
theorem q1535 : (Jvm.Cond.stringRef "VibrationDesk$Group" (249 : Nat) "3") ∈ lw_tbl := lw_at lw_m6 188 rfl
theorem q1536 : (Jvm.Cond.stringRef "VibrationDesk$Group" (251 : Nat) "4") ∈ lw_tbl := lw_at lw_m6 189 rfl
theorem q1537 : (Jvm.Cond.stringRef "VibrationDesk$Group" (253 : Nat) "6") ∈ lw_tbl := lw_at lw_m6 190 rfl
theorem q1538 : (Jvm.Cond.stringRef "VibrationDesk$Group" (288 : Nat) "D") ∈ lw_tbl := lw_at lw_m6 191 rfl
theorem q1539 : (Jvm.Cond.stringRef "VibrationDesk$Group" (290 : Nat) "h") ∈ lw_tbl := lw_at lw_m6 192 rfl
theorem q1540 : (Jvm.Cond.stringRef "VibrationDesk$Group" (292 : Nat) "d") ∈ lw_tbl := lw_at lw_m6 193 rfl
theorem q1541 : (Jvm.Cond.stringRef "VibrationDesk$Group" (294 : Nat) "C") ∈ lw_tbl := lw_at lw_m6 194 rfl
theorem q1542 : (Jvm.Cond.stringRef "VibrationDesk$Group" (296 : Nat) "Cs") ∈ lw_tbl := lw_at lw_m6 195 rfl
theorem q1543 : (Jvm.Cond.stringRef "VibrationDesk$Group" (298 : Nat) "Ci") ∈ lw_tbl := lw_at lw_m6 196 rfl
theorem q1544 : (Jvm.Cond.stringRef "VibrationDesk$Group" (300 : Nat) "v") ∈ lw_tbl := lw_at lw_m6 197 rfl
theorem q1545 : (Jvm.Cond.stringRef "VibrationDesk$Group" (302 : Nat) "S") ∈ lw_tbl := lw_at lw_m6 198 rfl
theorem q1671 : (Jvm.Cond.instanceMethod ({ cls := "VibrationDesk$Group", name := "all", desc := "()J" } : Jvm.MethodName)) ∈ lw_all := lw_g (lw_at lw_m7 84 rfl) rfl
theorem q1672 : (Jvm.Cond.selects "VibrationDesk$Group" ({ cls := "VibrationDesk$Group", name := "all", desc := "()J" } : Jvm.MethodName) ({ cls := "VibrationDesk$Group", name := "all", desc := "()J" } : Jvm.MethodName)) ∈ lw_all := lw_g (lw_at lw_m7 85 rfl) rfl
theorem q1673 : (Jvm.Cond.code ({ cls := "VibrationDesk$Group", name := "all", desc := "()J" } : Jvm.MethodName) prog_6_method_14_code (1 : Nat) (Option.some Jvm.ClassFile.FieldType.long)) ∈ lw_all := lw_g (lw_at lw_m7 86 rfl) rfl
theorem q1675 : (Jvm.Cond.instanceMethod ({ cls := "VibrationDesk$Group", name := "orbitMany", desc := "(J)I" } : Jvm.MethodName)) ∈ lw_all := lw_g (lw_at lw_m7 88 rfl) rfl
theorem q1676 : (Jvm.Cond.selects "VibrationDesk$Group" ({ cls := "VibrationDesk$Group", name := "orbitMany", desc := "(J)I" } : Jvm.MethodName) ({ cls := "VibrationDesk$Group", name := "orbitMany", desc := "(J)I" } : Jvm.MethodName)) ∈ lw_all := lw_g (lw_at lw_m7 89 rfl) rfl
theorem q1677 : (Jvm.Cond.code ({ cls := "VibrationDesk$Group", name := "orbitMany", desc := "(J)I" } : Jvm.MethodName) prog_6_method_24_code (5 : Nat) (Option.some Jvm.ClassFile.FieldType.int)) ∈ lw_all := lw_g (lw_at lw_m7 90 rfl) rfl
theorem q1678 : (Jvm.Cond.methodLink "VibrationDesk$Group" (222 : Nat) ({ cls := "VibrationDesk$Group", name := "leastBy", desc := "(JI)I" } : Jvm.MethodName)) ∈ lw_all := lw_g (lw_at lw_m7 91 rfl) rfl
theorem q1679 : (Jvm.Cond.instanceMethod ({ cls := "VibrationDesk$Group", name := "leastBy", desc := "(JI)I" } : Jvm.MethodName)) ∈ lw_all := lw_g (lw_at lw_m7 92 rfl) rfl
theorem q1680 : (Jvm.Cond.selects "VibrationDesk$Group" ({ cls := "VibrationDesk$Group", name := "leastBy", desc := "(JI)I" } : Jvm.MethodName) ({ cls := "VibrationDesk$Group", name := "leastBy", desc := "(JI)I" } : Jvm.MethodName)) ∈ lw_all := lw_g (lw_at lw_m7 93 rfl) rfl
theorem q1681 : (Jvm.Cond.code ({ cls := "VibrationDesk$Group", name := "leastBy", desc := "(JI)I" } : Jvm.MethodName) prog_6_method_25_code (6 : Nat) (Option.some Jvm.ClassFile.FieldType.int)) ∈ lw_all := lw_g (lw_at lw_m7 94 rfl) rfl
theorem q1682 : (Jvm.Cond.methodLink "VibrationDesk$Group" (184 : Nat) ({ cls := "VibrationDesk$Group", name := "isIn", desc := "(JI)Z" } : Jvm.MethodName)) ∈ lw_all := lw_g (lw_at lw_m7 95 rfl) rfl
theorem q1683 : (Jvm.Cond.static ({ cls := "VibrationDesk$Group", name := "isIn", desc := "(JI)Z" } : Jvm.MethodName)) ∈ lw_all := lw_g (lw_at lw_m7 96 rfl) rfl
theorem q1684 : (Jvm.Cond.code ({ cls := "VibrationDesk$Group", name := "isIn", desc := "(JI)Z" } : Jvm.MethodName) prog_6_method_13_code (3 : Nat) (Option.some Jvm.ClassFile.FieldType.boolean)) ∈ lw_all := lw_g (lw_at lw_m7 97 rfl) rfl
theorem q1685 : (Jvm.Cond.methodLink "VibrationDesk$Group" (226 : Nat) ({ cls := "VibrationDesk$Op", name := "to", desc := "(I)I" } : Jvm.MethodName)) ∈ lw_all := lw_g (lw_at lw_m7 98 rfl) rfl
theorem q1686 : (Jvm.Cond.methodLink "VibrationDesk$Group" (230 : Nat) ({ cls := "java/lang/Math", name := "min", desc := "(II)I" } : Jvm.MethodName)) ∈ lw_all := lw_g (lw_at lw_m7 99 rfl) rfl
theorem q1709 : (Jvm.Cond.instanceMethod ({ cls := "VibrationDesk$Group", name := "pairMany", desc := "()I" } : Jvm.MethodName)) ∈ lw_all := lw_g (lw_at lw_m7 122 rfl) rfl
theorem q1710 : (Jvm.Cond.selects "VibrationDesk$Group" ({ cls := "VibrationDesk$Group", name := "pairMany", desc := "()I" } : Jvm.MethodName) ({ cls := "VibrationDesk$Group", name := "pairMany", desc := "()I" } : Jvm.MethodName)) ∈ lw_all := lw_g (lw_at lw_m7 123 rfl) rfl
theorem q1711 : (Jvm.Cond.code ({ cls := "VibrationDesk$Group", name := "pairMany", desc := "()I" } : Jvm.MethodName) prog_6_method_27_code (4 : Nat) (Option.some Jvm.ClassFile.FieldType.int)) ∈ lw_all := lw_g (lw_at lw_m7 124 rfl) rfl
theorem q1712 : (Jvm.Cond.methodLink "VibrationDesk$Group" (238 : Nat) ({ cls := "VibrationDesk$Group", name := "isLeastPair", desc := "(II)Z" } : Jvm.MethodName)) ∈ lw_all := lw_g (lw_at lw_m7 125 rfl) rfl
theorem q1713 : (Jvm.Cond.privateMethod ({ cls := "VibrationDesk$Group", name := "isLeastPair", desc := "(II)Z" } : Jvm.MethodName)) ∈ lw_tbl := lw_at lw_m7 126 rfl
theorem q1714 : (Jvm.Cond.instanceMethod ({ cls := "VibrationDesk$Group", name := "isLeastPair", desc := "(II)Z" } : Jvm.MethodName)) ∈ lw_all := lw_g (lw_at lw_m7 127 rfl) rfl
theorem q1715 : (Jvm.Cond.code ({ cls := "VibrationDesk$Group", name := "isLeastPair", desc := "(II)Z" } : Jvm.MethodName) prog_6_method_26_code (6 : Nat) (Option.some Jvm.ClassFile.FieldType.boolean)) ∈ lw_all := lw_g (lw_at lw_m7 128 rfl) rfl
theorem q1725 : (Jvm.Cond.instanceMethod ({ cls := "VibrationDesk$Group", name := "closes", desc := "(J)J" } : Jvm.MethodName)) ∈ lw_all := lw_g (lw_at lw_m7 138 rfl) rfl
theorem q1726 : (Jvm.Cond.selects "VibrationDesk$Group" ({ cls := "VibrationDesk$Group", name := "closes", desc := "(J)J" } : Jvm.MethodName) ({ cls := "VibrationDesk$Group", name := "closes", desc := "(J)J" } : Jvm.MethodName)) ∈ lw_all := lw_g (lw_at lw_m7 139 rfl) rfl
theorem q1727 : (Jvm.Cond.code ({ cls := "VibrationDesk$Group", name := "closes", desc := "(J)J" } : Jvm.MethodName) prog_6_method_15_code (11 : Nat) (Option.some Jvm.ClassFile.FieldType.long)) ∈ lw_all := lw_g (lw_at lw_m7 140 rfl) rfl
theorem q1728 : (Jvm.Cond.methodLink "VibrationDesk$Group" (178 : Nat) ({ cls := "java/lang/Long", name := "numberOfTrailingZeros", desc := "(J)I" } : Jvm.MethodName)) ∈ lw_all := lw_g (lw_at lw_m7 141 rfl) rfl
theorem q1750 : (Jvm.Cond.instanceMethod ({ cls := "VibrationDesk$Group", name := "fewestOf", desc := "()I" } : Jvm.MethodName)) ∈ lw_all := lw_g (lw_at lw_m7 163 rfl) rfl
theorem q1751 : (Jvm.Cond.selects "VibrationDesk$Group" ({ cls := "VibrationDesk$Group", name := "fewestOf", desc := "()I" } : Jvm.MethodName) ({ cls := "VibrationDesk$Group", name := "fewestOf", desc := "()I" } : Jvm.MethodName)) ∈ lw_all := lw_g (lw_at lw_m7 164 rfl) rfl
theorem q1752 : (Jvm.Cond.code ({ cls := "VibrationDesk$Group", name := "fewestOf", desc := "()I" } : Jvm.MethodName) prog_6_method_23_code (2 : Nat) (Option.some Jvm.ClassFile.FieldType.int)) ∈ lw_all := lw_g (lw_at lw_m7 165 rfl) rfl
theorem q1753 : (Jvm.Cond.methodLink "VibrationDesk$Group" (218 : Nat) ({ cls := "VibrationDesk$Group", name := "canMake", desc := "(IJI)Z" } : Jvm.MethodName)) ∈ lw_all := lw_g (lw_at lw_m7 166 rfl) rfl
theorem q1754 : (Jvm.Cond.privateMethod ({ cls := "VibrationDesk$Group", name := "canMake", desc := "(IJI)Z" } : Jvm.MethodName)) ∈ lw_tbl := lw_at lw_m7 167 rfl
theorem q1755 : (Jvm.Cond.instanceMethod ({ cls := "VibrationDesk$Group", name := "canMake", desc := "(IJI)Z" } : Jvm.MethodName)) ∈ lw_all := lw_g (lw_at lw_m7 168 rfl) rfl
theorem q1756 : (Jvm.Cond.code ({ cls := "VibrationDesk$Group", name := "canMake", desc := "(IJI)Z" } : Jvm.MethodName) prog_6_method_22_code (6 : Nat) (Option.some Jvm.ClassFile.FieldType.boolean)) ∈ lw_all := lw_g (lw_at lw_m7 169 rfl) rfl
theorem q1757 : (Jvm.Cond.methodLink "VibrationDesk$Group" (214 : Nat) ({ cls := "VibrationDesk$Group", name := "all", desc := "()J" } : Jvm.MethodName)) ∈ lw_all := lw_g (lw_at lw_m7 170 rfl) rfl
theorem q1758 : (Jvm.Cond.methodLink "VibrationDesk$Group" (206 : Nat) ({ cls := "VibrationDesk$Group", name := "closes", desc := "(J)J" } : Jvm.MethodName)) ∈ lw_all := lw_g (lw_at lw_m7 171 rfl) rfl
theorem q1768 : (Jvm.Cond.instanceMethod ({ cls := "VibrationDesk$Group", name := "laysSets", desc := "()V" } : Jvm.MethodName)) ∈ lw_all := lw_g (lw_at lw_m7 181 rfl) rfl
theorem q1769 : (Jvm.Cond.selects "VibrationDesk$Group" ({ cls := "VibrationDesk$Group", name := "laysSets", desc := "()V" } : Jvm.MethodName) ({ cls := "VibrationDesk$Group", name := "laysSets", desc := "()V" } : Jvm.MethodName)) ∈ lw_all := lw_g (lw_at lw_m7 182 rfl) rfl
theorem q1770 : (Jvm.Cond.code ({ cls := "VibrationDesk$Group", name := "laysSets", desc := "()V" } : Jvm.MethodName) prog_6_method_21_code (5 : Nat) (Option.none : Option Jvm.ClassFile.FieldType)) ∈ lw_all := lw_g (lw_at lw_m7 183 rfl) rfl
theorem q1771 : (Jvm.Cond.methodLink "VibrationDesk$Group" (202 : Nat) ({ cls := "VibrationDesk$Group", name := "addsSet", desc := "(J)V" } : Jvm.MethodName)) ∈ lw_all := lw_g (lw_at lw_m7 184 rfl) rfl
theorem q1772 : (Jvm.Cond.privateMethod ({ cls := "VibrationDesk$Group", name := "addsSet", desc := "(J)V" } : Jvm.MethodName)) ∈ lw_tbl := lw_at lw_m7 185 rfl
theorem q1773 : (Jvm.Cond.instanceMethod ({ cls := "VibrationDesk$Group", name := "addsSet", desc := "(J)V" } : Jvm.MethodName)) ∈ lw_all := lw_g (lw_at lw_m7 186 rfl) rfl
theorem q1774 : (Jvm.Cond.code ({ cls := "VibrationDesk$Group", name := "addsSet", desc := "(J)V" } : Jvm.MethodName) prog_6_method_20_code (3 : Nat) (Option.none : Option Jvm.ClassFile.FieldType)) ∈ lw_all := lw_g (lw_at lw_m7 187 rfl) rfl
theorem q1775 : (Jvm.Cond.methodLink "VibrationDesk$Group" (198 : Nat) ({ cls := "VibrationDesk$Group", name := "isSet", desc := "(J)Z" } : Jvm.MethodName)) ∈ lw_all := lw_g (lw_at lw_m7 188 rfl) rfl
theorem q1776 : (Jvm.Cond.privateMethod ({ cls := "VibrationDesk$Group", name := "isSet", desc := "(J)Z" } : Jvm.MethodName)) ∈ lw_tbl := lw_at lw_m7 189 rfl
theorem q1777 : (Jvm.Cond.instanceMethod ({ cls := "VibrationDesk$Group", name := "isSet", desc := "(J)Z" } : Jvm.MethodName)) ∈ lw_all := lw_g (lw_at lw_m7 190 rfl) rfl
theorem q1778 : (Jvm.Cond.code ({ cls := "VibrationDesk$Group", name := "isSet", desc := "(J)Z" } : Jvm.MethodName) prog_6_method_19_code (4 : Nat) (Option.some Jvm.ClassFile.FieldType.boolean)) ∈ lw_all := lw_g (lw_at lw_m7 191 rfl) rfl
theorem q1779 : (Jvm.Cond.methodLink "VibrationDesk$Group" (210 : Nat) ({ cls := "VibrationDesk$Group", name := "isAhead", desc := "(JJ)Z" } : Jvm.MethodName)) ∈ lw_all := lw_g (lw_at lw_m7 192 rfl) rfl
theorem q1780 : (Jvm.Cond.privateMethod ({ cls := "VibrationDesk$Group", name := "isAhead", desc := "(JJ)Z" } : Jvm.MethodName)) ∈ lw_tbl := lw_at lw_m7 193 rfl
theorem q1781 : (Jvm.Cond.instanceMethod ({ cls := "VibrationDesk$Group", name := "isAhead", desc := "(JJ)Z" } : Jvm.MethodName)) ∈ lw_all := lw_g (lw_at lw_m7 194 rfl) rfl
theorem q1782 : (Jvm.Cond.code ({ cls := "VibrationDesk$Group", name := "isAhead", desc := "(JJ)Z" } : Jvm.MethodName) prog_6_method_18_code (7 : Nat) (Option.some Jvm.ClassFile.FieldType.boolean)) ∈ lw_all := lw_g (lw_at lw_m7 195 rfl) rfl
theorem q1783 : (Jvm.Cond.methodLink "VibrationDesk$Group" (192 : Nat) ({ cls := "java/lang/Long", name := "bitCount", desc := "(J)I" } : Jvm.MethodName)) ∈ lw_all := lw_g (lw_at lw_m7 196 rfl) rfl
theorem q1799 : (Jvm.Cond.instanceMethod ({ cls := "VibrationDesk$Group", name := "turnedMany", desc := "(J)I" } : Jvm.MethodName)) ∈ lw_all := lw_g (lw_at lw_m7 212 rfl) rfl
theorem q1800 : (Jvm.Cond.selects "VibrationDesk$Group" ({ cls := "VibrationDesk$Group", name := "turnedMany", desc := "(J)I" } : Jvm.MethodName) ({ cls := "VibrationDesk$Group", name := "turnedMany", desc := "(J)I" } : Jvm.MethodName)) ∈ lw_all := lw_g (lw_at lw_m7 213 rfl) rfl
theorem q1801 : (Jvm.Cond.code ({ cls := "VibrationDesk$Group", name := "turnedMany", desc := "(J)I" } : Jvm.MethodName) prog_6_method_17_code (8 : Nat) (Option.some Jvm.ClassFile.FieldType.int)) ∈ lw_all := lw_g (lw_at lw_m7 214 rfl) rfl
theorem q1802 : (Jvm.Cond.methodLink "VibrationDesk$Group" (188 : Nat) ({ cls := "VibrationDesk$Group", name := "setTurned", desc := "(JI)J" } : Jvm.MethodName)) ∈ lw_all := lw_g (lw_at lw_m7 215 rfl) rfl
theorem q1803 : (Jvm.Cond.privateMethod ({ cls := "VibrationDesk$Group", name := "setTurned", desc := "(JI)J" } : Jvm.MethodName)) ∈ lw_tbl := lw_at lw_m7 216 rfl
theorem q1804 : (Jvm.Cond.instanceMethod ({ cls := "VibrationDesk$Group", name := "setTurned", desc := "(JI)J" } : Jvm.MethodName)) ∈ lw_all := lw_g (lw_at lw_m7 217 rfl) rfl
theorem q1805 : (Jvm.Cond.code ({ cls := "VibrationDesk$Group", name := "setTurned", desc := "(JI)J" } : Jvm.MethodName) prog_6_method_16_code (8 : Nat) (Option.some Jvm.ClassFile.FieldType.long)) ∈ lw_all := lw_g (lw_at lw_m7 218 rfl) rfl
theorem q1812 : (Jvm.Cond.instanceMethod ({ cls := "VibrationDesk$Group", name := "told", desc := "(II)I" } : Jvm.MethodName)) ∈ lw_all := lw_g (lw_at lw_m7 225 rfl) rfl
theorem q1813 : (Jvm.Cond.selects "VibrationDesk$Group" ({ cls := "VibrationDesk$Group", name := "told", desc := "(II)I" } : Jvm.MethodName) ({ cls := "VibrationDesk$Group", name := "told", desc := "(II)I" } : Jvm.MethodName)) ∈ lw_all := lw_g (lw_at lw_m7 226 rfl) rfl
theorem q1814 : (Jvm.Cond.code ({ cls := "VibrationDesk$Group", name := "told", desc := "(II)I" } : Jvm.MethodName) prog_6_method_28_code (5 : Nat) (Option.some Jvm.ClassFile.FieldType.int)) ∈ lw_all := lw_g (lw_at lw_m7 227 rfl) rfl
theorem in_X3 : ∀ w ∈ wsX30, w ∈ lw_all := lw_in wsX30 [494, 496, 498, 500, 502, 504, 506, 508, 510, 512, 514, 516, 518, 520, 522, 524, 526, 528, 530] (by decide +kernel) (by decide +kernel)
