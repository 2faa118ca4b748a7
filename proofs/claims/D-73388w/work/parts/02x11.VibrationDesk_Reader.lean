/-! VibrationDesk$Reader -/
set_option maxRecDepth 100000
def RX11 : String := "VibrationDesk$Reader"
def TX11 : u_T := fun k => match k with
  | 0 => ("VibrationDesk$Reader", "size", "I", true)
  | 1 => ("VibrationDesk$Reader", "into", "LVibrationDesk$Frame;", true)
  | 2 => ("VibrationDesk$Reader", "at", "I", false)
  | 3 => ("VibrationDesk$Reader", "behind", "I", false)
  | 4 => ("VibrationDesk$Reader", "number", "I", false)
  | 5 => ("VibrationDesk$Reader", "sort", "C", false)
  | 6 => ("VibrationDesk$Reader", "word", "Ljava/lang/String;", false)
  | _ => ("VibrationDesk$Reader", "this$0", "LVibrationDesk;", true)
def tyX11 : Nat → FieldType := fun k => match k with
  | 0 => .int
  | 1 => .object "VibrationDesk$Frame"
  | 2 => .int
  | 3 => .int
  | 4 => .int
  | 5 => .char
  | 6 => .object "java/lang/String"
  | _ => .object "VibrationDesk"
abbrev wsX110 : List Cond := u_ws RX11 TX11 8
theorem nmX11 : ∀ a, a < 8 → ∀ b, b < 8 → a ≠ b → (TX11 a).2.1 ≠ (TX11 b).2.1 := by decide +kernel
theorem tyX11_ok : ∀ k, k < 8 → parseFieldDescriptor (TX11 k).2.2.1 = some (tyX11 k) := by decide +kernel
abbrev cX11_init : ByteArray := prog_11_method_1_code
def yX11_init : MethodName := ⟨RX11, "<init>", "(LVibrationDesk;ILVibrationDesk$Frame;)V"⟩
def dkwX11_init_1 : List UInt8 := [181, 0, 25, 42, 182, 0, 29, 177]
abbrev dktX11_init_1 : List UInt8 := dkwX11_init_1 ++ []
def dkwX11_init_0 : List UInt8 := [42, 43, 181, 0, 3, 42, 183, 0, 9, 42, 18, 15, 181, 0, 17, 42, 28, 181, 0, 21, 42, 45]
abbrev dktX11_init_0 : List UInt8 := dkwX11_init_0 ++ dktX11_init_1
theorem dksX11_init_0 : cX11_init.data.toList.drop 0 = dktX11_init_0 := by decide +kernel
theorem dksX11_init_1 : cX11_init.data.toList.drop 22 = dktX11_init_1 := dk_seg dksX11_init_0 22 rfl rfl
theorem dX11_init_0 : decode cX11_init 0 = .ok (.aload_n 0, 1) := dk_42 (dk_at dksX11_init_0 0 rfl rfl)
theorem dX11_init_1 : decode cX11_init 1 = .ok (.aload_n 1, 1) := dk_43 (dk_at dksX11_init_0 1 rfl rfl)
theorem dX11_init_2 : decode cX11_init 2 = .ok (.putfield 3, 3) := dk_181 0 3 (dk_at dksX11_init_0 2 rfl rfl)
theorem dX11_init_5 : decode cX11_init 5 = .ok (.aload_n 0, 1) := dk_42 (dk_at dksX11_init_0 5 rfl rfl)
theorem dX11_init_6 : decode cX11_init 6 = .ok (.invokespecial 9, 3) := dk_183 0 9 (dk_at dksX11_init_0 6 rfl rfl)
theorem dX11_init_9 : decode cX11_init 9 = .ok (.aload_n 0, 1) := dk_42 (dk_at dksX11_init_0 9 rfl rfl)
theorem dX11_init_10 : decode cX11_init 10 = .ok (.ldc 15, 2) := dk_18 15 (dk_at dksX11_init_0 10 rfl rfl)
theorem dX11_init_12 : decode cX11_init 12 = .ok (.putfield 17, 3) := dk_181 0 17 (dk_at dksX11_init_0 12 rfl rfl)
theorem dX11_init_15 : decode cX11_init 15 = .ok (.aload_n 0, 1) := dk_42 (dk_at dksX11_init_0 15 rfl rfl)
theorem dX11_init_16 : decode cX11_init 16 = .ok (.iload_n 2, 1) := dk_28 (dk_at dksX11_init_0 16 rfl rfl)
theorem dX11_init_17 : decode cX11_init 17 = .ok (.putfield 21, 3) := dk_181 0 21 (dk_at dksX11_init_0 17 rfl rfl)
theorem dX11_init_20 : decode cX11_init 20 = .ok (.aload_n 0, 1) := dk_42 (dk_at dksX11_init_0 20 rfl rfl)
theorem dX11_init_21 : decode cX11_init 21 = .ok (.aload_n 3, 1) := dk_45 (dk_at dksX11_init_0 21 rfl rfl)
theorem dX11_init_22 : decode cX11_init 22 = .ok (.putfield 25, 3) := dk_181 0 25 (dk_at dksX11_init_1 0 rfl rfl)
theorem dX11_init_25 : decode cX11_init 25 = .ok (.aload_n 0, 1) := dk_42 (dk_at dksX11_init_1 3 rfl rfl)
theorem dX11_init_26 : decode cX11_init 26 = .ok (.invokevirtual 29, 3) := dk_182 0 29 (dk_at dksX11_init_1 4 rfl rfl)
theorem dX11_init_29 : decode cX11_init 29 = .ok (.return_, 1) := dk_177 (dk_at dksX11_init_1 7 rfl rfl)
abbrev cX11_reads : ByteArray := prog_11_method_5_code
def yX11_reads : MethodName := ⟨RX11, "reads", "()V"⟩
def dkwX11_reads_8 : List UInt8 := [16, 59, 160, 0, 8, 16, 115, 167, 0, 5, 16, 98, 181, 0, 46, 177]
abbrev dktX11_reads_8 : List UInt8 := dkwX11_reads_8 ++ []
def dkwX11_reads_7 : List UInt8 := [4, 96, 182, 0, 57, 153, 0, 10, 42, 182, 0, 60, 167, 0, 27, 42, 42, 42, 180, 0, 43, 182, 0, 36]
abbrev dktX11_reads_7 : List UInt8 := dkwX11_reads_7 ++ dktX11_reads_8
def dkwX11_reads_6 : List UInt8 := [182, 0, 57, 154, 0, 29, 42, 42, 180, 0, 43, 182, 0, 36, 16, 45, 160, 0, 23, 42, 42, 180, 0, 43]
abbrev dktX11_reads_6 : List UInt8 := dkwX11_reads_6 ++ dktX11_reads_7
def dkwX11_reads_5 : List UInt8 := [42, 180, 0, 43, 182, 0, 50, 153, 0, 10, 42, 182, 0, 54, 167, 0, 71, 42, 42, 180, 0, 43]
abbrev dktX11_reads_5 : List UInt8 := dkwX11_reads_5 ++ dktX11_reads_6
def dkwX11_reads_4 : List UInt8 := [180, 0, 21, 181, 0, 43, 42, 42, 180, 0, 21, 181, 0, 40, 42, 16, 101, 181, 0, 46, 167, 0, 89, 42]
abbrev dktX11_reads_4 : List UInt8 := dkwX11_reads_4 ++ dktX11_reads_5
def dkwX11_reads_3 : List UInt8 := [4, 96, 181, 0, 40, 42, 18, 15, 181, 0, 17, 42, 180, 0, 43, 42, 180, 0, 21, 161, 0, 28, 42, 42]
abbrev dktX11_reads_3 : List UInt8 := dkwX11_reads_3 ++ dktX11_reads_4
def dkwX11_reads_2 : List UInt8 := [51, 16, 32, 160, 0, 16, 42, 89, 180, 0, 43, 4, 96, 181, 0, 43, 167, 255, 201, 42, 42, 180, 0, 43]
abbrev dktX11_reads_2 : List UInt8 := dkwX11_reads_2 ++ dktX11_reads_3
def dkwX11_reads_1 : List UInt8 := [180, 0, 32, 42, 180, 0, 43, 51, 16, 10, 159, 0, 20, 42, 180, 0, 3, 180, 0, 32, 42, 180, 0, 43]
abbrev dktX11_reads_1 : List UInt8 := dkwX11_reads_1 ++ dktX11_reads_2
def dkwX11_reads_0 : List UInt8 := [42, 42, 180, 0, 40, 181, 0, 43, 42, 180, 0, 43, 42, 180, 0, 21, 162, 0, 50, 42, 180, 0, 3]
abbrev dktX11_reads_0 : List UInt8 := dkwX11_reads_0 ++ dktX11_reads_1
theorem dksX11_reads_0 : cX11_reads.data.toList.drop 0 = dktX11_reads_0 := by decide +kernel
theorem dksX11_reads_1 : cX11_reads.data.toList.drop 23 = dktX11_reads_1 := dk_seg dksX11_reads_0 23 rfl rfl
theorem dksX11_reads_2 : cX11_reads.data.toList.drop 47 = dktX11_reads_2 := dk_seg dksX11_reads_1 24 rfl rfl
theorem dksX11_reads_3 : cX11_reads.data.toList.drop 71 = dktX11_reads_3 := dk_seg dksX11_reads_2 24 rfl rfl
theorem dksX11_reads_4 : cX11_reads.data.toList.drop 95 = dktX11_reads_4 := dk_seg dksX11_reads_3 24 rfl rfl
theorem dksX11_reads_5 : cX11_reads.data.toList.drop 119 = dktX11_reads_5 := dk_seg dksX11_reads_4 24 rfl rfl
theorem dksX11_reads_6 : cX11_reads.data.toList.drop 141 = dktX11_reads_6 := dk_seg dksX11_reads_5 22 rfl rfl
theorem dksX11_reads_7 : cX11_reads.data.toList.drop 165 = dktX11_reads_7 := dk_seg dksX11_reads_6 24 rfl rfl
theorem dksX11_reads_8 : cX11_reads.data.toList.drop 189 = dktX11_reads_8 := dk_seg dksX11_reads_7 24 rfl rfl
theorem dX11_reads_0 : decode cX11_reads 0 = .ok (.aload_n 0, 1) := dk_42 (dk_at dksX11_reads_0 0 rfl rfl)
theorem dX11_reads_1 : decode cX11_reads 1 = .ok (.aload_n 0, 1) := dk_42 (dk_at dksX11_reads_0 1 rfl rfl)
theorem dX11_reads_2 : decode cX11_reads 2 = .ok (.getfield 40, 3) := dk_180 0 40 (dk_at dksX11_reads_0 2 rfl rfl)
theorem dX11_reads_5 : decode cX11_reads 5 = .ok (.putfield 43, 3) := dk_181 0 43 (dk_at dksX11_reads_0 5 rfl rfl)
theorem dX11_reads_8 : decode cX11_reads 8 = .ok (.aload_n 0, 1) := dk_42 (dk_at dksX11_reads_0 8 rfl rfl)
theorem dX11_reads_9 : decode cX11_reads 9 = .ok (.getfield 43, 3) := dk_180 0 43 (dk_at dksX11_reads_0 9 rfl rfl)
theorem dX11_reads_12 : decode cX11_reads 12 = .ok (.aload_n 0, 1) := dk_42 (dk_at dksX11_reads_0 12 rfl rfl)
theorem dX11_reads_13 : decode cX11_reads 13 = .ok (.getfield 21, 3) := dk_180 0 21 (dk_at dksX11_reads_0 13 rfl rfl)
theorem dX11_reads_16 : decode cX11_reads 16 = .ok (.if_icmp .ge 50, 3) := dk_162 0 50 (dk_at dksX11_reads_0 16 rfl rfl)
theorem dX11_reads_19 : decode cX11_reads 19 = .ok (.aload_n 0, 1) := dk_42 (dk_at dksX11_reads_0 19 rfl rfl)
theorem dX11_reads_20 : decode cX11_reads 20 = .ok (.getfield 3, 3) := dk_180 0 3 (dk_at dksX11_reads_0 20 rfl rfl)
theorem dX11_reads_23 : decode cX11_reads 23 = .ok (.getfield 32, 3) := dk_180 0 32 (dk_at dksX11_reads_1 0 rfl rfl)
theorem dX11_reads_26 : decode cX11_reads 26 = .ok (.aload_n 0, 1) := dk_42 (dk_at dksX11_reads_1 3 rfl rfl)
theorem dX11_reads_27 : decode cX11_reads 27 = .ok (.getfield 43, 3) := dk_180 0 43 (dk_at dksX11_reads_1 4 rfl rfl)
theorem dX11_reads_30 : decode cX11_reads 30 = .ok (.baload, 1) := dk_51 (dk_at dksX11_reads_1 7 rfl rfl)
theorem dX11_reads_31 : decode cX11_reads 31 = .ok (.bipush 10, 2) := dk_16 10 (dk_at dksX11_reads_1 8 rfl rfl)
theorem dX11_reads_33 : decode cX11_reads 33 = .ok (.if_icmp .eq 20, 3) := dk_159 0 20 (dk_at dksX11_reads_1 10 rfl rfl)
theorem dX11_reads_36 : decode cX11_reads 36 = .ok (.aload_n 0, 1) := dk_42 (dk_at dksX11_reads_1 13 rfl rfl)
theorem dX11_reads_37 : decode cX11_reads 37 = .ok (.getfield 3, 3) := dk_180 0 3 (dk_at dksX11_reads_1 14 rfl rfl)
theorem dX11_reads_40 : decode cX11_reads 40 = .ok (.getfield 32, 3) := dk_180 0 32 (dk_at dksX11_reads_1 17 rfl rfl)
theorem dX11_reads_43 : decode cX11_reads 43 = .ok (.aload_n 0, 1) := dk_42 (dk_at dksX11_reads_1 20 rfl rfl)
theorem dX11_reads_44 : decode cX11_reads 44 = .ok (.getfield 43, 3) := dk_180 0 43 (dk_at dksX11_reads_1 21 rfl rfl)
theorem dX11_reads_47 : decode cX11_reads 47 = .ok (.baload, 1) := dk_51 (dk_at dksX11_reads_2 0 rfl rfl)
theorem dX11_reads_48 : decode cX11_reads 48 = .ok (.bipush 32, 2) := dk_16 32 (dk_at dksX11_reads_2 1 rfl rfl)
theorem dX11_reads_50 : decode cX11_reads 50 = .ok (.if_icmp .ne 16, 3) := dk_160 0 16 (dk_at dksX11_reads_2 3 rfl rfl)
theorem dX11_reads_53 : decode cX11_reads 53 = .ok (.aload_n 0, 1) := dk_42 (dk_at dksX11_reads_2 6 rfl rfl)
theorem dX11_reads_54 : decode cX11_reads 54 = .ok (.dup, 1) := dk_89 (dk_at dksX11_reads_2 7 rfl rfl)
theorem dX11_reads_55 : decode cX11_reads 55 = .ok (.getfield 43, 3) := dk_180 0 43 (dk_at dksX11_reads_2 8 rfl rfl)
theorem dX11_reads_58 : decode cX11_reads 58 = .ok (.iconst 1, 1) := dk_4 (dk_at dksX11_reads_2 11 rfl rfl)
theorem dX11_reads_59 : decode cX11_reads 59 = .ok (.iadd, 1) := dk_96 (dk_at dksX11_reads_2 12 rfl rfl)
theorem dX11_reads_60 : decode cX11_reads 60 = .ok (.putfield 43, 3) := dk_181 0 43 (dk_at dksX11_reads_2 13 rfl rfl)
theorem dX11_reads_63 : decode cX11_reads 63 = .ok (.goto (-55), 3) := dk_167 255 201 (dk_at dksX11_reads_2 16 rfl rfl)
theorem dX11_reads_66 : decode cX11_reads 66 = .ok (.aload_n 0, 1) := dk_42 (dk_at dksX11_reads_2 19 rfl rfl)
theorem dX11_reads_67 : decode cX11_reads 67 = .ok (.aload_n 0, 1) := dk_42 (dk_at dksX11_reads_2 20 rfl rfl)
theorem dX11_reads_68 : decode cX11_reads 68 = .ok (.getfield 43, 3) := dk_180 0 43 (dk_at dksX11_reads_2 21 rfl rfl)
theorem dX11_reads_71 : decode cX11_reads 71 = .ok (.iconst 1, 1) := dk_4 (dk_at dksX11_reads_3 0 rfl rfl)
theorem dX11_reads_72 : decode cX11_reads 72 = .ok (.iadd, 1) := dk_96 (dk_at dksX11_reads_3 1 rfl rfl)
theorem dX11_reads_73 : decode cX11_reads 73 = .ok (.putfield 40, 3) := dk_181 0 40 (dk_at dksX11_reads_3 2 rfl rfl)
theorem dX11_reads_76 : decode cX11_reads 76 = .ok (.aload_n 0, 1) := dk_42 (dk_at dksX11_reads_3 5 rfl rfl)
theorem dX11_reads_77 : decode cX11_reads 77 = .ok (.ldc 15, 2) := dk_18 15 (dk_at dksX11_reads_3 6 rfl rfl)
theorem dX11_reads_79 : decode cX11_reads 79 = .ok (.putfield 17, 3) := dk_181 0 17 (dk_at dksX11_reads_3 8 rfl rfl)
theorem dX11_reads_82 : decode cX11_reads 82 = .ok (.aload_n 0, 1) := dk_42 (dk_at dksX11_reads_3 11 rfl rfl)
theorem dX11_reads_83 : decode cX11_reads 83 = .ok (.getfield 43, 3) := dk_180 0 43 (dk_at dksX11_reads_3 12 rfl rfl)
theorem dX11_reads_86 : decode cX11_reads 86 = .ok (.aload_n 0, 1) := dk_42 (dk_at dksX11_reads_3 15 rfl rfl)
theorem dX11_reads_87 : decode cX11_reads 87 = .ok (.getfield 21, 3) := dk_180 0 21 (dk_at dksX11_reads_3 16 rfl rfl)
theorem dX11_reads_90 : decode cX11_reads 90 = .ok (.if_icmp .lt 28, 3) := dk_161 0 28 (dk_at dksX11_reads_3 19 rfl rfl)
theorem dX11_reads_93 : decode cX11_reads 93 = .ok (.aload_n 0, 1) := dk_42 (dk_at dksX11_reads_3 22 rfl rfl)
theorem dX11_reads_94 : decode cX11_reads 94 = .ok (.aload_n 0, 1) := dk_42 (dk_at dksX11_reads_3 23 rfl rfl)
theorem dX11_reads_95 : decode cX11_reads 95 = .ok (.getfield 21, 3) := dk_180 0 21 (dk_at dksX11_reads_4 0 rfl rfl)
theorem dX11_reads_98 : decode cX11_reads 98 = .ok (.putfield 43, 3) := dk_181 0 43 (dk_at dksX11_reads_4 3 rfl rfl)
theorem dX11_reads_101 : decode cX11_reads 101 = .ok (.aload_n 0, 1) := dk_42 (dk_at dksX11_reads_4 6 rfl rfl)
theorem dX11_reads_102 : decode cX11_reads 102 = .ok (.aload_n 0, 1) := dk_42 (dk_at dksX11_reads_4 7 rfl rfl)
theorem dX11_reads_103 : decode cX11_reads 103 = .ok (.getfield 21, 3) := dk_180 0 21 (dk_at dksX11_reads_4 8 rfl rfl)
theorem dX11_reads_106 : decode cX11_reads 106 = .ok (.putfield 40, 3) := dk_181 0 40 (dk_at dksX11_reads_4 11 rfl rfl)
theorem dX11_reads_109 : decode cX11_reads 109 = .ok (.aload_n 0, 1) := dk_42 (dk_at dksX11_reads_4 14 rfl rfl)
theorem dX11_reads_110 : decode cX11_reads 110 = .ok (.bipush 101, 2) := dk_16 101 (dk_at dksX11_reads_4 15 rfl rfl)
theorem dX11_reads_112 : decode cX11_reads 112 = .ok (.putfield 46, 3) := dk_181 0 46 (dk_at dksX11_reads_4 17 rfl rfl)
theorem dX11_reads_115 : decode cX11_reads 115 = .ok (.goto 89, 3) := dk_167 0 89 (dk_at dksX11_reads_4 20 rfl rfl)
theorem dX11_reads_118 : decode cX11_reads 118 = .ok (.aload_n 0, 1) := dk_42 (dk_at dksX11_reads_4 23 rfl rfl)
theorem dX11_reads_119 : decode cX11_reads 119 = .ok (.aload_n 0, 1) := dk_42 (dk_at dksX11_reads_5 0 rfl rfl)
theorem dX11_reads_120 : decode cX11_reads 120 = .ok (.getfield 43, 3) := dk_180 0 43 (dk_at dksX11_reads_5 1 rfl rfl)
theorem dX11_reads_123 : decode cX11_reads 123 = .ok (.invokevirtual 50, 3) := dk_182 0 50 (dk_at dksX11_reads_5 4 rfl rfl)
theorem dX11_reads_126 : decode cX11_reads 126 = .ok (.ifCond .eq 10, 3) := dk_153 0 10 (dk_at dksX11_reads_5 7 rfl rfl)
theorem dX11_reads_129 : decode cX11_reads 129 = .ok (.aload_n 0, 1) := dk_42 (dk_at dksX11_reads_5 10 rfl rfl)
theorem dX11_reads_130 : decode cX11_reads 130 = .ok (.invokevirtual 54, 3) := dk_182 0 54 (dk_at dksX11_reads_5 11 rfl rfl)
theorem dX11_reads_133 : decode cX11_reads 133 = .ok (.goto 71, 3) := dk_167 0 71 (dk_at dksX11_reads_5 14 rfl rfl)
theorem dX11_reads_136 : decode cX11_reads 136 = .ok (.aload_n 0, 1) := dk_42 (dk_at dksX11_reads_5 17 rfl rfl)
theorem dX11_reads_137 : decode cX11_reads 137 = .ok (.aload_n 0, 1) := dk_42 (dk_at dksX11_reads_5 18 rfl rfl)
theorem dX11_reads_138 : decode cX11_reads 138 = .ok (.getfield 43, 3) := dk_180 0 43 (dk_at dksX11_reads_5 19 rfl rfl)
theorem dX11_reads_141 : decode cX11_reads 141 = .ok (.invokevirtual 57, 3) := dk_182 0 57 (dk_at dksX11_reads_6 0 rfl rfl)
theorem dX11_reads_144 : decode cX11_reads 144 = .ok (.ifCond .ne 29, 3) := dk_154 0 29 (dk_at dksX11_reads_6 3 rfl rfl)
theorem dX11_reads_147 : decode cX11_reads 147 = .ok (.aload_n 0, 1) := dk_42 (dk_at dksX11_reads_6 6 rfl rfl)
theorem dX11_reads_148 : decode cX11_reads 148 = .ok (.aload_n 0, 1) := dk_42 (dk_at dksX11_reads_6 7 rfl rfl)
theorem dX11_reads_149 : decode cX11_reads 149 = .ok (.getfield 43, 3) := dk_180 0 43 (dk_at dksX11_reads_6 8 rfl rfl)
theorem dX11_reads_152 : decode cX11_reads 152 = .ok (.invokevirtual 36, 3) := dk_182 0 36 (dk_at dksX11_reads_6 11 rfl rfl)
theorem dX11_reads_155 : decode cX11_reads 155 = .ok (.bipush 45, 2) := dk_16 45 (dk_at dksX11_reads_6 14 rfl rfl)
theorem dX11_reads_157 : decode cX11_reads 157 = .ok (.if_icmp .ne 23, 3) := dk_160 0 23 (dk_at dksX11_reads_6 16 rfl rfl)
theorem dX11_reads_160 : decode cX11_reads 160 = .ok (.aload_n 0, 1) := dk_42 (dk_at dksX11_reads_6 19 rfl rfl)
theorem dX11_reads_161 : decode cX11_reads 161 = .ok (.aload_n 0, 1) := dk_42 (dk_at dksX11_reads_6 20 rfl rfl)
theorem dX11_reads_162 : decode cX11_reads 162 = .ok (.getfield 43, 3) := dk_180 0 43 (dk_at dksX11_reads_6 21 rfl rfl)
theorem dX11_reads_165 : decode cX11_reads 165 = .ok (.iconst 1, 1) := dk_4 (dk_at dksX11_reads_7 0 rfl rfl)
theorem dX11_reads_166 : decode cX11_reads 166 = .ok (.iadd, 1) := dk_96 (dk_at dksX11_reads_7 1 rfl rfl)
theorem dX11_reads_167 : decode cX11_reads 167 = .ok (.invokevirtual 57, 3) := dk_182 0 57 (dk_at dksX11_reads_7 2 rfl rfl)
theorem dX11_reads_170 : decode cX11_reads 170 = .ok (.ifCond .eq 10, 3) := dk_153 0 10 (dk_at dksX11_reads_7 5 rfl rfl)
theorem dX11_reads_173 : decode cX11_reads 173 = .ok (.aload_n 0, 1) := dk_42 (dk_at dksX11_reads_7 8 rfl rfl)
theorem dX11_reads_174 : decode cX11_reads 174 = .ok (.invokevirtual 60, 3) := dk_182 0 60 (dk_at dksX11_reads_7 9 rfl rfl)
theorem dX11_reads_177 : decode cX11_reads 177 = .ok (.goto 27, 3) := dk_167 0 27 (dk_at dksX11_reads_7 12 rfl rfl)
theorem dX11_reads_180 : decode cX11_reads 180 = .ok (.aload_n 0, 1) := dk_42 (dk_at dksX11_reads_7 15 rfl rfl)
theorem dX11_reads_181 : decode cX11_reads 181 = .ok (.aload_n 0, 1) := dk_42 (dk_at dksX11_reads_7 16 rfl rfl)
theorem dX11_reads_182 : decode cX11_reads 182 = .ok (.aload_n 0, 1) := dk_42 (dk_at dksX11_reads_7 17 rfl rfl)
theorem dX11_reads_183 : decode cX11_reads 183 = .ok (.getfield 43, 3) := dk_180 0 43 (dk_at dksX11_reads_7 18 rfl rfl)
theorem dX11_reads_186 : decode cX11_reads 186 = .ok (.invokevirtual 36, 3) := dk_182 0 36 (dk_at dksX11_reads_7 21 rfl rfl)
theorem dX11_reads_189 : decode cX11_reads 189 = .ok (.bipush 59, 2) := dk_16 59 (dk_at dksX11_reads_8 0 rfl rfl)
theorem dX11_reads_191 : decode cX11_reads 191 = .ok (.if_icmp .ne 8, 3) := dk_160 0 8 (dk_at dksX11_reads_8 2 rfl rfl)
theorem dX11_reads_194 : decode cX11_reads 194 = .ok (.bipush 115, 2) := dk_16 115 (dk_at dksX11_reads_8 5 rfl rfl)
theorem dX11_reads_196 : decode cX11_reads 196 = .ok (.goto 5, 3) := dk_167 0 5 (dk_at dksX11_reads_8 7 rfl rfl)
theorem dX11_reads_199 : decode cX11_reads 199 = .ok (.bipush 98, 2) := dk_16 98 (dk_at dksX11_reads_8 10 rfl rfl)
theorem dX11_reads_201 : decode cX11_reads 201 = .ok (.putfield 46, 3) := dk_181 0 46 (dk_at dksX11_reads_8 12 rfl rfl)
theorem dX11_reads_204 : decode cX11_reads 204 = .ok (.return_, 1) := dk_177 (dk_at dksX11_reads_8 15 rfl rfl)
abbrev cX11_isLetter : ByteArray := prog_11_method_4_code
def yX11_isLetter : MethodName := ⟨RX11, "isLetter", "(I)Z"⟩
def dkwX11_isLetter_1 : List UInt8 := [3, 172]
abbrev dktX11_isLetter_1 : List UInt8 := dkwX11_isLetter_1 ++ []
def dkwX11_isLetter_0 : List UInt8 := [42, 27, 182, 0, 36, 16, 97, 161, 0, 17, 42, 27, 182, 0, 36, 16, 122, 163, 0, 7, 4, 167, 0, 4]
abbrev dktX11_isLetter_0 : List UInt8 := dkwX11_isLetter_0 ++ dktX11_isLetter_1
theorem dksX11_isLetter_0 : cX11_isLetter.data.toList.drop 0 = dktX11_isLetter_0 := by decide +kernel
theorem dksX11_isLetter_1 : cX11_isLetter.data.toList.drop 24 = dktX11_isLetter_1 := dk_seg dksX11_isLetter_0 24 rfl rfl
theorem dX11_isLetter_0 : decode cX11_isLetter 0 = .ok (.aload_n 0, 1) := dk_42 (dk_at dksX11_isLetter_0 0 rfl rfl)
theorem dX11_isLetter_1 : decode cX11_isLetter 1 = .ok (.iload_n 1, 1) := dk_27 (dk_at dksX11_isLetter_0 1 rfl rfl)
theorem dX11_isLetter_2 : decode cX11_isLetter 2 = .ok (.invokevirtual 36, 3) := dk_182 0 36 (dk_at dksX11_isLetter_0 2 rfl rfl)
theorem dX11_isLetter_5 : decode cX11_isLetter 5 = .ok (.bipush 97, 2) := dk_16 97 (dk_at dksX11_isLetter_0 5 rfl rfl)
theorem dX11_isLetter_7 : decode cX11_isLetter 7 = .ok (.if_icmp .lt 17, 3) := dk_161 0 17 (dk_at dksX11_isLetter_0 7 rfl rfl)
theorem dX11_isLetter_10 : decode cX11_isLetter 10 = .ok (.aload_n 0, 1) := dk_42 (dk_at dksX11_isLetter_0 10 rfl rfl)
theorem dX11_isLetter_11 : decode cX11_isLetter 11 = .ok (.iload_n 1, 1) := dk_27 (dk_at dksX11_isLetter_0 11 rfl rfl)
theorem dX11_isLetter_12 : decode cX11_isLetter 12 = .ok (.invokevirtual 36, 3) := dk_182 0 36 (dk_at dksX11_isLetter_0 12 rfl rfl)
theorem dX11_isLetter_15 : decode cX11_isLetter 15 = .ok (.bipush 122, 2) := dk_16 122 (dk_at dksX11_isLetter_0 15 rfl rfl)
theorem dX11_isLetter_17 : decode cX11_isLetter 17 = .ok (.if_icmp .gt 7, 3) := dk_163 0 7 (dk_at dksX11_isLetter_0 17 rfl rfl)
theorem dX11_isLetter_20 : decode cX11_isLetter 20 = .ok (.iconst 1, 1) := dk_4 (dk_at dksX11_isLetter_0 20 rfl rfl)
theorem dX11_isLetter_21 : decode cX11_isLetter 21 = .ok (.goto 4, 3) := dk_167 0 4 (dk_at dksX11_isLetter_0 21 rfl rfl)
theorem dX11_isLetter_24 : decode cX11_isLetter 24 = .ok (.iconst 0, 1) := dk_3 (dk_at dksX11_isLetter_1 0 rfl rfl)
theorem dX11_isLetter_25 : decode cX11_isLetter 25 = .ok (.ireturn, 1) := dk_172 (dk_at dksX11_isLetter_1 1 rfl rfl)
abbrev cX11_signAt : ByteArray := prog_11_method_2_code
def yX11_signAt : MethodName := ⟨RX11, "signAt", "(I)C"⟩
def dkwX11_signAt_1 : List UInt8 := [167, 0, 4, 3, 172]
abbrev dktX11_signAt_1 : List UInt8 := dkwX11_signAt_1 ++ []
def dkwX11_signAt_0 : List UInt8 := [27, 42, 180, 0, 21, 162, 0, 20, 42, 180, 0, 3, 180, 0, 32, 27, 51, 17, 0, 255, 126, 146]
abbrev dktX11_signAt_0 : List UInt8 := dkwX11_signAt_0 ++ dktX11_signAt_1
theorem dksX11_signAt_0 : cX11_signAt.data.toList.drop 0 = dktX11_signAt_0 := by decide +kernel
theorem dksX11_signAt_1 : cX11_signAt.data.toList.drop 22 = dktX11_signAt_1 := dk_seg dksX11_signAt_0 22 rfl rfl
theorem dX11_signAt_0 : decode cX11_signAt 0 = .ok (.iload_n 1, 1) := dk_27 (dk_at dksX11_signAt_0 0 rfl rfl)
theorem dX11_signAt_1 : decode cX11_signAt 1 = .ok (.aload_n 0, 1) := dk_42 (dk_at dksX11_signAt_0 1 rfl rfl)
theorem dX11_signAt_2 : decode cX11_signAt 2 = .ok (.getfield 21, 3) := dk_180 0 21 (dk_at dksX11_signAt_0 2 rfl rfl)
theorem dX11_signAt_5 : decode cX11_signAt 5 = .ok (.if_icmp .ge 20, 3) := dk_162 0 20 (dk_at dksX11_signAt_0 5 rfl rfl)
theorem dX11_signAt_8 : decode cX11_signAt 8 = .ok (.aload_n 0, 1) := dk_42 (dk_at dksX11_signAt_0 8 rfl rfl)
theorem dX11_signAt_9 : decode cX11_signAt 9 = .ok (.getfield 3, 3) := dk_180 0 3 (dk_at dksX11_signAt_0 9 rfl rfl)
theorem dX11_signAt_12 : decode cX11_signAt 12 = .ok (.getfield 32, 3) := dk_180 0 32 (dk_at dksX11_signAt_0 12 rfl rfl)
theorem dX11_signAt_15 : decode cX11_signAt 15 = .ok (.iload_n 1, 1) := dk_27 (dk_at dksX11_signAt_0 15 rfl rfl)
theorem dX11_signAt_16 : decode cX11_signAt 16 = .ok (.baload, 1) := dk_51 (dk_at dksX11_signAt_0 16 rfl rfl)
theorem dX11_signAt_17 : decode cX11_signAt 17 = .ok (.sipush 255, 3) := dk_17 0 255 (dk_at dksX11_signAt_0 17 rfl rfl)
theorem dX11_signAt_20 : decode cX11_signAt 20 = .ok (.iand, 1) := dk_126 (dk_at dksX11_signAt_0 20 rfl rfl)
theorem dX11_signAt_21 : decode cX11_signAt 21 = .ok (.i2c, 1) := dk_146 (dk_at dksX11_signAt_0 21 rfl rfl)
theorem dX11_signAt_22 : decode cX11_signAt 22 = .ok (.goto 4, 3) := dk_167 0 4 (dk_at dksX11_signAt_1 0 rfl rfl)
theorem dX11_signAt_25 : decode cX11_signAt 25 = .ok (.iconst 0, 1) := dk_3 (dk_at dksX11_signAt_1 3 rfl rfl)
theorem dX11_signAt_26 : decode cX11_signAt 26 = .ok (.ireturn, 1) := dk_172 (dk_at dksX11_signAt_1 4 rfl rfl)
abbrev cX11_readWord : ByteArray := prog_11_method_6_code
def yX11_readWord : MethodName := ⟨RX11, "readWord", "()V"⟩
def dkwX11_readWord_3 : List UInt8 := [180, 0, 3, 180, 0, 63, 182, 0, 77, 181, 0, 17, 177]
abbrev dktX11_readWord_3 : List UInt8 := dkwX11_readWord_3 ++ []
def dkwX11_readWord_2 : List UInt8 := [87, 42, 89, 180, 0, 40, 4, 96, 181, 0, 40, 167, 255, 216, 42, 16, 119, 181, 0, 46, 42, 42]
abbrev dktX11_readWord_2 : List UInt8 := dkwX11_readWord_2 ++ dktX11_readWord_3
def dkwX11_readWord_1 : List UInt8 := [182, 0, 50, 153, 0, 35, 42, 180, 0, 3, 180, 0, 63, 42, 42, 180, 0, 40, 182, 0, 36, 182, 0, 73]
abbrev dktX11_readWord_1 : List UInt8 := dkwX11_readWord_1 ++ dktX11_readWord_2
def dkwX11_readWord_0 : List UInt8 := [42, 180, 0, 3, 180, 0, 63, 3, 182, 0, 67, 42, 42, 180, 0, 43, 181, 0, 40, 42, 42, 180, 0, 40]
abbrev dktX11_readWord_0 : List UInt8 := dkwX11_readWord_0 ++ dktX11_readWord_1
theorem dksX11_readWord_0 : cX11_readWord.data.toList.drop 0 = dktX11_readWord_0 := by decide +kernel
theorem dksX11_readWord_1 : cX11_readWord.data.toList.drop 24 = dktX11_readWord_1 := dk_seg dksX11_readWord_0 24 rfl rfl
theorem dksX11_readWord_2 : cX11_readWord.data.toList.drop 48 = dktX11_readWord_2 := dk_seg dksX11_readWord_1 24 rfl rfl
theorem dksX11_readWord_3 : cX11_readWord.data.toList.drop 70 = dktX11_readWord_3 := dk_seg dksX11_readWord_2 22 rfl rfl
theorem dX11_readWord_0 : decode cX11_readWord 0 = .ok (.aload_n 0, 1) := dk_42 (dk_at dksX11_readWord_0 0 rfl rfl)
theorem dX11_readWord_1 : decode cX11_readWord 1 = .ok (.getfield 3, 3) := dk_180 0 3 (dk_at dksX11_readWord_0 1 rfl rfl)
theorem dX11_readWord_4 : decode cX11_readWord 4 = .ok (.getfield 63, 3) := dk_180 0 63 (dk_at dksX11_readWord_0 4 rfl rfl)
theorem dX11_readWord_7 : decode cX11_readWord 7 = .ok (.iconst 0, 1) := dk_3 (dk_at dksX11_readWord_0 7 rfl rfl)
theorem dX11_readWord_8 : decode cX11_readWord 8 = .ok (.invokevirtual 67, 3) := dk_182 0 67 (dk_at dksX11_readWord_0 8 rfl rfl)
theorem dX11_readWord_11 : decode cX11_readWord 11 = .ok (.aload_n 0, 1) := dk_42 (dk_at dksX11_readWord_0 11 rfl rfl)
theorem dX11_readWord_12 : decode cX11_readWord 12 = .ok (.aload_n 0, 1) := dk_42 (dk_at dksX11_readWord_0 12 rfl rfl)
theorem dX11_readWord_13 : decode cX11_readWord 13 = .ok (.getfield 43, 3) := dk_180 0 43 (dk_at dksX11_readWord_0 13 rfl rfl)
theorem dX11_readWord_16 : decode cX11_readWord 16 = .ok (.putfield 40, 3) := dk_181 0 40 (dk_at dksX11_readWord_0 16 rfl rfl)
theorem dX11_readWord_19 : decode cX11_readWord 19 = .ok (.aload_n 0, 1) := dk_42 (dk_at dksX11_readWord_0 19 rfl rfl)
theorem dX11_readWord_20 : decode cX11_readWord 20 = .ok (.aload_n 0, 1) := dk_42 (dk_at dksX11_readWord_0 20 rfl rfl)
theorem dX11_readWord_21 : decode cX11_readWord 21 = .ok (.getfield 40, 3) := dk_180 0 40 (dk_at dksX11_readWord_0 21 rfl rfl)
theorem dX11_readWord_24 : decode cX11_readWord 24 = .ok (.invokevirtual 50, 3) := dk_182 0 50 (dk_at dksX11_readWord_1 0 rfl rfl)
theorem dX11_readWord_27 : decode cX11_readWord 27 = .ok (.ifCond .eq 35, 3) := dk_153 0 35 (dk_at dksX11_readWord_1 3 rfl rfl)
theorem dX11_readWord_30 : decode cX11_readWord 30 = .ok (.aload_n 0, 1) := dk_42 (dk_at dksX11_readWord_1 6 rfl rfl)
theorem dX11_readWord_31 : decode cX11_readWord 31 = .ok (.getfield 3, 3) := dk_180 0 3 (dk_at dksX11_readWord_1 7 rfl rfl)
theorem dX11_readWord_34 : decode cX11_readWord 34 = .ok (.getfield 63, 3) := dk_180 0 63 (dk_at dksX11_readWord_1 10 rfl rfl)
theorem dX11_readWord_37 : decode cX11_readWord 37 = .ok (.aload_n 0, 1) := dk_42 (dk_at dksX11_readWord_1 13 rfl rfl)
theorem dX11_readWord_38 : decode cX11_readWord 38 = .ok (.aload_n 0, 1) := dk_42 (dk_at dksX11_readWord_1 14 rfl rfl)
theorem dX11_readWord_39 : decode cX11_readWord 39 = .ok (.getfield 40, 3) := dk_180 0 40 (dk_at dksX11_readWord_1 15 rfl rfl)
theorem dX11_readWord_42 : decode cX11_readWord 42 = .ok (.invokevirtual 36, 3) := dk_182 0 36 (dk_at dksX11_readWord_1 18 rfl rfl)
theorem dX11_readWord_45 : decode cX11_readWord 45 = .ok (.invokevirtual 73, 3) := dk_182 0 73 (dk_at dksX11_readWord_1 21 rfl rfl)
theorem dX11_readWord_48 : decode cX11_readWord 48 = .ok (.pop, 1) := dk_87 (dk_at dksX11_readWord_2 0 rfl rfl)
theorem dX11_readWord_49 : decode cX11_readWord 49 = .ok (.aload_n 0, 1) := dk_42 (dk_at dksX11_readWord_2 1 rfl rfl)
theorem dX11_readWord_50 : decode cX11_readWord 50 = .ok (.dup, 1) := dk_89 (dk_at dksX11_readWord_2 2 rfl rfl)
theorem dX11_readWord_51 : decode cX11_readWord 51 = .ok (.getfield 40, 3) := dk_180 0 40 (dk_at dksX11_readWord_2 3 rfl rfl)
theorem dX11_readWord_54 : decode cX11_readWord 54 = .ok (.iconst 1, 1) := dk_4 (dk_at dksX11_readWord_2 6 rfl rfl)
theorem dX11_readWord_55 : decode cX11_readWord 55 = .ok (.iadd, 1) := dk_96 (dk_at dksX11_readWord_2 7 rfl rfl)
theorem dX11_readWord_56 : decode cX11_readWord 56 = .ok (.putfield 40, 3) := dk_181 0 40 (dk_at dksX11_readWord_2 8 rfl rfl)
theorem dX11_readWord_59 : decode cX11_readWord 59 = .ok (.goto (-40), 3) := dk_167 255 216 (dk_at dksX11_readWord_2 11 rfl rfl)
theorem dX11_readWord_62 : decode cX11_readWord 62 = .ok (.aload_n 0, 1) := dk_42 (dk_at dksX11_readWord_2 14 rfl rfl)
theorem dX11_readWord_63 : decode cX11_readWord 63 = .ok (.bipush 119, 2) := dk_16 119 (dk_at dksX11_readWord_2 15 rfl rfl)
theorem dX11_readWord_65 : decode cX11_readWord 65 = .ok (.putfield 46, 3) := dk_181 0 46 (dk_at dksX11_readWord_2 17 rfl rfl)
theorem dX11_readWord_68 : decode cX11_readWord 68 = .ok (.aload_n 0, 1) := dk_42 (dk_at dksX11_readWord_2 20 rfl rfl)
theorem dX11_readWord_69 : decode cX11_readWord 69 = .ok (.aload_n 0, 1) := dk_42 (dk_at dksX11_readWord_2 21 rfl rfl)
theorem dX11_readWord_70 : decode cX11_readWord 70 = .ok (.getfield 3, 3) := dk_180 0 3 (dk_at dksX11_readWord_3 0 rfl rfl)
theorem dX11_readWord_73 : decode cX11_readWord 73 = .ok (.getfield 63, 3) := dk_180 0 63 (dk_at dksX11_readWord_3 3 rfl rfl)
theorem dX11_readWord_76 : decode cX11_readWord 76 = .ok (.invokevirtual 77, 3) := dk_182 0 77 (dk_at dksX11_readWord_3 6 rfl rfl)
theorem dX11_readWord_79 : decode cX11_readWord 79 = .ok (.putfield 17, 3) := dk_181 0 17 (dk_at dksX11_readWord_3 9 rfl rfl)
theorem dX11_readWord_82 : decode cX11_readWord 82 = .ok (.return_, 1) := dk_177 (dk_at dksX11_readWord_3 12 rfl rfl)
abbrev cX11_isFigure : ByteArray := prog_11_method_3_code
def yX11_isFigure : MethodName := ⟨RX11, "isFigure", "(I)Z"⟩
def dkwX11_isFigure_1 : List UInt8 := [3, 172]
abbrev dktX11_isFigure_1 : List UInt8 := dkwX11_isFigure_1 ++ []
def dkwX11_isFigure_0 : List UInt8 := [42, 27, 182, 0, 36, 16, 48, 161, 0, 17, 42, 27, 182, 0, 36, 16, 57, 163, 0, 7, 4, 167, 0, 4]
abbrev dktX11_isFigure_0 : List UInt8 := dkwX11_isFigure_0 ++ dktX11_isFigure_1
theorem dksX11_isFigure_0 : cX11_isFigure.data.toList.drop 0 = dktX11_isFigure_0 := by decide +kernel
theorem dksX11_isFigure_1 : cX11_isFigure.data.toList.drop 24 = dktX11_isFigure_1 := dk_seg dksX11_isFigure_0 24 rfl rfl
theorem dX11_isFigure_0 : decode cX11_isFigure 0 = .ok (.aload_n 0, 1) := dk_42 (dk_at dksX11_isFigure_0 0 rfl rfl)
theorem dX11_isFigure_1 : decode cX11_isFigure 1 = .ok (.iload_n 1, 1) := dk_27 (dk_at dksX11_isFigure_0 1 rfl rfl)
theorem dX11_isFigure_2 : decode cX11_isFigure 2 = .ok (.invokevirtual 36, 3) := dk_182 0 36 (dk_at dksX11_isFigure_0 2 rfl rfl)
theorem dX11_isFigure_5 : decode cX11_isFigure 5 = .ok (.bipush 48, 2) := dk_16 48 (dk_at dksX11_isFigure_0 5 rfl rfl)
theorem dX11_isFigure_7 : decode cX11_isFigure 7 = .ok (.if_icmp .lt 17, 3) := dk_161 0 17 (dk_at dksX11_isFigure_0 7 rfl rfl)
theorem dX11_isFigure_10 : decode cX11_isFigure 10 = .ok (.aload_n 0, 1) := dk_42 (dk_at dksX11_isFigure_0 10 rfl rfl)
theorem dX11_isFigure_11 : decode cX11_isFigure 11 = .ok (.iload_n 1, 1) := dk_27 (dk_at dksX11_isFigure_0 11 rfl rfl)
theorem dX11_isFigure_12 : decode cX11_isFigure 12 = .ok (.invokevirtual 36, 3) := dk_182 0 36 (dk_at dksX11_isFigure_0 12 rfl rfl)
theorem dX11_isFigure_15 : decode cX11_isFigure 15 = .ok (.bipush 57, 2) := dk_16 57 (dk_at dksX11_isFigure_0 15 rfl rfl)
theorem dX11_isFigure_17 : decode cX11_isFigure 17 = .ok (.if_icmp .gt 7, 3) := dk_163 0 7 (dk_at dksX11_isFigure_0 17 rfl rfl)
theorem dX11_isFigure_20 : decode cX11_isFigure 20 = .ok (.iconst 1, 1) := dk_4 (dk_at dksX11_isFigure_0 20 rfl rfl)
theorem dX11_isFigure_21 : decode cX11_isFigure 21 = .ok (.goto 4, 3) := dk_167 0 4 (dk_at dksX11_isFigure_0 21 rfl rfl)
theorem dX11_isFigure_24 : decode cX11_isFigure 24 = .ok (.iconst 0, 1) := dk_3 (dk_at dksX11_isFigure_1 0 rfl rfl)
theorem dX11_isFigure_25 : decode cX11_isFigure 25 = .ok (.ireturn, 1) := dk_172 (dk_at dksX11_isFigure_1 1 rfl rfl)
abbrev cX11_readNumber : ByteArray := prog_11_method_7_code
def yX11_readNumber : MethodName := ⟨RX11, "readNumber", "()V"⟩
def dkwX11_readNumber_5 : List UInt8 := [7, 164, 0, 8, 16, 98, 167, 0, 5, 16, 102, 181, 0, 46, 177]
abbrev dktX11_readNumber_5 : List UInt8 := dkwX11_readNumber_5 ++ []
def dkwX11_readNumber_4 : List UInt8 := [167, 255, 208, 42, 27, 153, 0, 8, 29, 116, 167, 0, 4, 29, 181, 0, 81, 42, 42, 180, 0, 40, 28, 100]
abbrev dktX11_readNumber_4 : List UInt8 := dkwX11_readNumber_4 ++ dktX11_readNumber_5
def dkwX11_readNumber_3 : List UInt8 := [42, 180, 0, 40, 182, 0, 36, 96, 16, 48, 100, 62, 42, 89, 180, 0, 40, 4, 96, 181, 0, 40]
abbrev dktX11_readNumber_3 : List UInt8 := dkwX11_readNumber_3 ++ dktX11_readNumber_4
def dkwX11_readNumber_2 : List UInt8 := [180, 0, 40, 182, 0, 57, 153, 0, 43, 42, 180, 0, 40, 28, 100, 7, 162, 0, 20, 16, 10, 29, 104, 42]
abbrev dktX11_readNumber_2 : List UInt8 := dkwX11_readNumber_2 ++ dktX11_readNumber_3
def dkwX11_readNumber_1 : List UInt8 := [180, 0, 43, 4, 96, 167, 0, 7, 42, 180, 0, 43, 61, 3, 62, 42, 28, 181, 0, 40, 42, 42]
abbrev dktX11_readNumber_1 : List UInt8 := dkwX11_readNumber_1 ++ dktX11_readNumber_2
def dkwX11_readNumber_0 : List UInt8 := [42, 42, 180, 0, 43, 182, 0, 36, 16, 45, 160, 0, 7, 4, 167, 0, 4, 3, 60, 27, 153, 0, 12, 42]
abbrev dktX11_readNumber_0 : List UInt8 := dkwX11_readNumber_0 ++ dktX11_readNumber_1
theorem dksX11_readNumber_0 : cX11_readNumber.data.toList.drop 0 = dktX11_readNumber_0 := by decide +kernel
theorem dksX11_readNumber_1 : cX11_readNumber.data.toList.drop 24 = dktX11_readNumber_1 := dk_seg dksX11_readNumber_0 24 rfl rfl
theorem dksX11_readNumber_2 : cX11_readNumber.data.toList.drop 46 = dktX11_readNumber_2 := dk_seg dksX11_readNumber_1 22 rfl rfl
theorem dksX11_readNumber_3 : cX11_readNumber.data.toList.drop 70 = dktX11_readNumber_3 := dk_seg dksX11_readNumber_2 24 rfl rfl
theorem dksX11_readNumber_4 : cX11_readNumber.data.toList.drop 92 = dktX11_readNumber_4 := dk_seg dksX11_readNumber_3 22 rfl rfl
theorem dksX11_readNumber_5 : cX11_readNumber.data.toList.drop 116 = dktX11_readNumber_5 := dk_seg dksX11_readNumber_4 24 rfl rfl
theorem dX11_readNumber_0 : decode cX11_readNumber 0 = .ok (.aload_n 0, 1) := dk_42 (dk_at dksX11_readNumber_0 0 rfl rfl)
theorem dX11_readNumber_1 : decode cX11_readNumber 1 = .ok (.aload_n 0, 1) := dk_42 (dk_at dksX11_readNumber_0 1 rfl rfl)
theorem dX11_readNumber_2 : decode cX11_readNumber 2 = .ok (.getfield 43, 3) := dk_180 0 43 (dk_at dksX11_readNumber_0 2 rfl rfl)
theorem dX11_readNumber_5 : decode cX11_readNumber 5 = .ok (.invokevirtual 36, 3) := dk_182 0 36 (dk_at dksX11_readNumber_0 5 rfl rfl)
theorem dX11_readNumber_8 : decode cX11_readNumber 8 = .ok (.bipush 45, 2) := dk_16 45 (dk_at dksX11_readNumber_0 8 rfl rfl)
theorem dX11_readNumber_10 : decode cX11_readNumber 10 = .ok (.if_icmp .ne 7, 3) := dk_160 0 7 (dk_at dksX11_readNumber_0 10 rfl rfl)
theorem dX11_readNumber_13 : decode cX11_readNumber 13 = .ok (.iconst 1, 1) := dk_4 (dk_at dksX11_readNumber_0 13 rfl rfl)
theorem dX11_readNumber_14 : decode cX11_readNumber 14 = .ok (.goto 4, 3) := dk_167 0 4 (dk_at dksX11_readNumber_0 14 rfl rfl)
theorem dX11_readNumber_17 : decode cX11_readNumber 17 = .ok (.iconst 0, 1) := dk_3 (dk_at dksX11_readNumber_0 17 rfl rfl)
theorem dX11_readNumber_18 : decode cX11_readNumber 18 = .ok (.istore_n 1, 1) := dk_60 (dk_at dksX11_readNumber_0 18 rfl rfl)
theorem dX11_readNumber_19 : decode cX11_readNumber 19 = .ok (.iload_n 1, 1) := dk_27 (dk_at dksX11_readNumber_0 19 rfl rfl)
theorem dX11_readNumber_20 : decode cX11_readNumber 20 = .ok (.ifCond .eq 12, 3) := dk_153 0 12 (dk_at dksX11_readNumber_0 20 rfl rfl)
theorem dX11_readNumber_23 : decode cX11_readNumber 23 = .ok (.aload_n 0, 1) := dk_42 (dk_at dksX11_readNumber_0 23 rfl rfl)
theorem dX11_readNumber_24 : decode cX11_readNumber 24 = .ok (.getfield 43, 3) := dk_180 0 43 (dk_at dksX11_readNumber_1 0 rfl rfl)
theorem dX11_readNumber_27 : decode cX11_readNumber 27 = .ok (.iconst 1, 1) := dk_4 (dk_at dksX11_readNumber_1 3 rfl rfl)
theorem dX11_readNumber_28 : decode cX11_readNumber 28 = .ok (.iadd, 1) := dk_96 (dk_at dksX11_readNumber_1 4 rfl rfl)
theorem dX11_readNumber_29 : decode cX11_readNumber 29 = .ok (.goto 7, 3) := dk_167 0 7 (dk_at dksX11_readNumber_1 5 rfl rfl)
theorem dX11_readNumber_32 : decode cX11_readNumber 32 = .ok (.aload_n 0, 1) := dk_42 (dk_at dksX11_readNumber_1 8 rfl rfl)
theorem dX11_readNumber_33 : decode cX11_readNumber 33 = .ok (.getfield 43, 3) := dk_180 0 43 (dk_at dksX11_readNumber_1 9 rfl rfl)
theorem dX11_readNumber_36 : decode cX11_readNumber 36 = .ok (.istore_n 2, 1) := dk_61 (dk_at dksX11_readNumber_1 12 rfl rfl)
theorem dX11_readNumber_37 : decode cX11_readNumber 37 = .ok (.iconst 0, 1) := dk_3 (dk_at dksX11_readNumber_1 13 rfl rfl)
theorem dX11_readNumber_38 : decode cX11_readNumber 38 = .ok (.istore_n 3, 1) := dk_62 (dk_at dksX11_readNumber_1 14 rfl rfl)
theorem dX11_readNumber_39 : decode cX11_readNumber 39 = .ok (.aload_n 0, 1) := dk_42 (dk_at dksX11_readNumber_1 15 rfl rfl)
theorem dX11_readNumber_40 : decode cX11_readNumber 40 = .ok (.iload_n 2, 1) := dk_28 (dk_at dksX11_readNumber_1 16 rfl rfl)
theorem dX11_readNumber_41 : decode cX11_readNumber 41 = .ok (.putfield 40, 3) := dk_181 0 40 (dk_at dksX11_readNumber_1 17 rfl rfl)
theorem dX11_readNumber_44 : decode cX11_readNumber 44 = .ok (.aload_n 0, 1) := dk_42 (dk_at dksX11_readNumber_1 20 rfl rfl)
theorem dX11_readNumber_45 : decode cX11_readNumber 45 = .ok (.aload_n 0, 1) := dk_42 (dk_at dksX11_readNumber_1 21 rfl rfl)
theorem dX11_readNumber_46 : decode cX11_readNumber 46 = .ok (.getfield 40, 3) := dk_180 0 40 (dk_at dksX11_readNumber_2 0 rfl rfl)
theorem dX11_readNumber_49 : decode cX11_readNumber 49 = .ok (.invokevirtual 57, 3) := dk_182 0 57 (dk_at dksX11_readNumber_2 3 rfl rfl)
theorem dX11_readNumber_52 : decode cX11_readNumber 52 = .ok (.ifCond .eq 43, 3) := dk_153 0 43 (dk_at dksX11_readNumber_2 6 rfl rfl)
theorem dX11_readNumber_55 : decode cX11_readNumber 55 = .ok (.aload_n 0, 1) := dk_42 (dk_at dksX11_readNumber_2 9 rfl rfl)
theorem dX11_readNumber_56 : decode cX11_readNumber 56 = .ok (.getfield 40, 3) := dk_180 0 40 (dk_at dksX11_readNumber_2 10 rfl rfl)
theorem dX11_readNumber_59 : decode cX11_readNumber 59 = .ok (.iload_n 2, 1) := dk_28 (dk_at dksX11_readNumber_2 13 rfl rfl)
theorem dX11_readNumber_60 : decode cX11_readNumber 60 = .ok (.isub, 1) := dk_100 (dk_at dksX11_readNumber_2 14 rfl rfl)
theorem dX11_readNumber_61 : decode cX11_readNumber 61 = .ok (.iconst 4, 1) := dk_7 (dk_at dksX11_readNumber_2 15 rfl rfl)
theorem dX11_readNumber_62 : decode cX11_readNumber 62 = .ok (.if_icmp .ge 20, 3) := dk_162 0 20 (dk_at dksX11_readNumber_2 16 rfl rfl)
theorem dX11_readNumber_65 : decode cX11_readNumber 65 = .ok (.bipush 10, 2) := dk_16 10 (dk_at dksX11_readNumber_2 19 rfl rfl)
theorem dX11_readNumber_67 : decode cX11_readNumber 67 = .ok (.iload_n 3, 1) := dk_29 (dk_at dksX11_readNumber_2 21 rfl rfl)
theorem dX11_readNumber_68 : decode cX11_readNumber 68 = .ok (.imul, 1) := dk_104 (dk_at dksX11_readNumber_2 22 rfl rfl)
theorem dX11_readNumber_69 : decode cX11_readNumber 69 = .ok (.aload_n 0, 1) := dk_42 (dk_at dksX11_readNumber_2 23 rfl rfl)
theorem dX11_readNumber_70 : decode cX11_readNumber 70 = .ok (.aload_n 0, 1) := dk_42 (dk_at dksX11_readNumber_3 0 rfl rfl)
theorem dX11_readNumber_71 : decode cX11_readNumber 71 = .ok (.getfield 40, 3) := dk_180 0 40 (dk_at dksX11_readNumber_3 1 rfl rfl)
theorem dX11_readNumber_74 : decode cX11_readNumber 74 = .ok (.invokevirtual 36, 3) := dk_182 0 36 (dk_at dksX11_readNumber_3 4 rfl rfl)
theorem dX11_readNumber_77 : decode cX11_readNumber 77 = .ok (.iadd, 1) := dk_96 (dk_at dksX11_readNumber_3 7 rfl rfl)
theorem dX11_readNumber_78 : decode cX11_readNumber 78 = .ok (.bipush 48, 2) := dk_16 48 (dk_at dksX11_readNumber_3 8 rfl rfl)
theorem dX11_readNumber_80 : decode cX11_readNumber 80 = .ok (.isub, 1) := dk_100 (dk_at dksX11_readNumber_3 10 rfl rfl)
theorem dX11_readNumber_81 : decode cX11_readNumber 81 = .ok (.istore_n 3, 1) := dk_62 (dk_at dksX11_readNumber_3 11 rfl rfl)
theorem dX11_readNumber_82 : decode cX11_readNumber 82 = .ok (.aload_n 0, 1) := dk_42 (dk_at dksX11_readNumber_3 12 rfl rfl)
theorem dX11_readNumber_83 : decode cX11_readNumber 83 = .ok (.dup, 1) := dk_89 (dk_at dksX11_readNumber_3 13 rfl rfl)
theorem dX11_readNumber_84 : decode cX11_readNumber 84 = .ok (.getfield 40, 3) := dk_180 0 40 (dk_at dksX11_readNumber_3 14 rfl rfl)
theorem dX11_readNumber_87 : decode cX11_readNumber 87 = .ok (.iconst 1, 1) := dk_4 (dk_at dksX11_readNumber_3 17 rfl rfl)
theorem dX11_readNumber_88 : decode cX11_readNumber 88 = .ok (.iadd, 1) := dk_96 (dk_at dksX11_readNumber_3 18 rfl rfl)
theorem dX11_readNumber_89 : decode cX11_readNumber 89 = .ok (.putfield 40, 3) := dk_181 0 40 (dk_at dksX11_readNumber_3 19 rfl rfl)
theorem dX11_readNumber_92 : decode cX11_readNumber 92 = .ok (.goto (-48), 3) := dk_167 255 208 (dk_at dksX11_readNumber_4 0 rfl rfl)
theorem dX11_readNumber_95 : decode cX11_readNumber 95 = .ok (.aload_n 0, 1) := dk_42 (dk_at dksX11_readNumber_4 3 rfl rfl)
theorem dX11_readNumber_96 : decode cX11_readNumber 96 = .ok (.iload_n 1, 1) := dk_27 (dk_at dksX11_readNumber_4 4 rfl rfl)
theorem dX11_readNumber_97 : decode cX11_readNumber 97 = .ok (.ifCond .eq 8, 3) := dk_153 0 8 (dk_at dksX11_readNumber_4 5 rfl rfl)
theorem dX11_readNumber_100 : decode cX11_readNumber 100 = .ok (.iload_n 3, 1) := dk_29 (dk_at dksX11_readNumber_4 8 rfl rfl)
theorem dX11_readNumber_101 : decode cX11_readNumber 101 = .ok (.ineg, 1) := dk_116 (dk_at dksX11_readNumber_4 9 rfl rfl)
theorem dX11_readNumber_102 : decode cX11_readNumber 102 = .ok (.goto 4, 3) := dk_167 0 4 (dk_at dksX11_readNumber_4 10 rfl rfl)
theorem dX11_readNumber_105 : decode cX11_readNumber 105 = .ok (.iload_n 3, 1) := dk_29 (dk_at dksX11_readNumber_4 13 rfl rfl)
theorem dX11_readNumber_106 : decode cX11_readNumber 106 = .ok (.putfield 81, 3) := dk_181 0 81 (dk_at dksX11_readNumber_4 14 rfl rfl)
theorem dX11_readNumber_109 : decode cX11_readNumber 109 = .ok (.aload_n 0, 1) := dk_42 (dk_at dksX11_readNumber_4 17 rfl rfl)
theorem dX11_readNumber_110 : decode cX11_readNumber 110 = .ok (.aload_n 0, 1) := dk_42 (dk_at dksX11_readNumber_4 18 rfl rfl)
theorem dX11_readNumber_111 : decode cX11_readNumber 111 = .ok (.getfield 40, 3) := dk_180 0 40 (dk_at dksX11_readNumber_4 19 rfl rfl)
theorem dX11_readNumber_114 : decode cX11_readNumber 114 = .ok (.iload_n 2, 1) := dk_28 (dk_at dksX11_readNumber_4 22 rfl rfl)
theorem dX11_readNumber_115 : decode cX11_readNumber 115 = .ok (.isub, 1) := dk_100 (dk_at dksX11_readNumber_4 23 rfl rfl)
theorem dX11_readNumber_116 : decode cX11_readNumber 116 = .ok (.iconst 4, 1) := dk_7 (dk_at dksX11_readNumber_5 0 rfl rfl)
theorem dX11_readNumber_117 : decode cX11_readNumber 117 = .ok (.if_icmp .le 8, 3) := dk_164 0 8 (dk_at dksX11_readNumber_5 1 rfl rfl)
theorem dX11_readNumber_120 : decode cX11_readNumber 120 = .ok (.bipush 98, 2) := dk_16 98 (dk_at dksX11_readNumber_5 4 rfl rfl)
theorem dX11_readNumber_122 : decode cX11_readNumber 122 = .ok (.goto 5, 3) := dk_167 0 5 (dk_at dksX11_readNumber_5 6 rfl rfl)
theorem dX11_readNumber_125 : decode cX11_readNumber 125 = .ok (.bipush 102, 2) := dk_16 102 (dk_at dksX11_readNumber_5 9 rfl rfl)
theorem dX11_readNumber_127 : decode cX11_readNumber 127 = .ok (.putfield 46, 3) := dk_181 0 46 (dk_at dksX11_readNumber_5 11 rfl rfl)
theorem dX11_readNumber_130 : decode cX11_readNumber 130 = .ok (.return_, 1) := dk_177 (dk_at dksX11_readNumber_5 14 rfl rfl)
abbrev cX11_all : ByteArray := prog_11_method_13_code
def yX11_all : MethodName := ⟨RX11, "all", "()V"⟩
def dkwX11_all_1 : List UInt8 := [182, 0, 93, 191, 42, 182, 0, 29, 167, 255, 225, 177]
abbrev dktX11_all_1 : List UInt8 := dkwX11_all_1 ++ []
def dkwX11_all_0 : List UInt8 := [42, 180, 0, 46, 16, 101, 159, 0, 28, 42, 182, 0, 150, 42, 180, 0, 46, 16, 115, 159, 0, 8, 42]
abbrev dktX11_all_0 : List UInt8 := dkwX11_all_0 ++ dktX11_all_1
theorem dksX11_all_0 : cX11_all.data.toList.drop 0 = dktX11_all_0 := by decide +kernel
theorem dksX11_all_1 : cX11_all.data.toList.drop 23 = dktX11_all_1 := dk_seg dksX11_all_0 23 rfl rfl
theorem dX11_all_0 : decode cX11_all 0 = .ok (.aload_n 0, 1) := dk_42 (dk_at dksX11_all_0 0 rfl rfl)
theorem dX11_all_1 : decode cX11_all 1 = .ok (.getfield 46, 3) := dk_180 0 46 (dk_at dksX11_all_0 1 rfl rfl)
theorem dX11_all_4 : decode cX11_all 4 = .ok (.bipush 101, 2) := dk_16 101 (dk_at dksX11_all_0 4 rfl rfl)
theorem dX11_all_6 : decode cX11_all 6 = .ok (.if_icmp .eq 28, 3) := dk_159 0 28 (dk_at dksX11_all_0 6 rfl rfl)
theorem dX11_all_9 : decode cX11_all 9 = .ok (.aload_n 0, 1) := dk_42 (dk_at dksX11_all_0 9 rfl rfl)
theorem dX11_all_10 : decode cX11_all 10 = .ok (.invokevirtual 150, 3) := dk_182 0 150 (dk_at dksX11_all_0 10 rfl rfl)
theorem dX11_all_13 : decode cX11_all 13 = .ok (.aload_n 0, 1) := dk_42 (dk_at dksX11_all_0 13 rfl rfl)
theorem dX11_all_14 : decode cX11_all 14 = .ok (.getfield 46, 3) := dk_180 0 46 (dk_at dksX11_all_0 14 rfl rfl)
theorem dX11_all_17 : decode cX11_all 17 = .ok (.bipush 115, 2) := dk_16 115 (dk_at dksX11_all_0 17 rfl rfl)
theorem dX11_all_19 : decode cX11_all 19 = .ok (.if_icmp .eq 8, 3) := dk_159 0 8 (dk_at dksX11_all_0 19 rfl rfl)
theorem dX11_all_22 : decode cX11_all 22 = .ok (.aload_n 0, 1) := dk_42 (dk_at dksX11_all_0 22 rfl rfl)
theorem dX11_all_23 : decode cX11_all 23 = .ok (.invokevirtual 93, 3) := dk_182 0 93 (dk_at dksX11_all_1 0 rfl rfl)
theorem dX11_all_26 : decode cX11_all 26 = .ok (.athrow, 1) := dk_191 (dk_at dksX11_all_1 3 rfl rfl)
theorem dX11_all_27 : decode cX11_all 27 = .ok (.aload_n 0, 1) := dk_42 (dk_at dksX11_all_1 4 rfl rfl)
theorem dX11_all_28 : decode cX11_all 28 = .ok (.invokevirtual 29, 3) := dk_182 0 29 (dk_at dksX11_all_1 5 rfl rfl)
theorem dX11_all_31 : decode cX11_all 31 = .ok (.goto (-31), 3) := dk_167 255 225 (dk_at dksX11_all_1 8 rfl rfl)
theorem dX11_all_34 : decode cX11_all 34 = .ok (.return_, 1) := dk_177 (dk_at dksX11_all_1 11 rfl rfl)
abbrev cX11_line : ByteArray := prog_11_method_14_code
def yX11_line : MethodName := ⟨RX11, "line", "()V"⟩
def dkwX11_line_15 : List UInt8 := [21, 6, 182, 0, 190, 42, 182, 0, 29, 167, 0, 8, 42, 182, 0, 93, 191, 177]
abbrev dktX11_line_15 : List UInt8 := dkwX11_line_15 ++ []
def dkwX11_line_14 : List UInt8 := [161, 0, 19, 42, 180, 0, 3, 180, 0, 84, 7, 42, 180, 0, 43, 182, 0, 88, 191, 42, 180, 0, 25]
abbrev dktX11_line_14 : List UInt8 := dkwX11_line_14 ++ dktX11_line_15
def dkwX11_line_13 : List UInt8 := [42, 182, 0, 29, 42, 182, 0, 97, 54, 6, 21, 6, 155, 0, 15, 21, 6, 42, 180, 0, 25, 180, 0, 169]
abbrev dktX11_line_13 : List UInt8 := dkwX11_line_13 ++ dktX11_line_14
def dkwX11_line_12 : List UInt8 := [160, 0, 15, 42, 180, 0, 25, 180, 0, 186, 21, 6, 21, 5, 79, 132, 6, 1, 167, 255, 214, 167, 0, 67]
abbrev dktX11_line_12 : List UInt8 := dkwX11_line_12 ++ dktX11_line_13
def dkwX11_line_11 : List UInt8 := [42, 180, 0, 25, 180, 0, 169, 162, 0, 36, 42, 180, 0, 25, 180, 0, 186, 21, 6, 46, 21, 4]
abbrev dktX11_line_11 : List UInt8 := dkwX11_line_11 ++ dktX11_line_12
def dkwX11_line_10 : List UInt8 := [167, 0, 134, 42, 182, 0, 29, 42, 182, 0, 183, 54, 4, 42, 182, 0, 183, 54, 5, 3, 54, 6, 21, 6]
abbrev dktX11_line_10 : List UInt8 := dkwX11_line_10 ++ dktX11_line_11
def dkwX11_line_9 : List UInt8 := [182, 0, 29, 3, 54, 4, 21, 4, 6, 162, 0, 15, 42, 21, 4, 182, 0, 180, 132, 4, 1, 167, 255, 241]
abbrev dktX11_line_9 : List UInt8 := dkwX11_line_9 ++ dktX11_line_10
def dkwX11_line_8 : List UInt8 := [180, 0, 43, 182, 0, 88, 191, 42, 180, 0, 25, 29, 182, 0, 177, 42, 182, 0, 29, 167, 0, 162, 42]
abbrev dktX11_line_8 : List UInt8 := dkwX11_line_8 ++ dktX11_line_9
def dkwX11_line_7 : List UInt8 := [180, 0, 25, 29, 182, 0, 174, 96, 16, 12, 164, 0, 20, 42, 180, 0, 3, 180, 0, 84, 16, 6, 42]
abbrev dktX11_line_7 : List UInt8 := dkwX11_line_7 ++ dktX11_line_8
def dkwX11_line_6 : List UInt8 := [42, 182, 0, 163, 167, 0, 224, 42, 182, 0, 29, 42, 182, 0, 166, 62, 42, 180, 0, 25, 180, 0, 169, 42]
abbrev dktX11_line_6 : List UInt8 := dkwX11_line_6 ++ dktX11_line_7
def dkwX11_line_5 : List UInt8 := [170, 0, 0, 0, 0, 0, 1, 3, 0, 0, 0, 0, 0, 0, 0, 4, 0, 0, 0, 36, 0, 0, 0, 43, 0, 0, 0, 105, 0, 0, 0, 133, 0, 0, 0, 200]
abbrev dktX11_line_5 : List UInt8 := dkwX11_line_5 ++ dktX11_line_6
def dkwX11_line_4 : List UInt8 := [153, 0, 19, 6, 61, 167, 0, 14, 43, 18, 161, 182, 0, 114, 153, 0, 5, 7, 61, 28]
abbrev dktX11_line_4 : List UInt8 := dkwX11_line_4 ++ dktX11_line_5
def dkwX11_line_3 : List UInt8 := [61, 167, 0, 42, 43, 18, 157, 182, 0, 114, 153, 0, 33, 5, 61, 167, 0, 28, 43, 18, 159, 182, 0, 114]
abbrev dktX11_line_3 : List UInt8 := dkwX11_line_3 ++ dktX11_line_4
def dkwX11_line_2 : List UInt8 := [43, 18, 153, 182, 0, 114, 153, 0, 61, 3, 61, 167, 0, 56, 43, 18, 155, 182, 0, 114, 153, 0, 47, 4]
abbrev dktX11_line_2 : List UInt8 := dkwX11_line_2 ++ dktX11_line_3
def dkwX11_line_1 : List UInt8 := [171, 0, 0, 0, 116, 0, 0, 0, 5, 0, 45, 217, 81, 0, 0, 0, 49, 0, 47, 46, 239, 0, 0, 0, 105, 0, 50, 59, 148, 0, 0, 0, 91, 5, 250, 169, 91, 0, 0, 0, 63, 6, 133, 108, 130, 0, 0, 0, 77]
abbrev dktX11_line_1 : List UInt8 := dkwX11_line_1 ++ dktX11_line_2
def dkwX11_line_0 : List UInt8 := [42, 180, 0, 17, 76, 2, 61, 43, 182, 0, 107]
abbrev dktX11_line_0 : List UInt8 := dkwX11_line_0 ++ dktX11_line_1
theorem dksX11_line_0 : cX11_line.data.toList.drop 0 = dktX11_line_0 := by decide +kernel
theorem dksX11_line_1 : cX11_line.data.toList.drop 11 = dktX11_line_1 := dk_seg dksX11_line_0 11 rfl rfl
theorem dksX11_line_2 : cX11_line.data.toList.drop 60 = dktX11_line_2 := dk_seg dksX11_line_1 49 rfl rfl
theorem dksX11_line_3 : cX11_line.data.toList.drop 84 = dktX11_line_3 := dk_seg dksX11_line_2 24 rfl rfl
theorem dksX11_line_4 : cX11_line.data.toList.drop 108 = dktX11_line_4 := dk_seg dksX11_line_3 24 rfl rfl
theorem dksX11_line_5 : cX11_line.data.toList.drop 128 = dktX11_line_5 := dk_seg dksX11_line_4 20 rfl rfl
theorem dksX11_line_6 : cX11_line.data.toList.drop 164 = dktX11_line_6 := dk_seg dksX11_line_5 36 rfl rfl
theorem dksX11_line_7 : cX11_line.data.toList.drop 188 = dktX11_line_7 := dk_seg dksX11_line_6 24 rfl rfl
theorem dksX11_line_8 : cX11_line.data.toList.drop 211 = dktX11_line_8 := dk_seg dksX11_line_7 23 rfl rfl
theorem dksX11_line_9 : cX11_line.data.toList.drop 234 = dktX11_line_9 := dk_seg dksX11_line_8 23 rfl rfl
theorem dksX11_line_10 : cX11_line.data.toList.drop 258 = dktX11_line_10 := dk_seg dksX11_line_9 24 rfl rfl
theorem dksX11_line_11 : cX11_line.data.toList.drop 282 = dktX11_line_11 := dk_seg dksX11_line_10 24 rfl rfl
theorem dksX11_line_12 : cX11_line.data.toList.drop 304 = dktX11_line_12 := dk_seg dksX11_line_11 22 rfl rfl
theorem dksX11_line_13 : cX11_line.data.toList.drop 328 = dktX11_line_13 := dk_seg dksX11_line_12 24 rfl rfl
theorem dksX11_line_14 : cX11_line.data.toList.drop 352 = dktX11_line_14 := dk_seg dksX11_line_13 24 rfl rfl
theorem dksX11_line_15 : cX11_line.data.toList.drop 375 = dktX11_line_15 := dk_seg dksX11_line_14 23 rfl rfl
theorem dX11_line_0 : decode cX11_line 0 = .ok (.aload_n 0, 1) := dk_42 (dk_at dksX11_line_0 0 rfl rfl)
theorem dX11_line_1 : decode cX11_line 1 = .ok (.getfield 17, 3) := dk_180 0 17 (dk_at dksX11_line_0 1 rfl rfl)
theorem dX11_line_4 : decode cX11_line 4 = .ok (.astore_n 1, 1) := dk_76 (dk_at dksX11_line_0 4 rfl rfl)
theorem dX11_line_5 : decode cX11_line 5 = .ok (.iconst (-1), 1) := dk_2 (dk_at dksX11_line_0 5 rfl rfl)
theorem dX11_line_6 : decode cX11_line 6 = .ok (.istore_n 2, 1) := dk_61 (dk_at dksX11_line_0 6 rfl rfl)
theorem dX11_line_7 : decode cX11_line 7 = .ok (.aload_n 1, 1) := dk_43 (dk_at dksX11_line_0 7 rfl rfl)
theorem dX11_line_8 : decode cX11_line 8 = .ok (.invokevirtual 107, 3) := dk_182 0 107 (dk_at dksX11_line_0 8 rfl rfl)
theorem dX11_line_11 : decode cX11_line 11 = .ok (.lookupswitch 116 #[(3004753, 49), (3092207, 105), (3292052, 91), (100313435, 63), (109407362, 77)], 49) := by decide +kernel
theorem dX11_line_60 : decode cX11_line 60 = .ok (.aload_n 1, 1) := dk_43 (dk_at dksX11_line_2 0 rfl rfl)
theorem dX11_line_61 : decode cX11_line 61 = .ok (.ldc 153, 2) := dk_18 153 (dk_at dksX11_line_2 1 rfl rfl)
theorem dX11_line_63 : decode cX11_line 63 = .ok (.invokevirtual 114, 3) := dk_182 0 114 (dk_at dksX11_line_2 3 rfl rfl)
theorem dX11_line_66 : decode cX11_line 66 = .ok (.ifCond .eq 61, 3) := dk_153 0 61 (dk_at dksX11_line_2 6 rfl rfl)
theorem dX11_line_69 : decode cX11_line 69 = .ok (.iconst 0, 1) := dk_3 (dk_at dksX11_line_2 9 rfl rfl)
theorem dX11_line_70 : decode cX11_line 70 = .ok (.istore_n 2, 1) := dk_61 (dk_at dksX11_line_2 10 rfl rfl)
theorem dX11_line_71 : decode cX11_line 71 = .ok (.goto 56, 3) := dk_167 0 56 (dk_at dksX11_line_2 11 rfl rfl)
theorem dX11_line_74 : decode cX11_line 74 = .ok (.aload_n 1, 1) := dk_43 (dk_at dksX11_line_2 14 rfl rfl)
theorem dX11_line_75 : decode cX11_line 75 = .ok (.ldc 155, 2) := dk_18 155 (dk_at dksX11_line_2 15 rfl rfl)
theorem dX11_line_77 : decode cX11_line 77 = .ok (.invokevirtual 114, 3) := dk_182 0 114 (dk_at dksX11_line_2 17 rfl rfl)
theorem dX11_line_80 : decode cX11_line 80 = .ok (.ifCond .eq 47, 3) := dk_153 0 47 (dk_at dksX11_line_2 20 rfl rfl)
theorem dX11_line_83 : decode cX11_line 83 = .ok (.iconst 1, 1) := dk_4 (dk_at dksX11_line_2 23 rfl rfl)
theorem dX11_line_84 : decode cX11_line 84 = .ok (.istore_n 2, 1) := dk_61 (dk_at dksX11_line_3 0 rfl rfl)
theorem dX11_line_85 : decode cX11_line 85 = .ok (.goto 42, 3) := dk_167 0 42 (dk_at dksX11_line_3 1 rfl rfl)
theorem dX11_line_88 : decode cX11_line 88 = .ok (.aload_n 1, 1) := dk_43 (dk_at dksX11_line_3 4 rfl rfl)
theorem dX11_line_89 : decode cX11_line 89 = .ok (.ldc 157, 2) := dk_18 157 (dk_at dksX11_line_3 5 rfl rfl)
theorem dX11_line_91 : decode cX11_line 91 = .ok (.invokevirtual 114, 3) := dk_182 0 114 (dk_at dksX11_line_3 7 rfl rfl)
theorem dX11_line_94 : decode cX11_line 94 = .ok (.ifCond .eq 33, 3) := dk_153 0 33 (dk_at dksX11_line_3 10 rfl rfl)
theorem dX11_line_97 : decode cX11_line 97 = .ok (.iconst 2, 1) := dk_5 (dk_at dksX11_line_3 13 rfl rfl)
theorem dX11_line_98 : decode cX11_line 98 = .ok (.istore_n 2, 1) := dk_61 (dk_at dksX11_line_3 14 rfl rfl)
theorem dX11_line_99 : decode cX11_line 99 = .ok (.goto 28, 3) := dk_167 0 28 (dk_at dksX11_line_3 15 rfl rfl)
theorem dX11_line_102 : decode cX11_line 102 = .ok (.aload_n 1, 1) := dk_43 (dk_at dksX11_line_3 18 rfl rfl)
theorem dX11_line_103 : decode cX11_line 103 = .ok (.ldc 159, 2) := dk_18 159 (dk_at dksX11_line_3 19 rfl rfl)
theorem dX11_line_105 : decode cX11_line 105 = .ok (.invokevirtual 114, 3) := dk_182 0 114 (dk_at dksX11_line_3 21 rfl rfl)
theorem dX11_line_108 : decode cX11_line 108 = .ok (.ifCond .eq 19, 3) := dk_153 0 19 (dk_at dksX11_line_4 0 rfl rfl)
theorem dX11_line_111 : decode cX11_line 111 = .ok (.iconst 3, 1) := dk_6 (dk_at dksX11_line_4 3 rfl rfl)
theorem dX11_line_112 : decode cX11_line 112 = .ok (.istore_n 2, 1) := dk_61 (dk_at dksX11_line_4 4 rfl rfl)
theorem dX11_line_113 : decode cX11_line 113 = .ok (.goto 14, 3) := dk_167 0 14 (dk_at dksX11_line_4 5 rfl rfl)
theorem dX11_line_116 : decode cX11_line 116 = .ok (.aload_n 1, 1) := dk_43 (dk_at dksX11_line_4 8 rfl rfl)
theorem dX11_line_117 : decode cX11_line 117 = .ok (.ldc 161, 2) := dk_18 161 (dk_at dksX11_line_4 9 rfl rfl)
theorem dX11_line_119 : decode cX11_line 119 = .ok (.invokevirtual 114, 3) := dk_182 0 114 (dk_at dksX11_line_4 11 rfl rfl)
theorem dX11_line_122 : decode cX11_line 122 = .ok (.ifCond .eq 5, 3) := dk_153 0 5 (dk_at dksX11_line_4 14 rfl rfl)
theorem dX11_line_125 : decode cX11_line 125 = .ok (.iconst 4, 1) := dk_7 (dk_at dksX11_line_4 17 rfl rfl)
theorem dX11_line_126 : decode cX11_line 126 = .ok (.istore_n 2, 1) := dk_61 (dk_at dksX11_line_4 18 rfl rfl)
theorem dX11_line_127 : decode cX11_line 127 = .ok (.iload_n 2, 1) := dk_28 (dk_at dksX11_line_4 19 rfl rfl)
theorem dX11_line_128 : decode cX11_line 128 = .ok (.tableswitch 259 0 4 #[36, 43, 105, 133, 200], 36) := by decide +kernel
theorem dX11_line_164 : decode cX11_line 164 = .ok (.aload_n 0, 1) := dk_42 (dk_at dksX11_line_6 0 rfl rfl)
theorem dX11_line_165 : decode cX11_line 165 = .ok (.invokevirtual 163, 3) := dk_182 0 163 (dk_at dksX11_line_6 1 rfl rfl)
theorem dX11_line_168 : decode cX11_line 168 = .ok (.goto 224, 3) := dk_167 0 224 (dk_at dksX11_line_6 4 rfl rfl)
theorem dX11_line_171 : decode cX11_line 171 = .ok (.aload_n 0, 1) := dk_42 (dk_at dksX11_line_6 7 rfl rfl)
theorem dX11_line_172 : decode cX11_line 172 = .ok (.invokevirtual 29, 3) := dk_182 0 29 (dk_at dksX11_line_6 8 rfl rfl)
theorem dX11_line_175 : decode cX11_line 175 = .ok (.aload_n 0, 1) := dk_42 (dk_at dksX11_line_6 11 rfl rfl)
theorem dX11_line_176 : decode cX11_line 176 = .ok (.invokevirtual 166, 3) := dk_182 0 166 (dk_at dksX11_line_6 12 rfl rfl)
theorem dX11_line_179 : decode cX11_line 179 = .ok (.istore_n 3, 1) := dk_62 (dk_at dksX11_line_6 15 rfl rfl)
theorem dX11_line_180 : decode cX11_line 180 = .ok (.aload_n 0, 1) := dk_42 (dk_at dksX11_line_6 16 rfl rfl)
theorem dX11_line_181 : decode cX11_line 181 = .ok (.getfield 25, 3) := dk_180 0 25 (dk_at dksX11_line_6 17 rfl rfl)
theorem dX11_line_184 : decode cX11_line 184 = .ok (.getfield 169, 3) := dk_180 0 169 (dk_at dksX11_line_6 20 rfl rfl)
theorem dX11_line_187 : decode cX11_line 187 = .ok (.aload_n 0, 1) := dk_42 (dk_at dksX11_line_6 23 rfl rfl)
theorem dX11_line_188 : decode cX11_line 188 = .ok (.getfield 25, 3) := dk_180 0 25 (dk_at dksX11_line_7 0 rfl rfl)
theorem dX11_line_191 : decode cX11_line 191 = .ok (.iload_n 3, 1) := dk_29 (dk_at dksX11_line_7 3 rfl rfl)
theorem dX11_line_192 : decode cX11_line 192 = .ok (.invokevirtual 174, 3) := dk_182 0 174 (dk_at dksX11_line_7 4 rfl rfl)
theorem dX11_line_195 : decode cX11_line 195 = .ok (.iadd, 1) := dk_96 (dk_at dksX11_line_7 7 rfl rfl)
theorem dX11_line_196 : decode cX11_line 196 = .ok (.bipush 12, 2) := dk_16 12 (dk_at dksX11_line_7 8 rfl rfl)
theorem dX11_line_198 : decode cX11_line 198 = .ok (.if_icmp .le 20, 3) := dk_164 0 20 (dk_at dksX11_line_7 10 rfl rfl)
theorem dX11_line_201 : decode cX11_line 201 = .ok (.aload_n 0, 1) := dk_42 (dk_at dksX11_line_7 13 rfl rfl)
theorem dX11_line_202 : decode cX11_line 202 = .ok (.getfield 3, 3) := dk_180 0 3 (dk_at dksX11_line_7 14 rfl rfl)
theorem dX11_line_205 : decode cX11_line 205 = .ok (.getfield 84, 3) := dk_180 0 84 (dk_at dksX11_line_7 17 rfl rfl)
theorem dX11_line_208 : decode cX11_line 208 = .ok (.bipush 6, 2) := dk_16 6 (dk_at dksX11_line_7 20 rfl rfl)
theorem dX11_line_210 : decode cX11_line 210 = .ok (.aload_n 0, 1) := dk_42 (dk_at dksX11_line_7 22 rfl rfl)
theorem dX11_line_211 : decode cX11_line 211 = .ok (.getfield 43, 3) := dk_180 0 43 (dk_at dksX11_line_8 0 rfl rfl)
theorem dX11_line_214 : decode cX11_line 214 = .ok (.invokevirtual 88, 3) := dk_182 0 88 (dk_at dksX11_line_8 3 rfl rfl)
theorem dX11_line_217 : decode cX11_line 217 = .ok (.athrow, 1) := dk_191 (dk_at dksX11_line_8 6 rfl rfl)
theorem dX11_line_218 : decode cX11_line 218 = .ok (.aload_n 0, 1) := dk_42 (dk_at dksX11_line_8 7 rfl rfl)
theorem dX11_line_219 : decode cX11_line 219 = .ok (.getfield 25, 3) := dk_180 0 25 (dk_at dksX11_line_8 8 rfl rfl)
theorem dX11_line_222 : decode cX11_line 222 = .ok (.iload_n 3, 1) := dk_29 (dk_at dksX11_line_8 11 rfl rfl)
theorem dX11_line_223 : decode cX11_line 223 = .ok (.invokevirtual 177, 3) := dk_182 0 177 (dk_at dksX11_line_8 12 rfl rfl)
theorem dX11_line_226 : decode cX11_line 226 = .ok (.aload_n 0, 1) := dk_42 (dk_at dksX11_line_8 15 rfl rfl)
theorem dX11_line_227 : decode cX11_line 227 = .ok (.invokevirtual 29, 3) := dk_182 0 29 (dk_at dksX11_line_8 16 rfl rfl)
theorem dX11_line_230 : decode cX11_line 230 = .ok (.goto 162, 3) := dk_167 0 162 (dk_at dksX11_line_8 19 rfl rfl)
theorem dX11_line_233 : decode cX11_line 233 = .ok (.aload_n 0, 1) := dk_42 (dk_at dksX11_line_8 22 rfl rfl)
theorem dX11_line_234 : decode cX11_line 234 = .ok (.invokevirtual 29, 3) := dk_182 0 29 (dk_at dksX11_line_9 0 rfl rfl)
theorem dX11_line_237 : decode cX11_line 237 = .ok (.iconst 0, 1) := dk_3 (dk_at dksX11_line_9 3 rfl rfl)
theorem dX11_line_238 : decode cX11_line 238 = .ok (.istore 4, 2) := dk_54 4 (dk_at dksX11_line_9 4 rfl rfl)
theorem dX11_line_240 : decode cX11_line 240 = .ok (.iload 4, 2) := dk_21 4 (dk_at dksX11_line_9 6 rfl rfl)
theorem dX11_line_242 : decode cX11_line 242 = .ok (.iconst 3, 1) := dk_6 (dk_at dksX11_line_9 8 rfl rfl)
theorem dX11_line_243 : decode cX11_line 243 = .ok (.if_icmp .ge 15, 3) := dk_162 0 15 (dk_at dksX11_line_9 9 rfl rfl)
theorem dX11_line_246 : decode cX11_line 246 = .ok (.aload_n 0, 1) := dk_42 (dk_at dksX11_line_9 12 rfl rfl)
theorem dX11_line_247 : decode cX11_line 247 = .ok (.iload 4, 2) := dk_21 4 (dk_at dksX11_line_9 13 rfl rfl)
theorem dX11_line_249 : decode cX11_line 249 = .ok (.invokevirtual 180, 3) := dk_182 0 180 (dk_at dksX11_line_9 15 rfl rfl)
theorem dX11_line_252 : decode cX11_line 252 = .ok (.iinc 4 1, 3) := dk_132 4 1 (dk_at dksX11_line_9 18 rfl rfl)
theorem dX11_line_255 : decode cX11_line 255 = .ok (.goto (-15), 3) := dk_167 255 241 (dk_at dksX11_line_9 21 rfl rfl)
theorem dX11_line_258 : decode cX11_line 258 = .ok (.goto 134, 3) := dk_167 0 134 (dk_at dksX11_line_10 0 rfl rfl)
theorem dX11_line_261 : decode cX11_line 261 = .ok (.aload_n 0, 1) := dk_42 (dk_at dksX11_line_10 3 rfl rfl)
theorem dX11_line_262 : decode cX11_line 262 = .ok (.invokevirtual 29, 3) := dk_182 0 29 (dk_at dksX11_line_10 4 rfl rfl)
theorem dX11_line_265 : decode cX11_line 265 = .ok (.aload_n 0, 1) := dk_42 (dk_at dksX11_line_10 7 rfl rfl)
theorem dX11_line_266 : decode cX11_line 266 = .ok (.invokevirtual 183, 3) := dk_182 0 183 (dk_at dksX11_line_10 8 rfl rfl)
theorem dX11_line_269 : decode cX11_line 269 = .ok (.istore 4, 2) := dk_54 4 (dk_at dksX11_line_10 11 rfl rfl)
theorem dX11_line_271 : decode cX11_line 271 = .ok (.aload_n 0, 1) := dk_42 (dk_at dksX11_line_10 13 rfl rfl)
theorem dX11_line_272 : decode cX11_line 272 = .ok (.invokevirtual 183, 3) := dk_182 0 183 (dk_at dksX11_line_10 14 rfl rfl)
theorem dX11_line_275 : decode cX11_line 275 = .ok (.istore 5, 2) := dk_54 5 (dk_at dksX11_line_10 17 rfl rfl)
theorem dX11_line_277 : decode cX11_line 277 = .ok (.iconst 0, 1) := dk_3 (dk_at dksX11_line_10 19 rfl rfl)
theorem dX11_line_278 : decode cX11_line 278 = .ok (.istore 6, 2) := dk_54 6 (dk_at dksX11_line_10 20 rfl rfl)
theorem dX11_line_280 : decode cX11_line 280 = .ok (.iload 6, 2) := dk_21 6 (dk_at dksX11_line_10 22 rfl rfl)
theorem dX11_line_282 : decode cX11_line 282 = .ok (.aload_n 0, 1) := dk_42 (dk_at dksX11_line_11 0 rfl rfl)
theorem dX11_line_283 : decode cX11_line 283 = .ok (.getfield 25, 3) := dk_180 0 25 (dk_at dksX11_line_11 1 rfl rfl)
theorem dX11_line_286 : decode cX11_line 286 = .ok (.getfield 169, 3) := dk_180 0 169 (dk_at dksX11_line_11 4 rfl rfl)
theorem dX11_line_289 : decode cX11_line 289 = .ok (.if_icmp .ge 36, 3) := dk_162 0 36 (dk_at dksX11_line_11 7 rfl rfl)
theorem dX11_line_292 : decode cX11_line 292 = .ok (.aload_n 0, 1) := dk_42 (dk_at dksX11_line_11 10 rfl rfl)
theorem dX11_line_293 : decode cX11_line 293 = .ok (.getfield 25, 3) := dk_180 0 25 (dk_at dksX11_line_11 11 rfl rfl)
theorem dX11_line_296 : decode cX11_line 296 = .ok (.getfield 186, 3) := dk_180 0 186 (dk_at dksX11_line_11 14 rfl rfl)
theorem dX11_line_299 : decode cX11_line 299 = .ok (.iload 6, 2) := dk_21 6 (dk_at dksX11_line_11 17 rfl rfl)
theorem dX11_line_301 : decode cX11_line 301 = .ok (.iaload, 1) := dk_46 (dk_at dksX11_line_11 19 rfl rfl)
theorem dX11_line_302 : decode cX11_line 302 = .ok (.iload 4, 2) := dk_21 4 (dk_at dksX11_line_11 20 rfl rfl)
theorem dX11_line_304 : decode cX11_line 304 = .ok (.if_icmp .ne 15, 3) := dk_160 0 15 (dk_at dksX11_line_12 0 rfl rfl)
theorem dX11_line_307 : decode cX11_line 307 = .ok (.aload_n 0, 1) := dk_42 (dk_at dksX11_line_12 3 rfl rfl)
theorem dX11_line_308 : decode cX11_line 308 = .ok (.getfield 25, 3) := dk_180 0 25 (dk_at dksX11_line_12 4 rfl rfl)
theorem dX11_line_311 : decode cX11_line 311 = .ok (.getfield 186, 3) := dk_180 0 186 (dk_at dksX11_line_12 7 rfl rfl)
theorem dX11_line_314 : decode cX11_line 314 = .ok (.iload 6, 2) := dk_21 6 (dk_at dksX11_line_12 10 rfl rfl)
theorem dX11_line_316 : decode cX11_line 316 = .ok (.iload 5, 2) := dk_21 5 (dk_at dksX11_line_12 12 rfl rfl)
theorem dX11_line_318 : decode cX11_line 318 = .ok (.iastore, 1) := dk_79 (dk_at dksX11_line_12 14 rfl rfl)
theorem dX11_line_319 : decode cX11_line 319 = .ok (.iinc 6 1, 3) := dk_132 6 1 (dk_at dksX11_line_12 15 rfl rfl)
theorem dX11_line_322 : decode cX11_line 322 = .ok (.goto (-42), 3) := dk_167 255 214 (dk_at dksX11_line_12 18 rfl rfl)
theorem dX11_line_325 : decode cX11_line 325 = .ok (.goto 67, 3) := dk_167 0 67 (dk_at dksX11_line_12 21 rfl rfl)
theorem dX11_line_328 : decode cX11_line 328 = .ok (.aload_n 0, 1) := dk_42 (dk_at dksX11_line_13 0 rfl rfl)
theorem dX11_line_329 : decode cX11_line 329 = .ok (.invokevirtual 29, 3) := dk_182 0 29 (dk_at dksX11_line_13 1 rfl rfl)
theorem dX11_line_332 : decode cX11_line 332 = .ok (.aload_n 0, 1) := dk_42 (dk_at dksX11_line_13 4 rfl rfl)
theorem dX11_line_333 : decode cX11_line 333 = .ok (.invokevirtual 97, 3) := dk_182 0 97 (dk_at dksX11_line_13 5 rfl rfl)
theorem dX11_line_336 : decode cX11_line 336 = .ok (.istore 6, 2) := dk_54 6 (dk_at dksX11_line_13 8 rfl rfl)
theorem dX11_line_338 : decode cX11_line 338 = .ok (.iload 6, 2) := dk_21 6 (dk_at dksX11_line_13 10 rfl rfl)
theorem dX11_line_340 : decode cX11_line 340 = .ok (.ifCond .lt 15, 3) := dk_155 0 15 (dk_at dksX11_line_13 12 rfl rfl)
theorem dX11_line_343 : decode cX11_line 343 = .ok (.iload 6, 2) := dk_21 6 (dk_at dksX11_line_13 15 rfl rfl)
theorem dX11_line_345 : decode cX11_line 345 = .ok (.aload_n 0, 1) := dk_42 (dk_at dksX11_line_13 17 rfl rfl)
theorem dX11_line_346 : decode cX11_line 346 = .ok (.getfield 25, 3) := dk_180 0 25 (dk_at dksX11_line_13 18 rfl rfl)
theorem dX11_line_349 : decode cX11_line 349 = .ok (.getfield 169, 3) := dk_180 0 169 (dk_at dksX11_line_13 21 rfl rfl)
theorem dX11_line_352 : decode cX11_line 352 = .ok (.if_icmp .lt 19, 3) := dk_161 0 19 (dk_at dksX11_line_14 0 rfl rfl)
theorem dX11_line_355 : decode cX11_line 355 = .ok (.aload_n 0, 1) := dk_42 (dk_at dksX11_line_14 3 rfl rfl)
theorem dX11_line_356 : decode cX11_line 356 = .ok (.getfield 3, 3) := dk_180 0 3 (dk_at dksX11_line_14 4 rfl rfl)
theorem dX11_line_359 : decode cX11_line 359 = .ok (.getfield 84, 3) := dk_180 0 84 (dk_at dksX11_line_14 7 rfl rfl)
theorem dX11_line_362 : decode cX11_line 362 = .ok (.iconst 4, 1) := dk_7 (dk_at dksX11_line_14 10 rfl rfl)
theorem dX11_line_363 : decode cX11_line 363 = .ok (.aload_n 0, 1) := dk_42 (dk_at dksX11_line_14 11 rfl rfl)
theorem dX11_line_364 : decode cX11_line 364 = .ok (.getfield 43, 3) := dk_180 0 43 (dk_at dksX11_line_14 12 rfl rfl)
theorem dX11_line_367 : decode cX11_line 367 = .ok (.invokevirtual 88, 3) := dk_182 0 88 (dk_at dksX11_line_14 15 rfl rfl)
theorem dX11_line_370 : decode cX11_line 370 = .ok (.athrow, 1) := dk_191 (dk_at dksX11_line_14 18 rfl rfl)
theorem dX11_line_371 : decode cX11_line 371 = .ok (.aload_n 0, 1) := dk_42 (dk_at dksX11_line_14 19 rfl rfl)
theorem dX11_line_372 : decode cX11_line 372 = .ok (.getfield 25, 3) := dk_180 0 25 (dk_at dksX11_line_14 20 rfl rfl)
theorem dX11_line_375 : decode cX11_line 375 = .ok (.iload 6, 2) := dk_21 6 (dk_at dksX11_line_15 0 rfl rfl)
theorem dX11_line_377 : decode cX11_line 377 = .ok (.invokevirtual 190, 3) := dk_182 0 190 (dk_at dksX11_line_15 2 rfl rfl)
theorem dX11_line_380 : decode cX11_line 380 = .ok (.aload_n 0, 1) := dk_42 (dk_at dksX11_line_15 5 rfl rfl)
theorem dX11_line_381 : decode cX11_line 381 = .ok (.invokevirtual 29, 3) := dk_182 0 29 (dk_at dksX11_line_15 6 rfl rfl)
theorem dX11_line_384 : decode cX11_line 384 = .ok (.goto 8, 3) := dk_167 0 8 (dk_at dksX11_line_15 9 rfl rfl)
theorem dX11_line_387 : decode cX11_line 387 = .ok (.aload_n 0, 1) := dk_42 (dk_at dksX11_line_15 12 rfl rfl)
theorem dX11_line_388 : decode cX11_line 388 = .ok (.invokevirtual 93, 3) := dk_182 0 93 (dk_at dksX11_line_15 13 rfl rfl)
theorem dX11_line_391 : decode cX11_line 391 = .ok (.athrow, 1) := dk_191 (dk_at dksX11_line_15 16 rfl rfl)
theorem dX11_line_392 : decode cX11_line 392 = .ok (.return_, 1) := dk_177 (dk_at dksX11_line_15 17 rfl rfl)
abbrev cX11_newAtom : ByteArray := prog_11_method_15_code
def yX11_newAtom : MethodName := ⟨RX11, "newAtom", "()V"⟩
def dkwX11_newAtom_5 : List UInt8 := [28, 29, 21, 4, 182, 0, 200, 42, 182, 0, 29, 177]
abbrev dktX11_newAtom_5 : List UInt8 := dkwX11_newAtom_5 ++ []
def dkwX11_newAtom_4 : List UInt8 := [155, 0, 19, 42, 180, 0, 3, 180, 0, 84, 8, 42, 180, 0, 43, 182, 0, 88, 191, 42, 180, 0, 25, 27]
abbrev dktX11_newAtom_4 : List UInt8 := dkwX11_newAtom_4 ++ dktX11_newAtom_5
def dkwX11_newAtom_3 : List UInt8 := [180, 0, 84, 7, 42, 180, 0, 43, 182, 0, 88, 191, 42, 180, 0, 25, 28, 29, 21, 4, 182, 0, 196]
abbrev dktX11_newAtom_3 : List UInt8 := dkwX11_newAtom_3 ++ dktX11_newAtom_4
def dkwX11_newAtom_2 : List UInt8 := [182, 0, 193, 62, 42, 182, 0, 97, 54, 4, 21, 4, 184, 0, 101, 16, 50, 164, 0, 19, 42, 180, 0, 3]
abbrev dktX11_newAtom_2 : List UInt8 := dkwX11_newAtom_2 ++ dktX11_newAtom_3
def dkwX11_newAtom_1 : List UInt8 := [180, 0, 43, 182, 0, 88, 191, 42, 182, 0, 29, 42, 182, 0, 183, 60, 42, 182, 0, 193, 61, 42]
abbrev dktX11_newAtom_1 : List UInt8 := dkwX11_newAtom_1 ++ dktX11_newAtom_2
def dkwX11_newAtom_0 : List UInt8 := [42, 180, 0, 25, 180, 0, 169, 16, 12, 160, 0, 20, 42, 180, 0, 3, 180, 0, 84, 16, 6, 42]
abbrev dktX11_newAtom_0 : List UInt8 := dkwX11_newAtom_0 ++ dktX11_newAtom_1
theorem dksX11_newAtom_0 : cX11_newAtom.data.toList.drop 0 = dktX11_newAtom_0 := by decide +kernel
theorem dksX11_newAtom_1 : cX11_newAtom.data.toList.drop 22 = dktX11_newAtom_1 := dk_seg dksX11_newAtom_0 22 rfl rfl
theorem dksX11_newAtom_2 : cX11_newAtom.data.toList.drop 44 = dktX11_newAtom_2 := dk_seg dksX11_newAtom_1 22 rfl rfl
theorem dksX11_newAtom_3 : cX11_newAtom.data.toList.drop 68 = dktX11_newAtom_3 := dk_seg dksX11_newAtom_2 24 rfl rfl
theorem dksX11_newAtom_4 : cX11_newAtom.data.toList.drop 91 = dktX11_newAtom_4 := dk_seg dksX11_newAtom_3 23 rfl rfl
theorem dksX11_newAtom_5 : cX11_newAtom.data.toList.drop 115 = dktX11_newAtom_5 := dk_seg dksX11_newAtom_4 24 rfl rfl
theorem dX11_newAtom_0 : decode cX11_newAtom 0 = .ok (.aload_n 0, 1) := dk_42 (dk_at dksX11_newAtom_0 0 rfl rfl)
theorem dX11_newAtom_1 : decode cX11_newAtom 1 = .ok (.getfield 25, 3) := dk_180 0 25 (dk_at dksX11_newAtom_0 1 rfl rfl)
theorem dX11_newAtom_4 : decode cX11_newAtom 4 = .ok (.getfield 169, 3) := dk_180 0 169 (dk_at dksX11_newAtom_0 4 rfl rfl)
theorem dX11_newAtom_7 : decode cX11_newAtom 7 = .ok (.bipush 12, 2) := dk_16 12 (dk_at dksX11_newAtom_0 7 rfl rfl)
theorem dX11_newAtom_9 : decode cX11_newAtom 9 = .ok (.if_icmp .ne 20, 3) := dk_160 0 20 (dk_at dksX11_newAtom_0 9 rfl rfl)
theorem dX11_newAtom_12 : decode cX11_newAtom 12 = .ok (.aload_n 0, 1) := dk_42 (dk_at dksX11_newAtom_0 12 rfl rfl)
theorem dX11_newAtom_13 : decode cX11_newAtom 13 = .ok (.getfield 3, 3) := dk_180 0 3 (dk_at dksX11_newAtom_0 13 rfl rfl)
theorem dX11_newAtom_16 : decode cX11_newAtom 16 = .ok (.getfield 84, 3) := dk_180 0 84 (dk_at dksX11_newAtom_0 16 rfl rfl)
theorem dX11_newAtom_19 : decode cX11_newAtom 19 = .ok (.bipush 6, 2) := dk_16 6 (dk_at dksX11_newAtom_0 19 rfl rfl)
theorem dX11_newAtom_21 : decode cX11_newAtom 21 = .ok (.aload_n 0, 1) := dk_42 (dk_at dksX11_newAtom_0 21 rfl rfl)
theorem dX11_newAtom_22 : decode cX11_newAtom 22 = .ok (.getfield 43, 3) := dk_180 0 43 (dk_at dksX11_newAtom_1 0 rfl rfl)
theorem dX11_newAtom_25 : decode cX11_newAtom 25 = .ok (.invokevirtual 88, 3) := dk_182 0 88 (dk_at dksX11_newAtom_1 3 rfl rfl)
theorem dX11_newAtom_28 : decode cX11_newAtom 28 = .ok (.athrow, 1) := dk_191 (dk_at dksX11_newAtom_1 6 rfl rfl)
theorem dX11_newAtom_29 : decode cX11_newAtom 29 = .ok (.aload_n 0, 1) := dk_42 (dk_at dksX11_newAtom_1 7 rfl rfl)
theorem dX11_newAtom_30 : decode cX11_newAtom 30 = .ok (.invokevirtual 29, 3) := dk_182 0 29 (dk_at dksX11_newAtom_1 8 rfl rfl)
theorem dX11_newAtom_33 : decode cX11_newAtom 33 = .ok (.aload_n 0, 1) := dk_42 (dk_at dksX11_newAtom_1 11 rfl rfl)
theorem dX11_newAtom_34 : decode cX11_newAtom 34 = .ok (.invokevirtual 183, 3) := dk_182 0 183 (dk_at dksX11_newAtom_1 12 rfl rfl)
theorem dX11_newAtom_37 : decode cX11_newAtom 37 = .ok (.istore_n 1, 1) := dk_60 (dk_at dksX11_newAtom_1 15 rfl rfl)
theorem dX11_newAtom_38 : decode cX11_newAtom 38 = .ok (.aload_n 0, 1) := dk_42 (dk_at dksX11_newAtom_1 16 rfl rfl)
theorem dX11_newAtom_39 : decode cX11_newAtom 39 = .ok (.invokevirtual 193, 3) := dk_182 0 193 (dk_at dksX11_newAtom_1 17 rfl rfl)
theorem dX11_newAtom_42 : decode cX11_newAtom 42 = .ok (.istore_n 2, 1) := dk_61 (dk_at dksX11_newAtom_1 20 rfl rfl)
theorem dX11_newAtom_43 : decode cX11_newAtom 43 = .ok (.aload_n 0, 1) := dk_42 (dk_at dksX11_newAtom_1 21 rfl rfl)
theorem dX11_newAtom_44 : decode cX11_newAtom 44 = .ok (.invokevirtual 193, 3) := dk_182 0 193 (dk_at dksX11_newAtom_2 0 rfl rfl)
theorem dX11_newAtom_47 : decode cX11_newAtom 47 = .ok (.istore_n 3, 1) := dk_62 (dk_at dksX11_newAtom_2 3 rfl rfl)
theorem dX11_newAtom_48 : decode cX11_newAtom 48 = .ok (.aload_n 0, 1) := dk_42 (dk_at dksX11_newAtom_2 4 rfl rfl)
theorem dX11_newAtom_49 : decode cX11_newAtom 49 = .ok (.invokevirtual 97, 3) := dk_182 0 97 (dk_at dksX11_newAtom_2 5 rfl rfl)
theorem dX11_newAtom_52 : decode cX11_newAtom 52 = .ok (.istore 4, 2) := dk_54 4 (dk_at dksX11_newAtom_2 8 rfl rfl)
theorem dX11_newAtom_54 : decode cX11_newAtom 54 = .ok (.iload 4, 2) := dk_21 4 (dk_at dksX11_newAtom_2 10 rfl rfl)
theorem dX11_newAtom_56 : decode cX11_newAtom 56 = .ok (.invokestatic 101, 3) := dk_184 0 101 (dk_at dksX11_newAtom_2 12 rfl rfl)
theorem dX11_newAtom_59 : decode cX11_newAtom 59 = .ok (.bipush 50, 2) := dk_16 50 (dk_at dksX11_newAtom_2 15 rfl rfl)
theorem dX11_newAtom_61 : decode cX11_newAtom 61 = .ok (.if_icmp .le 19, 3) := dk_164 0 19 (dk_at dksX11_newAtom_2 17 rfl rfl)
theorem dX11_newAtom_64 : decode cX11_newAtom 64 = .ok (.aload_n 0, 1) := dk_42 (dk_at dksX11_newAtom_2 20 rfl rfl)
theorem dX11_newAtom_65 : decode cX11_newAtom 65 = .ok (.getfield 3, 3) := dk_180 0 3 (dk_at dksX11_newAtom_2 21 rfl rfl)
theorem dX11_newAtom_68 : decode cX11_newAtom 68 = .ok (.getfield 84, 3) := dk_180 0 84 (dk_at dksX11_newAtom_3 0 rfl rfl)
theorem dX11_newAtom_71 : decode cX11_newAtom 71 = .ok (.iconst 4, 1) := dk_7 (dk_at dksX11_newAtom_3 3 rfl rfl)
theorem dX11_newAtom_72 : decode cX11_newAtom 72 = .ok (.aload_n 0, 1) := dk_42 (dk_at dksX11_newAtom_3 4 rfl rfl)
theorem dX11_newAtom_73 : decode cX11_newAtom 73 = .ok (.getfield 43, 3) := dk_180 0 43 (dk_at dksX11_newAtom_3 5 rfl rfl)
theorem dX11_newAtom_76 : decode cX11_newAtom 76 = .ok (.invokevirtual 88, 3) := dk_182 0 88 (dk_at dksX11_newAtom_3 8 rfl rfl)
theorem dX11_newAtom_79 : decode cX11_newAtom 79 = .ok (.athrow, 1) := dk_191 (dk_at dksX11_newAtom_3 11 rfl rfl)
theorem dX11_newAtom_80 : decode cX11_newAtom 80 = .ok (.aload_n 0, 1) := dk_42 (dk_at dksX11_newAtom_3 12 rfl rfl)
theorem dX11_newAtom_81 : decode cX11_newAtom 81 = .ok (.getfield 25, 3) := dk_180 0 25 (dk_at dksX11_newAtom_3 13 rfl rfl)
theorem dX11_newAtom_84 : decode cX11_newAtom 84 = .ok (.iload_n 2, 1) := dk_28 (dk_at dksX11_newAtom_3 16 rfl rfl)
theorem dX11_newAtom_85 : decode cX11_newAtom 85 = .ok (.iload_n 3, 1) := dk_29 (dk_at dksX11_newAtom_3 17 rfl rfl)
theorem dX11_newAtom_86 : decode cX11_newAtom 86 = .ok (.iload 4, 2) := dk_21 4 (dk_at dksX11_newAtom_3 18 rfl rfl)
theorem dX11_newAtom_88 : decode cX11_newAtom 88 = .ok (.invokevirtual 196, 3) := dk_182 0 196 (dk_at dksX11_newAtom_3 20 rfl rfl)
theorem dX11_newAtom_91 : decode cX11_newAtom 91 = .ok (.ifCond .lt 19, 3) := dk_155 0 19 (dk_at dksX11_newAtom_4 0 rfl rfl)
theorem dX11_newAtom_94 : decode cX11_newAtom 94 = .ok (.aload_n 0, 1) := dk_42 (dk_at dksX11_newAtom_4 3 rfl rfl)
theorem dX11_newAtom_95 : decode cX11_newAtom 95 = .ok (.getfield 3, 3) := dk_180 0 3 (dk_at dksX11_newAtom_4 4 rfl rfl)
theorem dX11_newAtom_98 : decode cX11_newAtom 98 = .ok (.getfield 84, 3) := dk_180 0 84 (dk_at dksX11_newAtom_4 7 rfl rfl)
theorem dX11_newAtom_101 : decode cX11_newAtom 101 = .ok (.iconst 5, 1) := dk_8 (dk_at dksX11_newAtom_4 10 rfl rfl)
theorem dX11_newAtom_102 : decode cX11_newAtom 102 = .ok (.aload_n 0, 1) := dk_42 (dk_at dksX11_newAtom_4 11 rfl rfl)
theorem dX11_newAtom_103 : decode cX11_newAtom 103 = .ok (.getfield 43, 3) := dk_180 0 43 (dk_at dksX11_newAtom_4 12 rfl rfl)
theorem dX11_newAtom_106 : decode cX11_newAtom 106 = .ok (.invokevirtual 88, 3) := dk_182 0 88 (dk_at dksX11_newAtom_4 15 rfl rfl)
theorem dX11_newAtom_109 : decode cX11_newAtom 109 = .ok (.athrow, 1) := dk_191 (dk_at dksX11_newAtom_4 18 rfl rfl)
theorem dX11_newAtom_110 : decode cX11_newAtom 110 = .ok (.aload_n 0, 1) := dk_42 (dk_at dksX11_newAtom_4 19 rfl rfl)
theorem dX11_newAtom_111 : decode cX11_newAtom 111 = .ok (.getfield 25, 3) := dk_180 0 25 (dk_at dksX11_newAtom_4 20 rfl rfl)
theorem dX11_newAtom_114 : decode cX11_newAtom 114 = .ok (.iload_n 1, 1) := dk_27 (dk_at dksX11_newAtom_4 23 rfl rfl)
theorem dX11_newAtom_115 : decode cX11_newAtom 115 = .ok (.iload_n 2, 1) := dk_28 (dk_at dksX11_newAtom_5 0 rfl rfl)
theorem dX11_newAtom_116 : decode cX11_newAtom 116 = .ok (.iload_n 3, 1) := dk_29 (dk_at dksX11_newAtom_5 1 rfl rfl)
theorem dX11_newAtom_117 : decode cX11_newAtom 117 = .ok (.iload 4, 2) := dk_21 4 (dk_at dksX11_newAtom_5 2 rfl rfl)
theorem dX11_newAtom_119 : decode cX11_newAtom 119 = .ok (.invokevirtual 200, 3) := dk_182 0 200 (dk_at dksX11_newAtom_5 4 rfl rfl)
theorem dX11_newAtom_122 : decode cX11_newAtom 122 = .ok (.aload_n 0, 1) := dk_42 (dk_at dksX11_newAtom_5 7 rfl rfl)
theorem dX11_newAtom_123 : decode cX11_newAtom 123 = .ok (.invokevirtual 29, 3) := dk_182 0 29 (dk_at dksX11_newAtom_5 8 rfl rfl)
theorem dX11_newAtom_126 : decode cX11_newAtom 126 = .ok (.return_, 1) := dk_177 (dk_at dksX11_newAtom_5 11 rfl rfl)
abbrev cX11_kindOf : ByteArray := prog_11_method_11_code
def yX11_kindOf : MethodName := ⟨RX11, "kindOf", "()I"⟩
def dkwX11_kindOf_11 : List UInt8 := [42, 182, 0, 93, 191, 42, 182, 0, 29, 27, 172]
abbrev dktX11_kindOf_11 : List UInt8 := dkwX11_kindOf_11 ++ []
def dkwX11_kindOf_10 : List UInt8 := [167, 0, 19, 16, 7, 167, 0, 14, 16, 8, 167, 0, 9, 16, 9, 167, 0, 4, 3, 60, 27, 154, 0, 8]
abbrev dktX11_kindOf_10 : List UInt8 := dkwX11_kindOf_10 ++ dktX11_kindOf_11
def dkwX11_kindOf_9 : List UInt8 := [4, 167, 0, 40, 5, 167, 0, 36, 6, 167, 0, 32, 7, 167, 0, 28, 8, 167, 0, 24, 16, 6]
abbrev dktX11_kindOf_9 : List UInt8 := dkwX11_kindOf_9 ++ dktX11_kindOf_10
def dkwX11_kindOf_8 : List UInt8 := [170, 0, 0, 0, 89, 0, 0, 0, 0, 0, 0, 0, 8, 0, 0, 0, 49, 0, 0, 0, 53, 0, 0, 0, 57, 0, 0, 0, 61, 0, 0, 0, 65, 0, 0, 0, 69, 0, 0, 0, 74, 0, 0, 0, 79, 0, 0, 0, 84]
abbrev dktX11_kindOf_8 : List UInt8 := dkwX11_kindOf_8 ++ dktX11_kindOf_9
def dkwX11_kindOf_7 : List UInt8 := [182, 0, 114, 153, 0, 6, 16, 8, 62, 29]
abbrev dktX11_kindOf_7 : List UInt8 := dkwX11_kindOf_7 ++ dktX11_kindOf_8
def dkwX11_kindOf_6 : List UInt8 := [62, 167, 0, 30, 44, 18, 130, 182, 0, 114, 153, 0, 21, 16, 7, 62, 167, 0, 15, 44, 18, 132]
abbrev dktX11_kindOf_6 : List UInt8 := dkwX11_kindOf_6 ++ dktX11_kindOf_7
def dkwX11_kindOf_5 : List UInt8 := [18, 126, 182, 0, 114, 153, 0, 50, 8, 62, 167, 0, 45, 44, 18, 128, 182, 0, 114, 153, 0, 36, 16, 6]
abbrev dktX11_kindOf_5 : List UInt8 := dkwX11_kindOf_5 ++ dktX11_kindOf_6
def dkwX11_kindOf_4 : List UInt8 := [153, 0, 78, 6, 62, 167, 0, 73, 44, 18, 124, 182, 0, 114, 153, 0, 64, 7, 62, 167, 0, 59, 44]
abbrev dktX11_kindOf_4 : List UInt8 := dkwX11_kindOf_4 ++ dktX11_kindOf_5
def dkwX11_kindOf_3 : List UInt8 := [62, 167, 0, 101, 44, 18, 120, 182, 0, 114, 153, 0, 92, 5, 62, 167, 0, 87, 44, 18, 122, 182, 0, 114]
abbrev dktX11_kindOf_3 : List UInt8 := dkwX11_kindOf_3 ++ dktX11_kindOf_4
def dkwX11_kindOf_2 : List UInt8 := [44, 18, 112, 182, 0, 114, 153, 0, 120, 3, 62, 167, 0, 115, 44, 18, 118, 182, 0, 114, 153, 0, 106, 4]
abbrev dktX11_kindOf_2 : List UInt8 := dkwX11_kindOf_2 ++ dktX11_kindOf_3
def dkwX11_kindOf_1 : List UInt8 := [171, 0, 0, 0, 207, 0, 0, 0, 9, 0, 0, 0, 99, 0, 0, 0, 95, 0, 0, 0, 102, 0, 0, 0, 137, 0, 0, 0, 104, 0, 0, 0, 81, 0, 0, 0, 110, 0, 0, 0, 109, 0, 0, 0, 111, 0, 0, 0, 123, 0, 0, 0, 112, 0, 0, 0, 165, 0, 0, 0, 115, 0, 0, 0, 151, 0, 0, 12, 80, 0, 0, 0, 195, 0, 0, 12, 105, 0, 0, 0, 180]
abbrev dktX11_kindOf_1 : List UInt8 := dkwX11_kindOf_1 ++ dktX11_kindOf_2
def dkwX11_kindOf_0 : List UInt8 := [42, 180, 0, 17, 77, 2, 62, 44, 182, 0, 107]
abbrev dktX11_kindOf_0 : List UInt8 := dkwX11_kindOf_0 ++ dktX11_kindOf_1
theorem dksX11_kindOf_0 : cX11_kindOf.data.toList.drop 0 = dktX11_kindOf_0 := by decide +kernel
theorem dksX11_kindOf_1 : cX11_kindOf.data.toList.drop 11 = dktX11_kindOf_1 := dk_seg dksX11_kindOf_0 11 rfl rfl
theorem dksX11_kindOf_2 : cX11_kindOf.data.toList.drop 92 = dktX11_kindOf_2 := dk_seg dksX11_kindOf_1 81 rfl rfl
theorem dksX11_kindOf_3 : cX11_kindOf.data.toList.drop 116 = dktX11_kindOf_3 := dk_seg dksX11_kindOf_2 24 rfl rfl
theorem dksX11_kindOf_4 : cX11_kindOf.data.toList.drop 140 = dktX11_kindOf_4 := dk_seg dksX11_kindOf_3 24 rfl rfl
theorem dksX11_kindOf_5 : cX11_kindOf.data.toList.drop 163 = dktX11_kindOf_5 := dk_seg dksX11_kindOf_4 23 rfl rfl
theorem dksX11_kindOf_6 : cX11_kindOf.data.toList.drop 187 = dktX11_kindOf_6 := dk_seg dksX11_kindOf_5 24 rfl rfl
theorem dksX11_kindOf_7 : cX11_kindOf.data.toList.drop 209 = dktX11_kindOf_7 := dk_seg dksX11_kindOf_6 22 rfl rfl
theorem dksX11_kindOf_8 : cX11_kindOf.data.toList.drop 219 = dktX11_kindOf_8 := dk_seg dksX11_kindOf_7 10 rfl rfl
theorem dksX11_kindOf_9 : cX11_kindOf.data.toList.drop 268 = dktX11_kindOf_9 := dk_seg dksX11_kindOf_8 49 rfl rfl
theorem dksX11_kindOf_10 : cX11_kindOf.data.toList.drop 290 = dktX11_kindOf_10 := dk_seg dksX11_kindOf_9 22 rfl rfl
theorem dksX11_kindOf_11 : cX11_kindOf.data.toList.drop 314 = dktX11_kindOf_11 := dk_seg dksX11_kindOf_10 24 rfl rfl
theorem dX11_kindOf_0 : decode cX11_kindOf 0 = .ok (.aload_n 0, 1) := dk_42 (dk_at dksX11_kindOf_0 0 rfl rfl)
theorem dX11_kindOf_1 : decode cX11_kindOf 1 = .ok (.getfield 17, 3) := dk_180 0 17 (dk_at dksX11_kindOf_0 1 rfl rfl)
theorem dX11_kindOf_4 : decode cX11_kindOf 4 = .ok (.astore_n 2, 1) := dk_77 (dk_at dksX11_kindOf_0 4 rfl rfl)
theorem dX11_kindOf_5 : decode cX11_kindOf 5 = .ok (.iconst (-1), 1) := dk_2 (dk_at dksX11_kindOf_0 5 rfl rfl)
theorem dX11_kindOf_6 : decode cX11_kindOf 6 = .ok (.istore_n 3, 1) := dk_62 (dk_at dksX11_kindOf_0 6 rfl rfl)
theorem dX11_kindOf_7 : decode cX11_kindOf 7 = .ok (.aload_n 2, 1) := dk_44 (dk_at dksX11_kindOf_0 7 rfl rfl)
theorem dX11_kindOf_8 : decode cX11_kindOf 8 = .ok (.invokevirtual 107, 3) := dk_182 0 107 (dk_at dksX11_kindOf_0 8 rfl rfl)
theorem dX11_kindOf_11 : decode cX11_kindOf 11 = .ok (.lookupswitch 207 #[(99, 95), (102, 137), (104, 81), (110, 109), (111, 123), (112, 165), (115, 151), (3152, 195), (3177, 180)], 81) := by decide +kernel
theorem dX11_kindOf_92 : decode cX11_kindOf 92 = .ok (.aload_n 2, 1) := dk_44 (dk_at dksX11_kindOf_2 0 rfl rfl)
theorem dX11_kindOf_93 : decode cX11_kindOf 93 = .ok (.ldc 112, 2) := dk_18 112 (dk_at dksX11_kindOf_2 1 rfl rfl)
theorem dX11_kindOf_95 : decode cX11_kindOf 95 = .ok (.invokevirtual 114, 3) := dk_182 0 114 (dk_at dksX11_kindOf_2 3 rfl rfl)
theorem dX11_kindOf_98 : decode cX11_kindOf 98 = .ok (.ifCond .eq 120, 3) := dk_153 0 120 (dk_at dksX11_kindOf_2 6 rfl rfl)
theorem dX11_kindOf_101 : decode cX11_kindOf 101 = .ok (.iconst 0, 1) := dk_3 (dk_at dksX11_kindOf_2 9 rfl rfl)
theorem dX11_kindOf_102 : decode cX11_kindOf 102 = .ok (.istore_n 3, 1) := dk_62 (dk_at dksX11_kindOf_2 10 rfl rfl)
theorem dX11_kindOf_103 : decode cX11_kindOf 103 = .ok (.goto 115, 3) := dk_167 0 115 (dk_at dksX11_kindOf_2 11 rfl rfl)
theorem dX11_kindOf_106 : decode cX11_kindOf 106 = .ok (.aload_n 2, 1) := dk_44 (dk_at dksX11_kindOf_2 14 rfl rfl)
theorem dX11_kindOf_107 : decode cX11_kindOf 107 = .ok (.ldc 118, 2) := dk_18 118 (dk_at dksX11_kindOf_2 15 rfl rfl)
theorem dX11_kindOf_109 : decode cX11_kindOf 109 = .ok (.invokevirtual 114, 3) := dk_182 0 114 (dk_at dksX11_kindOf_2 17 rfl rfl)
theorem dX11_kindOf_112 : decode cX11_kindOf 112 = .ok (.ifCond .eq 106, 3) := dk_153 0 106 (dk_at dksX11_kindOf_2 20 rfl rfl)
theorem dX11_kindOf_115 : decode cX11_kindOf 115 = .ok (.iconst 1, 1) := dk_4 (dk_at dksX11_kindOf_2 23 rfl rfl)
theorem dX11_kindOf_116 : decode cX11_kindOf 116 = .ok (.istore_n 3, 1) := dk_62 (dk_at dksX11_kindOf_3 0 rfl rfl)
theorem dX11_kindOf_117 : decode cX11_kindOf 117 = .ok (.goto 101, 3) := dk_167 0 101 (dk_at dksX11_kindOf_3 1 rfl rfl)
theorem dX11_kindOf_120 : decode cX11_kindOf 120 = .ok (.aload_n 2, 1) := dk_44 (dk_at dksX11_kindOf_3 4 rfl rfl)
theorem dX11_kindOf_121 : decode cX11_kindOf 121 = .ok (.ldc 120, 2) := dk_18 120 (dk_at dksX11_kindOf_3 5 rfl rfl)
theorem dX11_kindOf_123 : decode cX11_kindOf 123 = .ok (.invokevirtual 114, 3) := dk_182 0 114 (dk_at dksX11_kindOf_3 7 rfl rfl)
theorem dX11_kindOf_126 : decode cX11_kindOf 126 = .ok (.ifCond .eq 92, 3) := dk_153 0 92 (dk_at dksX11_kindOf_3 10 rfl rfl)
theorem dX11_kindOf_129 : decode cX11_kindOf 129 = .ok (.iconst 2, 1) := dk_5 (dk_at dksX11_kindOf_3 13 rfl rfl)
theorem dX11_kindOf_130 : decode cX11_kindOf 130 = .ok (.istore_n 3, 1) := dk_62 (dk_at dksX11_kindOf_3 14 rfl rfl)
theorem dX11_kindOf_131 : decode cX11_kindOf 131 = .ok (.goto 87, 3) := dk_167 0 87 (dk_at dksX11_kindOf_3 15 rfl rfl)
theorem dX11_kindOf_134 : decode cX11_kindOf 134 = .ok (.aload_n 2, 1) := dk_44 (dk_at dksX11_kindOf_3 18 rfl rfl)
theorem dX11_kindOf_135 : decode cX11_kindOf 135 = .ok (.ldc 122, 2) := dk_18 122 (dk_at dksX11_kindOf_3 19 rfl rfl)
theorem dX11_kindOf_137 : decode cX11_kindOf 137 = .ok (.invokevirtual 114, 3) := dk_182 0 114 (dk_at dksX11_kindOf_3 21 rfl rfl)
theorem dX11_kindOf_140 : decode cX11_kindOf 140 = .ok (.ifCond .eq 78, 3) := dk_153 0 78 (dk_at dksX11_kindOf_4 0 rfl rfl)
theorem dX11_kindOf_143 : decode cX11_kindOf 143 = .ok (.iconst 3, 1) := dk_6 (dk_at dksX11_kindOf_4 3 rfl rfl)
theorem dX11_kindOf_144 : decode cX11_kindOf 144 = .ok (.istore_n 3, 1) := dk_62 (dk_at dksX11_kindOf_4 4 rfl rfl)
theorem dX11_kindOf_145 : decode cX11_kindOf 145 = .ok (.goto 73, 3) := dk_167 0 73 (dk_at dksX11_kindOf_4 5 rfl rfl)
theorem dX11_kindOf_148 : decode cX11_kindOf 148 = .ok (.aload_n 2, 1) := dk_44 (dk_at dksX11_kindOf_4 8 rfl rfl)
theorem dX11_kindOf_149 : decode cX11_kindOf 149 = .ok (.ldc 124, 2) := dk_18 124 (dk_at dksX11_kindOf_4 9 rfl rfl)
theorem dX11_kindOf_151 : decode cX11_kindOf 151 = .ok (.invokevirtual 114, 3) := dk_182 0 114 (dk_at dksX11_kindOf_4 11 rfl rfl)
theorem dX11_kindOf_154 : decode cX11_kindOf 154 = .ok (.ifCond .eq 64, 3) := dk_153 0 64 (dk_at dksX11_kindOf_4 14 rfl rfl)
theorem dX11_kindOf_157 : decode cX11_kindOf 157 = .ok (.iconst 4, 1) := dk_7 (dk_at dksX11_kindOf_4 17 rfl rfl)
theorem dX11_kindOf_158 : decode cX11_kindOf 158 = .ok (.istore_n 3, 1) := dk_62 (dk_at dksX11_kindOf_4 18 rfl rfl)
theorem dX11_kindOf_159 : decode cX11_kindOf 159 = .ok (.goto 59, 3) := dk_167 0 59 (dk_at dksX11_kindOf_4 19 rfl rfl)
theorem dX11_kindOf_162 : decode cX11_kindOf 162 = .ok (.aload_n 2, 1) := dk_44 (dk_at dksX11_kindOf_4 22 rfl rfl)
theorem dX11_kindOf_163 : decode cX11_kindOf 163 = .ok (.ldc 126, 2) := dk_18 126 (dk_at dksX11_kindOf_5 0 rfl rfl)
theorem dX11_kindOf_165 : decode cX11_kindOf 165 = .ok (.invokevirtual 114, 3) := dk_182 0 114 (dk_at dksX11_kindOf_5 2 rfl rfl)
theorem dX11_kindOf_168 : decode cX11_kindOf 168 = .ok (.ifCond .eq 50, 3) := dk_153 0 50 (dk_at dksX11_kindOf_5 5 rfl rfl)
theorem dX11_kindOf_171 : decode cX11_kindOf 171 = .ok (.iconst 5, 1) := dk_8 (dk_at dksX11_kindOf_5 8 rfl rfl)
theorem dX11_kindOf_172 : decode cX11_kindOf 172 = .ok (.istore_n 3, 1) := dk_62 (dk_at dksX11_kindOf_5 9 rfl rfl)
theorem dX11_kindOf_173 : decode cX11_kindOf 173 = .ok (.goto 45, 3) := dk_167 0 45 (dk_at dksX11_kindOf_5 10 rfl rfl)
theorem dX11_kindOf_176 : decode cX11_kindOf 176 = .ok (.aload_n 2, 1) := dk_44 (dk_at dksX11_kindOf_5 13 rfl rfl)
theorem dX11_kindOf_177 : decode cX11_kindOf 177 = .ok (.ldc 128, 2) := dk_18 128 (dk_at dksX11_kindOf_5 14 rfl rfl)
theorem dX11_kindOf_179 : decode cX11_kindOf 179 = .ok (.invokevirtual 114, 3) := dk_182 0 114 (dk_at dksX11_kindOf_5 16 rfl rfl)
theorem dX11_kindOf_182 : decode cX11_kindOf 182 = .ok (.ifCond .eq 36, 3) := dk_153 0 36 (dk_at dksX11_kindOf_5 19 rfl rfl)
theorem dX11_kindOf_185 : decode cX11_kindOf 185 = .ok (.bipush 6, 2) := dk_16 6 (dk_at dksX11_kindOf_5 22 rfl rfl)
theorem dX11_kindOf_187 : decode cX11_kindOf 187 = .ok (.istore_n 3, 1) := dk_62 (dk_at dksX11_kindOf_6 0 rfl rfl)
theorem dX11_kindOf_188 : decode cX11_kindOf 188 = .ok (.goto 30, 3) := dk_167 0 30 (dk_at dksX11_kindOf_6 1 rfl rfl)
theorem dX11_kindOf_191 : decode cX11_kindOf 191 = .ok (.aload_n 2, 1) := dk_44 (dk_at dksX11_kindOf_6 4 rfl rfl)
theorem dX11_kindOf_192 : decode cX11_kindOf 192 = .ok (.ldc 130, 2) := dk_18 130 (dk_at dksX11_kindOf_6 5 rfl rfl)
theorem dX11_kindOf_194 : decode cX11_kindOf 194 = .ok (.invokevirtual 114, 3) := dk_182 0 114 (dk_at dksX11_kindOf_6 7 rfl rfl)
theorem dX11_kindOf_197 : decode cX11_kindOf 197 = .ok (.ifCond .eq 21, 3) := dk_153 0 21 (dk_at dksX11_kindOf_6 10 rfl rfl)
theorem dX11_kindOf_200 : decode cX11_kindOf 200 = .ok (.bipush 7, 2) := dk_16 7 (dk_at dksX11_kindOf_6 13 rfl rfl)
theorem dX11_kindOf_202 : decode cX11_kindOf 202 = .ok (.istore_n 3, 1) := dk_62 (dk_at dksX11_kindOf_6 15 rfl rfl)
theorem dX11_kindOf_203 : decode cX11_kindOf 203 = .ok (.goto 15, 3) := dk_167 0 15 (dk_at dksX11_kindOf_6 16 rfl rfl)
theorem dX11_kindOf_206 : decode cX11_kindOf 206 = .ok (.aload_n 2, 1) := dk_44 (dk_at dksX11_kindOf_6 19 rfl rfl)
theorem dX11_kindOf_207 : decode cX11_kindOf 207 = .ok (.ldc 132, 2) := dk_18 132 (dk_at dksX11_kindOf_6 20 rfl rfl)
theorem dX11_kindOf_209 : decode cX11_kindOf 209 = .ok (.invokevirtual 114, 3) := dk_182 0 114 (dk_at dksX11_kindOf_7 0 rfl rfl)
theorem dX11_kindOf_212 : decode cX11_kindOf 212 = .ok (.ifCond .eq 6, 3) := dk_153 0 6 (dk_at dksX11_kindOf_7 3 rfl rfl)
theorem dX11_kindOf_215 : decode cX11_kindOf 215 = .ok (.bipush 8, 2) := dk_16 8 (dk_at dksX11_kindOf_7 6 rfl rfl)
theorem dX11_kindOf_217 : decode cX11_kindOf 217 = .ok (.istore_n 3, 1) := dk_62 (dk_at dksX11_kindOf_7 8 rfl rfl)
theorem dX11_kindOf_218 : decode cX11_kindOf 218 = .ok (.iload_n 3, 1) := dk_29 (dk_at dksX11_kindOf_7 9 rfl rfl)
theorem dX11_kindOf_219 : decode cX11_kindOf 219 = .ok (.tableswitch 89 0 8 #[49, 53, 57, 61, 65, 69, 74, 79, 84], 49) := by decide +kernel
theorem dX11_kindOf_268 : decode cX11_kindOf 268 = .ok (.iconst 1, 1) := dk_4 (dk_at dksX11_kindOf_9 0 rfl rfl)
theorem dX11_kindOf_269 : decode cX11_kindOf 269 = .ok (.goto 40, 3) := dk_167 0 40 (dk_at dksX11_kindOf_9 1 rfl rfl)
theorem dX11_kindOf_272 : decode cX11_kindOf 272 = .ok (.iconst 2, 1) := dk_5 (dk_at dksX11_kindOf_9 4 rfl rfl)
theorem dX11_kindOf_273 : decode cX11_kindOf 273 = .ok (.goto 36, 3) := dk_167 0 36 (dk_at dksX11_kindOf_9 5 rfl rfl)
theorem dX11_kindOf_276 : decode cX11_kindOf 276 = .ok (.iconst 3, 1) := dk_6 (dk_at dksX11_kindOf_9 8 rfl rfl)
theorem dX11_kindOf_277 : decode cX11_kindOf 277 = .ok (.goto 32, 3) := dk_167 0 32 (dk_at dksX11_kindOf_9 9 rfl rfl)
theorem dX11_kindOf_280 : decode cX11_kindOf 280 = .ok (.iconst 4, 1) := dk_7 (dk_at dksX11_kindOf_9 12 rfl rfl)
theorem dX11_kindOf_281 : decode cX11_kindOf 281 = .ok (.goto 28, 3) := dk_167 0 28 (dk_at dksX11_kindOf_9 13 rfl rfl)
theorem dX11_kindOf_284 : decode cX11_kindOf 284 = .ok (.iconst 5, 1) := dk_8 (dk_at dksX11_kindOf_9 16 rfl rfl)
theorem dX11_kindOf_285 : decode cX11_kindOf 285 = .ok (.goto 24, 3) := dk_167 0 24 (dk_at dksX11_kindOf_9 17 rfl rfl)
theorem dX11_kindOf_288 : decode cX11_kindOf 288 = .ok (.bipush 6, 2) := dk_16 6 (dk_at dksX11_kindOf_9 20 rfl rfl)
theorem dX11_kindOf_290 : decode cX11_kindOf 290 = .ok (.goto 19, 3) := dk_167 0 19 (dk_at dksX11_kindOf_10 0 rfl rfl)
theorem dX11_kindOf_293 : decode cX11_kindOf 293 = .ok (.bipush 7, 2) := dk_16 7 (dk_at dksX11_kindOf_10 3 rfl rfl)
theorem dX11_kindOf_295 : decode cX11_kindOf 295 = .ok (.goto 14, 3) := dk_167 0 14 (dk_at dksX11_kindOf_10 5 rfl rfl)
theorem dX11_kindOf_298 : decode cX11_kindOf 298 = .ok (.bipush 8, 2) := dk_16 8 (dk_at dksX11_kindOf_10 8 rfl rfl)
theorem dX11_kindOf_300 : decode cX11_kindOf 300 = .ok (.goto 9, 3) := dk_167 0 9 (dk_at dksX11_kindOf_10 10 rfl rfl)
theorem dX11_kindOf_303 : decode cX11_kindOf 303 = .ok (.bipush 9, 2) := dk_16 9 (dk_at dksX11_kindOf_10 13 rfl rfl)
theorem dX11_kindOf_305 : decode cX11_kindOf 305 = .ok (.goto 4, 3) := dk_167 0 4 (dk_at dksX11_kindOf_10 15 rfl rfl)
theorem dX11_kindOf_308 : decode cX11_kindOf 308 = .ok (.iconst 0, 1) := dk_3 (dk_at dksX11_kindOf_10 18 rfl rfl)
theorem dX11_kindOf_309 : decode cX11_kindOf 309 = .ok (.istore_n 1, 1) := dk_60 (dk_at dksX11_kindOf_10 19 rfl rfl)
theorem dX11_kindOf_310 : decode cX11_kindOf 310 = .ok (.iload_n 1, 1) := dk_27 (dk_at dksX11_kindOf_10 20 rfl rfl)
theorem dX11_kindOf_311 : decode cX11_kindOf 311 = .ok (.ifCond .ne 8, 3) := dk_154 0 8 (dk_at dksX11_kindOf_10 21 rfl rfl)
theorem dX11_kindOf_314 : decode cX11_kindOf 314 = .ok (.aload_n 0, 1) := dk_42 (dk_at dksX11_kindOf_11 0 rfl rfl)
theorem dX11_kindOf_315 : decode cX11_kindOf 315 = .ok (.invokevirtual 93, 3) := dk_182 0 93 (dk_at dksX11_kindOf_11 1 rfl rfl)
theorem dX11_kindOf_318 : decode cX11_kindOf 318 = .ok (.athrow, 1) := dk_191 (dk_at dksX11_kindOf_11 4 rfl rfl)
theorem dX11_kindOf_319 : decode cX11_kindOf 319 = .ok (.aload_n 0, 1) := dk_42 (dk_at dksX11_kindOf_11 5 rfl rfl)
theorem dX11_kindOf_320 : decode cX11_kindOf 320 = .ok (.invokevirtual 29, 3) := dk_182 0 29 (dk_at dksX11_kindOf_11 6 rfl rfl)
theorem dX11_kindOf_323 : decode cX11_kindOf 323 = .ok (.iload_n 1, 1) := dk_27 (dk_at dksX11_kindOf_11 9 rfl rfl)
theorem dX11_kindOf_324 : decode cX11_kindOf 324 = .ok (.ireturn, 1) := dk_172 (dk_at dksX11_kindOf_11 10 rfl rfl)
abbrev cX11_wrong : ByteArray := prog_11_method_8_code
def yX11_wrong : MethodName := ⟨RX11, "wrong", "()LVibrationDesk$Bad;"⟩
def dkwX11_wrong_1 : List UInt8 := [180, 0, 43, 182, 0, 88, 176]
abbrev dktX11_wrong_1 : List UInt8 := dkwX11_wrong_1 ++ []
def dkwX11_wrong_0 : List UInt8 := [42, 180, 0, 3, 180, 0, 84, 42, 180, 0, 46, 16, 98, 160, 0, 7, 4, 167, 0, 4, 5, 42]
abbrev dktX11_wrong_0 : List UInt8 := dkwX11_wrong_0 ++ dktX11_wrong_1
theorem dksX11_wrong_0 : cX11_wrong.data.toList.drop 0 = dktX11_wrong_0 := by decide +kernel
theorem dksX11_wrong_1 : cX11_wrong.data.toList.drop 22 = dktX11_wrong_1 := dk_seg dksX11_wrong_0 22 rfl rfl
theorem dX11_wrong_0 : decode cX11_wrong 0 = .ok (.aload_n 0, 1) := dk_42 (dk_at dksX11_wrong_0 0 rfl rfl)
theorem dX11_wrong_1 : decode cX11_wrong 1 = .ok (.getfield 3, 3) := dk_180 0 3 (dk_at dksX11_wrong_0 1 rfl rfl)
theorem dX11_wrong_4 : decode cX11_wrong 4 = .ok (.getfield 84, 3) := dk_180 0 84 (dk_at dksX11_wrong_0 4 rfl rfl)
theorem dX11_wrong_7 : decode cX11_wrong 7 = .ok (.aload_n 0, 1) := dk_42 (dk_at dksX11_wrong_0 7 rfl rfl)
theorem dX11_wrong_8 : decode cX11_wrong 8 = .ok (.getfield 46, 3) := dk_180 0 46 (dk_at dksX11_wrong_0 8 rfl rfl)
theorem dX11_wrong_11 : decode cX11_wrong 11 = .ok (.bipush 98, 2) := dk_16 98 (dk_at dksX11_wrong_0 11 rfl rfl)
theorem dX11_wrong_13 : decode cX11_wrong 13 = .ok (.if_icmp .ne 7, 3) := dk_160 0 7 (dk_at dksX11_wrong_0 13 rfl rfl)
theorem dX11_wrong_16 : decode cX11_wrong 16 = .ok (.iconst 1, 1) := dk_4 (dk_at dksX11_wrong_0 16 rfl rfl)
theorem dX11_wrong_17 : decode cX11_wrong 17 = .ok (.goto 4, 3) := dk_167 0 4 (dk_at dksX11_wrong_0 17 rfl rfl)
theorem dX11_wrong_20 : decode cX11_wrong 20 = .ok (.iconst 2, 1) := dk_5 (dk_at dksX11_wrong_0 20 rfl rfl)
theorem dX11_wrong_21 : decode cX11_wrong 21 = .ok (.aload_n 0, 1) := dk_42 (dk_at dksX11_wrong_0 21 rfl rfl)
theorem dX11_wrong_22 : decode cX11_wrong 22 = .ok (.getfield 43, 3) := dk_180 0 43 (dk_at dksX11_wrong_1 0 rfl rfl)
theorem dX11_wrong_25 : decode cX11_wrong 25 = .ok (.invokevirtual 88, 3) := dk_182 0 88 (dk_at dksX11_wrong_1 3 rfl rfl)
theorem dX11_wrong_28 : decode cX11_wrong 28 = .ok (.areturn, 1) := dk_176 (dk_at dksX11_wrong_1 6 rfl rfl)
abbrev cX11_coordinate : ByteArray := prog_11_method_10_code
def yX11_coordinate : MethodName := ⟨RX11, "coordinate", "()I"⟩
def dkwX11_coordinate_1 : List UInt8 := [180, 0, 43, 182, 0, 88, 191, 42, 182, 0, 29, 27, 172]
abbrev dktX11_coordinate_1 : List UInt8 := dkwX11_coordinate_1 ++ []
def dkwX11_coordinate_0 : List UInt8 := [42, 182, 0, 97, 60, 27, 184, 0, 101, 16, 50, 164, 0, 19, 42, 180, 0, 3, 180, 0, 84, 7, 42]
abbrev dktX11_coordinate_0 : List UInt8 := dkwX11_coordinate_0 ++ dktX11_coordinate_1
theorem dksX11_coordinate_0 : cX11_coordinate.data.toList.drop 0 = dktX11_coordinate_0 := by decide +kernel
theorem dksX11_coordinate_1 : cX11_coordinate.data.toList.drop 23 = dktX11_coordinate_1 := dk_seg dksX11_coordinate_0 23 rfl rfl
theorem dX11_coordinate_0 : decode cX11_coordinate 0 = .ok (.aload_n 0, 1) := dk_42 (dk_at dksX11_coordinate_0 0 rfl rfl)
theorem dX11_coordinate_1 : decode cX11_coordinate 1 = .ok (.invokevirtual 97, 3) := dk_182 0 97 (dk_at dksX11_coordinate_0 1 rfl rfl)
theorem dX11_coordinate_4 : decode cX11_coordinate 4 = .ok (.istore_n 1, 1) := dk_60 (dk_at dksX11_coordinate_0 4 rfl rfl)
theorem dX11_coordinate_5 : decode cX11_coordinate 5 = .ok (.iload_n 1, 1) := dk_27 (dk_at dksX11_coordinate_0 5 rfl rfl)
theorem dX11_coordinate_6 : decode cX11_coordinate 6 = .ok (.invokestatic 101, 3) := dk_184 0 101 (dk_at dksX11_coordinate_0 6 rfl rfl)
theorem dX11_coordinate_9 : decode cX11_coordinate 9 = .ok (.bipush 50, 2) := dk_16 50 (dk_at dksX11_coordinate_0 9 rfl rfl)
theorem dX11_coordinate_11 : decode cX11_coordinate 11 = .ok (.if_icmp .le 19, 3) := dk_164 0 19 (dk_at dksX11_coordinate_0 11 rfl rfl)
theorem dX11_coordinate_14 : decode cX11_coordinate 14 = .ok (.aload_n 0, 1) := dk_42 (dk_at dksX11_coordinate_0 14 rfl rfl)
theorem dX11_coordinate_15 : decode cX11_coordinate 15 = .ok (.getfield 3, 3) := dk_180 0 3 (dk_at dksX11_coordinate_0 15 rfl rfl)
theorem dX11_coordinate_18 : decode cX11_coordinate 18 = .ok (.getfield 84, 3) := dk_180 0 84 (dk_at dksX11_coordinate_0 18 rfl rfl)
theorem dX11_coordinate_21 : decode cX11_coordinate 21 = .ok (.iconst 4, 1) := dk_7 (dk_at dksX11_coordinate_0 21 rfl rfl)
theorem dX11_coordinate_22 : decode cX11_coordinate 22 = .ok (.aload_n 0, 1) := dk_42 (dk_at dksX11_coordinate_0 22 rfl rfl)
theorem dX11_coordinate_23 : decode cX11_coordinate 23 = .ok (.getfield 43, 3) := dk_180 0 43 (dk_at dksX11_coordinate_1 0 rfl rfl)
theorem dX11_coordinate_26 : decode cX11_coordinate 26 = .ok (.invokevirtual 88, 3) := dk_182 0 88 (dk_at dksX11_coordinate_1 3 rfl rfl)
theorem dX11_coordinate_29 : decode cX11_coordinate 29 = .ok (.athrow, 1) := dk_191 (dk_at dksX11_coordinate_1 6 rfl rfl)
theorem dX11_coordinate_30 : decode cX11_coordinate 30 = .ok (.aload_n 0, 1) := dk_42 (dk_at dksX11_coordinate_1 7 rfl rfl)
theorem dX11_coordinate_31 : decode cX11_coordinate 31 = .ok (.invokevirtual 29, 3) := dk_182 0 29 (dk_at dksX11_coordinate_1 8 rfl rfl)
theorem dX11_coordinate_34 : decode cX11_coordinate 34 = .ok (.iload_n 1, 1) := dk_27 (dk_at dksX11_coordinate_1 11 rfl rfl)
theorem dX11_coordinate_35 : decode cX11_coordinate 35 = .ok (.ireturn, 1) := dk_172 (dk_at dksX11_coordinate_1 12 rfl rfl)
abbrev cX11_figures : ByteArray := prog_11_method_9_code
def yX11_figures : MethodName := ⟨RX11, "figures", "()I"⟩
def dkwX11_figures_0 : List UInt8 := [42, 180, 0, 46, 16, 102, 159, 0, 8, 42, 182, 0, 93, 191, 42, 180, 0, 81, 172]
abbrev dktX11_figures_0 : List UInt8 := dkwX11_figures_0 ++ []
theorem dksX11_figures_0 : cX11_figures.data.toList.drop 0 = dktX11_figures_0 := by decide +kernel
theorem dX11_figures_0 : decode cX11_figures 0 = .ok (.aload_n 0, 1) := dk_42 (dk_at dksX11_figures_0 0 rfl rfl)
theorem dX11_figures_1 : decode cX11_figures 1 = .ok (.getfield 46, 3) := dk_180 0 46 (dk_at dksX11_figures_0 1 rfl rfl)
theorem dX11_figures_4 : decode cX11_figures 4 = .ok (.bipush 102, 2) := dk_16 102 (dk_at dksX11_figures_0 4 rfl rfl)
theorem dX11_figures_6 : decode cX11_figures 6 = .ok (.if_icmp .eq 8, 3) := dk_159 0 8 (dk_at dksX11_figures_0 6 rfl rfl)
theorem dX11_figures_9 : decode cX11_figures 9 = .ok (.aload_n 0, 1) := dk_42 (dk_at dksX11_figures_0 9 rfl rfl)
theorem dX11_figures_10 : decode cX11_figures 10 = .ok (.invokevirtual 93, 3) := dk_182 0 93 (dk_at dksX11_figures_0 10 rfl rfl)
theorem dX11_figures_13 : decode cX11_figures 13 = .ok (.athrow, 1) := dk_191 (dk_at dksX11_figures_0 13 rfl rfl)
theorem dX11_figures_14 : decode cX11_figures 14 = .ok (.aload_n 0, 1) := dk_42 (dk_at dksX11_figures_0 14 rfl rfl)
theorem dX11_figures_15 : decode cX11_figures 15 = .ok (.getfield 81, 3) := dk_180 0 81 (dk_at dksX11_figures_0 15 rfl rfl)
theorem dX11_figures_18 : decode cX11_figures 18 = .ok (.ireturn, 1) := dk_172 (dk_at dksX11_figures_0 18 rfl rfl)
abbrev cX11_imageOf : ByteArray := prog_11_method_12_code
def yX11_imageOf : MethodName := ⟨RX11, "imageOf", "()I"⟩
def dkwX11_imageOf_9 : List UInt8 := [16, 6, 167, 0, 9, 16, 7, 167, 0, 4, 2, 60, 27, 156, 0, 8, 42, 182, 0, 93, 191, 27, 172]
abbrev dktX11_imageOf_9 : List UInt8 := dkwX11_imageOf_9 ++ []
def dkwX11_imageOf_8 : List UInt8 := [3, 167, 0, 34, 4, 167, 0, 30, 5, 167, 0, 26, 6, 167, 0, 22, 7, 167, 0, 18, 8, 167, 0, 14]
abbrev dktX11_imageOf_8 : List UInt8 := dkwX11_imageOf_8 ++ dktX11_imageOf_9
def dkwX11_imageOf_7 : List UInt8 := [170, 0, 0, 0, 0, 0, 0, 82, 0, 0, 0, 0, 0, 0, 0, 7, 0, 0, 0, 48, 0, 0, 0, 52, 0, 0, 0, 56, 0, 0, 0, 60, 0, 0, 0, 64, 0, 0, 0, 68, 0, 0, 0, 72, 0, 0, 0, 77]
abbrev dktX11_imageOf_7 : List UInt8 := dkwX11_imageOf_7 ++ dktX11_imageOf_8
def dkwX11_imageOf_6 : List UInt8 := [62, 167, 0, 15, 44, 18, 148, 182, 0, 114, 153, 0, 6, 16, 7, 62, 29]
abbrev dktX11_imageOf_6 : List UInt8 := dkwX11_imageOf_6 ++ dktX11_imageOf_7
def dkwX11_imageOf_5 : List UInt8 := [18, 144, 182, 0, 114, 153, 0, 35, 8, 62, 167, 0, 30, 44, 18, 146, 182, 0, 114, 153, 0, 21, 16, 6]
abbrev dktX11_imageOf_5 : List UInt8 := dkwX11_imageOf_5 ++ dktX11_imageOf_6
def dkwX11_imageOf_4 : List UInt8 := [153, 0, 63, 6, 62, 167, 0, 58, 44, 18, 142, 182, 0, 114, 153, 0, 49, 7, 62, 167, 0, 44, 44]
abbrev dktX11_imageOf_4 : List UInt8 := dkwX11_imageOf_4 ++ dktX11_imageOf_5
def dkwX11_imageOf_3 : List UInt8 := [62, 167, 0, 86, 44, 18, 138, 182, 0, 114, 153, 0, 77, 5, 62, 167, 0, 72, 44, 18, 140, 182, 0, 114]
abbrev dktX11_imageOf_3 : List UInt8 := dkwX11_imageOf_3 ++ dktX11_imageOf_4
def dkwX11_imageOf_2 : List UInt8 := [44, 18, 134, 182, 0, 114, 153, 0, 105, 3, 62, 167, 0, 100, 44, 18, 136, 182, 0, 114, 153, 0, 91, 4]
abbrev dktX11_imageOf_2 : List UInt8 := dkwX11_imageOf_2 ++ dktX11_imageOf_3
def dkwX11_imageOf_1 : List UInt8 := [171, 0, 0, 0, 184, 0, 0, 0, 8, 185, 114, 31, 214, 0, 0, 0, 73, 202, 248, 7, 212, 0, 0, 0, 129, 202, 248, 7, 213, 0, 0, 0, 157, 202, 248, 7, 244, 0, 0, 0, 143, 5, 171, 152, 230, 0, 0, 0, 172, 5, 208, 13, 171, 0, 0, 0, 87, 5, 208, 13, 172, 0, 0, 0, 101, 5, 208, 13, 173, 0, 0, 0, 115]
abbrev dktX11_imageOf_1 : List UInt8 := dkwX11_imageOf_1 ++ dktX11_imageOf_2
def dkwX11_imageOf_0 : List UInt8 := [42, 180, 0, 17, 77, 2, 62, 44, 182, 0, 107]
abbrev dktX11_imageOf_0 : List UInt8 := dkwX11_imageOf_0 ++ dktX11_imageOf_1
theorem dksX11_imageOf_0 : cX11_imageOf.data.toList.drop 0 = dktX11_imageOf_0 := by decide +kernel
theorem dksX11_imageOf_1 : cX11_imageOf.data.toList.drop 11 = dktX11_imageOf_1 := dk_seg dksX11_imageOf_0 11 rfl rfl
theorem dksX11_imageOf_2 : cX11_imageOf.data.toList.drop 84 = dktX11_imageOf_2 := dk_seg dksX11_imageOf_1 73 rfl rfl
theorem dksX11_imageOf_3 : cX11_imageOf.data.toList.drop 108 = dktX11_imageOf_3 := dk_seg dksX11_imageOf_2 24 rfl rfl
theorem dksX11_imageOf_4 : cX11_imageOf.data.toList.drop 132 = dktX11_imageOf_4 := dk_seg dksX11_imageOf_3 24 rfl rfl
theorem dksX11_imageOf_5 : cX11_imageOf.data.toList.drop 155 = dktX11_imageOf_5 := dk_seg dksX11_imageOf_4 23 rfl rfl
theorem dksX11_imageOf_6 : cX11_imageOf.data.toList.drop 179 = dktX11_imageOf_6 := dk_seg dksX11_imageOf_5 24 rfl rfl
theorem dksX11_imageOf_7 : cX11_imageOf.data.toList.drop 196 = dktX11_imageOf_7 := dk_seg dksX11_imageOf_6 17 rfl rfl
theorem dksX11_imageOf_8 : cX11_imageOf.data.toList.drop 244 = dktX11_imageOf_8 := dk_seg dksX11_imageOf_7 48 rfl rfl
theorem dksX11_imageOf_9 : cX11_imageOf.data.toList.drop 268 = dktX11_imageOf_9 := dk_seg dksX11_imageOf_8 24 rfl rfl
theorem dX11_imageOf_0 : decode cX11_imageOf 0 = .ok (.aload_n 0, 1) := dk_42 (dk_at dksX11_imageOf_0 0 rfl rfl)
theorem dX11_imageOf_1 : decode cX11_imageOf 1 = .ok (.getfield 17, 3) := dk_180 0 17 (dk_at dksX11_imageOf_0 1 rfl rfl)
theorem dX11_imageOf_4 : decode cX11_imageOf 4 = .ok (.astore_n 2, 1) := dk_77 (dk_at dksX11_imageOf_0 4 rfl rfl)
theorem dX11_imageOf_5 : decode cX11_imageOf 5 = .ok (.iconst (-1), 1) := dk_2 (dk_at dksX11_imageOf_0 5 rfl rfl)
theorem dX11_imageOf_6 : decode cX11_imageOf 6 = .ok (.istore_n 3, 1) := dk_62 (dk_at dksX11_imageOf_0 6 rfl rfl)
theorem dX11_imageOf_7 : decode cX11_imageOf 7 = .ok (.aload_n 2, 1) := dk_44 (dk_at dksX11_imageOf_0 7 rfl rfl)
theorem dX11_imageOf_8 : decode cX11_imageOf 8 = .ok (.invokevirtual 107, 3) := dk_182 0 107 (dk_at dksX11_imageOf_0 8 rfl rfl)
theorem dX11_imageOf_11 : decode cX11_imageOf 11 = .ok (.lookupswitch 184 #[(-1183703082, 73), (-889714732, 129), (-889714731, 157), (-889714700, 143), (95131878, 172), (97521067, 87), (97521068, 101), (97521069, 115)], 73) := by decide +kernel
theorem dX11_imageOf_84 : decode cX11_imageOf 84 = .ok (.aload_n 2, 1) := dk_44 (dk_at dksX11_imageOf_2 0 rfl rfl)
theorem dX11_imageOf_85 : decode cX11_imageOf 85 = .ok (.ldc 134, 2) := dk_18 134 (dk_at dksX11_imageOf_2 1 rfl rfl)
theorem dX11_imageOf_87 : decode cX11_imageOf 87 = .ok (.invokevirtual 114, 3) := dk_182 0 114 (dk_at dksX11_imageOf_2 3 rfl rfl)
theorem dX11_imageOf_90 : decode cX11_imageOf 90 = .ok (.ifCond .eq 105, 3) := dk_153 0 105 (dk_at dksX11_imageOf_2 6 rfl rfl)
theorem dX11_imageOf_93 : decode cX11_imageOf 93 = .ok (.iconst 0, 1) := dk_3 (dk_at dksX11_imageOf_2 9 rfl rfl)
theorem dX11_imageOf_94 : decode cX11_imageOf 94 = .ok (.istore_n 3, 1) := dk_62 (dk_at dksX11_imageOf_2 10 rfl rfl)
theorem dX11_imageOf_95 : decode cX11_imageOf 95 = .ok (.goto 100, 3) := dk_167 0 100 (dk_at dksX11_imageOf_2 11 rfl rfl)
theorem dX11_imageOf_98 : decode cX11_imageOf 98 = .ok (.aload_n 2, 1) := dk_44 (dk_at dksX11_imageOf_2 14 rfl rfl)
theorem dX11_imageOf_99 : decode cX11_imageOf 99 = .ok (.ldc 136, 2) := dk_18 136 (dk_at dksX11_imageOf_2 15 rfl rfl)
theorem dX11_imageOf_101 : decode cX11_imageOf 101 = .ok (.invokevirtual 114, 3) := dk_182 0 114 (dk_at dksX11_imageOf_2 17 rfl rfl)
theorem dX11_imageOf_104 : decode cX11_imageOf 104 = .ok (.ifCond .eq 91, 3) := dk_153 0 91 (dk_at dksX11_imageOf_2 20 rfl rfl)
theorem dX11_imageOf_107 : decode cX11_imageOf 107 = .ok (.iconst 1, 1) := dk_4 (dk_at dksX11_imageOf_2 23 rfl rfl)
theorem dX11_imageOf_108 : decode cX11_imageOf 108 = .ok (.istore_n 3, 1) := dk_62 (dk_at dksX11_imageOf_3 0 rfl rfl)
theorem dX11_imageOf_109 : decode cX11_imageOf 109 = .ok (.goto 86, 3) := dk_167 0 86 (dk_at dksX11_imageOf_3 1 rfl rfl)
theorem dX11_imageOf_112 : decode cX11_imageOf 112 = .ok (.aload_n 2, 1) := dk_44 (dk_at dksX11_imageOf_3 4 rfl rfl)
theorem dX11_imageOf_113 : decode cX11_imageOf 113 = .ok (.ldc 138, 2) := dk_18 138 (dk_at dksX11_imageOf_3 5 rfl rfl)
theorem dX11_imageOf_115 : decode cX11_imageOf 115 = .ok (.invokevirtual 114, 3) := dk_182 0 114 (dk_at dksX11_imageOf_3 7 rfl rfl)
theorem dX11_imageOf_118 : decode cX11_imageOf 118 = .ok (.ifCond .eq 77, 3) := dk_153 0 77 (dk_at dksX11_imageOf_3 10 rfl rfl)
theorem dX11_imageOf_121 : decode cX11_imageOf 121 = .ok (.iconst 2, 1) := dk_5 (dk_at dksX11_imageOf_3 13 rfl rfl)
theorem dX11_imageOf_122 : decode cX11_imageOf 122 = .ok (.istore_n 3, 1) := dk_62 (dk_at dksX11_imageOf_3 14 rfl rfl)
theorem dX11_imageOf_123 : decode cX11_imageOf 123 = .ok (.goto 72, 3) := dk_167 0 72 (dk_at dksX11_imageOf_3 15 rfl rfl)
theorem dX11_imageOf_126 : decode cX11_imageOf 126 = .ok (.aload_n 2, 1) := dk_44 (dk_at dksX11_imageOf_3 18 rfl rfl)
theorem dX11_imageOf_127 : decode cX11_imageOf 127 = .ok (.ldc 140, 2) := dk_18 140 (dk_at dksX11_imageOf_3 19 rfl rfl)
theorem dX11_imageOf_129 : decode cX11_imageOf 129 = .ok (.invokevirtual 114, 3) := dk_182 0 114 (dk_at dksX11_imageOf_3 21 rfl rfl)
theorem dX11_imageOf_132 : decode cX11_imageOf 132 = .ok (.ifCond .eq 63, 3) := dk_153 0 63 (dk_at dksX11_imageOf_4 0 rfl rfl)
theorem dX11_imageOf_135 : decode cX11_imageOf 135 = .ok (.iconst 3, 1) := dk_6 (dk_at dksX11_imageOf_4 3 rfl rfl)
theorem dX11_imageOf_136 : decode cX11_imageOf 136 = .ok (.istore_n 3, 1) := dk_62 (dk_at dksX11_imageOf_4 4 rfl rfl)
theorem dX11_imageOf_137 : decode cX11_imageOf 137 = .ok (.goto 58, 3) := dk_167 0 58 (dk_at dksX11_imageOf_4 5 rfl rfl)
theorem dX11_imageOf_140 : decode cX11_imageOf 140 = .ok (.aload_n 2, 1) := dk_44 (dk_at dksX11_imageOf_4 8 rfl rfl)
theorem dX11_imageOf_141 : decode cX11_imageOf 141 = .ok (.ldc 142, 2) := dk_18 142 (dk_at dksX11_imageOf_4 9 rfl rfl)
theorem dX11_imageOf_143 : decode cX11_imageOf 143 = .ok (.invokevirtual 114, 3) := dk_182 0 114 (dk_at dksX11_imageOf_4 11 rfl rfl)
theorem dX11_imageOf_146 : decode cX11_imageOf 146 = .ok (.ifCond .eq 49, 3) := dk_153 0 49 (dk_at dksX11_imageOf_4 14 rfl rfl)
theorem dX11_imageOf_149 : decode cX11_imageOf 149 = .ok (.iconst 4, 1) := dk_7 (dk_at dksX11_imageOf_4 17 rfl rfl)
theorem dX11_imageOf_150 : decode cX11_imageOf 150 = .ok (.istore_n 3, 1) := dk_62 (dk_at dksX11_imageOf_4 18 rfl rfl)
theorem dX11_imageOf_151 : decode cX11_imageOf 151 = .ok (.goto 44, 3) := dk_167 0 44 (dk_at dksX11_imageOf_4 19 rfl rfl)
theorem dX11_imageOf_154 : decode cX11_imageOf 154 = .ok (.aload_n 2, 1) := dk_44 (dk_at dksX11_imageOf_4 22 rfl rfl)
theorem dX11_imageOf_155 : decode cX11_imageOf 155 = .ok (.ldc 144, 2) := dk_18 144 (dk_at dksX11_imageOf_5 0 rfl rfl)
theorem dX11_imageOf_157 : decode cX11_imageOf 157 = .ok (.invokevirtual 114, 3) := dk_182 0 114 (dk_at dksX11_imageOf_5 2 rfl rfl)
theorem dX11_imageOf_160 : decode cX11_imageOf 160 = .ok (.ifCond .eq 35, 3) := dk_153 0 35 (dk_at dksX11_imageOf_5 5 rfl rfl)
theorem dX11_imageOf_163 : decode cX11_imageOf 163 = .ok (.iconst 5, 1) := dk_8 (dk_at dksX11_imageOf_5 8 rfl rfl)
theorem dX11_imageOf_164 : decode cX11_imageOf 164 = .ok (.istore_n 3, 1) := dk_62 (dk_at dksX11_imageOf_5 9 rfl rfl)
theorem dX11_imageOf_165 : decode cX11_imageOf 165 = .ok (.goto 30, 3) := dk_167 0 30 (dk_at dksX11_imageOf_5 10 rfl rfl)
theorem dX11_imageOf_168 : decode cX11_imageOf 168 = .ok (.aload_n 2, 1) := dk_44 (dk_at dksX11_imageOf_5 13 rfl rfl)
theorem dX11_imageOf_169 : decode cX11_imageOf 169 = .ok (.ldc 146, 2) := dk_18 146 (dk_at dksX11_imageOf_5 14 rfl rfl)
theorem dX11_imageOf_171 : decode cX11_imageOf 171 = .ok (.invokevirtual 114, 3) := dk_182 0 114 (dk_at dksX11_imageOf_5 16 rfl rfl)
theorem dX11_imageOf_174 : decode cX11_imageOf 174 = .ok (.ifCond .eq 21, 3) := dk_153 0 21 (dk_at dksX11_imageOf_5 19 rfl rfl)
theorem dX11_imageOf_177 : decode cX11_imageOf 177 = .ok (.bipush 6, 2) := dk_16 6 (dk_at dksX11_imageOf_5 22 rfl rfl)
theorem dX11_imageOf_179 : decode cX11_imageOf 179 = .ok (.istore_n 3, 1) := dk_62 (dk_at dksX11_imageOf_6 0 rfl rfl)
theorem dX11_imageOf_180 : decode cX11_imageOf 180 = .ok (.goto 15, 3) := dk_167 0 15 (dk_at dksX11_imageOf_6 1 rfl rfl)
theorem dX11_imageOf_183 : decode cX11_imageOf 183 = .ok (.aload_n 2, 1) := dk_44 (dk_at dksX11_imageOf_6 4 rfl rfl)
theorem dX11_imageOf_184 : decode cX11_imageOf 184 = .ok (.ldc 148, 2) := dk_18 148 (dk_at dksX11_imageOf_6 5 rfl rfl)
theorem dX11_imageOf_186 : decode cX11_imageOf 186 = .ok (.invokevirtual 114, 3) := dk_182 0 114 (dk_at dksX11_imageOf_6 7 rfl rfl)
theorem dX11_imageOf_189 : decode cX11_imageOf 189 = .ok (.ifCond .eq 6, 3) := dk_153 0 6 (dk_at dksX11_imageOf_6 10 rfl rfl)
theorem dX11_imageOf_192 : decode cX11_imageOf 192 = .ok (.bipush 7, 2) := dk_16 7 (dk_at dksX11_imageOf_6 13 rfl rfl)
theorem dX11_imageOf_194 : decode cX11_imageOf 194 = .ok (.istore_n 3, 1) := dk_62 (dk_at dksX11_imageOf_6 15 rfl rfl)
theorem dX11_imageOf_195 : decode cX11_imageOf 195 = .ok (.iload_n 3, 1) := dk_29 (dk_at dksX11_imageOf_6 16 rfl rfl)
theorem dX11_imageOf_196 : decode cX11_imageOf 196 = .ok (.tableswitch 82 0 7 #[48, 52, 56, 60, 64, 68, 72, 77], 48) := by decide +kernel
theorem dX11_imageOf_244 : decode cX11_imageOf 244 = .ok (.iconst 0, 1) := dk_3 (dk_at dksX11_imageOf_8 0 rfl rfl)
theorem dX11_imageOf_245 : decode cX11_imageOf 245 = .ok (.goto 34, 3) := dk_167 0 34 (dk_at dksX11_imageOf_8 1 rfl rfl)
theorem dX11_imageOf_248 : decode cX11_imageOf 248 = .ok (.iconst 1, 1) := dk_4 (dk_at dksX11_imageOf_8 4 rfl rfl)
theorem dX11_imageOf_249 : decode cX11_imageOf 249 = .ok (.goto 30, 3) := dk_167 0 30 (dk_at dksX11_imageOf_8 5 rfl rfl)
theorem dX11_imageOf_252 : decode cX11_imageOf 252 = .ok (.iconst 2, 1) := dk_5 (dk_at dksX11_imageOf_8 8 rfl rfl)
theorem dX11_imageOf_253 : decode cX11_imageOf 253 = .ok (.goto 26, 3) := dk_167 0 26 (dk_at dksX11_imageOf_8 9 rfl rfl)
theorem dX11_imageOf_256 : decode cX11_imageOf 256 = .ok (.iconst 3, 1) := dk_6 (dk_at dksX11_imageOf_8 12 rfl rfl)
theorem dX11_imageOf_257 : decode cX11_imageOf 257 = .ok (.goto 22, 3) := dk_167 0 22 (dk_at dksX11_imageOf_8 13 rfl rfl)
theorem dX11_imageOf_260 : decode cX11_imageOf 260 = .ok (.iconst 4, 1) := dk_7 (dk_at dksX11_imageOf_8 16 rfl rfl)
theorem dX11_imageOf_261 : decode cX11_imageOf 261 = .ok (.goto 18, 3) := dk_167 0 18 (dk_at dksX11_imageOf_8 17 rfl rfl)
theorem dX11_imageOf_264 : decode cX11_imageOf 264 = .ok (.iconst 5, 1) := dk_8 (dk_at dksX11_imageOf_8 20 rfl rfl)
theorem dX11_imageOf_265 : decode cX11_imageOf 265 = .ok (.goto 14, 3) := dk_167 0 14 (dk_at dksX11_imageOf_8 21 rfl rfl)
theorem dX11_imageOf_268 : decode cX11_imageOf 268 = .ok (.bipush 6, 2) := dk_16 6 (dk_at dksX11_imageOf_9 0 rfl rfl)
theorem dX11_imageOf_270 : decode cX11_imageOf 270 = .ok (.goto 9, 3) := dk_167 0 9 (dk_at dksX11_imageOf_9 2 rfl rfl)
theorem dX11_imageOf_273 : decode cX11_imageOf 273 = .ok (.bipush 7, 2) := dk_16 7 (dk_at dksX11_imageOf_9 5 rfl rfl)
theorem dX11_imageOf_275 : decode cX11_imageOf 275 = .ok (.goto 4, 3) := dk_167 0 4 (dk_at dksX11_imageOf_9 7 rfl rfl)
theorem dX11_imageOf_278 : decode cX11_imageOf 278 = .ok (.iconst (-1), 1) := dk_2 (dk_at dksX11_imageOf_9 10 rfl rfl)
theorem dX11_imageOf_279 : decode cX11_imageOf 279 = .ok (.istore_n 1, 1) := dk_60 (dk_at dksX11_imageOf_9 11 rfl rfl)
theorem dX11_imageOf_280 : decode cX11_imageOf 280 = .ok (.iload_n 1, 1) := dk_27 (dk_at dksX11_imageOf_9 12 rfl rfl)
theorem dX11_imageOf_281 : decode cX11_imageOf 281 = .ok (.ifCond .ge 8, 3) := dk_156 0 8 (dk_at dksX11_imageOf_9 13 rfl rfl)
theorem dX11_imageOf_284 : decode cX11_imageOf 284 = .ok (.aload_n 0, 1) := dk_42 (dk_at dksX11_imageOf_9 16 rfl rfl)
theorem dX11_imageOf_285 : decode cX11_imageOf 285 = .ok (.invokevirtual 93, 3) := dk_182 0 93 (dk_at dksX11_imageOf_9 17 rfl rfl)
theorem dX11_imageOf_288 : decode cX11_imageOf 288 = .ok (.athrow, 1) := dk_191 (dk_at dksX11_imageOf_9 20 rfl rfl)
theorem dX11_imageOf_289 : decode cX11_imageOf 289 = .ok (.iload_n 1, 1) := dk_27 (dk_at dksX11_imageOf_9 21 rfl rfl)
theorem dX11_imageOf_290 : decode cX11_imageOf 290 = .ok (.ireturn, 1) := dk_172 (dk_at dksX11_imageOf_9 22 rfl rfl)
abbrev cX11_shifted : ByteArray := prog_11_method_16_code
def yX11_shifted : MethodName := ⟨RX11, "shifted", "(I)V"⟩
def dkwX11_shifted_2 : List UInt8 := [28, 182, 0, 208, 42, 182, 0, 29, 177]
abbrev dktX11_shifted_2 : List UInt8 := dkwX11_shifted_2 ++ []
def dkwX11_shifted_1 : List UInt8 := [154, 0, 19, 42, 180, 0, 3, 180, 0, 84, 7, 42, 180, 0, 43, 182, 0, 88, 191, 42, 180, 0, 25, 27]
abbrev dktX11_shifted_1 : List UInt8 := dkwX11_shifted_1 ++ dktX11_shifted_2
def dkwX11_shifted_0 : List UInt8 := [42, 182, 0, 97, 61, 28, 184, 0, 101, 16, 100, 163, 0, 15, 42, 180, 0, 25, 27, 28, 182, 0, 204]
abbrev dktX11_shifted_0 : List UInt8 := dkwX11_shifted_0 ++ dktX11_shifted_1
theorem dksX11_shifted_0 : cX11_shifted.data.toList.drop 0 = dktX11_shifted_0 := by decide +kernel
theorem dksX11_shifted_1 : cX11_shifted.data.toList.drop 23 = dktX11_shifted_1 := dk_seg dksX11_shifted_0 23 rfl rfl
theorem dksX11_shifted_2 : cX11_shifted.data.toList.drop 47 = dktX11_shifted_2 := dk_seg dksX11_shifted_1 24 rfl rfl
theorem dX11_shifted_0 : decode cX11_shifted 0 = .ok (.aload_n 0, 1) := dk_42 (dk_at dksX11_shifted_0 0 rfl rfl)
theorem dX11_shifted_1 : decode cX11_shifted 1 = .ok (.invokevirtual 97, 3) := dk_182 0 97 (dk_at dksX11_shifted_0 1 rfl rfl)
theorem dX11_shifted_4 : decode cX11_shifted 4 = .ok (.istore_n 2, 1) := dk_61 (dk_at dksX11_shifted_0 4 rfl rfl)
theorem dX11_shifted_5 : decode cX11_shifted 5 = .ok (.iload_n 2, 1) := dk_28 (dk_at dksX11_shifted_0 5 rfl rfl)
theorem dX11_shifted_6 : decode cX11_shifted 6 = .ok (.invokestatic 101, 3) := dk_184 0 101 (dk_at dksX11_shifted_0 6 rfl rfl)
theorem dX11_shifted_9 : decode cX11_shifted 9 = .ok (.bipush 100, 2) := dk_16 100 (dk_at dksX11_shifted_0 9 rfl rfl)
theorem dX11_shifted_11 : decode cX11_shifted 11 = .ok (.if_icmp .gt 15, 3) := dk_163 0 15 (dk_at dksX11_shifted_0 11 rfl rfl)
theorem dX11_shifted_14 : decode cX11_shifted 14 = .ok (.aload_n 0, 1) := dk_42 (dk_at dksX11_shifted_0 14 rfl rfl)
theorem dX11_shifted_15 : decode cX11_shifted 15 = .ok (.getfield 25, 3) := dk_180 0 25 (dk_at dksX11_shifted_0 15 rfl rfl)
theorem dX11_shifted_18 : decode cX11_shifted 18 = .ok (.iload_n 1, 1) := dk_27 (dk_at dksX11_shifted_0 18 rfl rfl)
theorem dX11_shifted_19 : decode cX11_shifted 19 = .ok (.iload_n 2, 1) := dk_28 (dk_at dksX11_shifted_0 19 rfl rfl)
theorem dX11_shifted_20 : decode cX11_shifted 20 = .ok (.invokevirtual 204, 3) := dk_182 0 204 (dk_at dksX11_shifted_0 20 rfl rfl)
theorem dX11_shifted_23 : decode cX11_shifted 23 = .ok (.ifCond .ne 19, 3) := dk_154 0 19 (dk_at dksX11_shifted_1 0 rfl rfl)
theorem dX11_shifted_26 : decode cX11_shifted 26 = .ok (.aload_n 0, 1) := dk_42 (dk_at dksX11_shifted_1 3 rfl rfl)
theorem dX11_shifted_27 : decode cX11_shifted 27 = .ok (.getfield 3, 3) := dk_180 0 3 (dk_at dksX11_shifted_1 4 rfl rfl)
theorem dX11_shifted_30 : decode cX11_shifted 30 = .ok (.getfield 84, 3) := dk_180 0 84 (dk_at dksX11_shifted_1 7 rfl rfl)
theorem dX11_shifted_33 : decode cX11_shifted 33 = .ok (.iconst 4, 1) := dk_7 (dk_at dksX11_shifted_1 10 rfl rfl)
theorem dX11_shifted_34 : decode cX11_shifted 34 = .ok (.aload_n 0, 1) := dk_42 (dk_at dksX11_shifted_1 11 rfl rfl)
theorem dX11_shifted_35 : decode cX11_shifted 35 = .ok (.getfield 43, 3) := dk_180 0 43 (dk_at dksX11_shifted_1 12 rfl rfl)
theorem dX11_shifted_38 : decode cX11_shifted 38 = .ok (.invokevirtual 88, 3) := dk_182 0 88 (dk_at dksX11_shifted_1 15 rfl rfl)
theorem dX11_shifted_41 : decode cX11_shifted 41 = .ok (.athrow, 1) := dk_191 (dk_at dksX11_shifted_1 18 rfl rfl)
theorem dX11_shifted_42 : decode cX11_shifted 42 = .ok (.aload_n 0, 1) := dk_42 (dk_at dksX11_shifted_1 19 rfl rfl)
theorem dX11_shifted_43 : decode cX11_shifted 43 = .ok (.getfield 25, 3) := dk_180 0 25 (dk_at dksX11_shifted_1 20 rfl rfl)
theorem dX11_shifted_46 : decode cX11_shifted 46 = .ok (.iload_n 1, 1) := dk_27 (dk_at dksX11_shifted_1 23 rfl rfl)
theorem dX11_shifted_47 : decode cX11_shifted 47 = .ok (.iload_n 2, 1) := dk_28 (dk_at dksX11_shifted_2 0 rfl rfl)
theorem dX11_shifted_48 : decode cX11_shifted 48 = .ok (.invokevirtual 208, 3) := dk_182 0 208 (dk_at dksX11_shifted_2 1 rfl rfl)
theorem dX11_shifted_51 : decode cX11_shifted 51 = .ok (.aload_n 0, 1) := dk_42 (dk_at dksX11_shifted_2 4 rfl rfl)
theorem dX11_shifted_52 : decode cX11_shifted 52 = .ok (.invokevirtual 29, 3) := dk_182 0 29 (dk_at dksX11_shifted_2 5 rfl rfl)
theorem dX11_shifted_55 : decode cX11_shifted 55 = .ok (.return_, 1) := dk_177 (dk_at dksX11_shifted_2 8 rfl rfl)
theorem q165 : (Jvm.Cond.initialized "VibrationDesk$Reader") ∈ lw_all := lw_g (lw_at lw_m1 18 rfl) rfl
theorem q314 : (Jvm.Cond.fieldLinkNest "VibrationDesk$Reader" (169 : Nat) "VibrationDesk$Frame" "many" "I" "VibrationDesk") ∈ lw_tbl := lw_at lw_m1 167 rfl
theorem q316 : (Jvm.Cond.fieldLinkNest "VibrationDesk$Reader" (186 : Nat) "VibrationDesk$Frame" "kinds" "[I" "VibrationDesk") ∈ lw_tbl := lw_at lw_m1 169 rfl
theorem q593 : (Jvm.Cond.fieldLinkNest "VibrationDesk$Reader" (32 : Nat) "VibrationDesk" "tape" "[B" "VibrationDesk") ∈ lw_tbl := lw_at lw_m2 206 rfl
theorem q599 : (Jvm.Cond.fieldLinkNest "VibrationDesk$Reader" (84 : Nat) "VibrationDesk" "bad" "LVibrationDesk$Bad;" "VibrationDesk") ∈ lw_tbl := lw_at lw_m2 212 rfl
theorem q600 : (Jvm.Cond.fieldLinkNest "VibrationDesk$Reader" (63 : Nat) "VibrationDesk" "letters" "Ljava/lang/StringBuilder;" "VibrationDesk") ∈ lw_tbl := lw_at lw_m2 213 rfl
theorem q718 : (Jvm.Cond.instantiable "VibrationDesk$Reader" (8 : Nat)) ∈ lw_all := lw_g (lw_at lw_m3 91 rfl) rfl
theorem q720 : (Jvm.Cond.instanceMethod ({ cls := "VibrationDesk$Reader", name := "<init>", desc := "(LVibrationDesk;ILVibrationDesk$Frame;)V" } : Jvm.MethodName)) ∈ lw_all := lw_g (lw_at lw_m3 93 rfl) rfl
theorem q721 : (Jvm.Cond.code ({ cls := "VibrationDesk$Reader", name := "<init>", desc := "(LVibrationDesk;ILVibrationDesk$Frame;)V" } : Jvm.MethodName) prog_11_method_1_code (4 : Nat) (Option.none : Option Jvm.ClassFile.FieldType)) ∈ lw_all := lw_g (lw_at lw_m3 94 rfl) rfl
theorem q722 : (Jvm.Cond.methodLink "VibrationDesk$Reader" (9 : Nat) ({ cls := "java/lang/Object", name := "<init>", desc := "()V" } : Jvm.MethodName)) ∈ lw_all := lw_g (lw_at lw_m3 95 rfl) rfl
theorem q723 : (Jvm.Cond.stringRef "VibrationDesk$Reader" (15 : Nat) "") ∈ lw_tbl := lw_at lw_m3 96 rfl
theorem q724 : (Jvm.Cond.methodLink "VibrationDesk$Reader" (29 : Nat) ({ cls := "VibrationDesk$Reader", name := "reads", desc := "()V" } : Jvm.MethodName)) ∈ lw_all := lw_g (lw_at lw_m3 97 rfl) rfl
theorem q725 : (Jvm.Cond.privateMethod ({ cls := "VibrationDesk$Reader", name := "reads", desc := "()V" } : Jvm.MethodName)) ∈ lw_tbl := lw_at lw_m3 98 rfl
theorem q726 : (Jvm.Cond.instanceMethod ({ cls := "VibrationDesk$Reader", name := "reads", desc := "()V" } : Jvm.MethodName)) ∈ lw_all := lw_g (lw_at lw_m3 99 rfl) rfl
theorem q727 : (Jvm.Cond.code ({ cls := "VibrationDesk$Reader", name := "reads", desc := "()V" } : Jvm.MethodName) prog_11_method_5_code (1 : Nat) (Option.none : Option Jvm.ClassFile.FieldType)) ∈ lw_all := lw_g (lw_at lw_m3 100 rfl) rfl
theorem q728 : (Jvm.Cond.methodLink "VibrationDesk$Reader" (50 : Nat) ({ cls := "VibrationDesk$Reader", name := "isLetter", desc := "(I)Z" } : Jvm.MethodName)) ∈ lw_all := lw_g (lw_at lw_m3 101 rfl) rfl
theorem q729 : (Jvm.Cond.privateMethod ({ cls := "VibrationDesk$Reader", name := "isLetter", desc := "(I)Z" } : Jvm.MethodName)) ∈ lw_tbl := lw_at lw_m3 102 rfl
theorem q730 : (Jvm.Cond.instanceMethod ({ cls := "VibrationDesk$Reader", name := "isLetter", desc := "(I)Z" } : Jvm.MethodName)) ∈ lw_all := lw_g (lw_at lw_m3 103 rfl) rfl
theorem q731 : (Jvm.Cond.code ({ cls := "VibrationDesk$Reader", name := "isLetter", desc := "(I)Z" } : Jvm.MethodName) prog_11_method_4_code (2 : Nat) (Option.some Jvm.ClassFile.FieldType.boolean)) ∈ lw_all := lw_g (lw_at lw_m3 104 rfl) rfl
theorem q732 : (Jvm.Cond.methodLink "VibrationDesk$Reader" (36 : Nat) ({ cls := "VibrationDesk$Reader", name := "signAt", desc := "(I)C" } : Jvm.MethodName)) ∈ lw_all := lw_g (lw_at lw_m3 105 rfl) rfl
theorem q733 : (Jvm.Cond.privateMethod ({ cls := "VibrationDesk$Reader", name := "signAt", desc := "(I)C" } : Jvm.MethodName)) ∈ lw_tbl := lw_at lw_m3 106 rfl
theorem q734 : (Jvm.Cond.instanceMethod ({ cls := "VibrationDesk$Reader", name := "signAt", desc := "(I)C" } : Jvm.MethodName)) ∈ lw_all := lw_g (lw_at lw_m3 107 rfl) rfl
theorem q735 : (Jvm.Cond.code ({ cls := "VibrationDesk$Reader", name := "signAt", desc := "(I)C" } : Jvm.MethodName) prog_11_method_2_code (2 : Nat) (Option.some Jvm.ClassFile.FieldType.char)) ∈ lw_all := lw_g (lw_at lw_m3 108 rfl) rfl
theorem q736 : (Jvm.Cond.methodLink "VibrationDesk$Reader" (54 : Nat) ({ cls := "VibrationDesk$Reader", name := "readWord", desc := "()V" } : Jvm.MethodName)) ∈ lw_all := lw_g (lw_at lw_m3 109 rfl) rfl
theorem q737 : (Jvm.Cond.privateMethod ({ cls := "VibrationDesk$Reader", name := "readWord", desc := "()V" } : Jvm.MethodName)) ∈ lw_tbl := lw_at lw_m3 110 rfl
theorem q738 : (Jvm.Cond.instanceMethod ({ cls := "VibrationDesk$Reader", name := "readWord", desc := "()V" } : Jvm.MethodName)) ∈ lw_all := lw_g (lw_at lw_m3 111 rfl) rfl
theorem q739 : (Jvm.Cond.code ({ cls := "VibrationDesk$Reader", name := "readWord", desc := "()V" } : Jvm.MethodName) prog_11_method_6_code (1 : Nat) (Option.none : Option Jvm.ClassFile.FieldType)) ∈ lw_all := lw_g (lw_at lw_m3 112 rfl) rfl
theorem q740 : (Jvm.Cond.methodLink "VibrationDesk$Reader" (67 : Nat) ({ cls := "java/lang/StringBuilder", name := "setLength", desc := "(I)V" } : Jvm.MethodName)) ∈ lw_all := lw_g (lw_at lw_m3 113 rfl) rfl
theorem q798 : (Jvm.Cond.methodLink "VibrationDesk$Reader" (73 : Nat) ({ cls := "java/lang/StringBuilder", name := "append", desc := "(C)Ljava/lang/StringBuilder;" } : Jvm.MethodName)) ∈ lw_all := lw_g (lw_at lw_m3 171 rfl) rfl
theorem q853 : (Jvm.Cond.methodLink "VibrationDesk$Reader" (77 : Nat) ({ cls := "java/lang/StringBuilder", name := "toString", desc := "()Ljava/lang/String;" } : Jvm.MethodName)) ∈ lw_all := lw_g (lw_at lw_m3 226 rfl) rfl
theorem q916 : (Jvm.Cond.methodLink "VibrationDesk$Reader" (57 : Nat) ({ cls := "VibrationDesk$Reader", name := "isFigure", desc := "(I)Z" } : Jvm.MethodName)) ∈ lw_all := lw_g (lw_at lw_m4 49 rfl) rfl
theorem q917 : (Jvm.Cond.privateMethod ({ cls := "VibrationDesk$Reader", name := "isFigure", desc := "(I)Z" } : Jvm.MethodName)) ∈ lw_tbl := lw_at lw_m4 50 rfl
theorem q918 : (Jvm.Cond.instanceMethod ({ cls := "VibrationDesk$Reader", name := "isFigure", desc := "(I)Z" } : Jvm.MethodName)) ∈ lw_all := lw_g (lw_at lw_m4 51 rfl) rfl
theorem q919 : (Jvm.Cond.code ({ cls := "VibrationDesk$Reader", name := "isFigure", desc := "(I)Z" } : Jvm.MethodName) prog_11_method_3_code (2 : Nat) (Option.some Jvm.ClassFile.FieldType.boolean)) ∈ lw_all := lw_g (lw_at lw_m4 52 rfl) rfl
theorem q920 : (Jvm.Cond.methodLink "VibrationDesk$Reader" (60 : Nat) ({ cls := "VibrationDesk$Reader", name := "readNumber", desc := "()V" } : Jvm.MethodName)) ∈ lw_all := lw_g (lw_at lw_m4 53 rfl) rfl
theorem q921 : (Jvm.Cond.privateMethod ({ cls := "VibrationDesk$Reader", name := "readNumber", desc := "()V" } : Jvm.MethodName)) ∈ lw_tbl := lw_at lw_m4 54 rfl
theorem q922 : (Jvm.Cond.instanceMethod ({ cls := "VibrationDesk$Reader", name := "readNumber", desc := "()V" } : Jvm.MethodName)) ∈ lw_all := lw_g (lw_at lw_m4 55 rfl) rfl
theorem q923 : (Jvm.Cond.code ({ cls := "VibrationDesk$Reader", name := "readNumber", desc := "()V" } : Jvm.MethodName) prog_11_method_7_code (4 : Nat) (Option.none : Option Jvm.ClassFile.FieldType)) ∈ lw_all := lw_g (lw_at lw_m4 56 rfl) rfl
theorem q924 : (Jvm.Cond.fieldLink "VibrationDesk$Reader" (21 : Nat) "VibrationDesk$Reader" "size" "I") ∈ lw_all := lw_g (lw_at lw_m4 57 rfl) rfl
theorem q925 : (Jvm.Cond.fieldLink "VibrationDesk$Reader" (25 : Nat) "VibrationDesk$Reader" "into" "LVibrationDesk$Frame;") ∈ lw_all := lw_g (lw_at lw_m4 58 rfl) rfl
theorem q926 : (Jvm.Cond.fieldLink "VibrationDesk$Reader" (43 : Nat) "VibrationDesk$Reader" "at" "I") ∈ lw_all := lw_g (lw_at lw_m4 59 rfl) rfl
theorem q927 : (Jvm.Cond.fieldLink "VibrationDesk$Reader" (40 : Nat) "VibrationDesk$Reader" "behind" "I") ∈ lw_all := lw_g (lw_at lw_m4 60 rfl) rfl
theorem q928 : (Jvm.Cond.fieldLink "VibrationDesk$Reader" (81 : Nat) "VibrationDesk$Reader" "number" "I") ∈ lw_all := lw_g (lw_at lw_m4 61 rfl) rfl
theorem q929 : (Jvm.Cond.fieldLink "VibrationDesk$Reader" (46 : Nat) "VibrationDesk$Reader" "sort" "C") ∈ lw_all := lw_g (lw_at lw_m4 62 rfl) rfl
theorem q930 : (Jvm.Cond.fieldLink "VibrationDesk$Reader" (17 : Nat) "VibrationDesk$Reader" "word" "Ljava/lang/String;") ∈ lw_all := lw_g (lw_at lw_m4 63 rfl) rfl
theorem q931 : (Jvm.Cond.fieldLink "VibrationDesk$Reader" (3 : Nat) "VibrationDesk$Reader" "this$0" "LVibrationDesk;") ∈ lw_all := lw_g (lw_at lw_m4 64 rfl) rfl
theorem q932 : (Jvm.Cond.laysFinal "VibrationDesk$Reader" "VibrationDesk$Reader" "size" "I") ∈ lw_all := lw_g (lw_at lw_m4 65 rfl) rfl
theorem q933 : (Jvm.Cond.soleField "VibrationDesk$Reader" "size") ∈ lw_all := lw_g (lw_at lw_m4 66 rfl) rfl
theorem q934 : (Jvm.Cond.laysFinal "VibrationDesk$Reader" "VibrationDesk$Reader" "into" "LVibrationDesk$Frame;") ∈ lw_all := lw_g (lw_at lw_m4 67 rfl) rfl
theorem q935 : (Jvm.Cond.soleField "VibrationDesk$Reader" "into") ∈ lw_all := lw_g (lw_at lw_m4 68 rfl) rfl
theorem q936 : (Jvm.Cond.lays "VibrationDesk$Reader" "VibrationDesk$Reader" "at" "I") ∈ lw_all := lw_g (lw_at lw_m4 69 rfl) rfl
theorem q937 : (Jvm.Cond.soleField "VibrationDesk$Reader" "at") ∈ lw_all := lw_g (lw_at lw_m4 70 rfl) rfl
theorem q938 : (Jvm.Cond.lays "VibrationDesk$Reader" "VibrationDesk$Reader" "behind" "I") ∈ lw_all := lw_g (lw_at lw_m4 71 rfl) rfl
theorem q939 : (Jvm.Cond.soleField "VibrationDesk$Reader" "behind") ∈ lw_all := lw_g (lw_at lw_m4 72 rfl) rfl
theorem q940 : (Jvm.Cond.lays "VibrationDesk$Reader" "VibrationDesk$Reader" "number" "I") ∈ lw_all := lw_g (lw_at lw_m4 73 rfl) rfl
theorem q941 : (Jvm.Cond.soleField "VibrationDesk$Reader" "number") ∈ lw_all := lw_g (lw_at lw_m4 74 rfl) rfl
theorem q942 : (Jvm.Cond.lays "VibrationDesk$Reader" "VibrationDesk$Reader" "sort" "C") ∈ lw_all := lw_g (lw_at lw_m4 75 rfl) rfl
theorem q943 : (Jvm.Cond.soleField "VibrationDesk$Reader" "sort") ∈ lw_all := lw_g (lw_at lw_m4 76 rfl) rfl
theorem q944 : (Jvm.Cond.lays "VibrationDesk$Reader" "VibrationDesk$Reader" "word" "Ljava/lang/String;") ∈ lw_all := lw_g (lw_at lw_m4 77 rfl) rfl
theorem q945 : (Jvm.Cond.soleField "VibrationDesk$Reader" "word") ∈ lw_all := lw_g (lw_at lw_m4 78 rfl) rfl
theorem q946 : (Jvm.Cond.laysFinal "VibrationDesk$Reader" "VibrationDesk$Reader" "this$0" "LVibrationDesk;") ∈ lw_all := lw_g (lw_at lw_m4 79 rfl) rfl
theorem q947 : (Jvm.Cond.soleField "VibrationDesk$Reader" "this$0") ∈ lw_all := lw_g (lw_at lw_m4 80 rfl) rfl
theorem q948 : (Jvm.Cond.superclass "VibrationDesk$Reader" "java/lang/Object") ∈ lw_all := lw_g (lw_at lw_m4 81 rfl) rfl
theorem q950 : (Jvm.Cond.instanceMethod ({ cls := "VibrationDesk$Reader", name := "all", desc := "()V" } : Jvm.MethodName)) ∈ lw_all := lw_g (lw_at lw_m4 83 rfl) rfl
theorem q951 : (Jvm.Cond.selects "VibrationDesk$Reader" ({ cls := "VibrationDesk$Reader", name := "all", desc := "()V" } : Jvm.MethodName) ({ cls := "VibrationDesk$Reader", name := "all", desc := "()V" } : Jvm.MethodName)) ∈ lw_all := lw_g (lw_at lw_m4 84 rfl) rfl
theorem q952 : (Jvm.Cond.code ({ cls := "VibrationDesk$Reader", name := "all", desc := "()V" } : Jvm.MethodName) prog_11_method_13_code (1 : Nat) (Option.none : Option Jvm.ClassFile.FieldType)) ∈ lw_all := lw_g (lw_at lw_m4 85 rfl) rfl
theorem q953 : (Jvm.Cond.methodLink "VibrationDesk$Reader" (150 : Nat) ({ cls := "VibrationDesk$Reader", name := "line", desc := "()V" } : Jvm.MethodName)) ∈ lw_all := lw_g (lw_at lw_m4 86 rfl) rfl
theorem q954 : (Jvm.Cond.privateMethod ({ cls := "VibrationDesk$Reader", name := "line", desc := "()V" } : Jvm.MethodName)) ∈ lw_tbl := lw_at lw_m4 87 rfl
theorem q955 : (Jvm.Cond.instanceMethod ({ cls := "VibrationDesk$Reader", name := "line", desc := "()V" } : Jvm.MethodName)) ∈ lw_all := lw_g (lw_at lw_m4 88 rfl) rfl
theorem q956 : (Jvm.Cond.code ({ cls := "VibrationDesk$Reader", name := "line", desc := "()V" } : Jvm.MethodName) prog_11_method_14_code (7 : Nat) (Option.none : Option Jvm.ClassFile.FieldType)) ∈ lw_all := lw_g (lw_at lw_m4 89 rfl) rfl
theorem q957 : (Jvm.Cond.methodLink "VibrationDesk$Reader" (107 : Nat) ({ cls := "java/lang/String", name := "hashCode", desc := "()I" } : Jvm.MethodName)) ∈ lw_all := lw_g (lw_at lw_m4 90 rfl) rfl
theorem q1010 : (Jvm.Cond.stringRef "VibrationDesk$Reader" (153 : Nat) "atom") ∈ lw_tbl := lw_at lw_m4 143 rfl
theorem q1011 : (Jvm.Cond.methodLink "VibrationDesk$Reader" (114 : Nat) ({ cls := "java/lang/String", name := "equals", desc := "(Ljava/lang/Object;)Z" } : Jvm.MethodName)) ∈ lw_all := lw_g (lw_at lw_m4 144 rfl) rfl
theorem q1019 : (Jvm.Cond.stringRef "VibrationDesk$Reader" (155 : Nat) "image") ∈ lw_tbl := lw_at lw_m4 152 rfl
theorem q1020 : (Jvm.Cond.stringRef "VibrationDesk$Reader" (157 : Nat) "shift") ∈ lw_tbl := lw_at lw_m4 153 rfl
theorem q1021 : (Jvm.Cond.stringRef "VibrationDesk$Reader" (159 : Nat) "kind") ∈ lw_tbl := lw_at lw_m4 154 rfl
theorem q1022 : (Jvm.Cond.stringRef "VibrationDesk$Reader" (161 : Nat) "drop") ∈ lw_tbl := lw_at lw_m4 155 rfl
theorem q1023 : (Jvm.Cond.methodLink "VibrationDesk$Reader" (163 : Nat) ({ cls := "VibrationDesk$Reader", name := "newAtom", desc := "()V" } : Jvm.MethodName)) ∈ lw_all := lw_g (lw_at lw_m4 156 rfl) rfl
theorem q1024 : (Jvm.Cond.privateMethod ({ cls := "VibrationDesk$Reader", name := "newAtom", desc := "()V" } : Jvm.MethodName)) ∈ lw_tbl := lw_at lw_m4 157 rfl
theorem q1025 : (Jvm.Cond.instanceMethod ({ cls := "VibrationDesk$Reader", name := "newAtom", desc := "()V" } : Jvm.MethodName)) ∈ lw_all := lw_g (lw_at lw_m4 158 rfl) rfl
theorem q1026 : (Jvm.Cond.code ({ cls := "VibrationDesk$Reader", name := "newAtom", desc := "()V" } : Jvm.MethodName) prog_11_method_15_code (5 : Nat) (Option.none : Option Jvm.ClassFile.FieldType)) ∈ lw_all := lw_g (lw_at lw_m4 159 rfl) rfl
theorem q1027 : (Jvm.Cond.methodLink "VibrationDesk$Reader" (88 : Nat) ({ cls := "VibrationDesk$Bad", name := "at", desc := "(II)LVibrationDesk$Bad;" } : Jvm.MethodName)) ∈ lw_all := lw_g (lw_at lw_m4 160 rfl) rfl
theorem q1031 : (Jvm.Cond.methodLink "VibrationDesk$Reader" (183 : Nat) ({ cls := "VibrationDesk$Reader", name := "kindOf", desc := "()I" } : Jvm.MethodName)) ∈ lw_all := lw_g (lw_at lw_m4 164 rfl) rfl
theorem q1032 : (Jvm.Cond.privateMethod ({ cls := "VibrationDesk$Reader", name := "kindOf", desc := "()I" } : Jvm.MethodName)) ∈ lw_tbl := lw_at lw_m4 165 rfl
theorem q1033 : (Jvm.Cond.instanceMethod ({ cls := "VibrationDesk$Reader", name := "kindOf", desc := "()I" } : Jvm.MethodName)) ∈ lw_all := lw_g (lw_at lw_m4 166 rfl) rfl
theorem q1034 : (Jvm.Cond.code ({ cls := "VibrationDesk$Reader", name := "kindOf", desc := "()I" } : Jvm.MethodName) prog_11_method_11_code (4 : Nat) (Option.some Jvm.ClassFile.FieldType.int)) ∈ lw_all := lw_g (lw_at lw_m4 167 rfl) rfl
theorem q1035 : (Jvm.Cond.stringRef "VibrationDesk$Reader" (112 : Nat) "h") ∈ lw_tbl := lw_at lw_m4 168 rfl
theorem q1036 : (Jvm.Cond.stringRef "VibrationDesk$Reader" (118 : Nat) "c") ∈ lw_tbl := lw_at lw_m4 169 rfl
theorem q1037 : (Jvm.Cond.stringRef "VibrationDesk$Reader" (120 : Nat) "n") ∈ lw_tbl := lw_at lw_m4 170 rfl
theorem q1038 : (Jvm.Cond.stringRef "VibrationDesk$Reader" (122 : Nat) "o") ∈ lw_tbl := lw_at lw_m4 171 rfl
theorem q1039 : (Jvm.Cond.stringRef "VibrationDesk$Reader" (124 : Nat) "f") ∈ lw_tbl := lw_at lw_m4 172 rfl
theorem q1040 : (Jvm.Cond.stringRef "VibrationDesk$Reader" (126 : Nat) "s") ∈ lw_tbl := lw_at lw_m4 173 rfl
theorem q1041 : (Jvm.Cond.stringRef "VibrationDesk$Reader" (128 : Nat) "p") ∈ lw_tbl := lw_at lw_m4 174 rfl
theorem q1042 : (Jvm.Cond.stringRef "VibrationDesk$Reader" (130 : Nat) "cl") ∈ lw_tbl := lw_at lw_m4 175 rfl
theorem q1043 : (Jvm.Cond.stringRef "VibrationDesk$Reader" (132 : Nat) "br") ∈ lw_tbl := lw_at lw_m4 176 rfl
theorem q1044 : (Jvm.Cond.methodLink "VibrationDesk$Reader" (93 : Nat) ({ cls := "VibrationDesk$Reader", name := "wrong", desc := "()LVibrationDesk$Bad;" } : Jvm.MethodName)) ∈ lw_all := lw_g (lw_at lw_m4 177 rfl) rfl
theorem q1045 : (Jvm.Cond.privateMethod ({ cls := "VibrationDesk$Reader", name := "wrong", desc := "()LVibrationDesk$Bad;" } : Jvm.MethodName)) ∈ lw_tbl := lw_at lw_m4 178 rfl
theorem q1046 : (Jvm.Cond.instanceMethod ({ cls := "VibrationDesk$Reader", name := "wrong", desc := "()LVibrationDesk$Bad;" } : Jvm.MethodName)) ∈ lw_all := lw_g (lw_at lw_m4 179 rfl) rfl
theorem q1047 : (Jvm.Cond.code ({ cls := "VibrationDesk$Reader", name := "wrong", desc := "()LVibrationDesk$Bad;" } : Jvm.MethodName) prog_11_method_8_code (1 : Nat) (Option.some (Jvm.ClassFile.FieldType.object "VibrationDesk$Bad"))) ∈ lw_all := lw_g (lw_at lw_m4 180 rfl) rfl
theorem q1048 : (Jvm.Cond.methodLink "VibrationDesk$Reader" (193 : Nat) ({ cls := "VibrationDesk$Reader", name := "coordinate", desc := "()I" } : Jvm.MethodName)) ∈ lw_all := lw_g (lw_at lw_m4 181 rfl) rfl
theorem q1049 : (Jvm.Cond.privateMethod ({ cls := "VibrationDesk$Reader", name := "coordinate", desc := "()I" } : Jvm.MethodName)) ∈ lw_tbl := lw_at lw_m4 182 rfl
theorem q1050 : (Jvm.Cond.instanceMethod ({ cls := "VibrationDesk$Reader", name := "coordinate", desc := "()I" } : Jvm.MethodName)) ∈ lw_all := lw_g (lw_at lw_m4 183 rfl) rfl
theorem q1051 : (Jvm.Cond.code ({ cls := "VibrationDesk$Reader", name := "coordinate", desc := "()I" } : Jvm.MethodName) prog_11_method_10_code (2 : Nat) (Option.some Jvm.ClassFile.FieldType.int)) ∈ lw_all := lw_g (lw_at lw_m4 184 rfl) rfl
theorem q1052 : (Jvm.Cond.methodLink "VibrationDesk$Reader" (97 : Nat) ({ cls := "VibrationDesk$Reader", name := "figures", desc := "()I" } : Jvm.MethodName)) ∈ lw_all := lw_g (lw_at lw_m4 185 rfl) rfl
theorem q1053 : (Jvm.Cond.privateMethod ({ cls := "VibrationDesk$Reader", name := "figures", desc := "()I" } : Jvm.MethodName)) ∈ lw_tbl := lw_at lw_m4 186 rfl
theorem q1054 : (Jvm.Cond.instanceMethod ({ cls := "VibrationDesk$Reader", name := "figures", desc := "()I" } : Jvm.MethodName)) ∈ lw_all := lw_g (lw_at lw_m4 187 rfl) rfl
theorem q1055 : (Jvm.Cond.code ({ cls := "VibrationDesk$Reader", name := "figures", desc := "()I" } : Jvm.MethodName) prog_11_method_9_code (1 : Nat) (Option.some Jvm.ClassFile.FieldType.int)) ∈ lw_all := lw_g (lw_at lw_m4 188 rfl) rfl
theorem q1056 : (Jvm.Cond.methodLink "VibrationDesk$Reader" (101 : Nat) ({ cls := "java/lang/Math", name := "abs", desc := "(I)I" } : Jvm.MethodName)) ∈ lw_all := lw_g (lw_at lw_m4 189 rfl) rfl
theorem q1059 : (Jvm.Cond.methodLink "VibrationDesk$Reader" (196 : Nat) ({ cls := "VibrationDesk$Frame", name := "atomAt", desc := "(III)I" } : Jvm.MethodName)) ∈ lw_all := lw_g (lw_at lw_m4 192 rfl) rfl
theorem q1063 : (Jvm.Cond.methodLink "VibrationDesk$Reader" (200 : Nat) ({ cls := "VibrationDesk$Frame", name := "adds", desc := "(IIII)V" } : Jvm.MethodName)) ∈ lw_all := lw_g (lw_at lw_m4 196 rfl) rfl
theorem q1071 : (Jvm.Cond.methodLink "VibrationDesk$Reader" (166 : Nat) ({ cls := "VibrationDesk$Reader", name := "imageOf", desc := "()I" } : Jvm.MethodName)) ∈ lw_all := lw_g (lw_at lw_m4 204 rfl) rfl
theorem q1072 : (Jvm.Cond.privateMethod ({ cls := "VibrationDesk$Reader", name := "imageOf", desc := "()I" } : Jvm.MethodName)) ∈ lw_tbl := lw_at lw_m4 205 rfl
theorem q1073 : (Jvm.Cond.instanceMethod ({ cls := "VibrationDesk$Reader", name := "imageOf", desc := "()I" } : Jvm.MethodName)) ∈ lw_all := lw_g (lw_at lw_m4 206 rfl) rfl
theorem q1074 : (Jvm.Cond.code ({ cls := "VibrationDesk$Reader", name := "imageOf", desc := "()I" } : Jvm.MethodName) prog_11_method_12_code (4 : Nat) (Option.some Jvm.ClassFile.FieldType.int)) ∈ lw_all := lw_g (lw_at lw_m4 207 rfl) rfl
theorem q1075 : (Jvm.Cond.stringRef "VibrationDesk$Reader" (134 : Nat) "invert") ∈ lw_tbl := lw_at lw_m4 208 rfl
theorem q1076 : (Jvm.Cond.stringRef "VibrationDesk$Reader" (136 : Nat) "flipx") ∈ lw_tbl := lw_at lw_m4 209 rfl
theorem q1077 : (Jvm.Cond.stringRef "VibrationDesk$Reader" (138 : Nat) "flipy") ∈ lw_tbl := lw_at lw_m4 210 rfl
theorem q1078 : (Jvm.Cond.stringRef "VibrationDesk$Reader" (140 : Nat) "flipz") ∈ lw_tbl := lw_at lw_m4 211 rfl
theorem q1079 : (Jvm.Cond.stringRef "VibrationDesk$Reader" (142 : Nat) "swapxy") ∈ lw_tbl := lw_at lw_m4 212 rfl
theorem q1080 : (Jvm.Cond.stringRef "VibrationDesk$Reader" (144 : Nat) "swapyz") ∈ lw_tbl := lw_at lw_m4 213 rfl
theorem q1081 : (Jvm.Cond.stringRef "VibrationDesk$Reader" (146 : Nat) "swapxz") ∈ lw_tbl := lw_at lw_m4 214 rfl
theorem q1082 : (Jvm.Cond.stringRef "VibrationDesk$Reader" (148 : Nat) "cycle") ∈ lw_tbl := lw_at lw_m4 215 rfl
theorem q1083 : (Jvm.Cond.methodLink "VibrationDesk$Reader" (174 : Nat) ({ cls := "VibrationDesk$Frame", name := "newBy", desc := "(I)I" } : Jvm.MethodName)) ∈ lw_all := lw_g (lw_at lw_m4 216 rfl) rfl
theorem q1096 : (Jvm.Cond.methodLink "VibrationDesk$Reader" (177 : Nat) ({ cls := "VibrationDesk$Frame", name := "images", desc := "(I)V" } : Jvm.MethodName)) ∈ lw_all := lw_g (lw_at lw_m4 229 rfl) rfl
theorem q1101 : (Jvm.Cond.methodLink "VibrationDesk$Reader" (180 : Nat) ({ cls := "VibrationDesk$Reader", name := "shifted", desc := "(I)V" } : Jvm.MethodName)) ∈ lw_all := lw_g (lw_at lw_m4 234 rfl) rfl
theorem q1102 : (Jvm.Cond.privateMethod ({ cls := "VibrationDesk$Reader", name := "shifted", desc := "(I)V" } : Jvm.MethodName)) ∈ lw_tbl := lw_at lw_m4 235 rfl
theorem q1103 : (Jvm.Cond.instanceMethod ({ cls := "VibrationDesk$Reader", name := "shifted", desc := "(I)V" } : Jvm.MethodName)) ∈ lw_all := lw_g (lw_at lw_m4 236 rfl) rfl
theorem q1104 : (Jvm.Cond.code ({ cls := "VibrationDesk$Reader", name := "shifted", desc := "(I)V" } : Jvm.MethodName) prog_11_method_16_code (3 : Nat) (Option.none : Option Jvm.ClassFile.FieldType)) ∈ lw_all := lw_g (lw_at lw_m4 237 rfl) rfl
theorem q1105 : (Jvm.Cond.methodLink "VibrationDesk$Reader" (204 : Nat) ({ cls := "VibrationDesk$Frame", name := "canShift", desc := "(II)Z" } : Jvm.MethodName)) ∈ lw_all := lw_g (lw_at lw_m4 238 rfl) rfl
theorem q1110 : (Jvm.Cond.methodLink "VibrationDesk$Reader" (208 : Nat) ({ cls := "VibrationDesk$Frame", name := "shifts", desc := "(II)V" } : Jvm.MethodName)) ∈ lw_all := lw_g (lw_at lw_m5 3 rfl) rfl
theorem q1114 : (Jvm.Cond.methodLink "VibrationDesk$Reader" (190 : Nat) ({ cls := "VibrationDesk$Frame", name := "loses", desc := "(I)V" } : Jvm.MethodName)) ∈ lw_all := lw_g (lw_at lw_m5 7 rfl) rfl
theorem in_X11 : ∀ w ∈ wsX110, w ∈ lw_all := lw_in wsX110 [932, 934, 936, 938, 940, 942, 944, 946] (by decide +kernel) (by decide +kernel)
