/-! VibrationDesk$Frame -/
set_option maxRecDepth 100000
def RX2 : String := "VibrationDesk$Frame"
def TX2 : u_T := fun k => match k with
  | 0 => ("VibrationDesk$Frame", "many", "I", false)
  | 1 => ("VibrationDesk$Frame", "kinds", "[I", true)
  | 2 => ("VibrationDesk$Frame", "at", "[[I", true)
  | 3 => ("VibrationDesk$Frame", "fars", "[[I", true)
  | 4 => ("VibrationDesk$Frame", "laid", "[[I", true)
  | 5 => ("VibrationDesk$Frame", "a", "[J", true)
  | 6 => ("VibrationDesk$Frame", "b", "[J", true)
  | 7 => ("VibrationDesk$Frame", "c", "[J", true)
  | 8 => ("VibrationDesk$Frame", "across", "[J", true)
  | 9 => ("VibrationDesk$Frame", "cell", "[I", true)
  | _ => ("VibrationDesk$Frame", "finer", "[I", true)
def tyX2 : Nat → FieldType := fun k => match k with
  | 0 => .int
  | 1 => .array .int
  | 2 => .array (.array .int)
  | 3 => .array (.array .int)
  | 4 => .array (.array .int)
  | 5 => .array .long
  | 6 => .array .long
  | 7 => .array .long
  | 8 => .array .long
  | 9 => .array .int
  | _ => .array .int
abbrev wsX20 : List Cond := u_ws RX2 TX2 11
theorem nmX2 : ∀ a, a < 11 → ∀ b, b < 11 → a ≠ b → (TX2 a).2.1 ≠ (TX2 b).2.1 := by decide +kernel
theorem tyX2_ok : ∀ k, k < 11 → parseFieldDescriptor (TX2 k).2.2.1 = some (tyX2 k) := by decide +kernel
abbrev cX2_init : ByteArray := prog_5_method_1_code
def yX2_init : MethodName := ⟨RX2, "<init>", "()V"⟩
def dkwX2_init_3 : List UInt8 := [42, 16, 12, 188, 10, 181, 0, 40, 42, 16, 12, 188, 10, 181, 0, 43, 177]
abbrev dktX2_init_3 : List UInt8 := dkwX2_init_3 ++ []
def dkwX2_init_2 : List UInt8 := [181, 0, 27, 42, 6, 188, 11, 181, 0, 31, 42, 6, 188, 11, 181, 0, 34, 42, 6, 188, 11, 181, 0, 37]
abbrev dktX2_init_2 : List UInt8 := dkwX2_init_2 ++ dktX2_init_3
def dkwX2_init_1 : List UInt8 := [16, 12, 189, 0, 20, 181, 0, 21, 42, 16, 12, 16, 12, 197, 0, 15, 2, 181, 0, 24, 42, 6, 188, 11]
abbrev dktX2_init_1 : List UInt8 := dkwX2_init_1 ++ dktX2_init_2
def dkwX2_init_0 : List UInt8 := [42, 183, 0, 3, 42, 16, 12, 188, 10, 181, 0, 9, 42, 6, 16, 12, 197, 0, 15, 2, 181, 0, 17, 42]
abbrev dktX2_init_0 : List UInt8 := dkwX2_init_0 ++ dktX2_init_1
theorem dksX2_init_0 : cX2_init.data.toList.drop 0 = dktX2_init_0 := by decide +kernel
theorem dksX2_init_1 : cX2_init.data.toList.drop 24 = dktX2_init_1 := dk_seg dksX2_init_0 24 rfl rfl
theorem dksX2_init_2 : cX2_init.data.toList.drop 48 = dktX2_init_2 := dk_seg dksX2_init_1 24 rfl rfl
theorem dksX2_init_3 : cX2_init.data.toList.drop 72 = dktX2_init_3 := dk_seg dksX2_init_2 24 rfl rfl
theorem dX2_init_0 : decode cX2_init 0 = .ok (.aload_n 0, 1) := dk_42 (dk_at dksX2_init_0 0 rfl rfl)
theorem dX2_init_1 : decode cX2_init 1 = .ok (.invokespecial 3, 3) := dk_183 0 3 (dk_at dksX2_init_0 1 rfl rfl)
theorem dX2_init_4 : decode cX2_init 4 = .ok (.aload_n 0, 1) := dk_42 (dk_at dksX2_init_0 4 rfl rfl)
theorem dX2_init_5 : decode cX2_init 5 = .ok (.bipush 12, 2) := dk_16 12 (dk_at dksX2_init_0 5 rfl rfl)
theorem dX2_init_7 : decode cX2_init 7 = .ok (.newarray .int, 2) := dk_188_10 (dk_at dksX2_init_0 7 rfl rfl)
theorem dX2_init_9 : decode cX2_init 9 = .ok (.putfield 9, 3) := dk_181 0 9 (dk_at dksX2_init_0 9 rfl rfl)
theorem dX2_init_12 : decode cX2_init 12 = .ok (.aload_n 0, 1) := dk_42 (dk_at dksX2_init_0 12 rfl rfl)
theorem dX2_init_13 : decode cX2_init 13 = .ok (.iconst 3, 1) := dk_6 (dk_at dksX2_init_0 13 rfl rfl)
theorem dX2_init_14 : decode cX2_init 14 = .ok (.bipush 12, 2) := dk_16 12 (dk_at dksX2_init_0 14 rfl rfl)
theorem dX2_init_16 : decode cX2_init 16 = .ok (.multianewarray 15 2, 4) := by decide +kernel
theorem dX2_init_20 : decode cX2_init 20 = .ok (.putfield 17, 3) := dk_181 0 17 (dk_at dksX2_init_0 20 rfl rfl)
theorem dX2_init_23 : decode cX2_init 23 = .ok (.aload_n 0, 1) := dk_42 (dk_at dksX2_init_0 23 rfl rfl)
theorem dX2_init_24 : decode cX2_init 24 = .ok (.bipush 12, 2) := dk_16 12 (dk_at dksX2_init_1 0 rfl rfl)
theorem dX2_init_26 : decode cX2_init 26 = .ok (.anewarray 20, 3) := dk_189 0 20 (dk_at dksX2_init_1 2 rfl rfl)
theorem dX2_init_29 : decode cX2_init 29 = .ok (.putfield 21, 3) := dk_181 0 21 (dk_at dksX2_init_1 5 rfl rfl)
theorem dX2_init_32 : decode cX2_init 32 = .ok (.aload_n 0, 1) := dk_42 (dk_at dksX2_init_1 8 rfl rfl)
theorem dX2_init_33 : decode cX2_init 33 = .ok (.bipush 12, 2) := dk_16 12 (dk_at dksX2_init_1 9 rfl rfl)
theorem dX2_init_35 : decode cX2_init 35 = .ok (.bipush 12, 2) := dk_16 12 (dk_at dksX2_init_1 11 rfl rfl)
theorem dX2_init_37 : decode cX2_init 37 = .ok (.multianewarray 15 2, 4) := by decide +kernel
theorem dX2_init_41 : decode cX2_init 41 = .ok (.putfield 24, 3) := dk_181 0 24 (dk_at dksX2_init_1 17 rfl rfl)
theorem dX2_init_44 : decode cX2_init 44 = .ok (.aload_n 0, 1) := dk_42 (dk_at dksX2_init_1 20 rfl rfl)
theorem dX2_init_45 : decode cX2_init 45 = .ok (.iconst 3, 1) := dk_6 (dk_at dksX2_init_1 21 rfl rfl)
theorem dX2_init_46 : decode cX2_init 46 = .ok (.newarray .long, 2) := dk_188_11 (dk_at dksX2_init_1 22 rfl rfl)
theorem dX2_init_48 : decode cX2_init 48 = .ok (.putfield 27, 3) := dk_181 0 27 (dk_at dksX2_init_2 0 rfl rfl)
theorem dX2_init_51 : decode cX2_init 51 = .ok (.aload_n 0, 1) := dk_42 (dk_at dksX2_init_2 3 rfl rfl)
theorem dX2_init_52 : decode cX2_init 52 = .ok (.iconst 3, 1) := dk_6 (dk_at dksX2_init_2 4 rfl rfl)
theorem dX2_init_53 : decode cX2_init 53 = .ok (.newarray .long, 2) := dk_188_11 (dk_at dksX2_init_2 5 rfl rfl)
theorem dX2_init_55 : decode cX2_init 55 = .ok (.putfield 31, 3) := dk_181 0 31 (dk_at dksX2_init_2 7 rfl rfl)
theorem dX2_init_58 : decode cX2_init 58 = .ok (.aload_n 0, 1) := dk_42 (dk_at dksX2_init_2 10 rfl rfl)
theorem dX2_init_59 : decode cX2_init 59 = .ok (.iconst 3, 1) := dk_6 (dk_at dksX2_init_2 11 rfl rfl)
theorem dX2_init_60 : decode cX2_init 60 = .ok (.newarray .long, 2) := dk_188_11 (dk_at dksX2_init_2 12 rfl rfl)
theorem dX2_init_62 : decode cX2_init 62 = .ok (.putfield 34, 3) := dk_181 0 34 (dk_at dksX2_init_2 14 rfl rfl)
theorem dX2_init_65 : decode cX2_init 65 = .ok (.aload_n 0, 1) := dk_42 (dk_at dksX2_init_2 17 rfl rfl)
theorem dX2_init_66 : decode cX2_init 66 = .ok (.iconst 3, 1) := dk_6 (dk_at dksX2_init_2 18 rfl rfl)
theorem dX2_init_67 : decode cX2_init 67 = .ok (.newarray .long, 2) := dk_188_11 (dk_at dksX2_init_2 19 rfl rfl)
theorem dX2_init_69 : decode cX2_init 69 = .ok (.putfield 37, 3) := dk_181 0 37 (dk_at dksX2_init_2 21 rfl rfl)
theorem dX2_init_72 : decode cX2_init 72 = .ok (.aload_n 0, 1) := dk_42 (dk_at dksX2_init_3 0 rfl rfl)
theorem dX2_init_73 : decode cX2_init 73 = .ok (.bipush 12, 2) := dk_16 12 (dk_at dksX2_init_3 1 rfl rfl)
theorem dX2_init_75 : decode cX2_init 75 = .ok (.newarray .int, 2) := dk_188_10 (dk_at dksX2_init_3 3 rfl rfl)
theorem dX2_init_77 : decode cX2_init 77 = .ok (.putfield 40, 3) := dk_181 0 40 (dk_at dksX2_init_3 5 rfl rfl)
theorem dX2_init_80 : decode cX2_init 80 = .ok (.aload_n 0, 1) := dk_42 (dk_at dksX2_init_3 8 rfl rfl)
theorem dX2_init_81 : decode cX2_init 81 = .ok (.bipush 12, 2) := dk_16 12 (dk_at dksX2_init_3 9 rfl rfl)
theorem dX2_init_83 : decode cX2_init 83 = .ok (.newarray .int, 2) := dk_188_10 (dk_at dksX2_init_3 11 rfl rfl)
theorem dX2_init_85 : decode cX2_init 85 = .ok (.putfield 43, 3) := dk_181 0 43 (dk_at dksX2_init_3 13 rfl rfl)
theorem dX2_init_88 : decode cX2_init 88 = .ok (.return_, 1) := dk_177 (dk_at dksX2_init_3 16 rfl rfl)
abbrev cX2_be : ByteArray := prog_5_method_3_code
def yX2_be : MethodName := ⟨RX2, "be", "(LVibrationDesk$Frame;)V"⟩
def dkwX2_be_2 : List UInt8 := [184, 0, 50, 132, 2, 1, 167, 255, 229, 42, 182, 0, 56, 177]
abbrev dktX2_be_2 : List UInt8 := dkwX2_be_2 ++ []
def dkwX2_be_1 : List UInt8 := [61, 28, 6, 162, 0, 28, 43, 180, 0, 17, 28, 50, 3, 42, 180, 0, 17, 28, 50, 3, 16, 12]
abbrev dktX2_be_1 : List UInt8 := dkwX2_be_1 ++ dktX2_be_2
def dkwX2_be_0 : List UInt8 := [42, 43, 180, 0, 46, 181, 0, 46, 43, 180, 0, 9, 3, 42, 180, 0, 9, 3, 16, 12, 184, 0, 50, 3]
abbrev dktX2_be_0 : List UInt8 := dkwX2_be_0 ++ dktX2_be_1
theorem dksX2_be_0 : cX2_be.data.toList.drop 0 = dktX2_be_0 := by decide +kernel
theorem dksX2_be_1 : cX2_be.data.toList.drop 24 = dktX2_be_1 := dk_seg dksX2_be_0 24 rfl rfl
theorem dksX2_be_2 : cX2_be.data.toList.drop 46 = dktX2_be_2 := dk_seg dksX2_be_1 22 rfl rfl
theorem dX2_be_0 : decode cX2_be 0 = .ok (.aload_n 0, 1) := dk_42 (dk_at dksX2_be_0 0 rfl rfl)
theorem dX2_be_1 : decode cX2_be 1 = .ok (.aload_n 1, 1) := dk_43 (dk_at dksX2_be_0 1 rfl rfl)
theorem dX2_be_2 : decode cX2_be 2 = .ok (.getfield 46, 3) := dk_180 0 46 (dk_at dksX2_be_0 2 rfl rfl)
theorem dX2_be_5 : decode cX2_be 5 = .ok (.putfield 46, 3) := dk_181 0 46 (dk_at dksX2_be_0 5 rfl rfl)
theorem dX2_be_8 : decode cX2_be 8 = .ok (.aload_n 1, 1) := dk_43 (dk_at dksX2_be_0 8 rfl rfl)
theorem dX2_be_9 : decode cX2_be 9 = .ok (.getfield 9, 3) := dk_180 0 9 (dk_at dksX2_be_0 9 rfl rfl)
theorem dX2_be_12 : decode cX2_be 12 = .ok (.iconst 0, 1) := dk_3 (dk_at dksX2_be_0 12 rfl rfl)
theorem dX2_be_13 : decode cX2_be 13 = .ok (.aload_n 0, 1) := dk_42 (dk_at dksX2_be_0 13 rfl rfl)
theorem dX2_be_14 : decode cX2_be 14 = .ok (.getfield 9, 3) := dk_180 0 9 (dk_at dksX2_be_0 14 rfl rfl)
theorem dX2_be_17 : decode cX2_be 17 = .ok (.iconst 0, 1) := dk_3 (dk_at dksX2_be_0 17 rfl rfl)
theorem dX2_be_18 : decode cX2_be 18 = .ok (.bipush 12, 2) := dk_16 12 (dk_at dksX2_be_0 18 rfl rfl)
theorem dX2_be_20 : decode cX2_be 20 = .ok (.invokestatic 50, 3) := dk_184 0 50 (dk_at dksX2_be_0 20 rfl rfl)
theorem dX2_be_23 : decode cX2_be 23 = .ok (.iconst 0, 1) := dk_3 (dk_at dksX2_be_0 23 rfl rfl)
theorem dX2_be_24 : decode cX2_be 24 = .ok (.istore_n 2, 1) := dk_61 (dk_at dksX2_be_1 0 rfl rfl)
theorem dX2_be_25 : decode cX2_be 25 = .ok (.iload_n 2, 1) := dk_28 (dk_at dksX2_be_1 1 rfl rfl)
theorem dX2_be_26 : decode cX2_be 26 = .ok (.iconst 3, 1) := dk_6 (dk_at dksX2_be_1 2 rfl rfl)
theorem dX2_be_27 : decode cX2_be 27 = .ok (.if_icmp .ge 28, 3) := dk_162 0 28 (dk_at dksX2_be_1 3 rfl rfl)
theorem dX2_be_30 : decode cX2_be 30 = .ok (.aload_n 1, 1) := dk_43 (dk_at dksX2_be_1 6 rfl rfl)
theorem dX2_be_31 : decode cX2_be 31 = .ok (.getfield 17, 3) := dk_180 0 17 (dk_at dksX2_be_1 7 rfl rfl)
theorem dX2_be_34 : decode cX2_be 34 = .ok (.iload_n 2, 1) := dk_28 (dk_at dksX2_be_1 10 rfl rfl)
theorem dX2_be_35 : decode cX2_be 35 = .ok (.aaload, 1) := dk_50 (dk_at dksX2_be_1 11 rfl rfl)
theorem dX2_be_36 : decode cX2_be 36 = .ok (.iconst 0, 1) := dk_3 (dk_at dksX2_be_1 12 rfl rfl)
theorem dX2_be_37 : decode cX2_be 37 = .ok (.aload_n 0, 1) := dk_42 (dk_at dksX2_be_1 13 rfl rfl)
theorem dX2_be_38 : decode cX2_be 38 = .ok (.getfield 17, 3) := dk_180 0 17 (dk_at dksX2_be_1 14 rfl rfl)
theorem dX2_be_41 : decode cX2_be 41 = .ok (.iload_n 2, 1) := dk_28 (dk_at dksX2_be_1 17 rfl rfl)
theorem dX2_be_42 : decode cX2_be 42 = .ok (.aaload, 1) := dk_50 (dk_at dksX2_be_1 18 rfl rfl)
theorem dX2_be_43 : decode cX2_be 43 = .ok (.iconst 0, 1) := dk_3 (dk_at dksX2_be_1 19 rfl rfl)
theorem dX2_be_44 : decode cX2_be 44 = .ok (.bipush 12, 2) := dk_16 12 (dk_at dksX2_be_1 20 rfl rfl)
theorem dX2_be_46 : decode cX2_be 46 = .ok (.invokestatic 50, 3) := dk_184 0 50 (dk_at dksX2_be_2 0 rfl rfl)
theorem dX2_be_49 : decode cX2_be 49 = .ok (.iinc 2 1, 3) := dk_132 2 1 (dk_at dksX2_be_2 3 rfl rfl)
theorem dX2_be_52 : decode cX2_be 52 = .ok (.goto (-27), 3) := dk_167 255 229 (dk_at dksX2_be_2 6 rfl rfl)
theorem dX2_be_55 : decode cX2_be 55 = .ok (.aload_n 0, 1) := dk_42 (dk_at dksX2_be_2 9 rfl rfl)
theorem dX2_be_56 : decode cX2_be 56 = .ok (.invokevirtual 56, 3) := dk_182 0 56 (dk_at dksX2_be_2 10 rfl rfl)
theorem dX2_be_59 : decode cX2_be 59 = .ok (.return_, 1) := dk_177 (dk_at dksX2_be_2 13 rfl rfl)
abbrev cX2_changes : ByteArray := prog_5_method_2_code
def yX2_changes : MethodName := ⟨RX2, "changes", "()V"⟩
def dkwX2_changes_0 : List UInt8 := [3, 60, 27, 16, 12, 162, 0, 16, 42, 180, 0, 21, 27, 1, 83, 132, 1, 1, 167, 255, 240, 177]
abbrev dktX2_changes_0 : List UInt8 := dkwX2_changes_0 ++ []
theorem dksX2_changes_0 : cX2_changes.data.toList.drop 0 = dktX2_changes_0 := by decide +kernel
theorem dX2_changes_0 : decode cX2_changes 0 = .ok (.iconst 0, 1) := dk_3 (dk_at dksX2_changes_0 0 rfl rfl)
theorem dX2_changes_1 : decode cX2_changes 1 = .ok (.istore_n 1, 1) := dk_60 (dk_at dksX2_changes_0 1 rfl rfl)
theorem dX2_changes_2 : decode cX2_changes 2 = .ok (.iload_n 1, 1) := dk_27 (dk_at dksX2_changes_0 2 rfl rfl)
theorem dX2_changes_3 : decode cX2_changes 3 = .ok (.bipush 12, 2) := dk_16 12 (dk_at dksX2_changes_0 3 rfl rfl)
theorem dX2_changes_5 : decode cX2_changes 5 = .ok (.if_icmp .ge 16, 3) := dk_162 0 16 (dk_at dksX2_changes_0 5 rfl rfl)
theorem dX2_changes_8 : decode cX2_changes 8 = .ok (.aload_n 0, 1) := dk_42 (dk_at dksX2_changes_0 8 rfl rfl)
theorem dX2_changes_9 : decode cX2_changes 9 = .ok (.getfield 21, 3) := dk_180 0 21 (dk_at dksX2_changes_0 9 rfl rfl)
theorem dX2_changes_12 : decode cX2_changes 12 = .ok (.iload_n 1, 1) := dk_27 (dk_at dksX2_changes_0 12 rfl rfl)
theorem dX2_changes_13 : decode cX2_changes 13 = .ok (.aconst_null, 1) := dk_1 (dk_at dksX2_changes_0 13 rfl rfl)
theorem dX2_changes_14 : decode cX2_changes 14 = .ok (.aastore, 1) := dk_83 (dk_at dksX2_changes_0 14 rfl rfl)
theorem dX2_changes_15 : decode cX2_changes 15 = .ok (.iinc 1 1, 3) := dk_132 1 1 (dk_at dksX2_changes_0 15 rfl rfl)
theorem dX2_changes_18 : decode cX2_changes 18 = .ok (.goto (-16), 3) := dk_167 255 240 (dk_at dksX2_changes_0 18 rfl rfl)
theorem dX2_changes_21 : decode cX2_changes 21 = .ok (.return_, 1) := dk_177 (dk_at dksX2_changes_0 21 rfl rfl)
abbrev cX2_clears : ByteArray := prog_5_method_4_code
def yX2_clears : MethodName := ⟨RX2, "clears", "()V"⟩
def dkwX2_clears_0 : List UInt8 := [42, 3, 181, 0, 46, 42, 182, 0, 56, 177]
abbrev dktX2_clears_0 : List UInt8 := dkwX2_clears_0 ++ []
theorem dksX2_clears_0 : cX2_clears.data.toList.drop 0 = dktX2_clears_0 := by decide +kernel
theorem dX2_clears_0 : decode cX2_clears 0 = .ok (.aload_n 0, 1) := dk_42 (dk_at dksX2_clears_0 0 rfl rfl)
theorem dX2_clears_1 : decode cX2_clears 1 = .ok (.iconst 0, 1) := dk_3 (dk_at dksX2_clears_0 1 rfl rfl)
theorem dX2_clears_2 : decode cX2_clears 2 = .ok (.putfield 46, 3) := dk_181 0 46 (dk_at dksX2_clears_0 2 rfl rfl)
theorem dX2_clears_5 : decode cX2_clears 5 = .ok (.aload_n 0, 1) := dk_42 (dk_at dksX2_clears_0 5 rfl rfl)
theorem dX2_clears_6 : decode cX2_clears 6 = .ok (.invokevirtual 56, 3) := dk_182 0 56 (dk_at dksX2_clears_0 6 rfl rfl)
theorem dX2_clears_9 : decode cX2_clears 9 = .ok (.return_, 1) := dk_177 (dk_at dksX2_clears_0 9 rfl rfl)
abbrev cX2_atomAt : ByteArray := prog_5_method_7_code
def yX2_atomAt : MethodName := ⟨RX2, "atomAt", "(III)I"⟩
def dkwX2_atomAt_2 : List UInt8 := [46, 29, 160, 0, 6, 21, 4, 172, 132, 4, 1, 167, 255, 202, 2, 172]
abbrev dktX2_atomAt_2 : List UInt8 := dkwX2_atomAt_2 ++ []
def dkwX2_atomAt_1 : List UInt8 := [160, 0, 32, 42, 180, 0, 17, 4, 50, 21, 4, 46, 28, 160, 0, 19, 42, 180, 0, 17, 5, 50, 21, 4]
abbrev dktX2_atomAt_1 : List UInt8 := dkwX2_atomAt_1 ++ dktX2_atomAt_2
def dkwX2_atomAt_0 : List UInt8 := [3, 54, 4, 21, 4, 42, 180, 0, 46, 162, 0, 51, 42, 180, 0, 17, 3, 50, 21, 4, 46, 27]
abbrev dktX2_atomAt_0 : List UInt8 := dkwX2_atomAt_0 ++ dktX2_atomAt_1
theorem dksX2_atomAt_0 : cX2_atomAt.data.toList.drop 0 = dktX2_atomAt_0 := by decide +kernel
theorem dksX2_atomAt_1 : cX2_atomAt.data.toList.drop 22 = dktX2_atomAt_1 := dk_seg dksX2_atomAt_0 22 rfl rfl
theorem dksX2_atomAt_2 : cX2_atomAt.data.toList.drop 46 = dktX2_atomAt_2 := dk_seg dksX2_atomAt_1 24 rfl rfl
theorem dX2_atomAt_0 : decode cX2_atomAt 0 = .ok (.iconst 0, 1) := dk_3 (dk_at dksX2_atomAt_0 0 rfl rfl)
theorem dX2_atomAt_1 : decode cX2_atomAt 1 = .ok (.istore 4, 2) := dk_54 4 (dk_at dksX2_atomAt_0 1 rfl rfl)
theorem dX2_atomAt_3 : decode cX2_atomAt 3 = .ok (.iload 4, 2) := dk_21 4 (dk_at dksX2_atomAt_0 3 rfl rfl)
theorem dX2_atomAt_5 : decode cX2_atomAt 5 = .ok (.aload_n 0, 1) := dk_42 (dk_at dksX2_atomAt_0 5 rfl rfl)
theorem dX2_atomAt_6 : decode cX2_atomAt 6 = .ok (.getfield 46, 3) := dk_180 0 46 (dk_at dksX2_atomAt_0 6 rfl rfl)
theorem dX2_atomAt_9 : decode cX2_atomAt 9 = .ok (.if_icmp .ge 51, 3) := dk_162 0 51 (dk_at dksX2_atomAt_0 9 rfl rfl)
theorem dX2_atomAt_12 : decode cX2_atomAt 12 = .ok (.aload_n 0, 1) := dk_42 (dk_at dksX2_atomAt_0 12 rfl rfl)
theorem dX2_atomAt_13 : decode cX2_atomAt 13 = .ok (.getfield 17, 3) := dk_180 0 17 (dk_at dksX2_atomAt_0 13 rfl rfl)
theorem dX2_atomAt_16 : decode cX2_atomAt 16 = .ok (.iconst 0, 1) := dk_3 (dk_at dksX2_atomAt_0 16 rfl rfl)
theorem dX2_atomAt_17 : decode cX2_atomAt 17 = .ok (.aaload, 1) := dk_50 (dk_at dksX2_atomAt_0 17 rfl rfl)
theorem dX2_atomAt_18 : decode cX2_atomAt 18 = .ok (.iload 4, 2) := dk_21 4 (dk_at dksX2_atomAt_0 18 rfl rfl)
theorem dX2_atomAt_20 : decode cX2_atomAt 20 = .ok (.iaload, 1) := dk_46 (dk_at dksX2_atomAt_0 20 rfl rfl)
theorem dX2_atomAt_21 : decode cX2_atomAt 21 = .ok (.iload_n 1, 1) := dk_27 (dk_at dksX2_atomAt_0 21 rfl rfl)
theorem dX2_atomAt_22 : decode cX2_atomAt 22 = .ok (.if_icmp .ne 32, 3) := dk_160 0 32 (dk_at dksX2_atomAt_1 0 rfl rfl)
theorem dX2_atomAt_25 : decode cX2_atomAt 25 = .ok (.aload_n 0, 1) := dk_42 (dk_at dksX2_atomAt_1 3 rfl rfl)
theorem dX2_atomAt_26 : decode cX2_atomAt 26 = .ok (.getfield 17, 3) := dk_180 0 17 (dk_at dksX2_atomAt_1 4 rfl rfl)
theorem dX2_atomAt_29 : decode cX2_atomAt 29 = .ok (.iconst 1, 1) := dk_4 (dk_at dksX2_atomAt_1 7 rfl rfl)
theorem dX2_atomAt_30 : decode cX2_atomAt 30 = .ok (.aaload, 1) := dk_50 (dk_at dksX2_atomAt_1 8 rfl rfl)
theorem dX2_atomAt_31 : decode cX2_atomAt 31 = .ok (.iload 4, 2) := dk_21 4 (dk_at dksX2_atomAt_1 9 rfl rfl)
theorem dX2_atomAt_33 : decode cX2_atomAt 33 = .ok (.iaload, 1) := dk_46 (dk_at dksX2_atomAt_1 11 rfl rfl)
theorem dX2_atomAt_34 : decode cX2_atomAt 34 = .ok (.iload_n 2, 1) := dk_28 (dk_at dksX2_atomAt_1 12 rfl rfl)
theorem dX2_atomAt_35 : decode cX2_atomAt 35 = .ok (.if_icmp .ne 19, 3) := dk_160 0 19 (dk_at dksX2_atomAt_1 13 rfl rfl)
theorem dX2_atomAt_38 : decode cX2_atomAt 38 = .ok (.aload_n 0, 1) := dk_42 (dk_at dksX2_atomAt_1 16 rfl rfl)
theorem dX2_atomAt_39 : decode cX2_atomAt 39 = .ok (.getfield 17, 3) := dk_180 0 17 (dk_at dksX2_atomAt_1 17 rfl rfl)
theorem dX2_atomAt_42 : decode cX2_atomAt 42 = .ok (.iconst 2, 1) := dk_5 (dk_at dksX2_atomAt_1 20 rfl rfl)
theorem dX2_atomAt_43 : decode cX2_atomAt 43 = .ok (.aaload, 1) := dk_50 (dk_at dksX2_atomAt_1 21 rfl rfl)
theorem dX2_atomAt_44 : decode cX2_atomAt 44 = .ok (.iload 4, 2) := dk_21 4 (dk_at dksX2_atomAt_1 22 rfl rfl)
theorem dX2_atomAt_46 : decode cX2_atomAt 46 = .ok (.iaload, 1) := dk_46 (dk_at dksX2_atomAt_2 0 rfl rfl)
theorem dX2_atomAt_47 : decode cX2_atomAt 47 = .ok (.iload_n 3, 1) := dk_29 (dk_at dksX2_atomAt_2 1 rfl rfl)
theorem dX2_atomAt_48 : decode cX2_atomAt 48 = .ok (.if_icmp .ne 6, 3) := dk_160 0 6 (dk_at dksX2_atomAt_2 2 rfl rfl)
theorem dX2_atomAt_51 : decode cX2_atomAt 51 = .ok (.iload 4, 2) := dk_21 4 (dk_at dksX2_atomAt_2 5 rfl rfl)
theorem dX2_atomAt_53 : decode cX2_atomAt 53 = .ok (.ireturn, 1) := dk_172 (dk_at dksX2_atomAt_2 7 rfl rfl)
theorem dX2_atomAt_54 : decode cX2_atomAt 54 = .ok (.iinc 4 1, 3) := dk_132 4 1 (dk_at dksX2_atomAt_2 8 rfl rfl)
theorem dX2_atomAt_57 : decode cX2_atomAt 57 = .ok (.goto (-54), 3) := dk_167 255 202 (dk_at dksX2_atomAt_2 11 rfl rfl)
theorem dX2_atomAt_60 : decode cX2_atomAt 60 = .ok (.iconst (-1), 1) := dk_2 (dk_at dksX2_atomAt_2 14 rfl rfl)
theorem dX2_atomAt_61 : decode cX2_atomAt 61 = .ok (.ireturn, 1) := dk_172 (dk_at dksX2_atomAt_2 15 rfl rfl)
abbrev cX2_adds : ByteArray := prog_5_method_9_code
def yX2_adds : MethodName := ⟨RX2, "adds", "(IIII)V"⟩
def dkwX2_adds_1 : List UInt8 := [180, 0, 46, 4, 100, 28, 29, 21, 4, 182, 0, 65, 177]
abbrev dktX2_adds_1 : List UInt8 := dkwX2_adds_1 ++ []
def dkwX2_adds_0 : List UInt8 := [42, 180, 0, 9, 42, 180, 0, 46, 27, 79, 42, 89, 180, 0, 46, 4, 96, 181, 0, 46, 42, 42]
abbrev dktX2_adds_0 : List UInt8 := dkwX2_adds_0 ++ dktX2_adds_1
theorem dksX2_adds_0 : cX2_adds.data.toList.drop 0 = dktX2_adds_0 := by decide +kernel
theorem dksX2_adds_1 : cX2_adds.data.toList.drop 22 = dktX2_adds_1 := dk_seg dksX2_adds_0 22 rfl rfl
theorem dX2_adds_0 : decode cX2_adds 0 = .ok (.aload_n 0, 1) := dk_42 (dk_at dksX2_adds_0 0 rfl rfl)
theorem dX2_adds_1 : decode cX2_adds 1 = .ok (.getfield 9, 3) := dk_180 0 9 (dk_at dksX2_adds_0 1 rfl rfl)
theorem dX2_adds_4 : decode cX2_adds 4 = .ok (.aload_n 0, 1) := dk_42 (dk_at dksX2_adds_0 4 rfl rfl)
theorem dX2_adds_5 : decode cX2_adds 5 = .ok (.getfield 46, 3) := dk_180 0 46 (dk_at dksX2_adds_0 5 rfl rfl)
theorem dX2_adds_8 : decode cX2_adds 8 = .ok (.iload_n 1, 1) := dk_27 (dk_at dksX2_adds_0 8 rfl rfl)
theorem dX2_adds_9 : decode cX2_adds 9 = .ok (.iastore, 1) := dk_79 (dk_at dksX2_adds_0 9 rfl rfl)
theorem dX2_adds_10 : decode cX2_adds 10 = .ok (.aload_n 0, 1) := dk_42 (dk_at dksX2_adds_0 10 rfl rfl)
theorem dX2_adds_11 : decode cX2_adds 11 = .ok (.dup, 1) := dk_89 (dk_at dksX2_adds_0 11 rfl rfl)
theorem dX2_adds_12 : decode cX2_adds 12 = .ok (.getfield 46, 3) := dk_180 0 46 (dk_at dksX2_adds_0 12 rfl rfl)
theorem dX2_adds_15 : decode cX2_adds 15 = .ok (.iconst 1, 1) := dk_4 (dk_at dksX2_adds_0 15 rfl rfl)
theorem dX2_adds_16 : decode cX2_adds 16 = .ok (.iadd, 1) := dk_96 (dk_at dksX2_adds_0 16 rfl rfl)
theorem dX2_adds_17 : decode cX2_adds 17 = .ok (.putfield 46, 3) := dk_181 0 46 (dk_at dksX2_adds_0 17 rfl rfl)
theorem dX2_adds_20 : decode cX2_adds 20 = .ok (.aload_n 0, 1) := dk_42 (dk_at dksX2_adds_0 20 rfl rfl)
theorem dX2_adds_21 : decode cX2_adds 21 = .ok (.aload_n 0, 1) := dk_42 (dk_at dksX2_adds_0 21 rfl rfl)
theorem dX2_adds_22 : decode cX2_adds 22 = .ok (.getfield 46, 3) := dk_180 0 46 (dk_at dksX2_adds_1 0 rfl rfl)
theorem dX2_adds_25 : decode cX2_adds 25 = .ok (.iconst 1, 1) := dk_4 (dk_at dksX2_adds_1 3 rfl rfl)
theorem dX2_adds_26 : decode cX2_adds 26 = .ok (.isub, 1) := dk_100 (dk_at dksX2_adds_1 4 rfl rfl)
theorem dX2_adds_27 : decode cX2_adds 27 = .ok (.iload_n 2, 1) := dk_28 (dk_at dksX2_adds_1 5 rfl rfl)
theorem dX2_adds_28 : decode cX2_adds 28 = .ok (.iload_n 3, 1) := dk_29 (dk_at dksX2_adds_1 6 rfl rfl)
theorem dX2_adds_29 : decode cX2_adds 29 = .ok (.iload 4, 2) := dk_21 4 (dk_at dksX2_adds_1 7 rfl rfl)
theorem dX2_adds_31 : decode cX2_adds 31 = .ok (.invokevirtual 65, 3) := dk_182 0 65 (dk_at dksX2_adds_1 9 rfl rfl)
theorem dX2_adds_34 : decode cX2_adds 34 = .ok (.return_, 1) := dk_177 (dk_at dksX2_adds_1 12 rfl rfl)
abbrev cX2_places : ByteArray := prog_5_method_8_code
def yX2_places : MethodName := ⟨RX2, "places", "(IIII)V"⟩
def dkwX2_places_1 : List UInt8 := [27, 21, 4, 79, 42, 182, 0, 56, 177]
abbrev dktX2_places_1 : List UInt8 := dkwX2_places_1 ++ []
def dkwX2_places_0 : List UInt8 := [42, 180, 0, 17, 3, 50, 27, 28, 79, 42, 180, 0, 17, 4, 50, 27, 29, 79, 42, 180, 0, 17, 5, 50]
abbrev dktX2_places_0 : List UInt8 := dkwX2_places_0 ++ dktX2_places_1
theorem dksX2_places_0 : cX2_places.data.toList.drop 0 = dktX2_places_0 := by decide +kernel
theorem dksX2_places_1 : cX2_places.data.toList.drop 24 = dktX2_places_1 := dk_seg dksX2_places_0 24 rfl rfl
theorem dX2_places_0 : decode cX2_places 0 = .ok (.aload_n 0, 1) := dk_42 (dk_at dksX2_places_0 0 rfl rfl)
theorem dX2_places_1 : decode cX2_places 1 = .ok (.getfield 17, 3) := dk_180 0 17 (dk_at dksX2_places_0 1 rfl rfl)
theorem dX2_places_4 : decode cX2_places 4 = .ok (.iconst 0, 1) := dk_3 (dk_at dksX2_places_0 4 rfl rfl)
theorem dX2_places_5 : decode cX2_places 5 = .ok (.aaload, 1) := dk_50 (dk_at dksX2_places_0 5 rfl rfl)
theorem dX2_places_6 : decode cX2_places 6 = .ok (.iload_n 1, 1) := dk_27 (dk_at dksX2_places_0 6 rfl rfl)
theorem dX2_places_7 : decode cX2_places 7 = .ok (.iload_n 2, 1) := dk_28 (dk_at dksX2_places_0 7 rfl rfl)
theorem dX2_places_8 : decode cX2_places 8 = .ok (.iastore, 1) := dk_79 (dk_at dksX2_places_0 8 rfl rfl)
theorem dX2_places_9 : decode cX2_places 9 = .ok (.aload_n 0, 1) := dk_42 (dk_at dksX2_places_0 9 rfl rfl)
theorem dX2_places_10 : decode cX2_places 10 = .ok (.getfield 17, 3) := dk_180 0 17 (dk_at dksX2_places_0 10 rfl rfl)
theorem dX2_places_13 : decode cX2_places 13 = .ok (.iconst 1, 1) := dk_4 (dk_at dksX2_places_0 13 rfl rfl)
theorem dX2_places_14 : decode cX2_places 14 = .ok (.aaload, 1) := dk_50 (dk_at dksX2_places_0 14 rfl rfl)
theorem dX2_places_15 : decode cX2_places 15 = .ok (.iload_n 1, 1) := dk_27 (dk_at dksX2_places_0 15 rfl rfl)
theorem dX2_places_16 : decode cX2_places 16 = .ok (.iload_n 3, 1) := dk_29 (dk_at dksX2_places_0 16 rfl rfl)
theorem dX2_places_17 : decode cX2_places 17 = .ok (.iastore, 1) := dk_79 (dk_at dksX2_places_0 17 rfl rfl)
theorem dX2_places_18 : decode cX2_places 18 = .ok (.aload_n 0, 1) := dk_42 (dk_at dksX2_places_0 18 rfl rfl)
theorem dX2_places_19 : decode cX2_places 19 = .ok (.getfield 17, 3) := dk_180 0 17 (dk_at dksX2_places_0 19 rfl rfl)
theorem dX2_places_22 : decode cX2_places 22 = .ok (.iconst 2, 1) := dk_5 (dk_at dksX2_places_0 22 rfl rfl)
theorem dX2_places_23 : decode cX2_places 23 = .ok (.aaload, 1) := dk_50 (dk_at dksX2_places_0 23 rfl rfl)
theorem dX2_places_24 : decode cX2_places 24 = .ok (.iload_n 1, 1) := dk_27 (dk_at dksX2_places_1 0 rfl rfl)
theorem dX2_places_25 : decode cX2_places 25 = .ok (.iload 4, 2) := dk_21 4 (dk_at dksX2_places_1 1 rfl rfl)
theorem dX2_places_27 : decode cX2_places 27 = .ok (.iastore, 1) := dk_79 (dk_at dksX2_places_1 3 rfl rfl)
theorem dX2_places_28 : decode cX2_places 28 = .ok (.aload_n 0, 1) := dk_42 (dk_at dksX2_places_1 4 rfl rfl)
theorem dX2_places_29 : decode cX2_places 29 = .ok (.invokevirtual 56, 3) := dk_182 0 56 (dk_at dksX2_places_1 5 rfl rfl)
theorem dX2_places_32 : decode cX2_places 32 = .ok (.return_, 1) := dk_177 (dk_at dksX2_places_1 8 rfl rfl)
abbrev cX2_newBy : ByteArray := prog_5_method_13_code
def yX2_newBy : MethodName := ⟨RX2, "newBy", "(I)I"⟩
def dkwX2_newBy_1 : List UInt8 := [167, 0, 4, 3, 96, 61, 132, 3, 1, 167, 255, 228, 28, 172]
abbrev dktX2_newBy_1 : List UInt8 := dkwX2_newBy_1 ++ []
def dkwX2_newBy_0 : List UInt8 := [3, 61, 3, 62, 29, 42, 180, 0, 46, 162, 0, 26, 28, 42, 27, 29, 182, 0, 76, 153, 0, 7, 4]
abbrev dktX2_newBy_0 : List UInt8 := dkwX2_newBy_0 ++ dktX2_newBy_1
theorem dksX2_newBy_0 : cX2_newBy.data.toList.drop 0 = dktX2_newBy_0 := by decide +kernel
theorem dksX2_newBy_1 : cX2_newBy.data.toList.drop 23 = dktX2_newBy_1 := dk_seg dksX2_newBy_0 23 rfl rfl
theorem dX2_newBy_0 : decode cX2_newBy 0 = .ok (.iconst 0, 1) := dk_3 (dk_at dksX2_newBy_0 0 rfl rfl)
theorem dX2_newBy_1 : decode cX2_newBy 1 = .ok (.istore_n 2, 1) := dk_61 (dk_at dksX2_newBy_0 1 rfl rfl)
theorem dX2_newBy_2 : decode cX2_newBy 2 = .ok (.iconst 0, 1) := dk_3 (dk_at dksX2_newBy_0 2 rfl rfl)
theorem dX2_newBy_3 : decode cX2_newBy 3 = .ok (.istore_n 3, 1) := dk_62 (dk_at dksX2_newBy_0 3 rfl rfl)
theorem dX2_newBy_4 : decode cX2_newBy 4 = .ok (.iload_n 3, 1) := dk_29 (dk_at dksX2_newBy_0 4 rfl rfl)
theorem dX2_newBy_5 : decode cX2_newBy 5 = .ok (.aload_n 0, 1) := dk_42 (dk_at dksX2_newBy_0 5 rfl rfl)
theorem dX2_newBy_6 : decode cX2_newBy 6 = .ok (.getfield 46, 3) := dk_180 0 46 (dk_at dksX2_newBy_0 6 rfl rfl)
theorem dX2_newBy_9 : decode cX2_newBy 9 = .ok (.if_icmp .ge 26, 3) := dk_162 0 26 (dk_at dksX2_newBy_0 9 rfl rfl)
theorem dX2_newBy_12 : decode cX2_newBy 12 = .ok (.iload_n 2, 1) := dk_28 (dk_at dksX2_newBy_0 12 rfl rfl)
theorem dX2_newBy_13 : decode cX2_newBy 13 = .ok (.aload_n 0, 1) := dk_42 (dk_at dksX2_newBy_0 13 rfl rfl)
theorem dX2_newBy_14 : decode cX2_newBy 14 = .ok (.iload_n 1, 1) := dk_27 (dk_at dksX2_newBy_0 14 rfl rfl)
theorem dX2_newBy_15 : decode cX2_newBy 15 = .ok (.iload_n 3, 1) := dk_29 (dk_at dksX2_newBy_0 15 rfl rfl)
theorem dX2_newBy_16 : decode cX2_newBy 16 = .ok (.invokevirtual 76, 3) := dk_182 0 76 (dk_at dksX2_newBy_0 16 rfl rfl)
theorem dX2_newBy_19 : decode cX2_newBy 19 = .ok (.ifCond .eq 7, 3) := dk_153 0 7 (dk_at dksX2_newBy_0 19 rfl rfl)
theorem dX2_newBy_22 : decode cX2_newBy 22 = .ok (.iconst 1, 1) := dk_4 (dk_at dksX2_newBy_0 22 rfl rfl)
theorem dX2_newBy_23 : decode cX2_newBy 23 = .ok (.goto 4, 3) := dk_167 0 4 (dk_at dksX2_newBy_1 0 rfl rfl)
theorem dX2_newBy_26 : decode cX2_newBy 26 = .ok (.iconst 0, 1) := dk_3 (dk_at dksX2_newBy_1 3 rfl rfl)
theorem dX2_newBy_27 : decode cX2_newBy 27 = .ok (.iadd, 1) := dk_96 (dk_at dksX2_newBy_1 4 rfl rfl)
theorem dX2_newBy_28 : decode cX2_newBy 28 = .ok (.istore_n 2, 1) := dk_61 (dk_at dksX2_newBy_1 5 rfl rfl)
theorem dX2_newBy_29 : decode cX2_newBy 29 = .ok (.iinc 3 1, 3) := dk_132 3 1 (dk_at dksX2_newBy_1 6 rfl rfl)
theorem dX2_newBy_32 : decode cX2_newBy 32 = .ok (.goto (-28), 3) := dk_167 255 228 (dk_at dksX2_newBy_1 9 rfl rfl)
theorem dX2_newBy_35 : decode cX2_newBy 35 = .ok (.iload_n 2, 1) := dk_28 (dk_at dksX2_newBy_1 12 rfl rfl)
theorem dX2_newBy_36 : decode cX2_newBy 36 = .ok (.ireturn, 1) := dk_172 (dk_at dksX2_newBy_1 13 rfl rfl)
abbrev cX2_isNew : ByteArray := prog_5_method_12_code
def yX2_isNew : MethodName := ⟨RX2, "isNew", "(II)Z"⟩
def dkwX2_isNew_1 : List UInt8 := [182, 0, 73, 156, 0, 7, 4, 167, 0, 4, 3, 172]
abbrev dktX2_isNew_1 : List UInt8 := dkwX2_isNew_1 ++ []
def dkwX2_isNew_0 : List UInt8 := [42, 42, 27, 28, 3, 182, 0, 69, 42, 27, 28, 4, 182, 0, 69, 42, 27, 28, 5, 182, 0, 69]
abbrev dktX2_isNew_0 : List UInt8 := dkwX2_isNew_0 ++ dktX2_isNew_1
theorem dksX2_isNew_0 : cX2_isNew.data.toList.drop 0 = dktX2_isNew_0 := by decide +kernel
theorem dksX2_isNew_1 : cX2_isNew.data.toList.drop 22 = dktX2_isNew_1 := dk_seg dksX2_isNew_0 22 rfl rfl
theorem dX2_isNew_0 : decode cX2_isNew 0 = .ok (.aload_n 0, 1) := dk_42 (dk_at dksX2_isNew_0 0 rfl rfl)
theorem dX2_isNew_1 : decode cX2_isNew 1 = .ok (.aload_n 0, 1) := dk_42 (dk_at dksX2_isNew_0 1 rfl rfl)
theorem dX2_isNew_2 : decode cX2_isNew 2 = .ok (.iload_n 1, 1) := dk_27 (dk_at dksX2_isNew_0 2 rfl rfl)
theorem dX2_isNew_3 : decode cX2_isNew 3 = .ok (.iload_n 2, 1) := dk_28 (dk_at dksX2_isNew_0 3 rfl rfl)
theorem dX2_isNew_4 : decode cX2_isNew 4 = .ok (.iconst 0, 1) := dk_3 (dk_at dksX2_isNew_0 4 rfl rfl)
theorem dX2_isNew_5 : decode cX2_isNew 5 = .ok (.invokevirtual 69, 3) := dk_182 0 69 (dk_at dksX2_isNew_0 5 rfl rfl)
theorem dX2_isNew_8 : decode cX2_isNew 8 = .ok (.aload_n 0, 1) := dk_42 (dk_at dksX2_isNew_0 8 rfl rfl)
theorem dX2_isNew_9 : decode cX2_isNew 9 = .ok (.iload_n 1, 1) := dk_27 (dk_at dksX2_isNew_0 9 rfl rfl)
theorem dX2_isNew_10 : decode cX2_isNew 10 = .ok (.iload_n 2, 1) := dk_28 (dk_at dksX2_isNew_0 10 rfl rfl)
theorem dX2_isNew_11 : decode cX2_isNew 11 = .ok (.iconst 1, 1) := dk_4 (dk_at dksX2_isNew_0 11 rfl rfl)
theorem dX2_isNew_12 : decode cX2_isNew 12 = .ok (.invokevirtual 69, 3) := dk_182 0 69 (dk_at dksX2_isNew_0 12 rfl rfl)
theorem dX2_isNew_15 : decode cX2_isNew 15 = .ok (.aload_n 0, 1) := dk_42 (dk_at dksX2_isNew_0 15 rfl rfl)
theorem dX2_isNew_16 : decode cX2_isNew 16 = .ok (.iload_n 1, 1) := dk_27 (dk_at dksX2_isNew_0 16 rfl rfl)
theorem dX2_isNew_17 : decode cX2_isNew 17 = .ok (.iload_n 2, 1) := dk_28 (dk_at dksX2_isNew_0 17 rfl rfl)
theorem dX2_isNew_18 : decode cX2_isNew 18 = .ok (.iconst 2, 1) := dk_5 (dk_at dksX2_isNew_0 18 rfl rfl)
theorem dX2_isNew_19 : decode cX2_isNew 19 = .ok (.invokevirtual 69, 3) := dk_182 0 69 (dk_at dksX2_isNew_0 19 rfl rfl)
theorem dX2_isNew_22 : decode cX2_isNew 22 = .ok (.invokevirtual 73, 3) := dk_182 0 73 (dk_at dksX2_isNew_1 0 rfl rfl)
theorem dX2_isNew_25 : decode cX2_isNew 25 = .ok (.ifCond .ge 7, 3) := dk_156 0 7 (dk_at dksX2_isNew_1 3 rfl rfl)
theorem dX2_isNew_28 : decode cX2_isNew 28 = .ok (.iconst 1, 1) := dk_4 (dk_at dksX2_isNew_1 6 rfl rfl)
theorem dX2_isNew_29 : decode cX2_isNew 29 = .ok (.goto 4, 3) := dk_167 0 4 (dk_at dksX2_isNew_1 7 rfl rfl)
theorem dX2_isNew_32 : decode cX2_isNew 32 = .ok (.iconst 0, 1) := dk_3 (dk_at dksX2_isNew_1 10 rfl rfl)
theorem dX2_isNew_33 : decode cX2_isNew 33 = .ok (.ireturn, 1) := dk_172 (dk_at dksX2_isNew_1 11 rfl rfl)
abbrev cX2_imaged : ByteArray := prog_5_method_11_code
def yX2_imaged : MethodName := ⟨RX2, "imaged", "(III)I"⟩
def dkwX2_imaged_6 : List UInt8 := [167, 0, 15, 42, 180, 0, 17, 29, 5, 96, 6, 112, 50, 28, 46, 172]
abbrev dktX2_imaged_6 : List UInt8 := dkwX2_imaged_6 ++ []
def dkwX2_imaged_5 : List UInt8 := [3, 167, 0, 6, 6, 29, 100, 50, 28, 46, 167, 0, 28, 42, 180, 0, 17, 5, 29, 100, 50, 28, 46]
abbrev dktX2_imaged_5 : List UInt8 := dkwX2_imaged_5 ++ dktX2_imaged_6
def dkwX2_imaged_4 : List UInt8 := [160, 0, 7, 5, 167, 0, 6, 4, 29, 100, 50, 28, 46, 167, 0, 49, 42, 180, 0, 17, 29, 154, 0, 7]
abbrev dktX2_imaged_4 : List UInt8 := dkwX2_imaged_4 ++ dktX2_imaged_5
def dkwX2_imaged_3 : List UInt8 := [50, 28, 46, 116, 167, 0, 82, 42, 180, 0, 17, 29, 50, 28, 46, 167, 0, 71, 42, 180, 0, 17, 29, 5]
abbrev dktX2_imaged_3 : List UInt8 := dkwX2_imaged_3 ++ dktX2_imaged_4
def dkwX2_imaged_2 : List UInt8 := [42, 180, 0, 17, 29, 50, 28, 46, 116, 167, 0, 101, 29, 27, 4, 100, 160, 0, 15, 42, 180, 0, 17, 29]
abbrev dktX2_imaged_2 : List UInt8 := dkwX2_imaged_2 ++ dktX2_imaged_3
def dkwX2_imaged_1 : List UInt8 := [170, 0, 0, 0, 0, 0, 141, 0, 0, 0, 0, 0, 0, 0, 6, 0, 0, 0, 43, 0, 0, 0, 55, 0, 0, 0, 55, 0, 0, 0, 55, 0, 0, 0, 85, 0, 0, 0, 107, 0, 0, 0, 128]
abbrev dktX2_imaged_1 : List UInt8 := dkwX2_imaged_1 ++ dktX2_imaged_2
def dkwX2_imaged_0 : List UInt8 := [27]
abbrev dktX2_imaged_0 : List UInt8 := dkwX2_imaged_0 ++ dktX2_imaged_1
theorem dksX2_imaged_0 : cX2_imaged.data.toList.drop 0 = dktX2_imaged_0 := by decide +kernel
theorem dksX2_imaged_1 : cX2_imaged.data.toList.drop 1 = dktX2_imaged_1 := dk_seg dksX2_imaged_0 1 rfl rfl
theorem dksX2_imaged_2 : cX2_imaged.data.toList.drop 44 = dktX2_imaged_2 := dk_seg dksX2_imaged_1 43 rfl rfl
theorem dksX2_imaged_3 : cX2_imaged.data.toList.drop 68 = dktX2_imaged_3 := dk_seg dksX2_imaged_2 24 rfl rfl
theorem dksX2_imaged_4 : cX2_imaged.data.toList.drop 92 = dktX2_imaged_4 := dk_seg dksX2_imaged_3 24 rfl rfl
theorem dksX2_imaged_5 : cX2_imaged.data.toList.drop 116 = dktX2_imaged_5 := dk_seg dksX2_imaged_4 24 rfl rfl
theorem dksX2_imaged_6 : cX2_imaged.data.toList.drop 139 = dktX2_imaged_6 := dk_seg dksX2_imaged_5 23 rfl rfl
theorem dX2_imaged_0 : decode cX2_imaged 0 = .ok (.iload_n 1, 1) := dk_27 (dk_at dksX2_imaged_0 0 rfl rfl)
theorem dX2_imaged_1 : decode cX2_imaged 1 = .ok (.tableswitch 141 0 6 #[43, 55, 55, 55, 85, 107, 128], 43) := by decide +kernel
theorem dX2_imaged_44 : decode cX2_imaged 44 = .ok (.aload_n 0, 1) := dk_42 (dk_at dksX2_imaged_2 0 rfl rfl)
theorem dX2_imaged_45 : decode cX2_imaged 45 = .ok (.getfield 17, 3) := dk_180 0 17 (dk_at dksX2_imaged_2 1 rfl rfl)
theorem dX2_imaged_48 : decode cX2_imaged 48 = .ok (.iload_n 3, 1) := dk_29 (dk_at dksX2_imaged_2 4 rfl rfl)
theorem dX2_imaged_49 : decode cX2_imaged 49 = .ok (.aaload, 1) := dk_50 (dk_at dksX2_imaged_2 5 rfl rfl)
theorem dX2_imaged_50 : decode cX2_imaged 50 = .ok (.iload_n 2, 1) := dk_28 (dk_at dksX2_imaged_2 6 rfl rfl)
theorem dX2_imaged_51 : decode cX2_imaged 51 = .ok (.iaload, 1) := dk_46 (dk_at dksX2_imaged_2 7 rfl rfl)
theorem dX2_imaged_52 : decode cX2_imaged 52 = .ok (.ineg, 1) := dk_116 (dk_at dksX2_imaged_2 8 rfl rfl)
theorem dX2_imaged_53 : decode cX2_imaged 53 = .ok (.goto 101, 3) := dk_167 0 101 (dk_at dksX2_imaged_2 9 rfl rfl)
theorem dX2_imaged_56 : decode cX2_imaged 56 = .ok (.iload_n 3, 1) := dk_29 (dk_at dksX2_imaged_2 12 rfl rfl)
theorem dX2_imaged_57 : decode cX2_imaged 57 = .ok (.iload_n 1, 1) := dk_27 (dk_at dksX2_imaged_2 13 rfl rfl)
theorem dX2_imaged_58 : decode cX2_imaged 58 = .ok (.iconst 1, 1) := dk_4 (dk_at dksX2_imaged_2 14 rfl rfl)
theorem dX2_imaged_59 : decode cX2_imaged 59 = .ok (.isub, 1) := dk_100 (dk_at dksX2_imaged_2 15 rfl rfl)
theorem dX2_imaged_60 : decode cX2_imaged 60 = .ok (.if_icmp .ne 15, 3) := dk_160 0 15 (dk_at dksX2_imaged_2 16 rfl rfl)
theorem dX2_imaged_63 : decode cX2_imaged 63 = .ok (.aload_n 0, 1) := dk_42 (dk_at dksX2_imaged_2 19 rfl rfl)
theorem dX2_imaged_64 : decode cX2_imaged 64 = .ok (.getfield 17, 3) := dk_180 0 17 (dk_at dksX2_imaged_2 20 rfl rfl)
theorem dX2_imaged_67 : decode cX2_imaged 67 = .ok (.iload_n 3, 1) := dk_29 (dk_at dksX2_imaged_2 23 rfl rfl)
theorem dX2_imaged_68 : decode cX2_imaged 68 = .ok (.aaload, 1) := dk_50 (dk_at dksX2_imaged_3 0 rfl rfl)
theorem dX2_imaged_69 : decode cX2_imaged 69 = .ok (.iload_n 2, 1) := dk_28 (dk_at dksX2_imaged_3 1 rfl rfl)
theorem dX2_imaged_70 : decode cX2_imaged 70 = .ok (.iaload, 1) := dk_46 (dk_at dksX2_imaged_3 2 rfl rfl)
theorem dX2_imaged_71 : decode cX2_imaged 71 = .ok (.ineg, 1) := dk_116 (dk_at dksX2_imaged_3 3 rfl rfl)
theorem dX2_imaged_72 : decode cX2_imaged 72 = .ok (.goto 82, 3) := dk_167 0 82 (dk_at dksX2_imaged_3 4 rfl rfl)
theorem dX2_imaged_75 : decode cX2_imaged 75 = .ok (.aload_n 0, 1) := dk_42 (dk_at dksX2_imaged_3 7 rfl rfl)
theorem dX2_imaged_76 : decode cX2_imaged 76 = .ok (.getfield 17, 3) := dk_180 0 17 (dk_at dksX2_imaged_3 8 rfl rfl)
theorem dX2_imaged_79 : decode cX2_imaged 79 = .ok (.iload_n 3, 1) := dk_29 (dk_at dksX2_imaged_3 11 rfl rfl)
theorem dX2_imaged_80 : decode cX2_imaged 80 = .ok (.aaload, 1) := dk_50 (dk_at dksX2_imaged_3 12 rfl rfl)
theorem dX2_imaged_81 : decode cX2_imaged 81 = .ok (.iload_n 2, 1) := dk_28 (dk_at dksX2_imaged_3 13 rfl rfl)
theorem dX2_imaged_82 : decode cX2_imaged 82 = .ok (.iaload, 1) := dk_46 (dk_at dksX2_imaged_3 14 rfl rfl)
theorem dX2_imaged_83 : decode cX2_imaged 83 = .ok (.goto 71, 3) := dk_167 0 71 (dk_at dksX2_imaged_3 15 rfl rfl)
theorem dX2_imaged_86 : decode cX2_imaged 86 = .ok (.aload_n 0, 1) := dk_42 (dk_at dksX2_imaged_3 18 rfl rfl)
theorem dX2_imaged_87 : decode cX2_imaged 87 = .ok (.getfield 17, 3) := dk_180 0 17 (dk_at dksX2_imaged_3 19 rfl rfl)
theorem dX2_imaged_90 : decode cX2_imaged 90 = .ok (.iload_n 3, 1) := dk_29 (dk_at dksX2_imaged_3 22 rfl rfl)
theorem dX2_imaged_91 : decode cX2_imaged 91 = .ok (.iconst 2, 1) := dk_5 (dk_at dksX2_imaged_3 23 rfl rfl)
theorem dX2_imaged_92 : decode cX2_imaged 92 = .ok (.if_icmp .ne 7, 3) := dk_160 0 7 (dk_at dksX2_imaged_4 0 rfl rfl)
theorem dX2_imaged_95 : decode cX2_imaged 95 = .ok (.iconst 2, 1) := dk_5 (dk_at dksX2_imaged_4 3 rfl rfl)
theorem dX2_imaged_96 : decode cX2_imaged 96 = .ok (.goto 6, 3) := dk_167 0 6 (dk_at dksX2_imaged_4 4 rfl rfl)
theorem dX2_imaged_99 : decode cX2_imaged 99 = .ok (.iconst 1, 1) := dk_4 (dk_at dksX2_imaged_4 7 rfl rfl)
theorem dX2_imaged_100 : decode cX2_imaged 100 = .ok (.iload_n 3, 1) := dk_29 (dk_at dksX2_imaged_4 8 rfl rfl)
theorem dX2_imaged_101 : decode cX2_imaged 101 = .ok (.isub, 1) := dk_100 (dk_at dksX2_imaged_4 9 rfl rfl)
theorem dX2_imaged_102 : decode cX2_imaged 102 = .ok (.aaload, 1) := dk_50 (dk_at dksX2_imaged_4 10 rfl rfl)
theorem dX2_imaged_103 : decode cX2_imaged 103 = .ok (.iload_n 2, 1) := dk_28 (dk_at dksX2_imaged_4 11 rfl rfl)
theorem dX2_imaged_104 : decode cX2_imaged 104 = .ok (.iaload, 1) := dk_46 (dk_at dksX2_imaged_4 12 rfl rfl)
theorem dX2_imaged_105 : decode cX2_imaged 105 = .ok (.goto 49, 3) := dk_167 0 49 (dk_at dksX2_imaged_4 13 rfl rfl)
theorem dX2_imaged_108 : decode cX2_imaged 108 = .ok (.aload_n 0, 1) := dk_42 (dk_at dksX2_imaged_4 16 rfl rfl)
theorem dX2_imaged_109 : decode cX2_imaged 109 = .ok (.getfield 17, 3) := dk_180 0 17 (dk_at dksX2_imaged_4 17 rfl rfl)
theorem dX2_imaged_112 : decode cX2_imaged 112 = .ok (.iload_n 3, 1) := dk_29 (dk_at dksX2_imaged_4 20 rfl rfl)
theorem dX2_imaged_113 : decode cX2_imaged 113 = .ok (.ifCond .ne 7, 3) := dk_154 0 7 (dk_at dksX2_imaged_4 21 rfl rfl)
theorem dX2_imaged_116 : decode cX2_imaged 116 = .ok (.iconst 0, 1) := dk_3 (dk_at dksX2_imaged_5 0 rfl rfl)
theorem dX2_imaged_117 : decode cX2_imaged 117 = .ok (.goto 6, 3) := dk_167 0 6 (dk_at dksX2_imaged_5 1 rfl rfl)
theorem dX2_imaged_120 : decode cX2_imaged 120 = .ok (.iconst 3, 1) := dk_6 (dk_at dksX2_imaged_5 4 rfl rfl)
theorem dX2_imaged_121 : decode cX2_imaged 121 = .ok (.iload_n 3, 1) := dk_29 (dk_at dksX2_imaged_5 5 rfl rfl)
theorem dX2_imaged_122 : decode cX2_imaged 122 = .ok (.isub, 1) := dk_100 (dk_at dksX2_imaged_5 6 rfl rfl)
theorem dX2_imaged_123 : decode cX2_imaged 123 = .ok (.aaload, 1) := dk_50 (dk_at dksX2_imaged_5 7 rfl rfl)
theorem dX2_imaged_124 : decode cX2_imaged 124 = .ok (.iload_n 2, 1) := dk_28 (dk_at dksX2_imaged_5 8 rfl rfl)
theorem dX2_imaged_125 : decode cX2_imaged 125 = .ok (.iaload, 1) := dk_46 (dk_at dksX2_imaged_5 9 rfl rfl)
theorem dX2_imaged_126 : decode cX2_imaged 126 = .ok (.goto 28, 3) := dk_167 0 28 (dk_at dksX2_imaged_5 10 rfl rfl)
theorem dX2_imaged_129 : decode cX2_imaged 129 = .ok (.aload_n 0, 1) := dk_42 (dk_at dksX2_imaged_5 13 rfl rfl)
theorem dX2_imaged_130 : decode cX2_imaged 130 = .ok (.getfield 17, 3) := dk_180 0 17 (dk_at dksX2_imaged_5 14 rfl rfl)
theorem dX2_imaged_133 : decode cX2_imaged 133 = .ok (.iconst 2, 1) := dk_5 (dk_at dksX2_imaged_5 17 rfl rfl)
theorem dX2_imaged_134 : decode cX2_imaged 134 = .ok (.iload_n 3, 1) := dk_29 (dk_at dksX2_imaged_5 18 rfl rfl)
theorem dX2_imaged_135 : decode cX2_imaged 135 = .ok (.isub, 1) := dk_100 (dk_at dksX2_imaged_5 19 rfl rfl)
theorem dX2_imaged_136 : decode cX2_imaged 136 = .ok (.aaload, 1) := dk_50 (dk_at dksX2_imaged_5 20 rfl rfl)
theorem dX2_imaged_137 : decode cX2_imaged 137 = .ok (.iload_n 2, 1) := dk_28 (dk_at dksX2_imaged_5 21 rfl rfl)
theorem dX2_imaged_138 : decode cX2_imaged 138 = .ok (.iaload, 1) := dk_46 (dk_at dksX2_imaged_5 22 rfl rfl)
theorem dX2_imaged_139 : decode cX2_imaged 139 = .ok (.goto 15, 3) := dk_167 0 15 (dk_at dksX2_imaged_6 0 rfl rfl)
theorem dX2_imaged_142 : decode cX2_imaged 142 = .ok (.aload_n 0, 1) := dk_42 (dk_at dksX2_imaged_6 3 rfl rfl)
theorem dX2_imaged_143 : decode cX2_imaged 143 = .ok (.getfield 17, 3) := dk_180 0 17 (dk_at dksX2_imaged_6 4 rfl rfl)
theorem dX2_imaged_146 : decode cX2_imaged 146 = .ok (.iload_n 3, 1) := dk_29 (dk_at dksX2_imaged_6 7 rfl rfl)
theorem dX2_imaged_147 : decode cX2_imaged 147 = .ok (.iconst 2, 1) := dk_5 (dk_at dksX2_imaged_6 8 rfl rfl)
theorem dX2_imaged_148 : decode cX2_imaged 148 = .ok (.iadd, 1) := dk_96 (dk_at dksX2_imaged_6 9 rfl rfl)
theorem dX2_imaged_149 : decode cX2_imaged 149 = .ok (.iconst 3, 1) := dk_6 (dk_at dksX2_imaged_6 10 rfl rfl)
theorem dX2_imaged_150 : decode cX2_imaged 150 = .ok (.irem, 1) := dk_112 (dk_at dksX2_imaged_6 11 rfl rfl)
theorem dX2_imaged_151 : decode cX2_imaged 151 = .ok (.aaload, 1) := dk_50 (dk_at dksX2_imaged_6 12 rfl rfl)
theorem dX2_imaged_152 : decode cX2_imaged 152 = .ok (.iload_n 2, 1) := dk_28 (dk_at dksX2_imaged_6 13 rfl rfl)
theorem dX2_imaged_153 : decode cX2_imaged 153 = .ok (.iaload, 1) := dk_46 (dk_at dksX2_imaged_6 14 rfl rfl)
theorem dX2_imaged_154 : decode cX2_imaged 154 = .ok (.ireturn, 1) := dk_172 (dk_at dksX2_imaged_6 15 rfl rfl)
abbrev cX2_images : ByteArray := prog_5_method_14_code
def yX2_images : MethodName := ⟨RX2, "images", "(I)V"⟩
def dkwX2_images_2 : List UInt8 := [182, 0, 69, 182, 0, 80, 132, 3, 1, 167, 255, 208, 177]
abbrev dktX2_images_2 : List UInt8 := dkwX2_images_2 ++ []
def dkwX2_images_1 : List UInt8 := [180, 0, 9, 29, 46, 42, 27, 29, 3, 182, 0, 69, 42, 27, 29, 4, 182, 0, 69, 42, 27, 29, 5]
abbrev dktX2_images_1 : List UInt8 := dkwX2_images_1 ++ dktX2_images_2
def dkwX2_images_0 : List UInt8 := [42, 180, 0, 46, 61, 3, 62, 29, 28, 162, 0, 49, 42, 27, 29, 182, 0, 76, 153, 0, 34, 42, 42]
abbrev dktX2_images_0 : List UInt8 := dkwX2_images_0 ++ dktX2_images_1
theorem dksX2_images_0 : cX2_images.data.toList.drop 0 = dktX2_images_0 := by decide +kernel
theorem dksX2_images_1 : cX2_images.data.toList.drop 23 = dktX2_images_1 := dk_seg dksX2_images_0 23 rfl rfl
theorem dksX2_images_2 : cX2_images.data.toList.drop 46 = dktX2_images_2 := dk_seg dksX2_images_1 23 rfl rfl
theorem dX2_images_0 : decode cX2_images 0 = .ok (.aload_n 0, 1) := dk_42 (dk_at dksX2_images_0 0 rfl rfl)
theorem dX2_images_1 : decode cX2_images 1 = .ok (.getfield 46, 3) := dk_180 0 46 (dk_at dksX2_images_0 1 rfl rfl)
theorem dX2_images_4 : decode cX2_images 4 = .ok (.istore_n 2, 1) := dk_61 (dk_at dksX2_images_0 4 rfl rfl)
theorem dX2_images_5 : decode cX2_images 5 = .ok (.iconst 0, 1) := dk_3 (dk_at dksX2_images_0 5 rfl rfl)
theorem dX2_images_6 : decode cX2_images 6 = .ok (.istore_n 3, 1) := dk_62 (dk_at dksX2_images_0 6 rfl rfl)
theorem dX2_images_7 : decode cX2_images 7 = .ok (.iload_n 3, 1) := dk_29 (dk_at dksX2_images_0 7 rfl rfl)
theorem dX2_images_8 : decode cX2_images 8 = .ok (.iload_n 2, 1) := dk_28 (dk_at dksX2_images_0 8 rfl rfl)
theorem dX2_images_9 : decode cX2_images 9 = .ok (.if_icmp .ge 49, 3) := dk_162 0 49 (dk_at dksX2_images_0 9 rfl rfl)
theorem dX2_images_12 : decode cX2_images 12 = .ok (.aload_n 0, 1) := dk_42 (dk_at dksX2_images_0 12 rfl rfl)
theorem dX2_images_13 : decode cX2_images 13 = .ok (.iload_n 1, 1) := dk_27 (dk_at dksX2_images_0 13 rfl rfl)
theorem dX2_images_14 : decode cX2_images 14 = .ok (.iload_n 3, 1) := dk_29 (dk_at dksX2_images_0 14 rfl rfl)
theorem dX2_images_15 : decode cX2_images 15 = .ok (.invokevirtual 76, 3) := dk_182 0 76 (dk_at dksX2_images_0 15 rfl rfl)
theorem dX2_images_18 : decode cX2_images 18 = .ok (.ifCond .eq 34, 3) := dk_153 0 34 (dk_at dksX2_images_0 18 rfl rfl)
theorem dX2_images_21 : decode cX2_images 21 = .ok (.aload_n 0, 1) := dk_42 (dk_at dksX2_images_0 21 rfl rfl)
theorem dX2_images_22 : decode cX2_images 22 = .ok (.aload_n 0, 1) := dk_42 (dk_at dksX2_images_0 22 rfl rfl)
theorem dX2_images_23 : decode cX2_images 23 = .ok (.getfield 9, 3) := dk_180 0 9 (dk_at dksX2_images_1 0 rfl rfl)
theorem dX2_images_26 : decode cX2_images 26 = .ok (.iload_n 3, 1) := dk_29 (dk_at dksX2_images_1 3 rfl rfl)
theorem dX2_images_27 : decode cX2_images 27 = .ok (.iaload, 1) := dk_46 (dk_at dksX2_images_1 4 rfl rfl)
theorem dX2_images_28 : decode cX2_images 28 = .ok (.aload_n 0, 1) := dk_42 (dk_at dksX2_images_1 5 rfl rfl)
theorem dX2_images_29 : decode cX2_images 29 = .ok (.iload_n 1, 1) := dk_27 (dk_at dksX2_images_1 6 rfl rfl)
theorem dX2_images_30 : decode cX2_images 30 = .ok (.iload_n 3, 1) := dk_29 (dk_at dksX2_images_1 7 rfl rfl)
theorem dX2_images_31 : decode cX2_images 31 = .ok (.iconst 0, 1) := dk_3 (dk_at dksX2_images_1 8 rfl rfl)
theorem dX2_images_32 : decode cX2_images 32 = .ok (.invokevirtual 69, 3) := dk_182 0 69 (dk_at dksX2_images_1 9 rfl rfl)
theorem dX2_images_35 : decode cX2_images 35 = .ok (.aload_n 0, 1) := dk_42 (dk_at dksX2_images_1 12 rfl rfl)
theorem dX2_images_36 : decode cX2_images 36 = .ok (.iload_n 1, 1) := dk_27 (dk_at dksX2_images_1 13 rfl rfl)
theorem dX2_images_37 : decode cX2_images 37 = .ok (.iload_n 3, 1) := dk_29 (dk_at dksX2_images_1 14 rfl rfl)
theorem dX2_images_38 : decode cX2_images 38 = .ok (.iconst 1, 1) := dk_4 (dk_at dksX2_images_1 15 rfl rfl)
theorem dX2_images_39 : decode cX2_images 39 = .ok (.invokevirtual 69, 3) := dk_182 0 69 (dk_at dksX2_images_1 16 rfl rfl)
theorem dX2_images_42 : decode cX2_images 42 = .ok (.aload_n 0, 1) := dk_42 (dk_at dksX2_images_1 19 rfl rfl)
theorem dX2_images_43 : decode cX2_images 43 = .ok (.iload_n 1, 1) := dk_27 (dk_at dksX2_images_1 20 rfl rfl)
theorem dX2_images_44 : decode cX2_images 44 = .ok (.iload_n 3, 1) := dk_29 (dk_at dksX2_images_1 21 rfl rfl)
theorem dX2_images_45 : decode cX2_images 45 = .ok (.iconst 2, 1) := dk_5 (dk_at dksX2_images_1 22 rfl rfl)
theorem dX2_images_46 : decode cX2_images 46 = .ok (.invokevirtual 69, 3) := dk_182 0 69 (dk_at dksX2_images_2 0 rfl rfl)
theorem dX2_images_49 : decode cX2_images 49 = .ok (.invokevirtual 80, 3) := dk_182 0 80 (dk_at dksX2_images_2 3 rfl rfl)
theorem dX2_images_52 : decode cX2_images 52 = .ok (.iinc 3 1, 3) := dk_132 3 1 (dk_at dksX2_images_2 6 rfl rfl)
theorem dX2_images_55 : decode cX2_images 55 = .ok (.goto (-48), 3) := dk_167 255 208 (dk_at dksX2_images_2 9 rfl rfl)
theorem dX2_images_58 : decode cX2_images 58 = .ok (.return_, 1) := dk_177 (dk_at dksX2_images_2 12 rfl rfl)
abbrev cX2_canShift : ByteArray := prog_5_method_15_code
def yX2_canShift : MethodName := ⟨RX2, "canShift", "(II)Z"⟩
def dkwX2_canShift_1 : List UInt8 := [16, 50, 164, 0, 5, 3, 172, 132, 3, 1, 167, 255, 225, 4, 172]
abbrev dktX2_canShift_1 : List UInt8 := dkwX2_canShift_1 ++ []
def dkwX2_canShift_0 : List UInt8 := [3, 62, 29, 42, 180, 0, 46, 162, 0, 29, 42, 180, 0, 17, 27, 50, 29, 46, 28, 96, 184, 0, 83]
abbrev dktX2_canShift_0 : List UInt8 := dkwX2_canShift_0 ++ dktX2_canShift_1
theorem dksX2_canShift_0 : cX2_canShift.data.toList.drop 0 = dktX2_canShift_0 := by decide +kernel
theorem dksX2_canShift_1 : cX2_canShift.data.toList.drop 23 = dktX2_canShift_1 := dk_seg dksX2_canShift_0 23 rfl rfl
theorem dX2_canShift_0 : decode cX2_canShift 0 = .ok (.iconst 0, 1) := dk_3 (dk_at dksX2_canShift_0 0 rfl rfl)
theorem dX2_canShift_1 : decode cX2_canShift 1 = .ok (.istore_n 3, 1) := dk_62 (dk_at dksX2_canShift_0 1 rfl rfl)
theorem dX2_canShift_2 : decode cX2_canShift 2 = .ok (.iload_n 3, 1) := dk_29 (dk_at dksX2_canShift_0 2 rfl rfl)
theorem dX2_canShift_3 : decode cX2_canShift 3 = .ok (.aload_n 0, 1) := dk_42 (dk_at dksX2_canShift_0 3 rfl rfl)
theorem dX2_canShift_4 : decode cX2_canShift 4 = .ok (.getfield 46, 3) := dk_180 0 46 (dk_at dksX2_canShift_0 4 rfl rfl)
theorem dX2_canShift_7 : decode cX2_canShift 7 = .ok (.if_icmp .ge 29, 3) := dk_162 0 29 (dk_at dksX2_canShift_0 7 rfl rfl)
theorem dX2_canShift_10 : decode cX2_canShift 10 = .ok (.aload_n 0, 1) := dk_42 (dk_at dksX2_canShift_0 10 rfl rfl)
theorem dX2_canShift_11 : decode cX2_canShift 11 = .ok (.getfield 17, 3) := dk_180 0 17 (dk_at dksX2_canShift_0 11 rfl rfl)
theorem dX2_canShift_14 : decode cX2_canShift 14 = .ok (.iload_n 1, 1) := dk_27 (dk_at dksX2_canShift_0 14 rfl rfl)
theorem dX2_canShift_15 : decode cX2_canShift 15 = .ok (.aaload, 1) := dk_50 (dk_at dksX2_canShift_0 15 rfl rfl)
theorem dX2_canShift_16 : decode cX2_canShift 16 = .ok (.iload_n 3, 1) := dk_29 (dk_at dksX2_canShift_0 16 rfl rfl)
theorem dX2_canShift_17 : decode cX2_canShift 17 = .ok (.iaload, 1) := dk_46 (dk_at dksX2_canShift_0 17 rfl rfl)
theorem dX2_canShift_18 : decode cX2_canShift 18 = .ok (.iload_n 2, 1) := dk_28 (dk_at dksX2_canShift_0 18 rfl rfl)
theorem dX2_canShift_19 : decode cX2_canShift 19 = .ok (.iadd, 1) := dk_96 (dk_at dksX2_canShift_0 19 rfl rfl)
theorem dX2_canShift_20 : decode cX2_canShift 20 = .ok (.invokestatic 83, 3) := dk_184 0 83 (dk_at dksX2_canShift_0 20 rfl rfl)
theorem dX2_canShift_23 : decode cX2_canShift 23 = .ok (.bipush 50, 2) := dk_16 50 (dk_at dksX2_canShift_1 0 rfl rfl)
theorem dX2_canShift_25 : decode cX2_canShift 25 = .ok (.if_icmp .le 5, 3) := dk_164 0 5 (dk_at dksX2_canShift_1 2 rfl rfl)
theorem dX2_canShift_28 : decode cX2_canShift 28 = .ok (.iconst 0, 1) := dk_3 (dk_at dksX2_canShift_1 5 rfl rfl)
theorem dX2_canShift_29 : decode cX2_canShift 29 = .ok (.ireturn, 1) := dk_172 (dk_at dksX2_canShift_1 6 rfl rfl)
theorem dX2_canShift_30 : decode cX2_canShift 30 = .ok (.iinc 3 1, 3) := dk_132 3 1 (dk_at dksX2_canShift_1 7 rfl rfl)
theorem dX2_canShift_33 : decode cX2_canShift 33 = .ok (.goto (-31), 3) := dk_167 255 225 (dk_at dksX2_canShift_1 10 rfl rfl)
theorem dX2_canShift_36 : decode cX2_canShift 36 = .ok (.iconst 1, 1) := dk_4 (dk_at dksX2_canShift_1 13 rfl rfl)
theorem dX2_canShift_37 : decode cX2_canShift 37 = .ok (.ireturn, 1) := dk_172 (dk_at dksX2_canShift_1 14 rfl rfl)
abbrev cX2_shifts : ByteArray := prog_5_method_16_code
def yX2_shifts : MethodName := ⟨RX2, "shifts", "(II)V"⟩
def dkwX2_shifts_1 : List UInt8 := [132, 3, 1, 167, 255, 233, 42, 182, 0, 56, 177]
abbrev dktX2_shifts_1 : List UInt8 := dkwX2_shifts_1 ++ []
def dkwX2_shifts_0 : List UInt8 := [3, 62, 29, 42, 180, 0, 46, 162, 0, 21, 42, 180, 0, 17, 27, 50, 29, 92, 46, 28, 96, 79]
abbrev dktX2_shifts_0 : List UInt8 := dkwX2_shifts_0 ++ dktX2_shifts_1
theorem dksX2_shifts_0 : cX2_shifts.data.toList.drop 0 = dktX2_shifts_0 := by decide +kernel
theorem dksX2_shifts_1 : cX2_shifts.data.toList.drop 22 = dktX2_shifts_1 := dk_seg dksX2_shifts_0 22 rfl rfl
theorem dX2_shifts_0 : decode cX2_shifts 0 = .ok (.iconst 0, 1) := dk_3 (dk_at dksX2_shifts_0 0 rfl rfl)
theorem dX2_shifts_1 : decode cX2_shifts 1 = .ok (.istore_n 3, 1) := dk_62 (dk_at dksX2_shifts_0 1 rfl rfl)
theorem dX2_shifts_2 : decode cX2_shifts 2 = .ok (.iload_n 3, 1) := dk_29 (dk_at dksX2_shifts_0 2 rfl rfl)
theorem dX2_shifts_3 : decode cX2_shifts 3 = .ok (.aload_n 0, 1) := dk_42 (dk_at dksX2_shifts_0 3 rfl rfl)
theorem dX2_shifts_4 : decode cX2_shifts 4 = .ok (.getfield 46, 3) := dk_180 0 46 (dk_at dksX2_shifts_0 4 rfl rfl)
theorem dX2_shifts_7 : decode cX2_shifts 7 = .ok (.if_icmp .ge 21, 3) := dk_162 0 21 (dk_at dksX2_shifts_0 7 rfl rfl)
theorem dX2_shifts_10 : decode cX2_shifts 10 = .ok (.aload_n 0, 1) := dk_42 (dk_at dksX2_shifts_0 10 rfl rfl)
theorem dX2_shifts_11 : decode cX2_shifts 11 = .ok (.getfield 17, 3) := dk_180 0 17 (dk_at dksX2_shifts_0 11 rfl rfl)
theorem dX2_shifts_14 : decode cX2_shifts 14 = .ok (.iload_n 1, 1) := dk_27 (dk_at dksX2_shifts_0 14 rfl rfl)
theorem dX2_shifts_15 : decode cX2_shifts 15 = .ok (.aaload, 1) := dk_50 (dk_at dksX2_shifts_0 15 rfl rfl)
theorem dX2_shifts_16 : decode cX2_shifts 16 = .ok (.iload_n 3, 1) := dk_29 (dk_at dksX2_shifts_0 16 rfl rfl)
theorem dX2_shifts_17 : decode cX2_shifts 17 = .ok (.dup2, 1) := dk_92 (dk_at dksX2_shifts_0 17 rfl rfl)
theorem dX2_shifts_18 : decode cX2_shifts 18 = .ok (.iaload, 1) := dk_46 (dk_at dksX2_shifts_0 18 rfl rfl)
theorem dX2_shifts_19 : decode cX2_shifts 19 = .ok (.iload_n 2, 1) := dk_28 (dk_at dksX2_shifts_0 19 rfl rfl)
theorem dX2_shifts_20 : decode cX2_shifts 20 = .ok (.iadd, 1) := dk_96 (dk_at dksX2_shifts_0 20 rfl rfl)
theorem dX2_shifts_21 : decode cX2_shifts 21 = .ok (.iastore, 1) := dk_79 (dk_at dksX2_shifts_0 21 rfl rfl)
theorem dX2_shifts_22 : decode cX2_shifts 22 = .ok (.iinc 3 1, 3) := dk_132 3 1 (dk_at dksX2_shifts_1 0 rfl rfl)
theorem dX2_shifts_25 : decode cX2_shifts 25 = .ok (.goto (-23), 3) := dk_167 255 233 (dk_at dksX2_shifts_1 3 rfl rfl)
theorem dX2_shifts_28 : decode cX2_shifts 28 = .ok (.aload_n 0, 1) := dk_42 (dk_at dksX2_shifts_1 6 rfl rfl)
theorem dX2_shifts_29 : decode cX2_shifts 29 = .ok (.invokevirtual 56, 3) := dk_182 0 56 (dk_at dksX2_shifts_1 7 rfl rfl)
theorem dX2_shifts_32 : decode cX2_shifts 32 = .ok (.return_, 1) := dk_177 (dk_at dksX2_shifts_1 10 rfl rfl)
abbrev cX2_loses : ByteArray := prog_5_method_10_code
def yX2_loses : MethodName := ⟨RX2, "loses", "(I)V"⟩
def dkwX2_loses_3 : List UInt8 := [182, 0, 56, 177]
abbrev dktX2_loses_3 : List UInt8 := dkwX2_loses_3 ++ []
def dkwX2_loses_2 : List UInt8 := [50, 27, 28, 184, 0, 50, 132, 3, 1, 167, 255, 228, 42, 89, 180, 0, 46, 4, 100, 181, 0, 46, 42]
abbrev dktX2_loses_2 : List UInt8 := dkwX2_loses_2 ++ dktX2_loses_3
def dkwX2_loses_1 : List UInt8 := [184, 0, 50, 3, 62, 29, 6, 162, 0, 29, 42, 180, 0, 17, 29, 50, 27, 4, 96, 42, 180, 0, 17, 29]
abbrev dktX2_loses_1 : List UInt8 := dkwX2_loses_1 ++ dktX2_loses_2
def dkwX2_loses_0 : List UInt8 := [42, 180, 0, 46, 27, 100, 4, 100, 61, 42, 180, 0, 9, 27, 4, 96, 42, 180, 0, 9, 27, 28]
abbrev dktX2_loses_0 : List UInt8 := dkwX2_loses_0 ++ dktX2_loses_1
theorem dksX2_loses_0 : cX2_loses.data.toList.drop 0 = dktX2_loses_0 := by decide +kernel
theorem dksX2_loses_1 : cX2_loses.data.toList.drop 22 = dktX2_loses_1 := dk_seg dksX2_loses_0 22 rfl rfl
theorem dksX2_loses_2 : cX2_loses.data.toList.drop 46 = dktX2_loses_2 := dk_seg dksX2_loses_1 24 rfl rfl
theorem dksX2_loses_3 : cX2_loses.data.toList.drop 69 = dktX2_loses_3 := dk_seg dksX2_loses_2 23 rfl rfl
theorem dX2_loses_0 : decode cX2_loses 0 = .ok (.aload_n 0, 1) := dk_42 (dk_at dksX2_loses_0 0 rfl rfl)
theorem dX2_loses_1 : decode cX2_loses 1 = .ok (.getfield 46, 3) := dk_180 0 46 (dk_at dksX2_loses_0 1 rfl rfl)
theorem dX2_loses_4 : decode cX2_loses 4 = .ok (.iload_n 1, 1) := dk_27 (dk_at dksX2_loses_0 4 rfl rfl)
theorem dX2_loses_5 : decode cX2_loses 5 = .ok (.isub, 1) := dk_100 (dk_at dksX2_loses_0 5 rfl rfl)
theorem dX2_loses_6 : decode cX2_loses 6 = .ok (.iconst 1, 1) := dk_4 (dk_at dksX2_loses_0 6 rfl rfl)
theorem dX2_loses_7 : decode cX2_loses 7 = .ok (.isub, 1) := dk_100 (dk_at dksX2_loses_0 7 rfl rfl)
theorem dX2_loses_8 : decode cX2_loses 8 = .ok (.istore_n 2, 1) := dk_61 (dk_at dksX2_loses_0 8 rfl rfl)
theorem dX2_loses_9 : decode cX2_loses 9 = .ok (.aload_n 0, 1) := dk_42 (dk_at dksX2_loses_0 9 rfl rfl)
theorem dX2_loses_10 : decode cX2_loses 10 = .ok (.getfield 9, 3) := dk_180 0 9 (dk_at dksX2_loses_0 10 rfl rfl)
theorem dX2_loses_13 : decode cX2_loses 13 = .ok (.iload_n 1, 1) := dk_27 (dk_at dksX2_loses_0 13 rfl rfl)
theorem dX2_loses_14 : decode cX2_loses 14 = .ok (.iconst 1, 1) := dk_4 (dk_at dksX2_loses_0 14 rfl rfl)
theorem dX2_loses_15 : decode cX2_loses 15 = .ok (.iadd, 1) := dk_96 (dk_at dksX2_loses_0 15 rfl rfl)
theorem dX2_loses_16 : decode cX2_loses 16 = .ok (.aload_n 0, 1) := dk_42 (dk_at dksX2_loses_0 16 rfl rfl)
theorem dX2_loses_17 : decode cX2_loses 17 = .ok (.getfield 9, 3) := dk_180 0 9 (dk_at dksX2_loses_0 17 rfl rfl)
theorem dX2_loses_20 : decode cX2_loses 20 = .ok (.iload_n 1, 1) := dk_27 (dk_at dksX2_loses_0 20 rfl rfl)
theorem dX2_loses_21 : decode cX2_loses 21 = .ok (.iload_n 2, 1) := dk_28 (dk_at dksX2_loses_0 21 rfl rfl)
theorem dX2_loses_22 : decode cX2_loses 22 = .ok (.invokestatic 50, 3) := dk_184 0 50 (dk_at dksX2_loses_1 0 rfl rfl)
theorem dX2_loses_25 : decode cX2_loses 25 = .ok (.iconst 0, 1) := dk_3 (dk_at dksX2_loses_1 3 rfl rfl)
theorem dX2_loses_26 : decode cX2_loses 26 = .ok (.istore_n 3, 1) := dk_62 (dk_at dksX2_loses_1 4 rfl rfl)
theorem dX2_loses_27 : decode cX2_loses 27 = .ok (.iload_n 3, 1) := dk_29 (dk_at dksX2_loses_1 5 rfl rfl)
theorem dX2_loses_28 : decode cX2_loses 28 = .ok (.iconst 3, 1) := dk_6 (dk_at dksX2_loses_1 6 rfl rfl)
theorem dX2_loses_29 : decode cX2_loses 29 = .ok (.if_icmp .ge 29, 3) := dk_162 0 29 (dk_at dksX2_loses_1 7 rfl rfl)
theorem dX2_loses_32 : decode cX2_loses 32 = .ok (.aload_n 0, 1) := dk_42 (dk_at dksX2_loses_1 10 rfl rfl)
theorem dX2_loses_33 : decode cX2_loses 33 = .ok (.getfield 17, 3) := dk_180 0 17 (dk_at dksX2_loses_1 11 rfl rfl)
theorem dX2_loses_36 : decode cX2_loses 36 = .ok (.iload_n 3, 1) := dk_29 (dk_at dksX2_loses_1 14 rfl rfl)
theorem dX2_loses_37 : decode cX2_loses 37 = .ok (.aaload, 1) := dk_50 (dk_at dksX2_loses_1 15 rfl rfl)
theorem dX2_loses_38 : decode cX2_loses 38 = .ok (.iload_n 1, 1) := dk_27 (dk_at dksX2_loses_1 16 rfl rfl)
theorem dX2_loses_39 : decode cX2_loses 39 = .ok (.iconst 1, 1) := dk_4 (dk_at dksX2_loses_1 17 rfl rfl)
theorem dX2_loses_40 : decode cX2_loses 40 = .ok (.iadd, 1) := dk_96 (dk_at dksX2_loses_1 18 rfl rfl)
theorem dX2_loses_41 : decode cX2_loses 41 = .ok (.aload_n 0, 1) := dk_42 (dk_at dksX2_loses_1 19 rfl rfl)
theorem dX2_loses_42 : decode cX2_loses 42 = .ok (.getfield 17, 3) := dk_180 0 17 (dk_at dksX2_loses_1 20 rfl rfl)
theorem dX2_loses_45 : decode cX2_loses 45 = .ok (.iload_n 3, 1) := dk_29 (dk_at dksX2_loses_1 23 rfl rfl)
theorem dX2_loses_46 : decode cX2_loses 46 = .ok (.aaload, 1) := dk_50 (dk_at dksX2_loses_2 0 rfl rfl)
theorem dX2_loses_47 : decode cX2_loses 47 = .ok (.iload_n 1, 1) := dk_27 (dk_at dksX2_loses_2 1 rfl rfl)
theorem dX2_loses_48 : decode cX2_loses 48 = .ok (.iload_n 2, 1) := dk_28 (dk_at dksX2_loses_2 2 rfl rfl)
theorem dX2_loses_49 : decode cX2_loses 49 = .ok (.invokestatic 50, 3) := dk_184 0 50 (dk_at dksX2_loses_2 3 rfl rfl)
theorem dX2_loses_52 : decode cX2_loses 52 = .ok (.iinc 3 1, 3) := dk_132 3 1 (dk_at dksX2_loses_2 6 rfl rfl)
theorem dX2_loses_55 : decode cX2_loses 55 = .ok (.goto (-28), 3) := dk_167 255 228 (dk_at dksX2_loses_2 9 rfl rfl)
theorem dX2_loses_58 : decode cX2_loses 58 = .ok (.aload_n 0, 1) := dk_42 (dk_at dksX2_loses_2 12 rfl rfl)
theorem dX2_loses_59 : decode cX2_loses 59 = .ok (.dup, 1) := dk_89 (dk_at dksX2_loses_2 13 rfl rfl)
theorem dX2_loses_60 : decode cX2_loses 60 = .ok (.getfield 46, 3) := dk_180 0 46 (dk_at dksX2_loses_2 14 rfl rfl)
theorem dX2_loses_63 : decode cX2_loses 63 = .ok (.iconst 1, 1) := dk_4 (dk_at dksX2_loses_2 17 rfl rfl)
theorem dX2_loses_64 : decode cX2_loses 64 = .ok (.isub, 1) := dk_100 (dk_at dksX2_loses_2 18 rfl rfl)
theorem dX2_loses_65 : decode cX2_loses 65 = .ok (.putfield 46, 3) := dk_181 0 46 (dk_at dksX2_loses_2 19 rfl rfl)
theorem dX2_loses_68 : decode cX2_loses 68 = .ok (.aload_n 0, 1) := dk_42 (dk_at dksX2_loses_2 22 rfl rfl)
theorem dX2_loses_69 : decode cX2_loses 69 = .ok (.invokevirtual 56, 3) := dk_182 0 56 (dk_at dksX2_loses_3 0 rfl rfl)
theorem dX2_loses_72 : decode cX2_loses 72 = .ok (.return_, 1) := dk_177 (dk_at dksX2_loses_3 3 rfl rfl)
abbrev cX2_canStretch : ByteArray := prog_5_method_17_code
def yX2_canStretch : MethodName := ⟨RX2, "canStretch", "(I)Z"⟩
def dkwX2_canStretch_2 : List UInt8 := [16, 50, 164, 0, 5, 3, 172, 132, 3, 1, 167, 255, 208, 132, 2, 1, 167, 255, 195, 4, 172]
abbrev dktX2_canStretch_2 : List UInt8 := dkwX2_canStretch_2 ++ []
def dkwX2_canStretch_1 : List UInt8 := [46, 27, 184, 0, 89, 54, 4, 167, 0, 7, 58, 5, 3, 172, 21, 4, 16, 206, 161, 0, 10, 21, 4]
abbrev dktX2_canStretch_1 : List UInt8 := dkwX2_canStretch_1 ++ dktX2_canStretch_2
def dkwX2_canStretch_0 : List UInt8 := [3, 61, 28, 6, 162, 0, 62, 3, 62, 29, 42, 180, 0, 46, 162, 0, 46, 42, 180, 0, 17, 28, 50, 29]
abbrev dktX2_canStretch_0 : List UInt8 := dkwX2_canStretch_0 ++ dktX2_canStretch_1
theorem dksX2_canStretch_0 : cX2_canStretch.data.toList.drop 0 = dktX2_canStretch_0 := by decide +kernel
theorem dksX2_canStretch_1 : cX2_canStretch.data.toList.drop 24 = dktX2_canStretch_1 := dk_seg dksX2_canStretch_0 24 rfl rfl
theorem dksX2_canStretch_2 : cX2_canStretch.data.toList.drop 47 = dktX2_canStretch_2 := dk_seg dksX2_canStretch_1 23 rfl rfl
theorem dX2_canStretch_0 : decode cX2_canStretch 0 = .ok (.iconst 0, 1) := dk_3 (dk_at dksX2_canStretch_0 0 rfl rfl)
theorem dX2_canStretch_1 : decode cX2_canStretch 1 = .ok (.istore_n 2, 1) := dk_61 (dk_at dksX2_canStretch_0 1 rfl rfl)
theorem dX2_canStretch_2 : decode cX2_canStretch 2 = .ok (.iload_n 2, 1) := dk_28 (dk_at dksX2_canStretch_0 2 rfl rfl)
theorem dX2_canStretch_3 : decode cX2_canStretch 3 = .ok (.iconst 3, 1) := dk_6 (dk_at dksX2_canStretch_0 3 rfl rfl)
theorem dX2_canStretch_4 : decode cX2_canStretch 4 = .ok (.if_icmp .ge 62, 3) := dk_162 0 62 (dk_at dksX2_canStretch_0 4 rfl rfl)
theorem dX2_canStretch_7 : decode cX2_canStretch 7 = .ok (.iconst 0, 1) := dk_3 (dk_at dksX2_canStretch_0 7 rfl rfl)
theorem dX2_canStretch_8 : decode cX2_canStretch 8 = .ok (.istore_n 3, 1) := dk_62 (dk_at dksX2_canStretch_0 8 rfl rfl)
theorem dX2_canStretch_9 : decode cX2_canStretch 9 = .ok (.iload_n 3, 1) := dk_29 (dk_at dksX2_canStretch_0 9 rfl rfl)
theorem dX2_canStretch_10 : decode cX2_canStretch 10 = .ok (.aload_n 0, 1) := dk_42 (dk_at dksX2_canStretch_0 10 rfl rfl)
theorem dX2_canStretch_11 : decode cX2_canStretch 11 = .ok (.getfield 46, 3) := dk_180 0 46 (dk_at dksX2_canStretch_0 11 rfl rfl)
theorem dX2_canStretch_14 : decode cX2_canStretch 14 = .ok (.if_icmp .ge 46, 3) := dk_162 0 46 (dk_at dksX2_canStretch_0 14 rfl rfl)
theorem dX2_canStretch_17 : decode cX2_canStretch 17 = .ok (.aload_n 0, 1) := dk_42 (dk_at dksX2_canStretch_0 17 rfl rfl)
theorem dX2_canStretch_18 : decode cX2_canStretch 18 = .ok (.getfield 17, 3) := dk_180 0 17 (dk_at dksX2_canStretch_0 18 rfl rfl)
theorem dX2_canStretch_21 : decode cX2_canStretch 21 = .ok (.iload_n 2, 1) := dk_28 (dk_at dksX2_canStretch_0 21 rfl rfl)
theorem dX2_canStretch_22 : decode cX2_canStretch 22 = .ok (.aaload, 1) := dk_50 (dk_at dksX2_canStretch_0 22 rfl rfl)
theorem dX2_canStretch_23 : decode cX2_canStretch 23 = .ok (.iload_n 3, 1) := dk_29 (dk_at dksX2_canStretch_0 23 rfl rfl)
theorem dX2_canStretch_24 : decode cX2_canStretch 24 = .ok (.iaload, 1) := dk_46 (dk_at dksX2_canStretch_1 0 rfl rfl)
theorem dX2_canStretch_25 : decode cX2_canStretch 25 = .ok (.iload_n 1, 1) := dk_27 (dk_at dksX2_canStretch_1 1 rfl rfl)
theorem dX2_canStretch_26 : decode cX2_canStretch 26 = .ok (.invokestatic 89, 3) := dk_184 0 89 (dk_at dksX2_canStretch_1 2 rfl rfl)
theorem dX2_canStretch_29 : decode cX2_canStretch 29 = .ok (.istore 4, 2) := dk_54 4 (dk_at dksX2_canStretch_1 5 rfl rfl)
theorem dX2_canStretch_31 : decode cX2_canStretch 31 = .ok (.goto 7, 3) := dk_167 0 7 (dk_at dksX2_canStretch_1 7 rfl rfl)
theorem dX2_canStretch_34 : decode cX2_canStretch 34 = .ok (.astore 5, 2) := dk_58 5 (dk_at dksX2_canStretch_1 10 rfl rfl)
theorem dX2_canStretch_36 : decode cX2_canStretch 36 = .ok (.iconst 0, 1) := dk_3 (dk_at dksX2_canStretch_1 12 rfl rfl)
theorem dX2_canStretch_37 : decode cX2_canStretch 37 = .ok (.ireturn, 1) := dk_172 (dk_at dksX2_canStretch_1 13 rfl rfl)
theorem dX2_canStretch_38 : decode cX2_canStretch 38 = .ok (.iload 4, 2) := dk_21 4 (dk_at dksX2_canStretch_1 14 rfl rfl)
theorem dX2_canStretch_40 : decode cX2_canStretch 40 = .ok (.bipush (-50), 2) := dk_16 206 (dk_at dksX2_canStretch_1 16 rfl rfl)
theorem dX2_canStretch_42 : decode cX2_canStretch 42 = .ok (.if_icmp .lt 10, 3) := dk_161 0 10 (dk_at dksX2_canStretch_1 18 rfl rfl)
theorem dX2_canStretch_45 : decode cX2_canStretch 45 = .ok (.iload 4, 2) := dk_21 4 (dk_at dksX2_canStretch_1 21 rfl rfl)
theorem dX2_canStretch_47 : decode cX2_canStretch 47 = .ok (.bipush 50, 2) := dk_16 50 (dk_at dksX2_canStretch_2 0 rfl rfl)
theorem dX2_canStretch_49 : decode cX2_canStretch 49 = .ok (.if_icmp .le 5, 3) := dk_164 0 5 (dk_at dksX2_canStretch_2 2 rfl rfl)
theorem dX2_canStretch_52 : decode cX2_canStretch 52 = .ok (.iconst 0, 1) := dk_3 (dk_at dksX2_canStretch_2 5 rfl rfl)
theorem dX2_canStretch_53 : decode cX2_canStretch 53 = .ok (.ireturn, 1) := dk_172 (dk_at dksX2_canStretch_2 6 rfl rfl)
theorem dX2_canStretch_54 : decode cX2_canStretch 54 = .ok (.iinc 3 1, 3) := dk_132 3 1 (dk_at dksX2_canStretch_2 7 rfl rfl)
theorem dX2_canStretch_57 : decode cX2_canStretch 57 = .ok (.goto (-48), 3) := dk_167 255 208 (dk_at dksX2_canStretch_2 10 rfl rfl)
theorem dX2_canStretch_60 : decode cX2_canStretch 60 = .ok (.iinc 2 1, 3) := dk_132 2 1 (dk_at dksX2_canStretch_2 13 rfl rfl)
theorem dX2_canStretch_63 : decode cX2_canStretch 63 = .ok (.goto (-61), 3) := dk_167 255 195 (dk_at dksX2_canStretch_2 16 rfl rfl)
theorem dX2_canStretch_66 : decode cX2_canStretch 66 = .ok (.iconst 1, 1) := dk_4 (dk_at dksX2_canStretch_2 19 rfl rfl)
theorem dX2_canStretch_67 : decode cX2_canStretch 67 = .ok (.ireturn, 1) := dk_172 (dk_at dksX2_canStretch_2 20 rfl rfl)
abbrev cX2_stretches : ByteArray := prog_5_method_18_code
def yX2_stretches : MethodName := ⟨RX2, "stretches", "(I)V"⟩
def dkwX2_stretches_1 : List UInt8 := [92, 46, 27, 104, 79, 132, 3, 1, 167, 255, 233, 132, 2, 1, 167, 255, 220, 42, 182, 0, 56, 177]
abbrev dktX2_stretches_1 : List UInt8 := dkwX2_stretches_1 ++ []
def dkwX2_stretches_0 : List UInt8 := [3, 61, 28, 6, 162, 0, 37, 3, 62, 29, 42, 180, 0, 46, 162, 0, 21, 42, 180, 0, 17, 28, 50, 29]
abbrev dktX2_stretches_0 : List UInt8 := dkwX2_stretches_0 ++ dktX2_stretches_1
theorem dksX2_stretches_0 : cX2_stretches.data.toList.drop 0 = dktX2_stretches_0 := by decide +kernel
theorem dksX2_stretches_1 : cX2_stretches.data.toList.drop 24 = dktX2_stretches_1 := dk_seg dksX2_stretches_0 24 rfl rfl
theorem dX2_stretches_0 : decode cX2_stretches 0 = .ok (.iconst 0, 1) := dk_3 (dk_at dksX2_stretches_0 0 rfl rfl)
theorem dX2_stretches_1 : decode cX2_stretches 1 = .ok (.istore_n 2, 1) := dk_61 (dk_at dksX2_stretches_0 1 rfl rfl)
theorem dX2_stretches_2 : decode cX2_stretches 2 = .ok (.iload_n 2, 1) := dk_28 (dk_at dksX2_stretches_0 2 rfl rfl)
theorem dX2_stretches_3 : decode cX2_stretches 3 = .ok (.iconst 3, 1) := dk_6 (dk_at dksX2_stretches_0 3 rfl rfl)
theorem dX2_stretches_4 : decode cX2_stretches 4 = .ok (.if_icmp .ge 37, 3) := dk_162 0 37 (dk_at dksX2_stretches_0 4 rfl rfl)
theorem dX2_stretches_7 : decode cX2_stretches 7 = .ok (.iconst 0, 1) := dk_3 (dk_at dksX2_stretches_0 7 rfl rfl)
theorem dX2_stretches_8 : decode cX2_stretches 8 = .ok (.istore_n 3, 1) := dk_62 (dk_at dksX2_stretches_0 8 rfl rfl)
theorem dX2_stretches_9 : decode cX2_stretches 9 = .ok (.iload_n 3, 1) := dk_29 (dk_at dksX2_stretches_0 9 rfl rfl)
theorem dX2_stretches_10 : decode cX2_stretches 10 = .ok (.aload_n 0, 1) := dk_42 (dk_at dksX2_stretches_0 10 rfl rfl)
theorem dX2_stretches_11 : decode cX2_stretches 11 = .ok (.getfield 46, 3) := dk_180 0 46 (dk_at dksX2_stretches_0 11 rfl rfl)
theorem dX2_stretches_14 : decode cX2_stretches 14 = .ok (.if_icmp .ge 21, 3) := dk_162 0 21 (dk_at dksX2_stretches_0 14 rfl rfl)
theorem dX2_stretches_17 : decode cX2_stretches 17 = .ok (.aload_n 0, 1) := dk_42 (dk_at dksX2_stretches_0 17 rfl rfl)
theorem dX2_stretches_18 : decode cX2_stretches 18 = .ok (.getfield 17, 3) := dk_180 0 17 (dk_at dksX2_stretches_0 18 rfl rfl)
theorem dX2_stretches_21 : decode cX2_stretches 21 = .ok (.iload_n 2, 1) := dk_28 (dk_at dksX2_stretches_0 21 rfl rfl)
theorem dX2_stretches_22 : decode cX2_stretches 22 = .ok (.aaload, 1) := dk_50 (dk_at dksX2_stretches_0 22 rfl rfl)
theorem dX2_stretches_23 : decode cX2_stretches 23 = .ok (.iload_n 3, 1) := dk_29 (dk_at dksX2_stretches_0 23 rfl rfl)
theorem dX2_stretches_24 : decode cX2_stretches 24 = .ok (.dup2, 1) := dk_92 (dk_at dksX2_stretches_1 0 rfl rfl)
theorem dX2_stretches_25 : decode cX2_stretches 25 = .ok (.iaload, 1) := dk_46 (dk_at dksX2_stretches_1 1 rfl rfl)
theorem dX2_stretches_26 : decode cX2_stretches 26 = .ok (.iload_n 1, 1) := dk_27 (dk_at dksX2_stretches_1 2 rfl rfl)
theorem dX2_stretches_27 : decode cX2_stretches 27 = .ok (.imul, 1) := dk_104 (dk_at dksX2_stretches_1 3 rfl rfl)
theorem dX2_stretches_28 : decode cX2_stretches 28 = .ok (.iastore, 1) := dk_79 (dk_at dksX2_stretches_1 4 rfl rfl)
theorem dX2_stretches_29 : decode cX2_stretches 29 = .ok (.iinc 3 1, 3) := dk_132 3 1 (dk_at dksX2_stretches_1 5 rfl rfl)
theorem dX2_stretches_32 : decode cX2_stretches 32 = .ok (.goto (-23), 3) := dk_167 255 233 (dk_at dksX2_stretches_1 8 rfl rfl)
theorem dX2_stretches_35 : decode cX2_stretches 35 = .ok (.iinc 2 1, 3) := dk_132 2 1 (dk_at dksX2_stretches_1 11 rfl rfl)
theorem dX2_stretches_38 : decode cX2_stretches 38 = .ok (.goto (-36), 3) := dk_167 255 220 (dk_at dksX2_stretches_1 14 rfl rfl)
theorem dX2_stretches_41 : decode cX2_stretches 41 = .ok (.aload_n 0, 1) := dk_42 (dk_at dksX2_stretches_1 17 rfl rfl)
theorem dX2_stretches_42 : decode cX2_stretches 42 = .ok (.invokevirtual 56, 3) := dk_182 0 56 (dk_at dksX2_stretches_1 18 rfl rfl)
theorem dX2_stretches_45 : decode cX2_stretches 45 = .ok (.return_, 1) := dk_177 (dk_at dksX2_stretches_1 21 rfl rfl)
abbrev cX2_apart : ByteArray := prog_5_method_6_code
def yX2_apart : MethodName := ⟨RX2, "apart", "(II)I"⟩
def dkwX2_apart_0 : List UInt8 := [42, 180, 0, 21, 27, 50, 28, 46, 172, 78, 42, 27, 182, 0, 61, 42, 180, 0, 24, 27, 50, 28, 46, 172]
abbrev dktX2_apart_0 : List UInt8 := dkwX2_apart_0 ++ []
theorem dksX2_apart_0 : cX2_apart.data.toList.drop 0 = dktX2_apart_0 := by decide +kernel
theorem dX2_apart_0 : decode cX2_apart 0 = .ok (.aload_n 0, 1) := dk_42 (dk_at dksX2_apart_0 0 rfl rfl)
theorem dX2_apart_1 : decode cX2_apart 1 = .ok (.getfield 21, 3) := dk_180 0 21 (dk_at dksX2_apart_0 1 rfl rfl)
theorem dX2_apart_4 : decode cX2_apart 4 = .ok (.iload_n 1, 1) := dk_27 (dk_at dksX2_apart_0 4 rfl rfl)
theorem dX2_apart_5 : decode cX2_apart 5 = .ok (.aaload, 1) := dk_50 (dk_at dksX2_apart_0 5 rfl rfl)
theorem dX2_apart_6 : decode cX2_apart 6 = .ok (.iload_n 2, 1) := dk_28 (dk_at dksX2_apart_0 6 rfl rfl)
theorem dX2_apart_7 : decode cX2_apart 7 = .ok (.iaload, 1) := dk_46 (dk_at dksX2_apart_0 7 rfl rfl)
theorem dX2_apart_8 : decode cX2_apart 8 = .ok (.ireturn, 1) := dk_172 (dk_at dksX2_apart_0 8 rfl rfl)
theorem dX2_apart_9 : decode cX2_apart 9 = .ok (.astore_n 3, 1) := dk_78 (dk_at dksX2_apart_0 9 rfl rfl)
theorem dX2_apart_10 : decode cX2_apart 10 = .ok (.aload_n 0, 1) := dk_42 (dk_at dksX2_apart_0 10 rfl rfl)
theorem dX2_apart_11 : decode cX2_apart 11 = .ok (.iload_n 1, 1) := dk_27 (dk_at dksX2_apart_0 11 rfl rfl)
theorem dX2_apart_12 : decode cX2_apart 12 = .ok (.invokevirtual 61, 3) := dk_182 0 61 (dk_at dksX2_apart_0 12 rfl rfl)
theorem dX2_apart_15 : decode cX2_apart 15 = .ok (.aload_n 0, 1) := dk_42 (dk_at dksX2_apart_0 15 rfl rfl)
theorem dX2_apart_16 : decode cX2_apart 16 = .ok (.getfield 24, 3) := dk_180 0 24 (dk_at dksX2_apart_0 16 rfl rfl)
theorem dX2_apart_19 : decode cX2_apart 19 = .ok (.iload_n 1, 1) := dk_27 (dk_at dksX2_apart_0 19 rfl rfl)
theorem dX2_apart_20 : decode cX2_apart 20 = .ok (.aaload, 1) := dk_50 (dk_at dksX2_apart_0 20 rfl rfl)
theorem dX2_apart_21 : decode cX2_apart 21 = .ok (.iload_n 2, 1) := dk_28 (dk_at dksX2_apart_0 21 rfl rfl)
theorem dX2_apart_22 : decode cX2_apart 22 = .ok (.iaload, 1) := dk_46 (dk_at dksX2_apart_0 22 rfl rfl)
theorem dX2_apart_23 : decode cX2_apart 23 = .ok (.ireturn, 1) := dk_172 (dk_at dksX2_apart_0 23 rfl rfl)
abbrev cX2_laysRow : ByteArray := prog_5_method_5_code
def yX2_laysRow : MethodName := ⟨RX2, "laysRow", "(I)V"⟩
def dkwX2_laysRow_4 : List UInt8 := [50, 83, 177]
abbrev dktX2_laysRow_4 : List UInt8 := dkwX2_laysRow_4 ++ []
def dkwX2_laysRow_3 : List UInt8 := [180, 0, 24, 27, 50, 28, 29, 79, 132, 2, 1, 167, 255, 177, 42, 180, 0, 21, 27, 42, 180, 0, 24, 27]
abbrev dktX2_laysRow_3 : List UInt8 := dkwX2_laysRow_3 ++ dktX2_laysRow_4
def dkwX2_laysRow_2 : List UInt8 := [50, 27, 46, 42, 180, 0, 17, 21, 4, 50, 28, 46, 100, 104, 96, 62, 132, 4, 1, 167, 255, 205, 42]
abbrev dktX2_laysRow_2 : List UInt8 := dkwX2_laysRow_2 ++ dktX2_laysRow_3
def dkwX2_laysRow_1 : List UInt8 := [180, 0, 17, 21, 4, 50, 27, 46, 42, 180, 0, 17, 21, 4, 50, 28, 46, 100, 42, 180, 0, 17, 21, 4]
abbrev dktX2_laysRow_1 : List UInt8 := dkwX2_laysRow_1 ++ dktX2_laysRow_2
def dkwX2_laysRow_0 : List UInt8 := [3, 61, 28, 42, 180, 0, 46, 162, 0, 77, 3, 62, 3, 54, 4, 21, 4, 6, 162, 0, 51, 29, 42]
abbrev dktX2_laysRow_0 : List UInt8 := dkwX2_laysRow_0 ++ dktX2_laysRow_1
theorem dksX2_laysRow_0 : cX2_laysRow.data.toList.drop 0 = dktX2_laysRow_0 := by decide +kernel
theorem dksX2_laysRow_1 : cX2_laysRow.data.toList.drop 23 = dktX2_laysRow_1 := dk_seg dksX2_laysRow_0 23 rfl rfl
theorem dksX2_laysRow_2 : cX2_laysRow.data.toList.drop 47 = dktX2_laysRow_2 := dk_seg dksX2_laysRow_1 24 rfl rfl
theorem dksX2_laysRow_3 : cX2_laysRow.data.toList.drop 70 = dktX2_laysRow_3 := dk_seg dksX2_laysRow_2 23 rfl rfl
theorem dksX2_laysRow_4 : cX2_laysRow.data.toList.drop 94 = dktX2_laysRow_4 := dk_seg dksX2_laysRow_3 24 rfl rfl
theorem dX2_laysRow_0 : decode cX2_laysRow 0 = .ok (.iconst 0, 1) := dk_3 (dk_at dksX2_laysRow_0 0 rfl rfl)
theorem dX2_laysRow_1 : decode cX2_laysRow 1 = .ok (.istore_n 2, 1) := dk_61 (dk_at dksX2_laysRow_0 1 rfl rfl)
theorem dX2_laysRow_2 : decode cX2_laysRow 2 = .ok (.iload_n 2, 1) := dk_28 (dk_at dksX2_laysRow_0 2 rfl rfl)
theorem dX2_laysRow_3 : decode cX2_laysRow 3 = .ok (.aload_n 0, 1) := dk_42 (dk_at dksX2_laysRow_0 3 rfl rfl)
theorem dX2_laysRow_4 : decode cX2_laysRow 4 = .ok (.getfield 46, 3) := dk_180 0 46 (dk_at dksX2_laysRow_0 4 rfl rfl)
theorem dX2_laysRow_7 : decode cX2_laysRow 7 = .ok (.if_icmp .ge 77, 3) := dk_162 0 77 (dk_at dksX2_laysRow_0 7 rfl rfl)
theorem dX2_laysRow_10 : decode cX2_laysRow 10 = .ok (.iconst 0, 1) := dk_3 (dk_at dksX2_laysRow_0 10 rfl rfl)
theorem dX2_laysRow_11 : decode cX2_laysRow 11 = .ok (.istore_n 3, 1) := dk_62 (dk_at dksX2_laysRow_0 11 rfl rfl)
theorem dX2_laysRow_12 : decode cX2_laysRow 12 = .ok (.iconst 0, 1) := dk_3 (dk_at dksX2_laysRow_0 12 rfl rfl)
theorem dX2_laysRow_13 : decode cX2_laysRow 13 = .ok (.istore 4, 2) := dk_54 4 (dk_at dksX2_laysRow_0 13 rfl rfl)
theorem dX2_laysRow_15 : decode cX2_laysRow 15 = .ok (.iload 4, 2) := dk_21 4 (dk_at dksX2_laysRow_0 15 rfl rfl)
theorem dX2_laysRow_17 : decode cX2_laysRow 17 = .ok (.iconst 3, 1) := dk_6 (dk_at dksX2_laysRow_0 17 rfl rfl)
theorem dX2_laysRow_18 : decode cX2_laysRow 18 = .ok (.if_icmp .ge 51, 3) := dk_162 0 51 (dk_at dksX2_laysRow_0 18 rfl rfl)
theorem dX2_laysRow_21 : decode cX2_laysRow 21 = .ok (.iload_n 3, 1) := dk_29 (dk_at dksX2_laysRow_0 21 rfl rfl)
theorem dX2_laysRow_22 : decode cX2_laysRow 22 = .ok (.aload_n 0, 1) := dk_42 (dk_at dksX2_laysRow_0 22 rfl rfl)
theorem dX2_laysRow_23 : decode cX2_laysRow 23 = .ok (.getfield 17, 3) := dk_180 0 17 (dk_at dksX2_laysRow_1 0 rfl rfl)
theorem dX2_laysRow_26 : decode cX2_laysRow 26 = .ok (.iload 4, 2) := dk_21 4 (dk_at dksX2_laysRow_1 3 rfl rfl)
theorem dX2_laysRow_28 : decode cX2_laysRow 28 = .ok (.aaload, 1) := dk_50 (dk_at dksX2_laysRow_1 5 rfl rfl)
theorem dX2_laysRow_29 : decode cX2_laysRow 29 = .ok (.iload_n 1, 1) := dk_27 (dk_at dksX2_laysRow_1 6 rfl rfl)
theorem dX2_laysRow_30 : decode cX2_laysRow 30 = .ok (.iaload, 1) := dk_46 (dk_at dksX2_laysRow_1 7 rfl rfl)
theorem dX2_laysRow_31 : decode cX2_laysRow 31 = .ok (.aload_n 0, 1) := dk_42 (dk_at dksX2_laysRow_1 8 rfl rfl)
theorem dX2_laysRow_32 : decode cX2_laysRow 32 = .ok (.getfield 17, 3) := dk_180 0 17 (dk_at dksX2_laysRow_1 9 rfl rfl)
theorem dX2_laysRow_35 : decode cX2_laysRow 35 = .ok (.iload 4, 2) := dk_21 4 (dk_at dksX2_laysRow_1 12 rfl rfl)
theorem dX2_laysRow_37 : decode cX2_laysRow 37 = .ok (.aaload, 1) := dk_50 (dk_at dksX2_laysRow_1 14 rfl rfl)
theorem dX2_laysRow_38 : decode cX2_laysRow 38 = .ok (.iload_n 2, 1) := dk_28 (dk_at dksX2_laysRow_1 15 rfl rfl)
theorem dX2_laysRow_39 : decode cX2_laysRow 39 = .ok (.iaload, 1) := dk_46 (dk_at dksX2_laysRow_1 16 rfl rfl)
theorem dX2_laysRow_40 : decode cX2_laysRow 40 = .ok (.isub, 1) := dk_100 (dk_at dksX2_laysRow_1 17 rfl rfl)
theorem dX2_laysRow_41 : decode cX2_laysRow 41 = .ok (.aload_n 0, 1) := dk_42 (dk_at dksX2_laysRow_1 18 rfl rfl)
theorem dX2_laysRow_42 : decode cX2_laysRow 42 = .ok (.getfield 17, 3) := dk_180 0 17 (dk_at dksX2_laysRow_1 19 rfl rfl)
theorem dX2_laysRow_45 : decode cX2_laysRow 45 = .ok (.iload 4, 2) := dk_21 4 (dk_at dksX2_laysRow_1 22 rfl rfl)
theorem dX2_laysRow_47 : decode cX2_laysRow 47 = .ok (.aaload, 1) := dk_50 (dk_at dksX2_laysRow_2 0 rfl rfl)
theorem dX2_laysRow_48 : decode cX2_laysRow 48 = .ok (.iload_n 1, 1) := dk_27 (dk_at dksX2_laysRow_2 1 rfl rfl)
theorem dX2_laysRow_49 : decode cX2_laysRow 49 = .ok (.iaload, 1) := dk_46 (dk_at dksX2_laysRow_2 2 rfl rfl)
theorem dX2_laysRow_50 : decode cX2_laysRow 50 = .ok (.aload_n 0, 1) := dk_42 (dk_at dksX2_laysRow_2 3 rfl rfl)
theorem dX2_laysRow_51 : decode cX2_laysRow 51 = .ok (.getfield 17, 3) := dk_180 0 17 (dk_at dksX2_laysRow_2 4 rfl rfl)
theorem dX2_laysRow_54 : decode cX2_laysRow 54 = .ok (.iload 4, 2) := dk_21 4 (dk_at dksX2_laysRow_2 7 rfl rfl)
theorem dX2_laysRow_56 : decode cX2_laysRow 56 = .ok (.aaload, 1) := dk_50 (dk_at dksX2_laysRow_2 9 rfl rfl)
theorem dX2_laysRow_57 : decode cX2_laysRow 57 = .ok (.iload_n 2, 1) := dk_28 (dk_at dksX2_laysRow_2 10 rfl rfl)
theorem dX2_laysRow_58 : decode cX2_laysRow 58 = .ok (.iaload, 1) := dk_46 (dk_at dksX2_laysRow_2 11 rfl rfl)
theorem dX2_laysRow_59 : decode cX2_laysRow 59 = .ok (.isub, 1) := dk_100 (dk_at dksX2_laysRow_2 12 rfl rfl)
theorem dX2_laysRow_60 : decode cX2_laysRow 60 = .ok (.imul, 1) := dk_104 (dk_at dksX2_laysRow_2 13 rfl rfl)
theorem dX2_laysRow_61 : decode cX2_laysRow 61 = .ok (.iadd, 1) := dk_96 (dk_at dksX2_laysRow_2 14 rfl rfl)
theorem dX2_laysRow_62 : decode cX2_laysRow 62 = .ok (.istore_n 3, 1) := dk_62 (dk_at dksX2_laysRow_2 15 rfl rfl)
theorem dX2_laysRow_63 : decode cX2_laysRow 63 = .ok (.iinc 4 1, 3) := dk_132 4 1 (dk_at dksX2_laysRow_2 16 rfl rfl)
theorem dX2_laysRow_66 : decode cX2_laysRow 66 = .ok (.goto (-51), 3) := dk_167 255 205 (dk_at dksX2_laysRow_2 19 rfl rfl)
theorem dX2_laysRow_69 : decode cX2_laysRow 69 = .ok (.aload_n 0, 1) := dk_42 (dk_at dksX2_laysRow_2 22 rfl rfl)
theorem dX2_laysRow_70 : decode cX2_laysRow 70 = .ok (.getfield 24, 3) := dk_180 0 24 (dk_at dksX2_laysRow_3 0 rfl rfl)
theorem dX2_laysRow_73 : decode cX2_laysRow 73 = .ok (.iload_n 1, 1) := dk_27 (dk_at dksX2_laysRow_3 3 rfl rfl)
theorem dX2_laysRow_74 : decode cX2_laysRow 74 = .ok (.aaload, 1) := dk_50 (dk_at dksX2_laysRow_3 4 rfl rfl)
theorem dX2_laysRow_75 : decode cX2_laysRow 75 = .ok (.iload_n 2, 1) := dk_28 (dk_at dksX2_laysRow_3 5 rfl rfl)
theorem dX2_laysRow_76 : decode cX2_laysRow 76 = .ok (.iload_n 3, 1) := dk_29 (dk_at dksX2_laysRow_3 6 rfl rfl)
theorem dX2_laysRow_77 : decode cX2_laysRow 77 = .ok (.iastore, 1) := dk_79 (dk_at dksX2_laysRow_3 7 rfl rfl)
theorem dX2_laysRow_78 : decode cX2_laysRow 78 = .ok (.iinc 2 1, 3) := dk_132 2 1 (dk_at dksX2_laysRow_3 8 rfl rfl)
theorem dX2_laysRow_81 : decode cX2_laysRow 81 = .ok (.goto (-79), 3) := dk_167 255 177 (dk_at dksX2_laysRow_3 11 rfl rfl)
theorem dX2_laysRow_84 : decode cX2_laysRow 84 = .ok (.aload_n 0, 1) := dk_42 (dk_at dksX2_laysRow_3 14 rfl rfl)
theorem dX2_laysRow_85 : decode cX2_laysRow 85 = .ok (.getfield 21, 3) := dk_180 0 21 (dk_at dksX2_laysRow_3 15 rfl rfl)
theorem dX2_laysRow_88 : decode cX2_laysRow 88 = .ok (.iload_n 1, 1) := dk_27 (dk_at dksX2_laysRow_3 18 rfl rfl)
theorem dX2_laysRow_89 : decode cX2_laysRow 89 = .ok (.aload_n 0, 1) := dk_42 (dk_at dksX2_laysRow_3 19 rfl rfl)
theorem dX2_laysRow_90 : decode cX2_laysRow 90 = .ok (.getfield 24, 3) := dk_180 0 24 (dk_at dksX2_laysRow_3 20 rfl rfl)
theorem dX2_laysRow_93 : decode cX2_laysRow 93 = .ok (.iload_n 1, 1) := dk_27 (dk_at dksX2_laysRow_3 23 rfl rfl)
theorem dX2_laysRow_94 : decode cX2_laysRow 94 = .ok (.aaload, 1) := dk_50 (dk_at dksX2_laysRow_4 0 rfl rfl)
theorem dX2_laysRow_95 : decode cX2_laysRow 95 = .ok (.aastore, 1) := dk_83 (dk_at dksX2_laysRow_4 1 rfl rfl)
theorem dX2_laysRow_96 : decode cX2_laysRow 96 = .ok (.return_, 1) := dk_177 (dk_at dksX2_laysRow_4 2 rfl rfl)
abbrev cX2_shaped : ByteArray := prog_5_method_22_code
def yX2_shaped : MethodName := ⟨RX2, "shaped", "()I"⟩
def dkwX2_shaped_1 : List UInt8 := [167, 0, 4, 5, 172]
abbrev dktX2_shaped_1 : List UInt8 := dkwX2_shaped_1 ++ []
def dkwX2_shaped_0 : List UInt8 := [42, 182, 0, 107, 60, 27, 156, 0, 7, 3, 167, 0, 16, 42, 27, 182, 0, 111, 156, 0, 7, 4]
abbrev dktX2_shaped_0 : List UInt8 := dkwX2_shaped_0 ++ dktX2_shaped_1
theorem dksX2_shaped_0 : cX2_shaped.data.toList.drop 0 = dktX2_shaped_0 := by decide +kernel
theorem dksX2_shaped_1 : cX2_shaped.data.toList.drop 22 = dktX2_shaped_1 := dk_seg dksX2_shaped_0 22 rfl rfl
theorem dX2_shaped_0 : decode cX2_shaped 0 = .ok (.aload_n 0, 1) := dk_42 (dk_at dksX2_shaped_0 0 rfl rfl)
theorem dX2_shaped_1 : decode cX2_shaped 1 = .ok (.invokevirtual 107, 3) := dk_182 0 107 (dk_at dksX2_shaped_0 1 rfl rfl)
theorem dX2_shaped_4 : decode cX2_shaped 4 = .ok (.istore_n 1, 1) := dk_60 (dk_at dksX2_shaped_0 4 rfl rfl)
theorem dX2_shaped_5 : decode cX2_shaped 5 = .ok (.iload_n 1, 1) := dk_27 (dk_at dksX2_shaped_0 5 rfl rfl)
theorem dX2_shaped_6 : decode cX2_shaped 6 = .ok (.ifCond .ge 7, 3) := dk_156 0 7 (dk_at dksX2_shaped_0 6 rfl rfl)
theorem dX2_shaped_9 : decode cX2_shaped 9 = .ok (.iconst 0, 1) := dk_3 (dk_at dksX2_shaped_0 9 rfl rfl)
theorem dX2_shaped_10 : decode cX2_shaped 10 = .ok (.goto 16, 3) := dk_167 0 16 (dk_at dksX2_shaped_0 10 rfl rfl)
theorem dX2_shaped_13 : decode cX2_shaped 13 = .ok (.aload_n 0, 1) := dk_42 (dk_at dksX2_shaped_0 13 rfl rfl)
theorem dX2_shaped_14 : decode cX2_shaped 14 = .ok (.iload_n 1, 1) := dk_27 (dk_at dksX2_shaped_0 14 rfl rfl)
theorem dX2_shaped_15 : decode cX2_shaped 15 = .ok (.invokevirtual 111, 3) := dk_182 0 111 (dk_at dksX2_shaped_0 15 rfl rfl)
theorem dX2_shaped_18 : decode cX2_shaped 18 = .ok (.ifCond .ge 7, 3) := dk_156 0 7 (dk_at dksX2_shaped_0 18 rfl rfl)
theorem dX2_shaped_21 : decode cX2_shaped 21 = .ok (.iconst 1, 1) := dk_4 (dk_at dksX2_shaped_0 21 rfl rfl)
theorem dX2_shaped_22 : decode cX2_shaped 22 = .ok (.goto 4, 3) := dk_167 0 4 (dk_at dksX2_shaped_1 0 rfl rfl)
theorem dX2_shaped_25 : decode cX2_shaped 25 = .ok (.iconst 2, 1) := dk_5 (dk_at dksX2_shaped_1 3 rfl rfl)
theorem dX2_shaped_26 : decode cX2_shaped 26 = .ok (.ireturn, 1) := dk_172 (dk_at dksX2_shaped_1 4 rfl rfl)
abbrev cX2_third : ByteArray := prog_5_method_20_code
def yX2_third : MethodName := ⟨RX2, "third", "()I"⟩
def dkwX2_third_3 : List UInt8 := [172, 132, 1, 1, 167, 255, 202, 2, 172]
abbrev dktX2_third_3 : List UInt8 := dkwX2_third_3 ++ []
def dkwX2_third_2 : List UInt8 := [42, 180, 0, 37, 184, 0, 99, 42, 180, 0, 37, 42, 180, 0, 37, 184, 0, 103, 9, 148, 158, 0, 5, 27]
abbrev dktX2_third_2 : List UInt8 := dkwX2_third_2 ++ dktX2_third_3
def dkwX2_third_1 : List UInt8 := [180, 0, 46, 162, 0, 52, 42, 3, 27, 42, 180, 0, 31, 182, 0, 95, 42, 180, 0, 27, 42, 180, 0, 31]
abbrev dktX2_third_1 : List UInt8 := dkwX2_third_1 ++ dktX2_third_2
def dkwX2_third_0 : List UInt8 := [42, 180, 0, 46, 6, 162, 0, 5, 2, 172, 42, 3, 4, 42, 180, 0, 27, 182, 0, 95, 5, 60, 27, 42]
abbrev dktX2_third_0 : List UInt8 := dkwX2_third_0 ++ dktX2_third_1
theorem dksX2_third_0 : cX2_third.data.toList.drop 0 = dktX2_third_0 := by decide +kernel
theorem dksX2_third_1 : cX2_third.data.toList.drop 24 = dktX2_third_1 := dk_seg dksX2_third_0 24 rfl rfl
theorem dksX2_third_2 : cX2_third.data.toList.drop 48 = dktX2_third_2 := dk_seg dksX2_third_1 24 rfl rfl
theorem dksX2_third_3 : cX2_third.data.toList.drop 72 = dktX2_third_3 := dk_seg dksX2_third_2 24 rfl rfl
theorem dX2_third_0 : decode cX2_third 0 = .ok (.aload_n 0, 1) := dk_42 (dk_at dksX2_third_0 0 rfl rfl)
theorem dX2_third_1 : decode cX2_third 1 = .ok (.getfield 46, 3) := dk_180 0 46 (dk_at dksX2_third_0 1 rfl rfl)
theorem dX2_third_4 : decode cX2_third 4 = .ok (.iconst 3, 1) := dk_6 (dk_at dksX2_third_0 4 rfl rfl)
theorem dX2_third_5 : decode cX2_third 5 = .ok (.if_icmp .ge 5, 3) := dk_162 0 5 (dk_at dksX2_third_0 5 rfl rfl)
theorem dX2_third_8 : decode cX2_third 8 = .ok (.iconst (-1), 1) := dk_2 (dk_at dksX2_third_0 8 rfl rfl)
theorem dX2_third_9 : decode cX2_third 9 = .ok (.ireturn, 1) := dk_172 (dk_at dksX2_third_0 9 rfl rfl)
theorem dX2_third_10 : decode cX2_third 10 = .ok (.aload_n 0, 1) := dk_42 (dk_at dksX2_third_0 10 rfl rfl)
theorem dX2_third_11 : decode cX2_third 11 = .ok (.iconst 0, 1) := dk_3 (dk_at dksX2_third_0 11 rfl rfl)
theorem dX2_third_12 : decode cX2_third 12 = .ok (.iconst 1, 1) := dk_4 (dk_at dksX2_third_0 12 rfl rfl)
theorem dX2_third_13 : decode cX2_third 13 = .ok (.aload_n 0, 1) := dk_42 (dk_at dksX2_third_0 13 rfl rfl)
theorem dX2_third_14 : decode cX2_third 14 = .ok (.getfield 27, 3) := dk_180 0 27 (dk_at dksX2_third_0 14 rfl rfl)
theorem dX2_third_17 : decode cX2_third 17 = .ok (.invokevirtual 95, 3) := dk_182 0 95 (dk_at dksX2_third_0 17 rfl rfl)
theorem dX2_third_20 : decode cX2_third 20 = .ok (.iconst 2, 1) := dk_5 (dk_at dksX2_third_0 20 rfl rfl)
theorem dX2_third_21 : decode cX2_third 21 = .ok (.istore_n 1, 1) := dk_60 (dk_at dksX2_third_0 21 rfl rfl)
theorem dX2_third_22 : decode cX2_third 22 = .ok (.iload_n 1, 1) := dk_27 (dk_at dksX2_third_0 22 rfl rfl)
theorem dX2_third_23 : decode cX2_third 23 = .ok (.aload_n 0, 1) := dk_42 (dk_at dksX2_third_0 23 rfl rfl)
theorem dX2_third_24 : decode cX2_third 24 = .ok (.getfield 46, 3) := dk_180 0 46 (dk_at dksX2_third_1 0 rfl rfl)
theorem dX2_third_27 : decode cX2_third 27 = .ok (.if_icmp .ge 52, 3) := dk_162 0 52 (dk_at dksX2_third_1 3 rfl rfl)
theorem dX2_third_30 : decode cX2_third 30 = .ok (.aload_n 0, 1) := dk_42 (dk_at dksX2_third_1 6 rfl rfl)
theorem dX2_third_31 : decode cX2_third 31 = .ok (.iconst 0, 1) := dk_3 (dk_at dksX2_third_1 7 rfl rfl)
theorem dX2_third_32 : decode cX2_third 32 = .ok (.iload_n 1, 1) := dk_27 (dk_at dksX2_third_1 8 rfl rfl)
theorem dX2_third_33 : decode cX2_third 33 = .ok (.aload_n 0, 1) := dk_42 (dk_at dksX2_third_1 9 rfl rfl)
theorem dX2_third_34 : decode cX2_third 34 = .ok (.getfield 31, 3) := dk_180 0 31 (dk_at dksX2_third_1 10 rfl rfl)
theorem dX2_third_37 : decode cX2_third 37 = .ok (.invokevirtual 95, 3) := dk_182 0 95 (dk_at dksX2_third_1 13 rfl rfl)
theorem dX2_third_40 : decode cX2_third 40 = .ok (.aload_n 0, 1) := dk_42 (dk_at dksX2_third_1 16 rfl rfl)
theorem dX2_third_41 : decode cX2_third 41 = .ok (.getfield 27, 3) := dk_180 0 27 (dk_at dksX2_third_1 17 rfl rfl)
theorem dX2_third_44 : decode cX2_third 44 = .ok (.aload_n 0, 1) := dk_42 (dk_at dksX2_third_1 20 rfl rfl)
theorem dX2_third_45 : decode cX2_third 45 = .ok (.getfield 31, 3) := dk_180 0 31 (dk_at dksX2_third_1 21 rfl rfl)
theorem dX2_third_48 : decode cX2_third 48 = .ok (.aload_n 0, 1) := dk_42 (dk_at dksX2_third_2 0 rfl rfl)
theorem dX2_third_49 : decode cX2_third 49 = .ok (.getfield 37, 3) := dk_180 0 37 (dk_at dksX2_third_2 1 rfl rfl)
theorem dX2_third_52 : decode cX2_third 52 = .ok (.invokestatic 99, 3) := dk_184 0 99 (dk_at dksX2_third_2 4 rfl rfl)
theorem dX2_third_55 : decode cX2_third 55 = .ok (.aload_n 0, 1) := dk_42 (dk_at dksX2_third_2 7 rfl rfl)
theorem dX2_third_56 : decode cX2_third 56 = .ok (.getfield 37, 3) := dk_180 0 37 (dk_at dksX2_third_2 8 rfl rfl)
theorem dX2_third_59 : decode cX2_third 59 = .ok (.aload_n 0, 1) := dk_42 (dk_at dksX2_third_2 11 rfl rfl)
theorem dX2_third_60 : decode cX2_third 60 = .ok (.getfield 37, 3) := dk_180 0 37 (dk_at dksX2_third_2 12 rfl rfl)
theorem dX2_third_63 : decode cX2_third 63 = .ok (.invokestatic 103, 3) := dk_184 0 103 (dk_at dksX2_third_2 15 rfl rfl)
theorem dX2_third_66 : decode cX2_third 66 = .ok (.lconst 0, 1) := dk_9 (dk_at dksX2_third_2 18 rfl rfl)
theorem dX2_third_67 : decode cX2_third 67 = .ok (.lcmp, 1) := dk_148 (dk_at dksX2_third_2 19 rfl rfl)
theorem dX2_third_68 : decode cX2_third 68 = .ok (.ifCond .le 5, 3) := dk_158 0 5 (dk_at dksX2_third_2 20 rfl rfl)
theorem dX2_third_71 : decode cX2_third 71 = .ok (.iload_n 1, 1) := dk_27 (dk_at dksX2_third_2 23 rfl rfl)
theorem dX2_third_72 : decode cX2_third 72 = .ok (.ireturn, 1) := dk_172 (dk_at dksX2_third_3 0 rfl rfl)
theorem dX2_third_73 : decode cX2_third 73 = .ok (.iinc 1 1, 3) := dk_132 1 1 (dk_at dksX2_third_3 1 rfl rfl)
theorem dX2_third_76 : decode cX2_third 76 = .ok (.goto (-54), 3) := dk_167 255 202 (dk_at dksX2_third_3 4 rfl rfl)
theorem dX2_third_79 : decode cX2_third 79 = .ok (.iconst (-1), 1) := dk_2 (dk_at dksX2_third_3 7 rfl rfl)
theorem dX2_third_80 : decode cX2_third 80 = .ok (.ireturn, 1) := dk_172 (dk_at dksX2_third_3 8 rfl rfl)
abbrev cX2_difference : ByteArray := prog_5_method_19_code
def yX2_difference : MethodName := ⟨RX2, "difference", "(II[J)V"⟩
def dkwX2_difference_1 : List UInt8 := [180, 0, 17, 21, 4, 50, 27, 46, 100, 133, 80, 132, 4, 1, 167, 255, 223, 177]
abbrev dktX2_difference_1 : List UInt8 := dkwX2_difference_1 ++ []
def dkwX2_difference_0 : List UInt8 := [3, 54, 4, 21, 4, 6, 162, 0, 33, 45, 21, 4, 42, 180, 0, 17, 21, 4, 50, 28, 46, 42]
abbrev dktX2_difference_0 : List UInt8 := dkwX2_difference_0 ++ dktX2_difference_1
theorem dksX2_difference_0 : cX2_difference.data.toList.drop 0 = dktX2_difference_0 := by decide +kernel
theorem dksX2_difference_1 : cX2_difference.data.toList.drop 22 = dktX2_difference_1 := dk_seg dksX2_difference_0 22 rfl rfl
theorem dX2_difference_0 : decode cX2_difference 0 = .ok (.iconst 0, 1) := dk_3 (dk_at dksX2_difference_0 0 rfl rfl)
theorem dX2_difference_1 : decode cX2_difference 1 = .ok (.istore 4, 2) := dk_54 4 (dk_at dksX2_difference_0 1 rfl rfl)
theorem dX2_difference_3 : decode cX2_difference 3 = .ok (.iload 4, 2) := dk_21 4 (dk_at dksX2_difference_0 3 rfl rfl)
theorem dX2_difference_5 : decode cX2_difference 5 = .ok (.iconst 3, 1) := dk_6 (dk_at dksX2_difference_0 5 rfl rfl)
theorem dX2_difference_6 : decode cX2_difference 6 = .ok (.if_icmp .ge 33, 3) := dk_162 0 33 (dk_at dksX2_difference_0 6 rfl rfl)
theorem dX2_difference_9 : decode cX2_difference 9 = .ok (.aload_n 3, 1) := dk_45 (dk_at dksX2_difference_0 9 rfl rfl)
theorem dX2_difference_10 : decode cX2_difference 10 = .ok (.iload 4, 2) := dk_21 4 (dk_at dksX2_difference_0 10 rfl rfl)
theorem dX2_difference_12 : decode cX2_difference 12 = .ok (.aload_n 0, 1) := dk_42 (dk_at dksX2_difference_0 12 rfl rfl)
theorem dX2_difference_13 : decode cX2_difference 13 = .ok (.getfield 17, 3) := dk_180 0 17 (dk_at dksX2_difference_0 13 rfl rfl)
theorem dX2_difference_16 : decode cX2_difference 16 = .ok (.iload 4, 2) := dk_21 4 (dk_at dksX2_difference_0 16 rfl rfl)
theorem dX2_difference_18 : decode cX2_difference 18 = .ok (.aaload, 1) := dk_50 (dk_at dksX2_difference_0 18 rfl rfl)
theorem dX2_difference_19 : decode cX2_difference 19 = .ok (.iload_n 2, 1) := dk_28 (dk_at dksX2_difference_0 19 rfl rfl)
theorem dX2_difference_20 : decode cX2_difference 20 = .ok (.iaload, 1) := dk_46 (dk_at dksX2_difference_0 20 rfl rfl)
theorem dX2_difference_21 : decode cX2_difference 21 = .ok (.aload_n 0, 1) := dk_42 (dk_at dksX2_difference_0 21 rfl rfl)
theorem dX2_difference_22 : decode cX2_difference 22 = .ok (.getfield 17, 3) := dk_180 0 17 (dk_at dksX2_difference_1 0 rfl rfl)
theorem dX2_difference_25 : decode cX2_difference 25 = .ok (.iload 4, 2) := dk_21 4 (dk_at dksX2_difference_1 3 rfl rfl)
theorem dX2_difference_27 : decode cX2_difference 27 = .ok (.aaload, 1) := dk_50 (dk_at dksX2_difference_1 5 rfl rfl)
theorem dX2_difference_28 : decode cX2_difference 28 = .ok (.iload_n 1, 1) := dk_27 (dk_at dksX2_difference_1 6 rfl rfl)
theorem dX2_difference_29 : decode cX2_difference 29 = .ok (.iaload, 1) := dk_46 (dk_at dksX2_difference_1 7 rfl rfl)
theorem dX2_difference_30 : decode cX2_difference 30 = .ok (.isub, 1) := dk_100 (dk_at dksX2_difference_1 8 rfl rfl)
theorem dX2_difference_31 : decode cX2_difference 31 = .ok (.i2l, 1) := dk_133 (dk_at dksX2_difference_1 9 rfl rfl)
theorem dX2_difference_32 : decode cX2_difference 32 = .ok (.lastore, 1) := dk_80 (dk_at dksX2_difference_1 10 rfl rfl)
theorem dX2_difference_33 : decode cX2_difference 33 = .ok (.iinc 4 1, 3) := dk_132 4 1 (dk_at dksX2_difference_1 11 rfl rfl)
theorem dX2_difference_36 : decode cX2_difference 36 = .ok (.goto (-33), 3) := dk_167 255 223 (dk_at dksX2_difference_1 14 rfl rfl)
theorem dX2_difference_39 : decode cX2_difference 39 = .ok (.return_, 1) := dk_177 (dk_at dksX2_difference_1 17 rfl rfl)
abbrev cX2_fourth : ByteArray := prog_5_method_21_code
def yX2_fourth : MethodName := ⟨RX2, "fourth", "(I)I"⟩
def dkwX2_fourth_3 : List UInt8 := [172, 132, 2, 1, 167, 255, 217, 2, 172]
abbrev dktX2_fourth_3 : List UInt8 := dkwX2_fourth_3 ++ []
def dkwX2_fourth_2 : List UInt8 := [42, 180, 0, 34, 182, 0, 95, 42, 180, 0, 37, 42, 180, 0, 34, 184, 0, 103, 9, 148, 153, 0, 5, 28]
abbrev dktX2_fourth_2 : List UInt8 := dkwX2_fourth_2 ++ dktX2_fourth_3
def dkwX2_fourth_1 : List UInt8 := [42, 180, 0, 31, 42, 180, 0, 37, 184, 0, 99, 5, 61, 28, 42, 180, 0, 46, 162, 0, 37, 42, 3, 28]
abbrev dktX2_fourth_1 : List UInt8 := dkwX2_fourth_1 ++ dktX2_fourth_2
def dkwX2_fourth_0 : List UInt8 := [42, 3, 4, 42, 180, 0, 27, 182, 0, 95, 42, 3, 27, 42, 180, 0, 31, 182, 0, 95, 42, 180, 0, 27]
abbrev dktX2_fourth_0 : List UInt8 := dkwX2_fourth_0 ++ dktX2_fourth_1
theorem dksX2_fourth_0 : cX2_fourth.data.toList.drop 0 = dktX2_fourth_0 := by decide +kernel
theorem dksX2_fourth_1 : cX2_fourth.data.toList.drop 24 = dktX2_fourth_1 := dk_seg dksX2_fourth_0 24 rfl rfl
theorem dksX2_fourth_2 : cX2_fourth.data.toList.drop 48 = dktX2_fourth_2 := dk_seg dksX2_fourth_1 24 rfl rfl
theorem dksX2_fourth_3 : cX2_fourth.data.toList.drop 72 = dktX2_fourth_3 := dk_seg dksX2_fourth_2 24 rfl rfl
theorem dX2_fourth_0 : decode cX2_fourth 0 = .ok (.aload_n 0, 1) := dk_42 (dk_at dksX2_fourth_0 0 rfl rfl)
theorem dX2_fourth_1 : decode cX2_fourth 1 = .ok (.iconst 0, 1) := dk_3 (dk_at dksX2_fourth_0 1 rfl rfl)
theorem dX2_fourth_2 : decode cX2_fourth 2 = .ok (.iconst 1, 1) := dk_4 (dk_at dksX2_fourth_0 2 rfl rfl)
theorem dX2_fourth_3 : decode cX2_fourth 3 = .ok (.aload_n 0, 1) := dk_42 (dk_at dksX2_fourth_0 3 rfl rfl)
theorem dX2_fourth_4 : decode cX2_fourth 4 = .ok (.getfield 27, 3) := dk_180 0 27 (dk_at dksX2_fourth_0 4 rfl rfl)
theorem dX2_fourth_7 : decode cX2_fourth 7 = .ok (.invokevirtual 95, 3) := dk_182 0 95 (dk_at dksX2_fourth_0 7 rfl rfl)
theorem dX2_fourth_10 : decode cX2_fourth 10 = .ok (.aload_n 0, 1) := dk_42 (dk_at dksX2_fourth_0 10 rfl rfl)
theorem dX2_fourth_11 : decode cX2_fourth 11 = .ok (.iconst 0, 1) := dk_3 (dk_at dksX2_fourth_0 11 rfl rfl)
theorem dX2_fourth_12 : decode cX2_fourth 12 = .ok (.iload_n 1, 1) := dk_27 (dk_at dksX2_fourth_0 12 rfl rfl)
theorem dX2_fourth_13 : decode cX2_fourth 13 = .ok (.aload_n 0, 1) := dk_42 (dk_at dksX2_fourth_0 13 rfl rfl)
theorem dX2_fourth_14 : decode cX2_fourth 14 = .ok (.getfield 31, 3) := dk_180 0 31 (dk_at dksX2_fourth_0 14 rfl rfl)
theorem dX2_fourth_17 : decode cX2_fourth 17 = .ok (.invokevirtual 95, 3) := dk_182 0 95 (dk_at dksX2_fourth_0 17 rfl rfl)
theorem dX2_fourth_20 : decode cX2_fourth 20 = .ok (.aload_n 0, 1) := dk_42 (dk_at dksX2_fourth_0 20 rfl rfl)
theorem dX2_fourth_21 : decode cX2_fourth 21 = .ok (.getfield 27, 3) := dk_180 0 27 (dk_at dksX2_fourth_0 21 rfl rfl)
theorem dX2_fourth_24 : decode cX2_fourth 24 = .ok (.aload_n 0, 1) := dk_42 (dk_at dksX2_fourth_1 0 rfl rfl)
theorem dX2_fourth_25 : decode cX2_fourth 25 = .ok (.getfield 31, 3) := dk_180 0 31 (dk_at dksX2_fourth_1 1 rfl rfl)
theorem dX2_fourth_28 : decode cX2_fourth 28 = .ok (.aload_n 0, 1) := dk_42 (dk_at dksX2_fourth_1 4 rfl rfl)
theorem dX2_fourth_29 : decode cX2_fourth 29 = .ok (.getfield 37, 3) := dk_180 0 37 (dk_at dksX2_fourth_1 5 rfl rfl)
theorem dX2_fourth_32 : decode cX2_fourth 32 = .ok (.invokestatic 99, 3) := dk_184 0 99 (dk_at dksX2_fourth_1 8 rfl rfl)
theorem dX2_fourth_35 : decode cX2_fourth 35 = .ok (.iconst 2, 1) := dk_5 (dk_at dksX2_fourth_1 11 rfl rfl)
theorem dX2_fourth_36 : decode cX2_fourth 36 = .ok (.istore_n 2, 1) := dk_61 (dk_at dksX2_fourth_1 12 rfl rfl)
theorem dX2_fourth_37 : decode cX2_fourth 37 = .ok (.iload_n 2, 1) := dk_28 (dk_at dksX2_fourth_1 13 rfl rfl)
theorem dX2_fourth_38 : decode cX2_fourth 38 = .ok (.aload_n 0, 1) := dk_42 (dk_at dksX2_fourth_1 14 rfl rfl)
theorem dX2_fourth_39 : decode cX2_fourth 39 = .ok (.getfield 46, 3) := dk_180 0 46 (dk_at dksX2_fourth_1 15 rfl rfl)
theorem dX2_fourth_42 : decode cX2_fourth 42 = .ok (.if_icmp .ge 37, 3) := dk_162 0 37 (dk_at dksX2_fourth_1 18 rfl rfl)
theorem dX2_fourth_45 : decode cX2_fourth 45 = .ok (.aload_n 0, 1) := dk_42 (dk_at dksX2_fourth_1 21 rfl rfl)
theorem dX2_fourth_46 : decode cX2_fourth 46 = .ok (.iconst 0, 1) := dk_3 (dk_at dksX2_fourth_1 22 rfl rfl)
theorem dX2_fourth_47 : decode cX2_fourth 47 = .ok (.iload_n 2, 1) := dk_28 (dk_at dksX2_fourth_1 23 rfl rfl)
theorem dX2_fourth_48 : decode cX2_fourth 48 = .ok (.aload_n 0, 1) := dk_42 (dk_at dksX2_fourth_2 0 rfl rfl)
theorem dX2_fourth_49 : decode cX2_fourth 49 = .ok (.getfield 34, 3) := dk_180 0 34 (dk_at dksX2_fourth_2 1 rfl rfl)
theorem dX2_fourth_52 : decode cX2_fourth 52 = .ok (.invokevirtual 95, 3) := dk_182 0 95 (dk_at dksX2_fourth_2 4 rfl rfl)
theorem dX2_fourth_55 : decode cX2_fourth 55 = .ok (.aload_n 0, 1) := dk_42 (dk_at dksX2_fourth_2 7 rfl rfl)
theorem dX2_fourth_56 : decode cX2_fourth 56 = .ok (.getfield 37, 3) := dk_180 0 37 (dk_at dksX2_fourth_2 8 rfl rfl)
theorem dX2_fourth_59 : decode cX2_fourth 59 = .ok (.aload_n 0, 1) := dk_42 (dk_at dksX2_fourth_2 11 rfl rfl)
theorem dX2_fourth_60 : decode cX2_fourth 60 = .ok (.getfield 34, 3) := dk_180 0 34 (dk_at dksX2_fourth_2 12 rfl rfl)
theorem dX2_fourth_63 : decode cX2_fourth 63 = .ok (.invokestatic 103, 3) := dk_184 0 103 (dk_at dksX2_fourth_2 15 rfl rfl)
theorem dX2_fourth_66 : decode cX2_fourth 66 = .ok (.lconst 0, 1) := dk_9 (dk_at dksX2_fourth_2 18 rfl rfl)
theorem dX2_fourth_67 : decode cX2_fourth 67 = .ok (.lcmp, 1) := dk_148 (dk_at dksX2_fourth_2 19 rfl rfl)
theorem dX2_fourth_68 : decode cX2_fourth 68 = .ok (.ifCond .eq 5, 3) := dk_153 0 5 (dk_at dksX2_fourth_2 20 rfl rfl)
theorem dX2_fourth_71 : decode cX2_fourth 71 = .ok (.iload_n 2, 1) := dk_28 (dk_at dksX2_fourth_2 23 rfl rfl)
theorem dX2_fourth_72 : decode cX2_fourth 72 = .ok (.ireturn, 1) := dk_172 (dk_at dksX2_fourth_3 0 rfl rfl)
theorem dX2_fourth_73 : decode cX2_fourth 73 = .ok (.iinc 2 1, 3) := dk_132 2 1 (dk_at dksX2_fourth_3 1 rfl rfl)
theorem dX2_fourth_76 : decode cX2_fourth 76 = .ok (.goto (-39), 3) := dk_167 255 217 (dk_at dksX2_fourth_3 4 rfl rfl)
theorem dX2_fourth_79 : decode cX2_fourth 79 = .ok (.iconst (-1), 1) := dk_2 (dk_at dksX2_fourth_3 7 rfl rfl)
theorem dX2_fourth_80 : decode cX2_fourth 80 = .ok (.ireturn, 1) := dk_172 (dk_at dksX2_fourth_3 8 rfl rfl)
abbrev cX2_laysCells : ByteArray := prog_5_method_25_code
def yX2_laysCells : MethodName := ⟨RX2, "laysCells", "()I"⟩
def dkwX2_laysCells_7 : List UInt8 := [96, 61, 132, 3, 1, 167, 255, 227, 28, 172]
abbrev dktX2_laysCells_7 : List UInt8 := dkwX2_laysCells_7 ++ []
def dkwX2_laysCells_6 : List UInt8 := [29, 42, 180, 0, 46, 162, 0, 27, 28, 42, 180, 0, 40, 29, 46, 29, 160, 0, 7, 4, 167, 0, 4, 3]
abbrev dktX2_laysCells_6 : List UInt8 := dkwX2_laysCells_6 ++ dktX2_laysCells_7
def dkwX2_laysCells_5 : List UInt8 := [180, 0, 40, 28, 42, 180, 0, 43, 28, 46, 79, 132, 2, 1, 167, 255, 210, 167, 255, 172, 3, 61, 3, 62]
abbrev dktX2_laysCells_5 : List UInt8 := dkwX2_laysCells_5 ++ dktX2_laysCells_6
def dkwX2_laysCells_4 : List UInt8 := [180, 0, 43, 28, 46, 42, 180, 0, 40, 28, 46, 159, 0, 7, 4, 167, 0, 4, 3, 128, 60, 42]
abbrev dktX2_laysCells_4 : List UInt8 := dkwX2_laysCells_4 ++ dktX2_laysCells_5
def dkwX2_laysCells_3 : List UInt8 := [182, 0, 120, 79, 132, 2, 1, 167, 255, 234, 3, 61, 28, 42, 180, 0, 46, 162, 0, 44, 27, 42]
abbrev dktX2_laysCells_3 : List UInt8 := dkwX2_laysCells_3 ++ dktX2_laysCells_4
def dkwX2_laysCells_2 : List UInt8 := [27, 153, 0, 86, 3, 60, 3, 61, 28, 42, 180, 0, 46, 162, 0, 20, 42, 180, 0, 43, 28, 42, 28]
abbrev dktX2_laysCells_2 : List UInt8 := dkwX2_laysCells_2 ++ dktX2_laysCells_3
def dkwX2_laysCells_1 : List UInt8 := [159, 0, 9, 132, 2, 1, 167, 255, 238, 42, 180, 0, 40, 27, 28, 79, 132, 1, 1, 167, 255, 215, 4, 60]
abbrev dktX2_laysCells_1 : List UInt8 := dkwX2_laysCells_1 ++ dktX2_laysCells_2
def dkwX2_laysCells_0 : List UInt8 := [3, 60, 27, 42, 180, 0, 46, 162, 0, 39, 3, 61, 42, 180, 0, 9, 28, 46, 42, 180, 0, 9, 27, 46]
abbrev dktX2_laysCells_0 : List UInt8 := dkwX2_laysCells_0 ++ dktX2_laysCells_1
theorem dksX2_laysCells_0 : cX2_laysCells.data.toList.drop 0 = dktX2_laysCells_0 := by decide +kernel
theorem dksX2_laysCells_1 : cX2_laysCells.data.toList.drop 24 = dktX2_laysCells_1 := dk_seg dksX2_laysCells_0 24 rfl rfl
theorem dksX2_laysCells_2 : cX2_laysCells.data.toList.drop 48 = dktX2_laysCells_2 := dk_seg dksX2_laysCells_1 24 rfl rfl
theorem dksX2_laysCells_3 : cX2_laysCells.data.toList.drop 71 = dktX2_laysCells_3 := dk_seg dksX2_laysCells_2 23 rfl rfl
theorem dksX2_laysCells_4 : cX2_laysCells.data.toList.drop 93 = dktX2_laysCells_4 := dk_seg dksX2_laysCells_3 22 rfl rfl
theorem dksX2_laysCells_5 : cX2_laysCells.data.toList.drop 115 = dktX2_laysCells_5 := dk_seg dksX2_laysCells_4 22 rfl rfl
theorem dksX2_laysCells_6 : cX2_laysCells.data.toList.drop 139 = dktX2_laysCells_6 := dk_seg dksX2_laysCells_5 24 rfl rfl
theorem dksX2_laysCells_7 : cX2_laysCells.data.toList.drop 163 = dktX2_laysCells_7 := dk_seg dksX2_laysCells_6 24 rfl rfl
theorem dX2_laysCells_0 : decode cX2_laysCells 0 = .ok (.iconst 0, 1) := dk_3 (dk_at dksX2_laysCells_0 0 rfl rfl)
theorem dX2_laysCells_1 : decode cX2_laysCells 1 = .ok (.istore_n 1, 1) := dk_60 (dk_at dksX2_laysCells_0 1 rfl rfl)
theorem dX2_laysCells_2 : decode cX2_laysCells 2 = .ok (.iload_n 1, 1) := dk_27 (dk_at dksX2_laysCells_0 2 rfl rfl)
theorem dX2_laysCells_3 : decode cX2_laysCells 3 = .ok (.aload_n 0, 1) := dk_42 (dk_at dksX2_laysCells_0 3 rfl rfl)
theorem dX2_laysCells_4 : decode cX2_laysCells 4 = .ok (.getfield 46, 3) := dk_180 0 46 (dk_at dksX2_laysCells_0 4 rfl rfl)
theorem dX2_laysCells_7 : decode cX2_laysCells 7 = .ok (.if_icmp .ge 39, 3) := dk_162 0 39 (dk_at dksX2_laysCells_0 7 rfl rfl)
theorem dX2_laysCells_10 : decode cX2_laysCells 10 = .ok (.iconst 0, 1) := dk_3 (dk_at dksX2_laysCells_0 10 rfl rfl)
theorem dX2_laysCells_11 : decode cX2_laysCells 11 = .ok (.istore_n 2, 1) := dk_61 (dk_at dksX2_laysCells_0 11 rfl rfl)
theorem dX2_laysCells_12 : decode cX2_laysCells 12 = .ok (.aload_n 0, 1) := dk_42 (dk_at dksX2_laysCells_0 12 rfl rfl)
theorem dX2_laysCells_13 : decode cX2_laysCells 13 = .ok (.getfield 9, 3) := dk_180 0 9 (dk_at dksX2_laysCells_0 13 rfl rfl)
theorem dX2_laysCells_16 : decode cX2_laysCells 16 = .ok (.iload_n 2, 1) := dk_28 (dk_at dksX2_laysCells_0 16 rfl rfl)
theorem dX2_laysCells_17 : decode cX2_laysCells 17 = .ok (.iaload, 1) := dk_46 (dk_at dksX2_laysCells_0 17 rfl rfl)
theorem dX2_laysCells_18 : decode cX2_laysCells 18 = .ok (.aload_n 0, 1) := dk_42 (dk_at dksX2_laysCells_0 18 rfl rfl)
theorem dX2_laysCells_19 : decode cX2_laysCells 19 = .ok (.getfield 9, 3) := dk_180 0 9 (dk_at dksX2_laysCells_0 19 rfl rfl)
theorem dX2_laysCells_22 : decode cX2_laysCells 22 = .ok (.iload_n 1, 1) := dk_27 (dk_at dksX2_laysCells_0 22 rfl rfl)
theorem dX2_laysCells_23 : decode cX2_laysCells 23 = .ok (.iaload, 1) := dk_46 (dk_at dksX2_laysCells_0 23 rfl rfl)
theorem dX2_laysCells_24 : decode cX2_laysCells 24 = .ok (.if_icmp .eq 9, 3) := dk_159 0 9 (dk_at dksX2_laysCells_1 0 rfl rfl)
theorem dX2_laysCells_27 : decode cX2_laysCells 27 = .ok (.iinc 2 1, 3) := dk_132 2 1 (dk_at dksX2_laysCells_1 3 rfl rfl)
theorem dX2_laysCells_30 : decode cX2_laysCells 30 = .ok (.goto (-18), 3) := dk_167 255 238 (dk_at dksX2_laysCells_1 6 rfl rfl)
theorem dX2_laysCells_33 : decode cX2_laysCells 33 = .ok (.aload_n 0, 1) := dk_42 (dk_at dksX2_laysCells_1 9 rfl rfl)
theorem dX2_laysCells_34 : decode cX2_laysCells 34 = .ok (.getfield 40, 3) := dk_180 0 40 (dk_at dksX2_laysCells_1 10 rfl rfl)
theorem dX2_laysCells_37 : decode cX2_laysCells 37 = .ok (.iload_n 1, 1) := dk_27 (dk_at dksX2_laysCells_1 13 rfl rfl)
theorem dX2_laysCells_38 : decode cX2_laysCells 38 = .ok (.iload_n 2, 1) := dk_28 (dk_at dksX2_laysCells_1 14 rfl rfl)
theorem dX2_laysCells_39 : decode cX2_laysCells 39 = .ok (.iastore, 1) := dk_79 (dk_at dksX2_laysCells_1 15 rfl rfl)
theorem dX2_laysCells_40 : decode cX2_laysCells 40 = .ok (.iinc 1 1, 3) := dk_132 1 1 (dk_at dksX2_laysCells_1 16 rfl rfl)
theorem dX2_laysCells_43 : decode cX2_laysCells 43 = .ok (.goto (-41), 3) := dk_167 255 215 (dk_at dksX2_laysCells_1 19 rfl rfl)
theorem dX2_laysCells_46 : decode cX2_laysCells 46 = .ok (.iconst 1, 1) := dk_4 (dk_at dksX2_laysCells_1 22 rfl rfl)
theorem dX2_laysCells_47 : decode cX2_laysCells 47 = .ok (.istore_n 1, 1) := dk_60 (dk_at dksX2_laysCells_1 23 rfl rfl)
theorem dX2_laysCells_48 : decode cX2_laysCells 48 = .ok (.iload_n 1, 1) := dk_27 (dk_at dksX2_laysCells_2 0 rfl rfl)
theorem dX2_laysCells_49 : decode cX2_laysCells 49 = .ok (.ifCond .eq 86, 3) := dk_153 0 86 (dk_at dksX2_laysCells_2 1 rfl rfl)
theorem dX2_laysCells_52 : decode cX2_laysCells 52 = .ok (.iconst 0, 1) := dk_3 (dk_at dksX2_laysCells_2 4 rfl rfl)
theorem dX2_laysCells_53 : decode cX2_laysCells 53 = .ok (.istore_n 1, 1) := dk_60 (dk_at dksX2_laysCells_2 5 rfl rfl)
theorem dX2_laysCells_54 : decode cX2_laysCells 54 = .ok (.iconst 0, 1) := dk_3 (dk_at dksX2_laysCells_2 6 rfl rfl)
theorem dX2_laysCells_55 : decode cX2_laysCells 55 = .ok (.istore_n 2, 1) := dk_61 (dk_at dksX2_laysCells_2 7 rfl rfl)
theorem dX2_laysCells_56 : decode cX2_laysCells 56 = .ok (.iload_n 2, 1) := dk_28 (dk_at dksX2_laysCells_2 8 rfl rfl)
theorem dX2_laysCells_57 : decode cX2_laysCells 57 = .ok (.aload_n 0, 1) := dk_42 (dk_at dksX2_laysCells_2 9 rfl rfl)
theorem dX2_laysCells_58 : decode cX2_laysCells 58 = .ok (.getfield 46, 3) := dk_180 0 46 (dk_at dksX2_laysCells_2 10 rfl rfl)
theorem dX2_laysCells_61 : decode cX2_laysCells 61 = .ok (.if_icmp .ge 20, 3) := dk_162 0 20 (dk_at dksX2_laysCells_2 13 rfl rfl)
theorem dX2_laysCells_64 : decode cX2_laysCells 64 = .ok (.aload_n 0, 1) := dk_42 (dk_at dksX2_laysCells_2 16 rfl rfl)
theorem dX2_laysCells_65 : decode cX2_laysCells 65 = .ok (.getfield 43, 3) := dk_180 0 43 (dk_at dksX2_laysCells_2 17 rfl rfl)
theorem dX2_laysCells_68 : decode cX2_laysCells 68 = .ok (.iload_n 2, 1) := dk_28 (dk_at dksX2_laysCells_2 20 rfl rfl)
theorem dX2_laysCells_69 : decode cX2_laysCells 69 = .ok (.aload_n 0, 1) := dk_42 (dk_at dksX2_laysCells_2 21 rfl rfl)
theorem dX2_laysCells_70 : decode cX2_laysCells 70 = .ok (.iload_n 2, 1) := dk_28 (dk_at dksX2_laysCells_2 22 rfl rfl)
theorem dX2_laysCells_71 : decode cX2_laysCells 71 = .ok (.invokevirtual 120, 3) := dk_182 0 120 (dk_at dksX2_laysCells_3 0 rfl rfl)
theorem dX2_laysCells_74 : decode cX2_laysCells 74 = .ok (.iastore, 1) := dk_79 (dk_at dksX2_laysCells_3 3 rfl rfl)
theorem dX2_laysCells_75 : decode cX2_laysCells 75 = .ok (.iinc 2 1, 3) := dk_132 2 1 (dk_at dksX2_laysCells_3 4 rfl rfl)
theorem dX2_laysCells_78 : decode cX2_laysCells 78 = .ok (.goto (-22), 3) := dk_167 255 234 (dk_at dksX2_laysCells_3 7 rfl rfl)
theorem dX2_laysCells_81 : decode cX2_laysCells 81 = .ok (.iconst 0, 1) := dk_3 (dk_at dksX2_laysCells_3 10 rfl rfl)
theorem dX2_laysCells_82 : decode cX2_laysCells 82 = .ok (.istore_n 2, 1) := dk_61 (dk_at dksX2_laysCells_3 11 rfl rfl)
theorem dX2_laysCells_83 : decode cX2_laysCells 83 = .ok (.iload_n 2, 1) := dk_28 (dk_at dksX2_laysCells_3 12 rfl rfl)
theorem dX2_laysCells_84 : decode cX2_laysCells 84 = .ok (.aload_n 0, 1) := dk_42 (dk_at dksX2_laysCells_3 13 rfl rfl)
theorem dX2_laysCells_85 : decode cX2_laysCells 85 = .ok (.getfield 46, 3) := dk_180 0 46 (dk_at dksX2_laysCells_3 14 rfl rfl)
theorem dX2_laysCells_88 : decode cX2_laysCells 88 = .ok (.if_icmp .ge 44, 3) := dk_162 0 44 (dk_at dksX2_laysCells_3 17 rfl rfl)
theorem dX2_laysCells_91 : decode cX2_laysCells 91 = .ok (.iload_n 1, 1) := dk_27 (dk_at dksX2_laysCells_3 20 rfl rfl)
theorem dX2_laysCells_92 : decode cX2_laysCells 92 = .ok (.aload_n 0, 1) := dk_42 (dk_at dksX2_laysCells_3 21 rfl rfl)
theorem dX2_laysCells_93 : decode cX2_laysCells 93 = .ok (.getfield 43, 3) := dk_180 0 43 (dk_at dksX2_laysCells_4 0 rfl rfl)
theorem dX2_laysCells_96 : decode cX2_laysCells 96 = .ok (.iload_n 2, 1) := dk_28 (dk_at dksX2_laysCells_4 3 rfl rfl)
theorem dX2_laysCells_97 : decode cX2_laysCells 97 = .ok (.iaload, 1) := dk_46 (dk_at dksX2_laysCells_4 4 rfl rfl)
theorem dX2_laysCells_98 : decode cX2_laysCells 98 = .ok (.aload_n 0, 1) := dk_42 (dk_at dksX2_laysCells_4 5 rfl rfl)
theorem dX2_laysCells_99 : decode cX2_laysCells 99 = .ok (.getfield 40, 3) := dk_180 0 40 (dk_at dksX2_laysCells_4 6 rfl rfl)
theorem dX2_laysCells_102 : decode cX2_laysCells 102 = .ok (.iload_n 2, 1) := dk_28 (dk_at dksX2_laysCells_4 9 rfl rfl)
theorem dX2_laysCells_103 : decode cX2_laysCells 103 = .ok (.iaload, 1) := dk_46 (dk_at dksX2_laysCells_4 10 rfl rfl)
theorem dX2_laysCells_104 : decode cX2_laysCells 104 = .ok (.if_icmp .eq 7, 3) := dk_159 0 7 (dk_at dksX2_laysCells_4 11 rfl rfl)
theorem dX2_laysCells_107 : decode cX2_laysCells 107 = .ok (.iconst 1, 1) := dk_4 (dk_at dksX2_laysCells_4 14 rfl rfl)
theorem dX2_laysCells_108 : decode cX2_laysCells 108 = .ok (.goto 4, 3) := dk_167 0 4 (dk_at dksX2_laysCells_4 15 rfl rfl)
theorem dX2_laysCells_111 : decode cX2_laysCells 111 = .ok (.iconst 0, 1) := dk_3 (dk_at dksX2_laysCells_4 18 rfl rfl)
theorem dX2_laysCells_112 : decode cX2_laysCells 112 = .ok (.ior, 1) := dk_128 (dk_at dksX2_laysCells_4 19 rfl rfl)
theorem dX2_laysCells_113 : decode cX2_laysCells 113 = .ok (.istore_n 1, 1) := dk_60 (dk_at dksX2_laysCells_4 20 rfl rfl)
theorem dX2_laysCells_114 : decode cX2_laysCells 114 = .ok (.aload_n 0, 1) := dk_42 (dk_at dksX2_laysCells_4 21 rfl rfl)
theorem dX2_laysCells_115 : decode cX2_laysCells 115 = .ok (.getfield 40, 3) := dk_180 0 40 (dk_at dksX2_laysCells_5 0 rfl rfl)
theorem dX2_laysCells_118 : decode cX2_laysCells 118 = .ok (.iload_n 2, 1) := dk_28 (dk_at dksX2_laysCells_5 3 rfl rfl)
theorem dX2_laysCells_119 : decode cX2_laysCells 119 = .ok (.aload_n 0, 1) := dk_42 (dk_at dksX2_laysCells_5 4 rfl rfl)
theorem dX2_laysCells_120 : decode cX2_laysCells 120 = .ok (.getfield 43, 3) := dk_180 0 43 (dk_at dksX2_laysCells_5 5 rfl rfl)
theorem dX2_laysCells_123 : decode cX2_laysCells 123 = .ok (.iload_n 2, 1) := dk_28 (dk_at dksX2_laysCells_5 8 rfl rfl)
theorem dX2_laysCells_124 : decode cX2_laysCells 124 = .ok (.iaload, 1) := dk_46 (dk_at dksX2_laysCells_5 9 rfl rfl)
theorem dX2_laysCells_125 : decode cX2_laysCells 125 = .ok (.iastore, 1) := dk_79 (dk_at dksX2_laysCells_5 10 rfl rfl)
theorem dX2_laysCells_126 : decode cX2_laysCells 126 = .ok (.iinc 2 1, 3) := dk_132 2 1 (dk_at dksX2_laysCells_5 11 rfl rfl)
theorem dX2_laysCells_129 : decode cX2_laysCells 129 = .ok (.goto (-46), 3) := dk_167 255 210 (dk_at dksX2_laysCells_5 14 rfl rfl)
theorem dX2_laysCells_132 : decode cX2_laysCells 132 = .ok (.goto (-84), 3) := dk_167 255 172 (dk_at dksX2_laysCells_5 17 rfl rfl)
theorem dX2_laysCells_135 : decode cX2_laysCells 135 = .ok (.iconst 0, 1) := dk_3 (dk_at dksX2_laysCells_5 20 rfl rfl)
theorem dX2_laysCells_136 : decode cX2_laysCells 136 = .ok (.istore_n 2, 1) := dk_61 (dk_at dksX2_laysCells_5 21 rfl rfl)
theorem dX2_laysCells_137 : decode cX2_laysCells 137 = .ok (.iconst 0, 1) := dk_3 (dk_at dksX2_laysCells_5 22 rfl rfl)
theorem dX2_laysCells_138 : decode cX2_laysCells 138 = .ok (.istore_n 3, 1) := dk_62 (dk_at dksX2_laysCells_5 23 rfl rfl)
theorem dX2_laysCells_139 : decode cX2_laysCells 139 = .ok (.iload_n 3, 1) := dk_29 (dk_at dksX2_laysCells_6 0 rfl rfl)
theorem dX2_laysCells_140 : decode cX2_laysCells 140 = .ok (.aload_n 0, 1) := dk_42 (dk_at dksX2_laysCells_6 1 rfl rfl)
theorem dX2_laysCells_141 : decode cX2_laysCells 141 = .ok (.getfield 46, 3) := dk_180 0 46 (dk_at dksX2_laysCells_6 2 rfl rfl)
theorem dX2_laysCells_144 : decode cX2_laysCells 144 = .ok (.if_icmp .ge 27, 3) := dk_162 0 27 (dk_at dksX2_laysCells_6 5 rfl rfl)
theorem dX2_laysCells_147 : decode cX2_laysCells 147 = .ok (.iload_n 2, 1) := dk_28 (dk_at dksX2_laysCells_6 8 rfl rfl)
theorem dX2_laysCells_148 : decode cX2_laysCells 148 = .ok (.aload_n 0, 1) := dk_42 (dk_at dksX2_laysCells_6 9 rfl rfl)
theorem dX2_laysCells_149 : decode cX2_laysCells 149 = .ok (.getfield 40, 3) := dk_180 0 40 (dk_at dksX2_laysCells_6 10 rfl rfl)
theorem dX2_laysCells_152 : decode cX2_laysCells 152 = .ok (.iload_n 3, 1) := dk_29 (dk_at dksX2_laysCells_6 13 rfl rfl)
theorem dX2_laysCells_153 : decode cX2_laysCells 153 = .ok (.iaload, 1) := dk_46 (dk_at dksX2_laysCells_6 14 rfl rfl)
theorem dX2_laysCells_154 : decode cX2_laysCells 154 = .ok (.iload_n 3, 1) := dk_29 (dk_at dksX2_laysCells_6 15 rfl rfl)
theorem dX2_laysCells_155 : decode cX2_laysCells 155 = .ok (.if_icmp .ne 7, 3) := dk_160 0 7 (dk_at dksX2_laysCells_6 16 rfl rfl)
theorem dX2_laysCells_158 : decode cX2_laysCells 158 = .ok (.iconst 1, 1) := dk_4 (dk_at dksX2_laysCells_6 19 rfl rfl)
theorem dX2_laysCells_159 : decode cX2_laysCells 159 = .ok (.goto 4, 3) := dk_167 0 4 (dk_at dksX2_laysCells_6 20 rfl rfl)
theorem dX2_laysCells_162 : decode cX2_laysCells 162 = .ok (.iconst 0, 1) := dk_3 (dk_at dksX2_laysCells_6 23 rfl rfl)
theorem dX2_laysCells_163 : decode cX2_laysCells 163 = .ok (.iadd, 1) := dk_96 (dk_at dksX2_laysCells_7 0 rfl rfl)
theorem dX2_laysCells_164 : decode cX2_laysCells 164 = .ok (.istore_n 2, 1) := dk_61 (dk_at dksX2_laysCells_7 1 rfl rfl)
theorem dX2_laysCells_165 : decode cX2_laysCells 165 = .ok (.iinc 3 1, 3) := dk_132 3 1 (dk_at dksX2_laysCells_7 2 rfl rfl)
theorem dX2_laysCells_168 : decode cX2_laysCells 168 = .ok (.goto (-29), 3) := dk_167 255 227 (dk_at dksX2_laysCells_7 5 rfl rfl)
theorem dX2_laysCells_171 : decode cX2_laysCells 171 = .ok (.iload_n 2, 1) := dk_28 (dk_at dksX2_laysCells_7 8 rfl rfl)
theorem dX2_laysCells_172 : decode cX2_laysCells 172 = .ok (.ireturn, 1) := dk_172 (dk_at dksX2_laysCells_7 9 rfl rfl)
abbrev cX2_firstLike : ByteArray := prog_5_method_24_code
def yX2_firstLike : MethodName := ⟨RX2, "firstLike", "(I)I"⟩
def dkwX2_firstLike_0 : List UInt8 := [3, 61, 42, 27, 28, 182, 0, 117, 154, 0, 9, 132, 2, 1, 167, 255, 244, 28, 172]
abbrev dktX2_firstLike_0 : List UInt8 := dkwX2_firstLike_0 ++ []
theorem dksX2_firstLike_0 : cX2_firstLike.data.toList.drop 0 = dktX2_firstLike_0 := by decide +kernel
theorem dX2_firstLike_0 : decode cX2_firstLike 0 = .ok (.iconst 0, 1) := dk_3 (dk_at dksX2_firstLike_0 0 rfl rfl)
theorem dX2_firstLike_1 : decode cX2_firstLike 1 = .ok (.istore_n 2, 1) := dk_61 (dk_at dksX2_firstLike_0 1 rfl rfl)
theorem dX2_firstLike_2 : decode cX2_firstLike 2 = .ok (.aload_n 0, 1) := dk_42 (dk_at dksX2_firstLike_0 2 rfl rfl)
theorem dX2_firstLike_3 : decode cX2_firstLike 3 = .ok (.iload_n 1, 1) := dk_27 (dk_at dksX2_firstLike_0 3 rfl rfl)
theorem dX2_firstLike_4 : decode cX2_firstLike 4 = .ok (.iload_n 2, 1) := dk_28 (dk_at dksX2_firstLike_0 4 rfl rfl)
theorem dX2_firstLike_5 : decode cX2_firstLike 5 = .ok (.invokevirtual 117, 3) := dk_182 0 117 (dk_at dksX2_firstLike_0 5 rfl rfl)
theorem dX2_firstLike_8 : decode cX2_firstLike 8 = .ok (.ifCond .ne 9, 3) := dk_154 0 9 (dk_at dksX2_firstLike_0 8 rfl rfl)
theorem dX2_firstLike_11 : decode cX2_firstLike 11 = .ok (.iinc 2 1, 3) := dk_132 2 1 (dk_at dksX2_firstLike_0 11 rfl rfl)
theorem dX2_firstLike_14 : decode cX2_firstLike 14 = .ok (.goto (-12), 3) := dk_167 255 244 (dk_at dksX2_firstLike_0 14 rfl rfl)
theorem dX2_firstLike_17 : decode cX2_firstLike 17 = .ok (.iload_n 2, 1) := dk_28 (dk_at dksX2_firstLike_0 17 rfl rfl)
theorem dX2_firstLike_18 : decode cX2_firstLike 18 = .ok (.ireturn, 1) := dk_172 (dk_at dksX2_firstLike_0 18 rfl rfl)
abbrev cX2_isAlike : ByteArray := prog_5_method_23_code
def yX2_isAlike : MethodName := ⟨RX2, "isAlike", "(II)Z"⟩
def dkwX2_isAlike_6 : List UInt8 := [3, 172, 132, 3, 1, 167, 255, 128, 4, 172]
abbrev dktX2_isAlike_6 : List UInt8 := dkwX2_isAlike_6 ++ []
def dkwX2_isAlike_5 : List UInt8 := [160, 0, 7, 4, 167, 0, 4, 3, 96, 54, 5, 132, 6, 1, 167, 255, 160, 21, 4, 21, 5, 159, 0, 5]
abbrev dktX2_isAlike_5 : List UInt8 := dkwX2_isAlike_5 ++ dktX2_isAlike_6
def dkwX2_isAlike_4 : List UInt8 := [42, 180, 0, 40, 29, 46, 160, 0, 23, 42, 28, 21, 6, 182, 0, 114, 42, 27, 29, 182, 0, 114]
abbrev dktX2_isAlike_4 : List UInt8 := dkwX2_isAlike_4 ++ dktX2_isAlike_5
def dkwX2_isAlike_3 : List UInt8 := [29, 182, 0, 114, 160, 0, 7, 4, 167, 0, 4, 3, 96, 54, 4, 21, 5, 42, 180, 0, 40, 21, 6, 46]
abbrev dktX2_isAlike_3 : List UInt8 := dkwX2_isAlike_3 ++ dktX2_isAlike_4
def dkwX2_isAlike_2 : List UInt8 := [180, 0, 40, 21, 6, 46, 42, 180, 0, 40, 29, 46, 160, 0, 23, 42, 27, 21, 6, 182, 0, 114, 42, 27]
abbrev dktX2_isAlike_2 : List UInt8 := dkwX2_isAlike_2 ++ dktX2_isAlike_3
def dkwX2_isAlike_1 : List UInt8 := [162, 0, 126, 3, 54, 4, 3, 54, 5, 3, 54, 6, 21, 6, 42, 180, 0, 46, 162, 0, 93, 21, 4, 42]
abbrev dktX2_isAlike_1 : List UInt8 := dkwX2_isAlike_1 ++ dktX2_isAlike_2
def dkwX2_isAlike_0 : List UInt8 := [42, 180, 0, 40, 27, 46, 42, 180, 0, 40, 28, 46, 159, 0, 5, 3, 172, 3, 62, 29, 42, 180, 0, 46]
abbrev dktX2_isAlike_0 : List UInt8 := dkwX2_isAlike_0 ++ dktX2_isAlike_1
theorem dksX2_isAlike_0 : cX2_isAlike.data.toList.drop 0 = dktX2_isAlike_0 := by decide +kernel
theorem dksX2_isAlike_1 : cX2_isAlike.data.toList.drop 24 = dktX2_isAlike_1 := dk_seg dksX2_isAlike_0 24 rfl rfl
theorem dksX2_isAlike_2 : cX2_isAlike.data.toList.drop 48 = dktX2_isAlike_2 := dk_seg dksX2_isAlike_1 24 rfl rfl
theorem dksX2_isAlike_3 : cX2_isAlike.data.toList.drop 72 = dktX2_isAlike_3 := dk_seg dksX2_isAlike_2 24 rfl rfl
theorem dksX2_isAlike_4 : cX2_isAlike.data.toList.drop 96 = dktX2_isAlike_4 := dk_seg dksX2_isAlike_3 24 rfl rfl
theorem dksX2_isAlike_5 : cX2_isAlike.data.toList.drop 118 = dktX2_isAlike_5 := dk_seg dksX2_isAlike_4 22 rfl rfl
theorem dksX2_isAlike_6 : cX2_isAlike.data.toList.drop 142 = dktX2_isAlike_6 := dk_seg dksX2_isAlike_5 24 rfl rfl
theorem dX2_isAlike_0 : decode cX2_isAlike 0 = .ok (.aload_n 0, 1) := dk_42 (dk_at dksX2_isAlike_0 0 rfl rfl)
theorem dX2_isAlike_1 : decode cX2_isAlike 1 = .ok (.getfield 40, 3) := dk_180 0 40 (dk_at dksX2_isAlike_0 1 rfl rfl)
theorem dX2_isAlike_4 : decode cX2_isAlike 4 = .ok (.iload_n 1, 1) := dk_27 (dk_at dksX2_isAlike_0 4 rfl rfl)
theorem dX2_isAlike_5 : decode cX2_isAlike 5 = .ok (.iaload, 1) := dk_46 (dk_at dksX2_isAlike_0 5 rfl rfl)
theorem dX2_isAlike_6 : decode cX2_isAlike 6 = .ok (.aload_n 0, 1) := dk_42 (dk_at dksX2_isAlike_0 6 rfl rfl)
theorem dX2_isAlike_7 : decode cX2_isAlike 7 = .ok (.getfield 40, 3) := dk_180 0 40 (dk_at dksX2_isAlike_0 7 rfl rfl)
theorem dX2_isAlike_10 : decode cX2_isAlike 10 = .ok (.iload_n 2, 1) := dk_28 (dk_at dksX2_isAlike_0 10 rfl rfl)
theorem dX2_isAlike_11 : decode cX2_isAlike 11 = .ok (.iaload, 1) := dk_46 (dk_at dksX2_isAlike_0 11 rfl rfl)
theorem dX2_isAlike_12 : decode cX2_isAlike 12 = .ok (.if_icmp .eq 5, 3) := dk_159 0 5 (dk_at dksX2_isAlike_0 12 rfl rfl)
theorem dX2_isAlike_15 : decode cX2_isAlike 15 = .ok (.iconst 0, 1) := dk_3 (dk_at dksX2_isAlike_0 15 rfl rfl)
theorem dX2_isAlike_16 : decode cX2_isAlike 16 = .ok (.ireturn, 1) := dk_172 (dk_at dksX2_isAlike_0 16 rfl rfl)
theorem dX2_isAlike_17 : decode cX2_isAlike 17 = .ok (.iconst 0, 1) := dk_3 (dk_at dksX2_isAlike_0 17 rfl rfl)
theorem dX2_isAlike_18 : decode cX2_isAlike 18 = .ok (.istore_n 3, 1) := dk_62 (dk_at dksX2_isAlike_0 18 rfl rfl)
theorem dX2_isAlike_19 : decode cX2_isAlike 19 = .ok (.iload_n 3, 1) := dk_29 (dk_at dksX2_isAlike_0 19 rfl rfl)
theorem dX2_isAlike_20 : decode cX2_isAlike 20 = .ok (.aload_n 0, 1) := dk_42 (dk_at dksX2_isAlike_0 20 rfl rfl)
theorem dX2_isAlike_21 : decode cX2_isAlike 21 = .ok (.getfield 46, 3) := dk_180 0 46 (dk_at dksX2_isAlike_0 21 rfl rfl)
theorem dX2_isAlike_24 : decode cX2_isAlike 24 = .ok (.if_icmp .ge 126, 3) := dk_162 0 126 (dk_at dksX2_isAlike_1 0 rfl rfl)
theorem dX2_isAlike_27 : decode cX2_isAlike 27 = .ok (.iconst 0, 1) := dk_3 (dk_at dksX2_isAlike_1 3 rfl rfl)
theorem dX2_isAlike_28 : decode cX2_isAlike 28 = .ok (.istore 4, 2) := dk_54 4 (dk_at dksX2_isAlike_1 4 rfl rfl)
theorem dX2_isAlike_30 : decode cX2_isAlike 30 = .ok (.iconst 0, 1) := dk_3 (dk_at dksX2_isAlike_1 6 rfl rfl)
theorem dX2_isAlike_31 : decode cX2_isAlike 31 = .ok (.istore 5, 2) := dk_54 5 (dk_at dksX2_isAlike_1 7 rfl rfl)
theorem dX2_isAlike_33 : decode cX2_isAlike 33 = .ok (.iconst 0, 1) := dk_3 (dk_at dksX2_isAlike_1 9 rfl rfl)
theorem dX2_isAlike_34 : decode cX2_isAlike 34 = .ok (.istore 6, 2) := dk_54 6 (dk_at dksX2_isAlike_1 10 rfl rfl)
theorem dX2_isAlike_36 : decode cX2_isAlike 36 = .ok (.iload 6, 2) := dk_21 6 (dk_at dksX2_isAlike_1 12 rfl rfl)
theorem dX2_isAlike_38 : decode cX2_isAlike 38 = .ok (.aload_n 0, 1) := dk_42 (dk_at dksX2_isAlike_1 14 rfl rfl)
theorem dX2_isAlike_39 : decode cX2_isAlike 39 = .ok (.getfield 46, 3) := dk_180 0 46 (dk_at dksX2_isAlike_1 15 rfl rfl)
theorem dX2_isAlike_42 : decode cX2_isAlike 42 = .ok (.if_icmp .ge 93, 3) := dk_162 0 93 (dk_at dksX2_isAlike_1 18 rfl rfl)
theorem dX2_isAlike_45 : decode cX2_isAlike 45 = .ok (.iload 4, 2) := dk_21 4 (dk_at dksX2_isAlike_1 21 rfl rfl)
theorem dX2_isAlike_47 : decode cX2_isAlike 47 = .ok (.aload_n 0, 1) := dk_42 (dk_at dksX2_isAlike_1 23 rfl rfl)
theorem dX2_isAlike_48 : decode cX2_isAlike 48 = .ok (.getfield 40, 3) := dk_180 0 40 (dk_at dksX2_isAlike_2 0 rfl rfl)
theorem dX2_isAlike_51 : decode cX2_isAlike 51 = .ok (.iload 6, 2) := dk_21 6 (dk_at dksX2_isAlike_2 3 rfl rfl)
theorem dX2_isAlike_53 : decode cX2_isAlike 53 = .ok (.iaload, 1) := dk_46 (dk_at dksX2_isAlike_2 5 rfl rfl)
theorem dX2_isAlike_54 : decode cX2_isAlike 54 = .ok (.aload_n 0, 1) := dk_42 (dk_at dksX2_isAlike_2 6 rfl rfl)
theorem dX2_isAlike_55 : decode cX2_isAlike 55 = .ok (.getfield 40, 3) := dk_180 0 40 (dk_at dksX2_isAlike_2 7 rfl rfl)
theorem dX2_isAlike_58 : decode cX2_isAlike 58 = .ok (.iload_n 3, 1) := dk_29 (dk_at dksX2_isAlike_2 10 rfl rfl)
theorem dX2_isAlike_59 : decode cX2_isAlike 59 = .ok (.iaload, 1) := dk_46 (dk_at dksX2_isAlike_2 11 rfl rfl)
theorem dX2_isAlike_60 : decode cX2_isAlike 60 = .ok (.if_icmp .ne 23, 3) := dk_160 0 23 (dk_at dksX2_isAlike_2 12 rfl rfl)
theorem dX2_isAlike_63 : decode cX2_isAlike 63 = .ok (.aload_n 0, 1) := dk_42 (dk_at dksX2_isAlike_2 15 rfl rfl)
theorem dX2_isAlike_64 : decode cX2_isAlike 64 = .ok (.iload_n 1, 1) := dk_27 (dk_at dksX2_isAlike_2 16 rfl rfl)
theorem dX2_isAlike_65 : decode cX2_isAlike 65 = .ok (.iload 6, 2) := dk_21 6 (dk_at dksX2_isAlike_2 17 rfl rfl)
theorem dX2_isAlike_67 : decode cX2_isAlike 67 = .ok (.invokevirtual 114, 3) := dk_182 0 114 (dk_at dksX2_isAlike_2 19 rfl rfl)
theorem dX2_isAlike_70 : decode cX2_isAlike 70 = .ok (.aload_n 0, 1) := dk_42 (dk_at dksX2_isAlike_2 22 rfl rfl)
theorem dX2_isAlike_71 : decode cX2_isAlike 71 = .ok (.iload_n 1, 1) := dk_27 (dk_at dksX2_isAlike_2 23 rfl rfl)
theorem dX2_isAlike_72 : decode cX2_isAlike 72 = .ok (.iload_n 3, 1) := dk_29 (dk_at dksX2_isAlike_3 0 rfl rfl)
theorem dX2_isAlike_73 : decode cX2_isAlike 73 = .ok (.invokevirtual 114, 3) := dk_182 0 114 (dk_at dksX2_isAlike_3 1 rfl rfl)
theorem dX2_isAlike_76 : decode cX2_isAlike 76 = .ok (.if_icmp .ne 7, 3) := dk_160 0 7 (dk_at dksX2_isAlike_3 4 rfl rfl)
theorem dX2_isAlike_79 : decode cX2_isAlike 79 = .ok (.iconst 1, 1) := dk_4 (dk_at dksX2_isAlike_3 7 rfl rfl)
theorem dX2_isAlike_80 : decode cX2_isAlike 80 = .ok (.goto 4, 3) := dk_167 0 4 (dk_at dksX2_isAlike_3 8 rfl rfl)
theorem dX2_isAlike_83 : decode cX2_isAlike 83 = .ok (.iconst 0, 1) := dk_3 (dk_at dksX2_isAlike_3 11 rfl rfl)
theorem dX2_isAlike_84 : decode cX2_isAlike 84 = .ok (.iadd, 1) := dk_96 (dk_at dksX2_isAlike_3 12 rfl rfl)
theorem dX2_isAlike_85 : decode cX2_isAlike 85 = .ok (.istore 4, 2) := dk_54 4 (dk_at dksX2_isAlike_3 13 rfl rfl)
theorem dX2_isAlike_87 : decode cX2_isAlike 87 = .ok (.iload 5, 2) := dk_21 5 (dk_at dksX2_isAlike_3 15 rfl rfl)
theorem dX2_isAlike_89 : decode cX2_isAlike 89 = .ok (.aload_n 0, 1) := dk_42 (dk_at dksX2_isAlike_3 17 rfl rfl)
theorem dX2_isAlike_90 : decode cX2_isAlike 90 = .ok (.getfield 40, 3) := dk_180 0 40 (dk_at dksX2_isAlike_3 18 rfl rfl)
theorem dX2_isAlike_93 : decode cX2_isAlike 93 = .ok (.iload 6, 2) := dk_21 6 (dk_at dksX2_isAlike_3 21 rfl rfl)
theorem dX2_isAlike_95 : decode cX2_isAlike 95 = .ok (.iaload, 1) := dk_46 (dk_at dksX2_isAlike_3 23 rfl rfl)
theorem dX2_isAlike_96 : decode cX2_isAlike 96 = .ok (.aload_n 0, 1) := dk_42 (dk_at dksX2_isAlike_4 0 rfl rfl)
theorem dX2_isAlike_97 : decode cX2_isAlike 97 = .ok (.getfield 40, 3) := dk_180 0 40 (dk_at dksX2_isAlike_4 1 rfl rfl)
theorem dX2_isAlike_100 : decode cX2_isAlike 100 = .ok (.iload_n 3, 1) := dk_29 (dk_at dksX2_isAlike_4 4 rfl rfl)
theorem dX2_isAlike_101 : decode cX2_isAlike 101 = .ok (.iaload, 1) := dk_46 (dk_at dksX2_isAlike_4 5 rfl rfl)
theorem dX2_isAlike_102 : decode cX2_isAlike 102 = .ok (.if_icmp .ne 23, 3) := dk_160 0 23 (dk_at dksX2_isAlike_4 6 rfl rfl)
theorem dX2_isAlike_105 : decode cX2_isAlike 105 = .ok (.aload_n 0, 1) := dk_42 (dk_at dksX2_isAlike_4 9 rfl rfl)
theorem dX2_isAlike_106 : decode cX2_isAlike 106 = .ok (.iload_n 2, 1) := dk_28 (dk_at dksX2_isAlike_4 10 rfl rfl)
theorem dX2_isAlike_107 : decode cX2_isAlike 107 = .ok (.iload 6, 2) := dk_21 6 (dk_at dksX2_isAlike_4 11 rfl rfl)
theorem dX2_isAlike_109 : decode cX2_isAlike 109 = .ok (.invokevirtual 114, 3) := dk_182 0 114 (dk_at dksX2_isAlike_4 13 rfl rfl)
theorem dX2_isAlike_112 : decode cX2_isAlike 112 = .ok (.aload_n 0, 1) := dk_42 (dk_at dksX2_isAlike_4 16 rfl rfl)
theorem dX2_isAlike_113 : decode cX2_isAlike 113 = .ok (.iload_n 1, 1) := dk_27 (dk_at dksX2_isAlike_4 17 rfl rfl)
theorem dX2_isAlike_114 : decode cX2_isAlike 114 = .ok (.iload_n 3, 1) := dk_29 (dk_at dksX2_isAlike_4 18 rfl rfl)
theorem dX2_isAlike_115 : decode cX2_isAlike 115 = .ok (.invokevirtual 114, 3) := dk_182 0 114 (dk_at dksX2_isAlike_4 19 rfl rfl)
theorem dX2_isAlike_118 : decode cX2_isAlike 118 = .ok (.if_icmp .ne 7, 3) := dk_160 0 7 (dk_at dksX2_isAlike_5 0 rfl rfl)
theorem dX2_isAlike_121 : decode cX2_isAlike 121 = .ok (.iconst 1, 1) := dk_4 (dk_at dksX2_isAlike_5 3 rfl rfl)
theorem dX2_isAlike_122 : decode cX2_isAlike 122 = .ok (.goto 4, 3) := dk_167 0 4 (dk_at dksX2_isAlike_5 4 rfl rfl)
theorem dX2_isAlike_125 : decode cX2_isAlike 125 = .ok (.iconst 0, 1) := dk_3 (dk_at dksX2_isAlike_5 7 rfl rfl)
theorem dX2_isAlike_126 : decode cX2_isAlike 126 = .ok (.iadd, 1) := dk_96 (dk_at dksX2_isAlike_5 8 rfl rfl)
theorem dX2_isAlike_127 : decode cX2_isAlike 127 = .ok (.istore 5, 2) := dk_54 5 (dk_at dksX2_isAlike_5 9 rfl rfl)
theorem dX2_isAlike_129 : decode cX2_isAlike 129 = .ok (.iinc 6 1, 3) := dk_132 6 1 (dk_at dksX2_isAlike_5 11 rfl rfl)
theorem dX2_isAlike_132 : decode cX2_isAlike 132 = .ok (.goto (-96), 3) := dk_167 255 160 (dk_at dksX2_isAlike_5 14 rfl rfl)
theorem dX2_isAlike_135 : decode cX2_isAlike 135 = .ok (.iload 4, 2) := dk_21 4 (dk_at dksX2_isAlike_5 17 rfl rfl)
theorem dX2_isAlike_137 : decode cX2_isAlike 137 = .ok (.iload 5, 2) := dk_21 5 (dk_at dksX2_isAlike_5 19 rfl rfl)
theorem dX2_isAlike_139 : decode cX2_isAlike 139 = .ok (.if_icmp .eq 5, 3) := dk_159 0 5 (dk_at dksX2_isAlike_5 21 rfl rfl)
theorem dX2_isAlike_142 : decode cX2_isAlike 142 = .ok (.iconst 0, 1) := dk_3 (dk_at dksX2_isAlike_6 0 rfl rfl)
theorem dX2_isAlike_143 : decode cX2_isAlike 143 = .ok (.ireturn, 1) := dk_172 (dk_at dksX2_isAlike_6 1 rfl rfl)
theorem dX2_isAlike_144 : decode cX2_isAlike 144 = .ok (.iinc 3 1, 3) := dk_132 3 1 (dk_at dksX2_isAlike_6 2 rfl rfl)
theorem dX2_isAlike_147 : decode cX2_isAlike 147 = .ok (.goto (-128), 3) := dk_167 255 128 (dk_at dksX2_isAlike_6 5 rfl rfl)
theorem dX2_isAlike_150 : decode cX2_isAlike 150 = .ok (.iconst 1, 1) := dk_4 (dk_at dksX2_isAlike_6 8 rfl rfl)
theorem dX2_isAlike_151 : decode cX2_isAlike 151 = .ok (.ireturn, 1) := dk_172 (dk_at dksX2_isAlike_6 9 rfl rfl)
theorem q156 : (Jvm.Cond.initialized "VibrationDesk$Frame") ∈ lw_all := lw_g (lw_at lw_m1 9 rfl) rfl
theorem q303 : (Jvm.Cond.instantiable "VibrationDesk$Frame" (11 : Nat)) ∈ lw_all := lw_g (lw_at lw_m1 156 rfl) rfl
theorem q305 : (Jvm.Cond.instanceMethod ({ cls := "VibrationDesk$Frame", name := "<init>", desc := "()V" } : Jvm.MethodName)) ∈ lw_all := lw_g (lw_at lw_m1 158 rfl) rfl
theorem q306 : (Jvm.Cond.code ({ cls := "VibrationDesk$Frame", name := "<init>", desc := "()V" } : Jvm.MethodName) prog_5_method_1_code (1 : Nat) (Option.none : Option Jvm.ClassFile.FieldType)) ∈ lw_all := lw_g (lw_at lw_m1 159 rfl) rfl
theorem q307 : (Jvm.Cond.methodLink "VibrationDesk$Frame" (3 : Nat) ({ cls := "java/lang/Object", name := "<init>", desc := "()V" } : Jvm.MethodName)) ∈ lw_all := lw_g (lw_at lw_m1 160 rfl) rfl
theorem q308 : (Jvm.Cond.classLink "VibrationDesk$Frame" (15 : Nat) "[[I") ∈ lw_all := lw_g (lw_at lw_m1 161 rfl) rfl
theorem q310 : (Jvm.Cond.classLink "VibrationDesk$Frame" (20 : Nat) "[I") ∈ lw_all := lw_g (lw_at lw_m1 163 rfl) rfl
theorem q312 : (Jvm.Cond.fieldLink "VibrationDesk$Frame" (46 : Nat) "VibrationDesk$Frame" "many" "I") ∈ lw_all := lw_g (lw_at lw_m1 165 rfl) rfl
theorem q315 : (Jvm.Cond.fieldLink "VibrationDesk$Frame" (9 : Nat) "VibrationDesk$Frame" "kinds" "[I") ∈ lw_all := lw_g (lw_at lw_m1 168 rfl) rfl
theorem q318 : (Jvm.Cond.fieldLink "VibrationDesk$Frame" (17 : Nat) "VibrationDesk$Frame" "at" "[[I") ∈ lw_all := lw_g (lw_at lw_m1 171 rfl) rfl
theorem q320 : (Jvm.Cond.fieldLink "VibrationDesk$Frame" (21 : Nat) "VibrationDesk$Frame" "fars" "[[I") ∈ lw_all := lw_g (lw_at lw_m1 173 rfl) rfl
theorem q321 : (Jvm.Cond.fieldLink "VibrationDesk$Frame" (24 : Nat) "VibrationDesk$Frame" "laid" "[[I") ∈ lw_all := lw_g (lw_at lw_m1 174 rfl) rfl
theorem q322 : (Jvm.Cond.fieldLink "VibrationDesk$Frame" (27 : Nat) "VibrationDesk$Frame" "a" "[J") ∈ lw_all := lw_g (lw_at lw_m1 175 rfl) rfl
theorem q323 : (Jvm.Cond.fieldLink "VibrationDesk$Frame" (31 : Nat) "VibrationDesk$Frame" "b" "[J") ∈ lw_all := lw_g (lw_at lw_m1 176 rfl) rfl
theorem q324 : (Jvm.Cond.fieldLink "VibrationDesk$Frame" (34 : Nat) "VibrationDesk$Frame" "c" "[J") ∈ lw_all := lw_g (lw_at lw_m1 177 rfl) rfl
theorem q325 : (Jvm.Cond.fieldLink "VibrationDesk$Frame" (37 : Nat) "VibrationDesk$Frame" "across" "[J") ∈ lw_all := lw_g (lw_at lw_m1 178 rfl) rfl
theorem q326 : (Jvm.Cond.fieldLink "VibrationDesk$Frame" (40 : Nat) "VibrationDesk$Frame" "cell" "[I") ∈ lw_all := lw_g (lw_at lw_m1 179 rfl) rfl
theorem q329 : (Jvm.Cond.fieldLink "VibrationDesk$Frame" (43 : Nat) "VibrationDesk$Frame" "finer" "[I") ∈ lw_all := lw_g (lw_at lw_m1 182 rfl) rfl
theorem q330 : (Jvm.Cond.lays "VibrationDesk$Frame" "VibrationDesk$Frame" "many" "I") ∈ lw_all := lw_g (lw_at lw_m1 183 rfl) rfl
theorem q331 : (Jvm.Cond.soleField "VibrationDesk$Frame" "many") ∈ lw_all := lw_g (lw_at lw_m1 184 rfl) rfl
theorem q332 : (Jvm.Cond.laysFinal "VibrationDesk$Frame" "VibrationDesk$Frame" "kinds" "[I") ∈ lw_all := lw_g (lw_at lw_m1 185 rfl) rfl
theorem q333 : (Jvm.Cond.soleField "VibrationDesk$Frame" "kinds") ∈ lw_all := lw_g (lw_at lw_m1 186 rfl) rfl
theorem q334 : (Jvm.Cond.laysFinal "VibrationDesk$Frame" "VibrationDesk$Frame" "at" "[[I") ∈ lw_all := lw_g (lw_at lw_m1 187 rfl) rfl
theorem q335 : (Jvm.Cond.soleField "VibrationDesk$Frame" "at") ∈ lw_all := lw_g (lw_at lw_m1 188 rfl) rfl
theorem q336 : (Jvm.Cond.laysFinal "VibrationDesk$Frame" "VibrationDesk$Frame" "fars" "[[I") ∈ lw_all := lw_g (lw_at lw_m1 189 rfl) rfl
theorem q337 : (Jvm.Cond.soleField "VibrationDesk$Frame" "fars") ∈ lw_all := lw_g (lw_at lw_m1 190 rfl) rfl
theorem q338 : (Jvm.Cond.laysFinal "VibrationDesk$Frame" "VibrationDesk$Frame" "laid" "[[I") ∈ lw_all := lw_g (lw_at lw_m1 191 rfl) rfl
theorem q339 : (Jvm.Cond.soleField "VibrationDesk$Frame" "laid") ∈ lw_all := lw_g (lw_at lw_m1 192 rfl) rfl
theorem q340 : (Jvm.Cond.laysFinal "VibrationDesk$Frame" "VibrationDesk$Frame" "a" "[J") ∈ lw_all := lw_g (lw_at lw_m1 193 rfl) rfl
theorem q341 : (Jvm.Cond.soleField "VibrationDesk$Frame" "a") ∈ lw_all := lw_g (lw_at lw_m1 194 rfl) rfl
theorem q342 : (Jvm.Cond.laysFinal "VibrationDesk$Frame" "VibrationDesk$Frame" "b" "[J") ∈ lw_all := lw_g (lw_at lw_m1 195 rfl) rfl
theorem q343 : (Jvm.Cond.soleField "VibrationDesk$Frame" "b") ∈ lw_all := lw_g (lw_at lw_m1 196 rfl) rfl
theorem q344 : (Jvm.Cond.laysFinal "VibrationDesk$Frame" "VibrationDesk$Frame" "c" "[J") ∈ lw_all := lw_g (lw_at lw_m1 197 rfl) rfl
theorem q345 : (Jvm.Cond.soleField "VibrationDesk$Frame" "c") ∈ lw_all := lw_g (lw_at lw_m1 198 rfl) rfl
theorem q346 : (Jvm.Cond.laysFinal "VibrationDesk$Frame" "VibrationDesk$Frame" "across" "[J") ∈ lw_all := lw_g (lw_at lw_m1 199 rfl) rfl
theorem q347 : (Jvm.Cond.soleField "VibrationDesk$Frame" "across") ∈ lw_all := lw_g (lw_at lw_m1 200 rfl) rfl
theorem q348 : (Jvm.Cond.laysFinal "VibrationDesk$Frame" "VibrationDesk$Frame" "cell" "[I") ∈ lw_all := lw_g (lw_at lw_m1 201 rfl) rfl
theorem q349 : (Jvm.Cond.soleField "VibrationDesk$Frame" "cell") ∈ lw_all := lw_g (lw_at lw_m1 202 rfl) rfl
theorem q350 : (Jvm.Cond.laysFinal "VibrationDesk$Frame" "VibrationDesk$Frame" "finer" "[I") ∈ lw_all := lw_g (lw_at lw_m1 203 rfl) rfl
theorem q351 : (Jvm.Cond.soleField "VibrationDesk$Frame" "finer") ∈ lw_all := lw_g (lw_at lw_m1 204 rfl) rfl
theorem q352 : (Jvm.Cond.superclass "VibrationDesk$Frame" "java/lang/Object") ∈ lw_all := lw_g (lw_at lw_m1 205 rfl) rfl
theorem q680 : (Jvm.Cond.instanceMethod ({ cls := "VibrationDesk$Frame", name := "be", desc := "(LVibrationDesk$Frame;)V" } : Jvm.MethodName)) ∈ lw_all := lw_g (lw_at lw_m3 53 rfl) rfl
theorem q681 : (Jvm.Cond.selects "VibrationDesk$Frame" ({ cls := "VibrationDesk$Frame", name := "be", desc := "(LVibrationDesk$Frame;)V" } : Jvm.MethodName) ({ cls := "VibrationDesk$Frame", name := "be", desc := "(LVibrationDesk$Frame;)V" } : Jvm.MethodName)) ∈ lw_all := lw_g (lw_at lw_m3 54 rfl) rfl
theorem q682 : (Jvm.Cond.code ({ cls := "VibrationDesk$Frame", name := "be", desc := "(LVibrationDesk$Frame;)V" } : Jvm.MethodName) prog_5_method_3_code (3 : Nat) (Option.none : Option Jvm.ClassFile.FieldType)) ∈ lw_all := lw_g (lw_at lw_m3 55 rfl) rfl
theorem q683 : (Jvm.Cond.methodLink "VibrationDesk$Frame" (50 : Nat) ({ cls := "java/lang/System", name := "arraycopy", desc := "(Ljava/lang/Object;ILjava/lang/Object;II)V" } : Jvm.MethodName)) ∈ lw_all := lw_g (lw_at lw_m3 56 rfl) rfl
theorem q686 : (Jvm.Cond.methodLink "VibrationDesk$Frame" (56 : Nat) ({ cls := "VibrationDesk$Frame", name := "changes", desc := "()V" } : Jvm.MethodName)) ∈ lw_all := lw_g (lw_at lw_m3 59 rfl) rfl
theorem q687 : (Jvm.Cond.instanceMethod ({ cls := "VibrationDesk$Frame", name := "changes", desc := "()V" } : Jvm.MethodName)) ∈ lw_all := lw_g (lw_at lw_m3 60 rfl) rfl
theorem q688 : (Jvm.Cond.selects "VibrationDesk$Frame" ({ cls := "VibrationDesk$Frame", name := "changes", desc := "()V" } : Jvm.MethodName) ({ cls := "VibrationDesk$Frame", name := "changes", desc := "()V" } : Jvm.MethodName)) ∈ lw_all := lw_g (lw_at lw_m3 61 rfl) rfl
theorem q689 : (Jvm.Cond.code ({ cls := "VibrationDesk$Frame", name := "changes", desc := "()V" } : Jvm.MethodName) prog_5_method_2_code (2 : Nat) (Option.none : Option Jvm.ClassFile.FieldType)) ∈ lw_all := lw_g (lw_at lw_m3 62 rfl) rfl
theorem q714 : (Jvm.Cond.instanceMethod ({ cls := "VibrationDesk$Frame", name := "clears", desc := "()V" } : Jvm.MethodName)) ∈ lw_all := lw_g (lw_at lw_m3 87 rfl) rfl
theorem q715 : (Jvm.Cond.selects "VibrationDesk$Frame" ({ cls := "VibrationDesk$Frame", name := "clears", desc := "()V" } : Jvm.MethodName) ({ cls := "VibrationDesk$Frame", name := "clears", desc := "()V" } : Jvm.MethodName)) ∈ lw_all := lw_g (lw_at lw_m3 88 rfl) rfl
theorem q716 : (Jvm.Cond.code ({ cls := "VibrationDesk$Frame", name := "clears", desc := "()V" } : Jvm.MethodName) prog_5_method_4_code (1 : Nat) (Option.none : Option Jvm.ClassFile.FieldType)) ∈ lw_all := lw_g (lw_at lw_m3 89 rfl) rfl
theorem q1060 : (Jvm.Cond.instanceMethod ({ cls := "VibrationDesk$Frame", name := "atomAt", desc := "(III)I" } : Jvm.MethodName)) ∈ lw_all := lw_g (lw_at lw_m4 193 rfl) rfl
theorem q1061 : (Jvm.Cond.selects "VibrationDesk$Frame" ({ cls := "VibrationDesk$Frame", name := "atomAt", desc := "(III)I" } : Jvm.MethodName) ({ cls := "VibrationDesk$Frame", name := "atomAt", desc := "(III)I" } : Jvm.MethodName)) ∈ lw_all := lw_g (lw_at lw_m4 194 rfl) rfl
theorem q1062 : (Jvm.Cond.code ({ cls := "VibrationDesk$Frame", name := "atomAt", desc := "(III)I" } : Jvm.MethodName) prog_5_method_7_code (5 : Nat) (Option.some Jvm.ClassFile.FieldType.int)) ∈ lw_all := lw_g (lw_at lw_m4 195 rfl) rfl
theorem q1064 : (Jvm.Cond.instanceMethod ({ cls := "VibrationDesk$Frame", name := "adds", desc := "(IIII)V" } : Jvm.MethodName)) ∈ lw_all := lw_g (lw_at lw_m4 197 rfl) rfl
theorem q1065 : (Jvm.Cond.selects "VibrationDesk$Frame" ({ cls := "VibrationDesk$Frame", name := "adds", desc := "(IIII)V" } : Jvm.MethodName) ({ cls := "VibrationDesk$Frame", name := "adds", desc := "(IIII)V" } : Jvm.MethodName)) ∈ lw_all := lw_g (lw_at lw_m4 198 rfl) rfl
theorem q1066 : (Jvm.Cond.code ({ cls := "VibrationDesk$Frame", name := "adds", desc := "(IIII)V" } : Jvm.MethodName) prog_5_method_9_code (5 : Nat) (Option.none : Option Jvm.ClassFile.FieldType)) ∈ lw_all := lw_g (lw_at lw_m4 199 rfl) rfl
theorem q1067 : (Jvm.Cond.methodLink "VibrationDesk$Frame" (65 : Nat) ({ cls := "VibrationDesk$Frame", name := "places", desc := "(IIII)V" } : Jvm.MethodName)) ∈ lw_all := lw_g (lw_at lw_m4 200 rfl) rfl
theorem q1068 : (Jvm.Cond.instanceMethod ({ cls := "VibrationDesk$Frame", name := "places", desc := "(IIII)V" } : Jvm.MethodName)) ∈ lw_all := lw_g (lw_at lw_m4 201 rfl) rfl
theorem q1069 : (Jvm.Cond.selects "VibrationDesk$Frame" ({ cls := "VibrationDesk$Frame", name := "places", desc := "(IIII)V" } : Jvm.MethodName) ({ cls := "VibrationDesk$Frame", name := "places", desc := "(IIII)V" } : Jvm.MethodName)) ∈ lw_all := lw_g (lw_at lw_m4 202 rfl) rfl
theorem q1070 : (Jvm.Cond.code ({ cls := "VibrationDesk$Frame", name := "places", desc := "(IIII)V" } : Jvm.MethodName) prog_5_method_8_code (5 : Nat) (Option.none : Option Jvm.ClassFile.FieldType)) ∈ lw_all := lw_g (lw_at lw_m4 203 rfl) rfl
theorem q1084 : (Jvm.Cond.instanceMethod ({ cls := "VibrationDesk$Frame", name := "newBy", desc := "(I)I" } : Jvm.MethodName)) ∈ lw_all := lw_g (lw_at lw_m4 217 rfl) rfl
theorem q1085 : (Jvm.Cond.selects "VibrationDesk$Frame" ({ cls := "VibrationDesk$Frame", name := "newBy", desc := "(I)I" } : Jvm.MethodName) ({ cls := "VibrationDesk$Frame", name := "newBy", desc := "(I)I" } : Jvm.MethodName)) ∈ lw_all := lw_g (lw_at lw_m4 218 rfl) rfl
theorem q1086 : (Jvm.Cond.code ({ cls := "VibrationDesk$Frame", name := "newBy", desc := "(I)I" } : Jvm.MethodName) prog_5_method_13_code (4 : Nat) (Option.some Jvm.ClassFile.FieldType.int)) ∈ lw_all := lw_g (lw_at lw_m4 219 rfl) rfl
theorem q1087 : (Jvm.Cond.methodLink "VibrationDesk$Frame" (76 : Nat) ({ cls := "VibrationDesk$Frame", name := "isNew", desc := "(II)Z" } : Jvm.MethodName)) ∈ lw_all := lw_g (lw_at lw_m4 220 rfl) rfl
theorem q1088 : (Jvm.Cond.privateMethod ({ cls := "VibrationDesk$Frame", name := "isNew", desc := "(II)Z" } : Jvm.MethodName)) ∈ lw_tbl := lw_at lw_m4 221 rfl
theorem q1089 : (Jvm.Cond.instanceMethod ({ cls := "VibrationDesk$Frame", name := "isNew", desc := "(II)Z" } : Jvm.MethodName)) ∈ lw_all := lw_g (lw_at lw_m4 222 rfl) rfl
theorem q1090 : (Jvm.Cond.code ({ cls := "VibrationDesk$Frame", name := "isNew", desc := "(II)Z" } : Jvm.MethodName) prog_5_method_12_code (3 : Nat) (Option.some Jvm.ClassFile.FieldType.boolean)) ∈ lw_all := lw_g (lw_at lw_m4 223 rfl) rfl
theorem q1091 : (Jvm.Cond.methodLink "VibrationDesk$Frame" (69 : Nat) ({ cls := "VibrationDesk$Frame", name := "imaged", desc := "(III)I" } : Jvm.MethodName)) ∈ lw_all := lw_g (lw_at lw_m4 224 rfl) rfl
theorem q1092 : (Jvm.Cond.privateMethod ({ cls := "VibrationDesk$Frame", name := "imaged", desc := "(III)I" } : Jvm.MethodName)) ∈ lw_tbl := lw_at lw_m4 225 rfl
theorem q1093 : (Jvm.Cond.instanceMethod ({ cls := "VibrationDesk$Frame", name := "imaged", desc := "(III)I" } : Jvm.MethodName)) ∈ lw_all := lw_g (lw_at lw_m4 226 rfl) rfl
theorem q1094 : (Jvm.Cond.code ({ cls := "VibrationDesk$Frame", name := "imaged", desc := "(III)I" } : Jvm.MethodName) prog_5_method_11_code (4 : Nat) (Option.some Jvm.ClassFile.FieldType.int)) ∈ lw_all := lw_g (lw_at lw_m4 227 rfl) rfl
theorem q1095 : (Jvm.Cond.methodLink "VibrationDesk$Frame" (73 : Nat) ({ cls := "VibrationDesk$Frame", name := "atomAt", desc := "(III)I" } : Jvm.MethodName)) ∈ lw_all := lw_g (lw_at lw_m4 228 rfl) rfl
theorem q1097 : (Jvm.Cond.instanceMethod ({ cls := "VibrationDesk$Frame", name := "images", desc := "(I)V" } : Jvm.MethodName)) ∈ lw_all := lw_g (lw_at lw_m4 230 rfl) rfl
theorem q1098 : (Jvm.Cond.selects "VibrationDesk$Frame" ({ cls := "VibrationDesk$Frame", name := "images", desc := "(I)V" } : Jvm.MethodName) ({ cls := "VibrationDesk$Frame", name := "images", desc := "(I)V" } : Jvm.MethodName)) ∈ lw_all := lw_g (lw_at lw_m4 231 rfl) rfl
theorem q1099 : (Jvm.Cond.code ({ cls := "VibrationDesk$Frame", name := "images", desc := "(I)V" } : Jvm.MethodName) prog_5_method_14_code (4 : Nat) (Option.none : Option Jvm.ClassFile.FieldType)) ∈ lw_all := lw_g (lw_at lw_m4 232 rfl) rfl
theorem q1100 : (Jvm.Cond.methodLink "VibrationDesk$Frame" (80 : Nat) ({ cls := "VibrationDesk$Frame", name := "adds", desc := "(IIII)V" } : Jvm.MethodName)) ∈ lw_all := lw_g (lw_at lw_m4 233 rfl) rfl
theorem q1106 : (Jvm.Cond.instanceMethod ({ cls := "VibrationDesk$Frame", name := "canShift", desc := "(II)Z" } : Jvm.MethodName)) ∈ lw_all := lw_g (lw_at lw_m4 239 rfl) rfl
theorem q1107 : (Jvm.Cond.selects "VibrationDesk$Frame" ({ cls := "VibrationDesk$Frame", name := "canShift", desc := "(II)Z" } : Jvm.MethodName) ({ cls := "VibrationDesk$Frame", name := "canShift", desc := "(II)Z" } : Jvm.MethodName)) ∈ lw_all := lw_g (lw_at lw_m5 0 rfl) rfl
theorem q1108 : (Jvm.Cond.code ({ cls := "VibrationDesk$Frame", name := "canShift", desc := "(II)Z" } : Jvm.MethodName) prog_5_method_15_code (4 : Nat) (Option.some Jvm.ClassFile.FieldType.boolean)) ∈ lw_all := lw_g (lw_at lw_m5 1 rfl) rfl
theorem q1109 : (Jvm.Cond.methodLink "VibrationDesk$Frame" (83 : Nat) ({ cls := "java/lang/Math", name := "abs", desc := "(I)I" } : Jvm.MethodName)) ∈ lw_all := lw_g (lw_at lw_m5 2 rfl) rfl
theorem q1111 : (Jvm.Cond.instanceMethod ({ cls := "VibrationDesk$Frame", name := "shifts", desc := "(II)V" } : Jvm.MethodName)) ∈ lw_all := lw_g (lw_at lw_m5 4 rfl) rfl
theorem q1112 : (Jvm.Cond.selects "VibrationDesk$Frame" ({ cls := "VibrationDesk$Frame", name := "shifts", desc := "(II)V" } : Jvm.MethodName) ({ cls := "VibrationDesk$Frame", name := "shifts", desc := "(II)V" } : Jvm.MethodName)) ∈ lw_all := lw_g (lw_at lw_m5 5 rfl) rfl
theorem q1113 : (Jvm.Cond.code ({ cls := "VibrationDesk$Frame", name := "shifts", desc := "(II)V" } : Jvm.MethodName) prog_5_method_16_code (4 : Nat) (Option.none : Option Jvm.ClassFile.FieldType)) ∈ lw_all := lw_g (lw_at lw_m5 6 rfl) rfl
theorem q1115 : (Jvm.Cond.instanceMethod ({ cls := "VibrationDesk$Frame", name := "loses", desc := "(I)V" } : Jvm.MethodName)) ∈ lw_all := lw_g (lw_at lw_m5 8 rfl) rfl
theorem q1116 : (Jvm.Cond.selects "VibrationDesk$Frame" ({ cls := "VibrationDesk$Frame", name := "loses", desc := "(I)V" } : Jvm.MethodName) ({ cls := "VibrationDesk$Frame", name := "loses", desc := "(I)V" } : Jvm.MethodName)) ∈ lw_all := lw_g (lw_at lw_m5 9 rfl) rfl
theorem q1117 : (Jvm.Cond.code ({ cls := "VibrationDesk$Frame", name := "loses", desc := "(I)V" } : Jvm.MethodName) prog_5_method_10_code (4 : Nat) (Option.none : Option Jvm.ClassFile.FieldType)) ∈ lw_all := lw_g (lw_at lw_m5 10 rfl) rfl
theorem q1189 : (Jvm.Cond.instanceMethod ({ cls := "VibrationDesk$Frame", name := "canStretch", desc := "(I)Z" } : Jvm.MethodName)) ∈ lw_all := lw_g (lw_at lw_m5 82 rfl) rfl
theorem q1190 : (Jvm.Cond.selects "VibrationDesk$Frame" ({ cls := "VibrationDesk$Frame", name := "canStretch", desc := "(I)Z" } : Jvm.MethodName) ({ cls := "VibrationDesk$Frame", name := "canStretch", desc := "(I)Z" } : Jvm.MethodName)) ∈ lw_all := lw_g (lw_at lw_m5 83 rfl) rfl
theorem q1191 : (Jvm.Cond.codeWith ({ cls := "VibrationDesk$Frame", name := "canStretch", desc := "(I)Z" } : Jvm.MethodName) prog_5_method_17_code (6 : Nat) (Option.some Jvm.ClassFile.FieldType.boolean) [((17 : Nat), (31 : Nat), (34 : Nat), (93 : Nat))]) ∈ lw_all := lw_g (lw_at lw_m5 84 rfl) rfl
theorem q1192 : (Jvm.Cond.classLink "VibrationDesk$Frame" (93 : Nat) "java/lang/ArithmeticException") ∈ lw_all := lw_g (lw_at lw_m5 85 rfl) rfl
theorem q1216 : (Jvm.Cond.methodLink "VibrationDesk$Frame" (89 : Nat) ({ cls := "java/lang/Math", name := "multiplyExact", desc := "(II)I" } : Jvm.MethodName)) ∈ lw_all := lw_g (lw_at lw_m5 109 rfl) rfl
theorem q1223 : (Jvm.Cond.instanceMethod ({ cls := "VibrationDesk$Frame", name := "stretches", desc := "(I)V" } : Jvm.MethodName)) ∈ lw_all := lw_g (lw_at lw_m5 116 rfl) rfl
theorem q1224 : (Jvm.Cond.selects "VibrationDesk$Frame" ({ cls := "VibrationDesk$Frame", name := "stretches", desc := "(I)V" } : Jvm.MethodName) ({ cls := "VibrationDesk$Frame", name := "stretches", desc := "(I)V" } : Jvm.MethodName)) ∈ lw_all := lw_g (lw_at lw_m5 117 rfl) rfl
theorem q1225 : (Jvm.Cond.code ({ cls := "VibrationDesk$Frame", name := "stretches", desc := "(I)V" } : Jvm.MethodName) prog_5_method_18_code (4 : Nat) (Option.none : Option Jvm.ClassFile.FieldType)) ∈ lw_all := lw_g (lw_at lw_m5 118 rfl) rfl
theorem q1231 : (Jvm.Cond.instanceMethod ({ cls := "VibrationDesk$Frame", name := "apart", desc := "(II)I" } : Jvm.MethodName)) ∈ lw_all := lw_g (lw_at lw_m5 124 rfl) rfl
theorem q1232 : (Jvm.Cond.selects "VibrationDesk$Frame" ({ cls := "VibrationDesk$Frame", name := "apart", desc := "(II)I" } : Jvm.MethodName) ({ cls := "VibrationDesk$Frame", name := "apart", desc := "(II)I" } : Jvm.MethodName)) ∈ lw_all := lw_g (lw_at lw_m5 125 rfl) rfl
theorem q1233 : (Jvm.Cond.codeWith ({ cls := "VibrationDesk$Frame", name := "apart", desc := "(II)I" } : Jvm.MethodName) prog_5_method_6_code (4 : Nat) (Option.some Jvm.ClassFile.FieldType.int) [((0 : Nat), (8 : Nat), (9 : Nat), (59 : Nat))]) ∈ lw_all := lw_g (lw_at lw_m5 126 rfl) rfl
theorem q1234 : (Jvm.Cond.classLink "VibrationDesk$Frame" (59 : Nat) "java/lang/NullPointerException") ∈ lw_all := lw_g (lw_at lw_m5 127 rfl) rfl
theorem q1259 : (Jvm.Cond.methodLink "VibrationDesk$Frame" (61 : Nat) ({ cls := "VibrationDesk$Frame", name := "laysRow", desc := "(I)V" } : Jvm.MethodName)) ∈ lw_all := lw_g (lw_at lw_m5 152 rfl) rfl
theorem q1260 : (Jvm.Cond.privateMethod ({ cls := "VibrationDesk$Frame", name := "laysRow", desc := "(I)V" } : Jvm.MethodName)) ∈ lw_tbl := lw_at lw_m5 153 rfl
theorem q1261 : (Jvm.Cond.instanceMethod ({ cls := "VibrationDesk$Frame", name := "laysRow", desc := "(I)V" } : Jvm.MethodName)) ∈ lw_all := lw_g (lw_at lw_m5 154 rfl) rfl
theorem q1262 : (Jvm.Cond.code ({ cls := "VibrationDesk$Frame", name := "laysRow", desc := "(I)V" } : Jvm.MethodName) prog_5_method_5_code (5 : Nat) (Option.none : Option Jvm.ClassFile.FieldType)) ∈ lw_all := lw_g (lw_at lw_m5 155 rfl) rfl
theorem q1268 : (Jvm.Cond.instanceMethod ({ cls := "VibrationDesk$Frame", name := "shaped", desc := "()I" } : Jvm.MethodName)) ∈ lw_all := lw_g (lw_at lw_m5 161 rfl) rfl
theorem q1269 : (Jvm.Cond.selects "VibrationDesk$Frame" ({ cls := "VibrationDesk$Frame", name := "shaped", desc := "()I" } : Jvm.MethodName) ({ cls := "VibrationDesk$Frame", name := "shaped", desc := "()I" } : Jvm.MethodName)) ∈ lw_all := lw_g (lw_at lw_m5 162 rfl) rfl
theorem q1270 : (Jvm.Cond.code ({ cls := "VibrationDesk$Frame", name := "shaped", desc := "()I" } : Jvm.MethodName) prog_5_method_22_code (2 : Nat) (Option.some Jvm.ClassFile.FieldType.int)) ∈ lw_all := lw_g (lw_at lw_m5 163 rfl) rfl
theorem q1271 : (Jvm.Cond.methodLink "VibrationDesk$Frame" (107 : Nat) ({ cls := "VibrationDesk$Frame", name := "third", desc := "()I" } : Jvm.MethodName)) ∈ lw_all := lw_g (lw_at lw_m5 164 rfl) rfl
theorem q1272 : (Jvm.Cond.instanceMethod ({ cls := "VibrationDesk$Frame", name := "third", desc := "()I" } : Jvm.MethodName)) ∈ lw_all := lw_g (lw_at lw_m5 165 rfl) rfl
theorem q1273 : (Jvm.Cond.selects "VibrationDesk$Frame" ({ cls := "VibrationDesk$Frame", name := "third", desc := "()I" } : Jvm.MethodName) ({ cls := "VibrationDesk$Frame", name := "third", desc := "()I" } : Jvm.MethodName)) ∈ lw_all := lw_g (lw_at lw_m5 166 rfl) rfl
theorem q1274 : (Jvm.Cond.code ({ cls := "VibrationDesk$Frame", name := "third", desc := "()I" } : Jvm.MethodName) prog_5_method_20_code (2 : Nat) (Option.some Jvm.ClassFile.FieldType.int)) ∈ lw_all := lw_g (lw_at lw_m5 167 rfl) rfl
theorem q1275 : (Jvm.Cond.methodLink "VibrationDesk$Frame" (95 : Nat) ({ cls := "VibrationDesk$Frame", name := "difference", desc := "(II[J)V" } : Jvm.MethodName)) ∈ lw_all := lw_g (lw_at lw_m5 168 rfl) rfl
theorem q1276 : (Jvm.Cond.instanceMethod ({ cls := "VibrationDesk$Frame", name := "difference", desc := "(II[J)V" } : Jvm.MethodName)) ∈ lw_all := lw_g (lw_at lw_m5 169 rfl) rfl
theorem q1277 : (Jvm.Cond.selects "VibrationDesk$Frame" ({ cls := "VibrationDesk$Frame", name := "difference", desc := "(II[J)V" } : Jvm.MethodName) ({ cls := "VibrationDesk$Frame", name := "difference", desc := "(II[J)V" } : Jvm.MethodName)) ∈ lw_all := lw_g (lw_at lw_m5 170 rfl) rfl
theorem q1278 : (Jvm.Cond.code ({ cls := "VibrationDesk$Frame", name := "difference", desc := "(II[J)V" } : Jvm.MethodName) prog_5_method_19_code (5 : Nat) (Option.none : Option Jvm.ClassFile.FieldType)) ∈ lw_all := lw_g (lw_at lw_m5 171 rfl) rfl
theorem q1279 : (Jvm.Cond.methodLinkNest "VibrationDesk$Frame" (99 : Nat) ({ cls := "VibrationDesk", name := "crosses", desc := "([J[J[J)V" } : Jvm.MethodName) "VibrationDesk") ∈ lw_tbl := lw_at lw_m5 172 rfl
theorem q1282 : (Jvm.Cond.methodLinkNest "VibrationDesk$Frame" (103 : Nat) ({ cls := "VibrationDesk", name := "dot", desc := "([J[J)J" } : Jvm.MethodName) "VibrationDesk") ∈ lw_tbl := lw_at lw_m5 175 rfl
theorem q1285 : (Jvm.Cond.methodLink "VibrationDesk$Frame" (111 : Nat) ({ cls := "VibrationDesk$Frame", name := "fourth", desc := "(I)I" } : Jvm.MethodName)) ∈ lw_all := lw_g (lw_at lw_m5 178 rfl) rfl
theorem q1286 : (Jvm.Cond.instanceMethod ({ cls := "VibrationDesk$Frame", name := "fourth", desc := "(I)I" } : Jvm.MethodName)) ∈ lw_all := lw_g (lw_at lw_m5 179 rfl) rfl
theorem q1287 : (Jvm.Cond.selects "VibrationDesk$Frame" ({ cls := "VibrationDesk$Frame", name := "fourth", desc := "(I)I" } : Jvm.MethodName) ({ cls := "VibrationDesk$Frame", name := "fourth", desc := "(I)I" } : Jvm.MethodName)) ∈ lw_all := lw_g (lw_at lw_m5 180 rfl) rfl
theorem q1288 : (Jvm.Cond.code ({ cls := "VibrationDesk$Frame", name := "fourth", desc := "(I)I" } : Jvm.MethodName) prog_5_method_21_code (3 : Nat) (Option.some Jvm.ClassFile.FieldType.int)) ∈ lw_all := lw_g (lw_at lw_m5 181 rfl) rfl
theorem q1306 : (Jvm.Cond.instanceMethod ({ cls := "VibrationDesk$Frame", name := "laysCells", desc := "()I" } : Jvm.MethodName)) ∈ lw_all := lw_g (lw_at lw_m5 199 rfl) rfl
theorem q1307 : (Jvm.Cond.selects "VibrationDesk$Frame" ({ cls := "VibrationDesk$Frame", name := "laysCells", desc := "()I" } : Jvm.MethodName) ({ cls := "VibrationDesk$Frame", name := "laysCells", desc := "()I" } : Jvm.MethodName)) ∈ lw_all := lw_g (lw_at lw_m5 200 rfl) rfl
theorem q1308 : (Jvm.Cond.code ({ cls := "VibrationDesk$Frame", name := "laysCells", desc := "()I" } : Jvm.MethodName) prog_5_method_25_code (4 : Nat) (Option.some Jvm.ClassFile.FieldType.int)) ∈ lw_all := lw_g (lw_at lw_m5 201 rfl) rfl
theorem q1309 : (Jvm.Cond.methodLink "VibrationDesk$Frame" (120 : Nat) ({ cls := "VibrationDesk$Frame", name := "firstLike", desc := "(I)I" } : Jvm.MethodName)) ∈ lw_all := lw_g (lw_at lw_m5 202 rfl) rfl
theorem q1310 : (Jvm.Cond.privateMethod ({ cls := "VibrationDesk$Frame", name := "firstLike", desc := "(I)I" } : Jvm.MethodName)) ∈ lw_tbl := lw_at lw_m5 203 rfl
theorem q1311 : (Jvm.Cond.instanceMethod ({ cls := "VibrationDesk$Frame", name := "firstLike", desc := "(I)I" } : Jvm.MethodName)) ∈ lw_all := lw_g (lw_at lw_m5 204 rfl) rfl
theorem q1312 : (Jvm.Cond.code ({ cls := "VibrationDesk$Frame", name := "firstLike", desc := "(I)I" } : Jvm.MethodName) prog_5_method_24_code (3 : Nat) (Option.some Jvm.ClassFile.FieldType.int)) ∈ lw_all := lw_g (lw_at lw_m5 205 rfl) rfl
theorem q1313 : (Jvm.Cond.methodLink "VibrationDesk$Frame" (117 : Nat) ({ cls := "VibrationDesk$Frame", name := "isAlike", desc := "(II)Z" } : Jvm.MethodName)) ∈ lw_all := lw_g (lw_at lw_m5 206 rfl) rfl
theorem q1314 : (Jvm.Cond.privateMethod ({ cls := "VibrationDesk$Frame", name := "isAlike", desc := "(II)Z" } : Jvm.MethodName)) ∈ lw_tbl := lw_at lw_m5 207 rfl
theorem q1315 : (Jvm.Cond.instanceMethod ({ cls := "VibrationDesk$Frame", name := "isAlike", desc := "(II)Z" } : Jvm.MethodName)) ∈ lw_all := lw_g (lw_at lw_m5 208 rfl) rfl
theorem q1316 : (Jvm.Cond.code ({ cls := "VibrationDesk$Frame", name := "isAlike", desc := "(II)Z" } : Jvm.MethodName) prog_5_method_23_code (7 : Nat) (Option.some Jvm.ClassFile.FieldType.boolean)) ∈ lw_all := lw_g (lw_at lw_m5 209 rfl) rfl
theorem q1317 : (Jvm.Cond.methodLink "VibrationDesk$Frame" (114 : Nat) ({ cls := "VibrationDesk$Frame", name := "apart", desc := "(II)I" } : Jvm.MethodName)) ∈ lw_all := lw_g (lw_at lw_m5 210 rfl) rfl
theorem in_X2 : ∀ w ∈ wsX20, w ∈ lw_all := lw_in wsX20 [330, 332, 334, 336, 338, 340, 342, 344, 346, 348, 350] (by decide +kernel) (by decide +kernel)
