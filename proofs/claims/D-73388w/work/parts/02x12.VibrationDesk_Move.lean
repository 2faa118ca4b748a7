/-! VibrationDesk$Move -/
set_option maxRecDepth 100000
def RX12 : String := "VibrationDesk$Move"
abbrev cX12_same : ByteArray := prog_9_method_8_code
def yX12_same : MethodName := ⟨RX12, "same", "(LVibrationDesk$Move;LVibrationDesk$Move;)Z"⟩
def dkwX12_same_2 : List UInt8 := [159, 0, 5, 3, 172, 132, 2, 1, 167, 255, 224, 4, 172]
abbrev dktX12_same_2 : List UInt8 := dkwX12_same_2 ++ []
def dkwX12_same_1 : List UInt8 := [185, 0, 9, 1, 0, 162, 0, 28, 42, 28, 185, 0, 3, 2, 0, 43, 28, 185, 0, 3, 2, 0]
abbrev dktX12_same_1 : List UInt8 := dkwX12_same_1 ++ dktX12_same_2
def dkwX12_same_0 : List UInt8 := [42, 185, 0, 20, 1, 0, 43, 185, 0, 20, 1, 0, 159, 0, 5, 3, 172, 3, 61, 28, 42]
abbrev dktX12_same_0 : List UInt8 := dkwX12_same_0 ++ dktX12_same_1
theorem dksX12_same_0 : cX12_same.data.toList.drop 0 = dktX12_same_0 := by decide +kernel
theorem dksX12_same_1 : cX12_same.data.toList.drop 21 = dktX12_same_1 := dk_seg dksX12_same_0 21 rfl rfl
theorem dksX12_same_2 : cX12_same.data.toList.drop 43 = dktX12_same_2 := dk_seg dksX12_same_1 22 rfl rfl
theorem dX12_same_0 : decode cX12_same 0 = .ok (.aload_n 0, 1) := dk_42 (dk_at dksX12_same_0 0 rfl rfl)
theorem dX12_same_1 : decode cX12_same 1 = .ok (.invokeinterface 20 1, 5) := by decide +kernel
theorem dX12_same_6 : decode cX12_same 6 = .ok (.aload_n 1, 1) := dk_43 (dk_at dksX12_same_0 6 rfl rfl)
theorem dX12_same_7 : decode cX12_same 7 = .ok (.invokeinterface 20 1, 5) := by decide +kernel
theorem dX12_same_12 : decode cX12_same 12 = .ok (.if_icmp .eq 5, 3) := dk_159 0 5 (dk_at dksX12_same_0 12 rfl rfl)
theorem dX12_same_15 : decode cX12_same 15 = .ok (.iconst 0, 1) := dk_3 (dk_at dksX12_same_0 15 rfl rfl)
theorem dX12_same_16 : decode cX12_same 16 = .ok (.ireturn, 1) := dk_172 (dk_at dksX12_same_0 16 rfl rfl)
theorem dX12_same_17 : decode cX12_same 17 = .ok (.iconst 0, 1) := dk_3 (dk_at dksX12_same_0 17 rfl rfl)
theorem dX12_same_18 : decode cX12_same 18 = .ok (.istore_n 2, 1) := dk_61 (dk_at dksX12_same_0 18 rfl rfl)
theorem dX12_same_19 : decode cX12_same 19 = .ok (.iload_n 2, 1) := dk_28 (dk_at dksX12_same_0 19 rfl rfl)
theorem dX12_same_20 : decode cX12_same 20 = .ok (.aload_n 0, 1) := dk_42 (dk_at dksX12_same_0 20 rfl rfl)
theorem dX12_same_21 : decode cX12_same 21 = .ok (.invokeinterface 9 1, 5) := by decide +kernel
theorem dX12_same_26 : decode cX12_same 26 = .ok (.if_icmp .ge 28, 3) := dk_162 0 28 (dk_at dksX12_same_1 5 rfl rfl)
theorem dX12_same_29 : decode cX12_same 29 = .ok (.aload_n 0, 1) := dk_42 (dk_at dksX12_same_1 8 rfl rfl)
theorem dX12_same_30 : decode cX12_same 30 = .ok (.iload_n 2, 1) := dk_28 (dk_at dksX12_same_1 9 rfl rfl)
theorem dX12_same_31 : decode cX12_same 31 = .ok (.invokeinterface 3 2, 5) := by decide +kernel
theorem dX12_same_36 : decode cX12_same 36 = .ok (.aload_n 1, 1) := dk_43 (dk_at dksX12_same_1 15 rfl rfl)
theorem dX12_same_37 : decode cX12_same 37 = .ok (.iload_n 2, 1) := dk_28 (dk_at dksX12_same_1 16 rfl rfl)
theorem dX12_same_38 : decode cX12_same 38 = .ok (.invokeinterface 3 2, 5) := by decide +kernel
theorem dX12_same_43 : decode cX12_same 43 = .ok (.if_icmp .eq 5, 3) := dk_159 0 5 (dk_at dksX12_same_2 0 rfl rfl)
theorem dX12_same_46 : decode cX12_same 46 = .ok (.iconst 0, 1) := dk_3 (dk_at dksX12_same_2 3 rfl rfl)
theorem dX12_same_47 : decode cX12_same 47 = .ok (.ireturn, 1) := dk_172 (dk_at dksX12_same_2 4 rfl rfl)
theorem dX12_same_48 : decode cX12_same 48 = .ok (.iinc 2 1, 3) := dk_132 2 1 (dk_at dksX12_same_2 5 rfl rfl)
theorem dX12_same_51 : decode cX12_same 51 = .ok (.goto (-32), 3) := dk_167 255 224 (dk_at dksX12_same_2 8 rfl rfl)
theorem dX12_same_54 : decode cX12_same 54 = .ok (.iconst 1, 1) := dk_4 (dk_at dksX12_same_2 11 rfl rfl)
theorem dX12_same_55 : decode cX12_same 55 = .ok (.ireturn, 1) := dk_172 (dk_at dksX12_same_2 12 rfl rfl)
abbrev cX12_staying : ByteArray := prog_9_method_5_code
def yX12_staying : MethodName := ⟨RX12, "staying", "()I"⟩
def dkwX12_staying_1 : List UInt8 := [153, 0, 7, 4, 167, 0, 4, 3, 96, 60, 132, 2, 1, 167, 255, 225, 27, 172]
abbrev dktX12_staying_1 : List UInt8 := dkwX12_staying_1 ++ []
def dkwX12_staying_0 : List UInt8 := [3, 60, 3, 61, 28, 42, 185, 0, 9, 1, 0, 162, 0, 27, 27, 42, 28, 185, 0, 13, 2, 0]
abbrev dktX12_staying_0 : List UInt8 := dkwX12_staying_0 ++ dktX12_staying_1
theorem dksX12_staying_0 : cX12_staying.data.toList.drop 0 = dktX12_staying_0 := by decide +kernel
theorem dksX12_staying_1 : cX12_staying.data.toList.drop 22 = dktX12_staying_1 := dk_seg dksX12_staying_0 22 rfl rfl
theorem dX12_staying_0 : decode cX12_staying 0 = .ok (.iconst 0, 1) := dk_3 (dk_at dksX12_staying_0 0 rfl rfl)
theorem dX12_staying_1 : decode cX12_staying 1 = .ok (.istore_n 1, 1) := dk_60 (dk_at dksX12_staying_0 1 rfl rfl)
theorem dX12_staying_2 : decode cX12_staying 2 = .ok (.iconst 0, 1) := dk_3 (dk_at dksX12_staying_0 2 rfl rfl)
theorem dX12_staying_3 : decode cX12_staying 3 = .ok (.istore_n 2, 1) := dk_61 (dk_at dksX12_staying_0 3 rfl rfl)
theorem dX12_staying_4 : decode cX12_staying 4 = .ok (.iload_n 2, 1) := dk_28 (dk_at dksX12_staying_0 4 rfl rfl)
theorem dX12_staying_5 : decode cX12_staying 5 = .ok (.aload_n 0, 1) := dk_42 (dk_at dksX12_staying_0 5 rfl rfl)
theorem dX12_staying_6 : decode cX12_staying 6 = .ok (.invokeinterface 9 1, 5) := by decide +kernel
theorem dX12_staying_11 : decode cX12_staying 11 = .ok (.if_icmp .ge 27, 3) := dk_162 0 27 (dk_at dksX12_staying_0 11 rfl rfl)
theorem dX12_staying_14 : decode cX12_staying 14 = .ok (.iload_n 1, 1) := dk_27 (dk_at dksX12_staying_0 14 rfl rfl)
theorem dX12_staying_15 : decode cX12_staying 15 = .ok (.aload_n 0, 1) := dk_42 (dk_at dksX12_staying_0 15 rfl rfl)
theorem dX12_staying_16 : decode cX12_staying 16 = .ok (.iload_n 2, 1) := dk_28 (dk_at dksX12_staying_0 16 rfl rfl)
theorem dX12_staying_17 : decode cX12_staying 17 = .ok (.invokeinterface 13 2, 5) := by decide +kernel
theorem dX12_staying_22 : decode cX12_staying 22 = .ok (.ifCond .eq 7, 3) := dk_153 0 7 (dk_at dksX12_staying_1 0 rfl rfl)
theorem dX12_staying_25 : decode cX12_staying 25 = .ok (.iconst 1, 1) := dk_4 (dk_at dksX12_staying_1 3 rfl rfl)
theorem dX12_staying_26 : decode cX12_staying 26 = .ok (.goto 4, 3) := dk_167 0 4 (dk_at dksX12_staying_1 4 rfl rfl)
theorem dX12_staying_29 : decode cX12_staying 29 = .ok (.iconst 0, 1) := dk_3 (dk_at dksX12_staying_1 7 rfl rfl)
theorem dX12_staying_30 : decode cX12_staying 30 = .ok (.iadd, 1) := dk_96 (dk_at dksX12_staying_1 8 rfl rfl)
theorem dX12_staying_31 : decode cX12_staying 31 = .ok (.istore_n 1, 1) := dk_60 (dk_at dksX12_staying_1 9 rfl rfl)
theorem dX12_staying_32 : decode cX12_staying 32 = .ok (.iinc 2 1, 3) := dk_132 2 1 (dk_at dksX12_staying_1 10 rfl rfl)
theorem dX12_staying_35 : decode cX12_staying 35 = .ok (.goto (-31), 3) := dk_167 255 225 (dk_at dksX12_staying_1 13 rfl rfl)
theorem dX12_staying_38 : decode cX12_staying 38 = .ok (.iload_n 1, 1) := dk_27 (dk_at dksX12_staying_1 16 rfl rfl)
theorem dX12_staying_39 : decode cX12_staying 39 = .ok (.ireturn, 1) := dk_172 (dk_at dksX12_staying_1 17 rfl rfl)
abbrev cX12_leaves : ByteArray := prog_9_method_4_code
def yX12_leaves : MethodName := ⟨RX12, "leaves", "(I)Z"⟩
def dkwX12_leaves_0 : List UInt8 := [42, 27, 185, 0, 3, 2, 0, 27, 160, 0, 7, 4, 167, 0, 4, 3, 172]
abbrev dktX12_leaves_0 : List UInt8 := dkwX12_leaves_0 ++ []
theorem dksX12_leaves_0 : cX12_leaves.data.toList.drop 0 = dktX12_leaves_0 := by decide +kernel
theorem dX12_leaves_0 : decode cX12_leaves 0 = .ok (.aload_n 0, 1) := dk_42 (dk_at dksX12_leaves_0 0 rfl rfl)
theorem dX12_leaves_1 : decode cX12_leaves 1 = .ok (.iload_n 1, 1) := dk_27 (dk_at dksX12_leaves_0 1 rfl rfl)
theorem dX12_leaves_2 : decode cX12_leaves 2 = .ok (.invokeinterface 3 2, 5) := by decide +kernel
theorem dX12_leaves_7 : decode cX12_leaves 7 = .ok (.iload_n 1, 1) := dk_27 (dk_at dksX12_leaves_0 7 rfl rfl)
theorem dX12_leaves_8 : decode cX12_leaves 8 = .ok (.if_icmp .ne 7, 3) := dk_160 0 7 (dk_at dksX12_leaves_0 8 rfl rfl)
theorem dX12_leaves_11 : decode cX12_leaves 11 = .ok (.iconst 1, 1) := dk_4 (dk_at dksX12_leaves_0 11 rfl rfl)
theorem dX12_leaves_12 : decode cX12_leaves 12 = .ok (.goto 4, 3) := dk_167 0 4 (dk_at dksX12_leaves_0 12 rfl rfl)
theorem dX12_leaves_15 : decode cX12_leaves 15 = .ok (.iconst 0, 1) := dk_3 (dk_at dksX12_leaves_0 15 rfl rfl)
theorem dX12_leaves_16 : decode cX12_leaves 16 = .ok (.ireturn, 1) := dk_172 (dk_at dksX12_leaves_0 16 rfl rfl)
abbrev cX12_rounds : ByteArray := prog_9_method_6_code
def yX12_rounds : MethodName := ⟨RX12, "rounds", "([I)I"⟩
def dkwX12_rounds_2 : List UInt8 := [167, 0, 14, 43, 21, 4, 92, 46, 4, 96, 79, 132, 2, 1, 132, 3, 1, 167, 255, 215, 28, 172]
abbrev dktX12_rounds_2 : List UInt8 := dkwX12_rounds_2 ++ []
def dkwX12_rounds_1 : List UInt8 := [185, 0, 9, 1, 0, 162, 0, 37, 42, 29, 185, 0, 17, 2, 0, 54, 4, 21, 4, 154, 0, 6]
abbrev dktX12_rounds_1 : List UInt8 := dkwX12_rounds_1 ++ dktX12_rounds_2
def dkwX12_rounds_0 : List UInt8 := [3, 61, 28, 16, 12, 163, 0, 13, 43, 28, 3, 79, 132, 2, 1, 167, 255, 243, 3, 61, 3, 62, 29, 42]
abbrev dktX12_rounds_0 : List UInt8 := dkwX12_rounds_0 ++ dktX12_rounds_1
theorem dksX12_rounds_0 : cX12_rounds.data.toList.drop 0 = dktX12_rounds_0 := by decide +kernel
theorem dksX12_rounds_1 : cX12_rounds.data.toList.drop 24 = dktX12_rounds_1 := dk_seg dksX12_rounds_0 24 rfl rfl
theorem dksX12_rounds_2 : cX12_rounds.data.toList.drop 46 = dktX12_rounds_2 := dk_seg dksX12_rounds_1 22 rfl rfl
theorem dX12_rounds_0 : decode cX12_rounds 0 = .ok (.iconst 0, 1) := dk_3 (dk_at dksX12_rounds_0 0 rfl rfl)
theorem dX12_rounds_1 : decode cX12_rounds 1 = .ok (.istore_n 2, 1) := dk_61 (dk_at dksX12_rounds_0 1 rfl rfl)
theorem dX12_rounds_2 : decode cX12_rounds 2 = .ok (.iload_n 2, 1) := dk_28 (dk_at dksX12_rounds_0 2 rfl rfl)
theorem dX12_rounds_3 : decode cX12_rounds 3 = .ok (.bipush 12, 2) := dk_16 12 (dk_at dksX12_rounds_0 3 rfl rfl)
theorem dX12_rounds_5 : decode cX12_rounds 5 = .ok (.if_icmp .gt 13, 3) := dk_163 0 13 (dk_at dksX12_rounds_0 5 rfl rfl)
theorem dX12_rounds_8 : decode cX12_rounds 8 = .ok (.aload_n 1, 1) := dk_43 (dk_at dksX12_rounds_0 8 rfl rfl)
theorem dX12_rounds_9 : decode cX12_rounds 9 = .ok (.iload_n 2, 1) := dk_28 (dk_at dksX12_rounds_0 9 rfl rfl)
theorem dX12_rounds_10 : decode cX12_rounds 10 = .ok (.iconst 0, 1) := dk_3 (dk_at dksX12_rounds_0 10 rfl rfl)
theorem dX12_rounds_11 : decode cX12_rounds 11 = .ok (.iastore, 1) := dk_79 (dk_at dksX12_rounds_0 11 rfl rfl)
theorem dX12_rounds_12 : decode cX12_rounds 12 = .ok (.iinc 2 1, 3) := dk_132 2 1 (dk_at dksX12_rounds_0 12 rfl rfl)
theorem dX12_rounds_15 : decode cX12_rounds 15 = .ok (.goto (-13), 3) := dk_167 255 243 (dk_at dksX12_rounds_0 15 rfl rfl)
theorem dX12_rounds_18 : decode cX12_rounds 18 = .ok (.iconst 0, 1) := dk_3 (dk_at dksX12_rounds_0 18 rfl rfl)
theorem dX12_rounds_19 : decode cX12_rounds 19 = .ok (.istore_n 2, 1) := dk_61 (dk_at dksX12_rounds_0 19 rfl rfl)
theorem dX12_rounds_20 : decode cX12_rounds 20 = .ok (.iconst 0, 1) := dk_3 (dk_at dksX12_rounds_0 20 rfl rfl)
theorem dX12_rounds_21 : decode cX12_rounds 21 = .ok (.istore_n 3, 1) := dk_62 (dk_at dksX12_rounds_0 21 rfl rfl)
theorem dX12_rounds_22 : decode cX12_rounds 22 = .ok (.iload_n 3, 1) := dk_29 (dk_at dksX12_rounds_0 22 rfl rfl)
theorem dX12_rounds_23 : decode cX12_rounds 23 = .ok (.aload_n 0, 1) := dk_42 (dk_at dksX12_rounds_0 23 rfl rfl)
theorem dX12_rounds_24 : decode cX12_rounds 24 = .ok (.invokeinterface 9 1, 5) := by decide +kernel
theorem dX12_rounds_29 : decode cX12_rounds 29 = .ok (.if_icmp .ge 37, 3) := dk_162 0 37 (dk_at dksX12_rounds_1 5 rfl rfl)
theorem dX12_rounds_32 : decode cX12_rounds 32 = .ok (.aload_n 0, 1) := dk_42 (dk_at dksX12_rounds_1 8 rfl rfl)
theorem dX12_rounds_33 : decode cX12_rounds 33 = .ok (.iload_n 3, 1) := dk_29 (dk_at dksX12_rounds_1 9 rfl rfl)
theorem dX12_rounds_34 : decode cX12_rounds 34 = .ok (.invokeinterface 17 2, 5) := by decide +kernel
theorem dX12_rounds_39 : decode cX12_rounds 39 = .ok (.istore 4, 2) := dk_54 4 (dk_at dksX12_rounds_1 15 rfl rfl)
theorem dX12_rounds_41 : decode cX12_rounds 41 = .ok (.iload 4, 2) := dk_21 4 (dk_at dksX12_rounds_1 17 rfl rfl)
theorem dX12_rounds_43 : decode cX12_rounds 43 = .ok (.ifCond .ne 6, 3) := dk_154 0 6 (dk_at dksX12_rounds_1 19 rfl rfl)
theorem dX12_rounds_46 : decode cX12_rounds 46 = .ok (.goto 14, 3) := dk_167 0 14 (dk_at dksX12_rounds_2 0 rfl rfl)
theorem dX12_rounds_49 : decode cX12_rounds 49 = .ok (.aload_n 1, 1) := dk_43 (dk_at dksX12_rounds_2 3 rfl rfl)
theorem dX12_rounds_50 : decode cX12_rounds 50 = .ok (.iload 4, 2) := dk_21 4 (dk_at dksX12_rounds_2 4 rfl rfl)
theorem dX12_rounds_52 : decode cX12_rounds 52 = .ok (.dup2, 1) := dk_92 (dk_at dksX12_rounds_2 6 rfl rfl)
theorem dX12_rounds_53 : decode cX12_rounds 53 = .ok (.iaload, 1) := dk_46 (dk_at dksX12_rounds_2 7 rfl rfl)
theorem dX12_rounds_54 : decode cX12_rounds 54 = .ok (.iconst 1, 1) := dk_4 (dk_at dksX12_rounds_2 8 rfl rfl)
theorem dX12_rounds_55 : decode cX12_rounds 55 = .ok (.iadd, 1) := dk_96 (dk_at dksX12_rounds_2 9 rfl rfl)
theorem dX12_rounds_56 : decode cX12_rounds 56 = .ok (.iastore, 1) := dk_79 (dk_at dksX12_rounds_2 10 rfl rfl)
theorem dX12_rounds_57 : decode cX12_rounds 57 = .ok (.iinc 2 1, 3) := dk_132 2 1 (dk_at dksX12_rounds_2 11 rfl rfl)
theorem dX12_rounds_60 : decode cX12_rounds 60 = .ok (.iinc 3 1, 3) := dk_132 3 1 (dk_at dksX12_rounds_2 14 rfl rfl)
theorem dX12_rounds_63 : decode cX12_rounds 63 = .ok (.goto (-41), 3) := dk_167 255 215 (dk_at dksX12_rounds_2 17 rfl rfl)
theorem dX12_rounds_66 : decode cX12_rounds 66 = .ok (.iload_n 2, 1) := dk_28 (dk_at dksX12_rounds_2 20 rfl rfl)
theorem dX12_rounds_67 : decode cX12_rounds 67 = .ok (.ireturn, 1) := dk_172 (dk_at dksX12_rounds_2 21 rfl rfl)
abbrev cX12_lengthFrom : ByteArray := prog_9_method_7_code
def yX12_lengthFrom : MethodName := ⟨RX12, "lengthFrom", "(I)I"⟩
def dkwX12_lengthFrom_1 : List UInt8 := [162, 0, 5, 3, 172, 132, 2, 1, 42, 29, 185, 0, 3, 2, 0, 62, 167, 255, 227, 28, 172]
abbrev dktX12_lengthFrom_1 : List UInt8 := dkwX12_lengthFrom_1 ++ []
def dkwX12_lengthFrom_0 : List UInt8 := [4, 61, 42, 27, 185, 0, 3, 2, 0, 62, 29, 27, 159, 0, 30, 28, 16, 12, 163, 0, 24, 29, 27]
abbrev dktX12_lengthFrom_0 : List UInt8 := dkwX12_lengthFrom_0 ++ dktX12_lengthFrom_1
theorem dksX12_lengthFrom_0 : cX12_lengthFrom.data.toList.drop 0 = dktX12_lengthFrom_0 := by decide +kernel
theorem dksX12_lengthFrom_1 : cX12_lengthFrom.data.toList.drop 23 = dktX12_lengthFrom_1 := dk_seg dksX12_lengthFrom_0 23 rfl rfl
theorem dX12_lengthFrom_0 : decode cX12_lengthFrom 0 = .ok (.iconst 1, 1) := dk_4 (dk_at dksX12_lengthFrom_0 0 rfl rfl)
theorem dX12_lengthFrom_1 : decode cX12_lengthFrom 1 = .ok (.istore_n 2, 1) := dk_61 (dk_at dksX12_lengthFrom_0 1 rfl rfl)
theorem dX12_lengthFrom_2 : decode cX12_lengthFrom 2 = .ok (.aload_n 0, 1) := dk_42 (dk_at dksX12_lengthFrom_0 2 rfl rfl)
theorem dX12_lengthFrom_3 : decode cX12_lengthFrom 3 = .ok (.iload_n 1, 1) := dk_27 (dk_at dksX12_lengthFrom_0 3 rfl rfl)
theorem dX12_lengthFrom_4 : decode cX12_lengthFrom 4 = .ok (.invokeinterface 3 2, 5) := by decide +kernel
theorem dX12_lengthFrom_9 : decode cX12_lengthFrom 9 = .ok (.istore_n 3, 1) := dk_62 (dk_at dksX12_lengthFrom_0 9 rfl rfl)
theorem dX12_lengthFrom_10 : decode cX12_lengthFrom 10 = .ok (.iload_n 3, 1) := dk_29 (dk_at dksX12_lengthFrom_0 10 rfl rfl)
theorem dX12_lengthFrom_11 : decode cX12_lengthFrom 11 = .ok (.iload_n 1, 1) := dk_27 (dk_at dksX12_lengthFrom_0 11 rfl rfl)
theorem dX12_lengthFrom_12 : decode cX12_lengthFrom 12 = .ok (.if_icmp .eq 30, 3) := dk_159 0 30 (dk_at dksX12_lengthFrom_0 12 rfl rfl)
theorem dX12_lengthFrom_15 : decode cX12_lengthFrom 15 = .ok (.iload_n 2, 1) := dk_28 (dk_at dksX12_lengthFrom_0 15 rfl rfl)
theorem dX12_lengthFrom_16 : decode cX12_lengthFrom 16 = .ok (.bipush 12, 2) := dk_16 12 (dk_at dksX12_lengthFrom_0 16 rfl rfl)
theorem dX12_lengthFrom_18 : decode cX12_lengthFrom 18 = .ok (.if_icmp .gt 24, 3) := dk_163 0 24 (dk_at dksX12_lengthFrom_0 18 rfl rfl)
theorem dX12_lengthFrom_21 : decode cX12_lengthFrom 21 = .ok (.iload_n 3, 1) := dk_29 (dk_at dksX12_lengthFrom_0 21 rfl rfl)
theorem dX12_lengthFrom_22 : decode cX12_lengthFrom 22 = .ok (.iload_n 1, 1) := dk_27 (dk_at dksX12_lengthFrom_0 22 rfl rfl)
theorem dX12_lengthFrom_23 : decode cX12_lengthFrom 23 = .ok (.if_icmp .ge 5, 3) := dk_162 0 5 (dk_at dksX12_lengthFrom_1 0 rfl rfl)
theorem dX12_lengthFrom_26 : decode cX12_lengthFrom 26 = .ok (.iconst 0, 1) := dk_3 (dk_at dksX12_lengthFrom_1 3 rfl rfl)
theorem dX12_lengthFrom_27 : decode cX12_lengthFrom 27 = .ok (.ireturn, 1) := dk_172 (dk_at dksX12_lengthFrom_1 4 rfl rfl)
theorem dX12_lengthFrom_28 : decode cX12_lengthFrom 28 = .ok (.iinc 2 1, 3) := dk_132 2 1 (dk_at dksX12_lengthFrom_1 5 rfl rfl)
theorem dX12_lengthFrom_31 : decode cX12_lengthFrom 31 = .ok (.aload_n 0, 1) := dk_42 (dk_at dksX12_lengthFrom_1 8 rfl rfl)
theorem dX12_lengthFrom_32 : decode cX12_lengthFrom 32 = .ok (.iload_n 3, 1) := dk_29 (dk_at dksX12_lengthFrom_1 9 rfl rfl)
theorem dX12_lengthFrom_33 : decode cX12_lengthFrom 33 = .ok (.invokeinterface 3 2, 5) := by decide +kernel
theorem dX12_lengthFrom_38 : decode cX12_lengthFrom 38 = .ok (.istore_n 3, 1) := dk_62 (dk_at dksX12_lengthFrom_1 15 rfl rfl)
theorem dX12_lengthFrom_39 : decode cX12_lengthFrom 39 = .ok (.goto (-29), 3) := dk_167 255 227 (dk_at dksX12_lengthFrom_1 16 rfl rfl)
theorem dX12_lengthFrom_42 : decode cX12_lengthFrom 42 = .ok (.iload_n 2, 1) := dk_28 (dk_at dksX12_lengthFrom_1 19 rfl rfl)
theorem dX12_lengthFrom_43 : decode cX12_lengthFrom 43 = .ok (.ireturn, 1) := dk_172 (dk_at dksX12_lengthFrom_1 20 rfl rfl)
theorem q175 : (Jvm.Cond.initialized "VibrationDesk$Move") ∈ lw_all := lw_g (lw_at lw_m1 28 rfl) rfl
theorem q1371 : (Jvm.Cond.interfaceMethod "VibrationDesk$Move" "VibrationDesk$Move" "to" "(I)I") ∈ lw_tbl := lw_at lw_m6 24 rfl
theorem q1372 : (Jvm.Cond.declares ({ cls := "VibrationDesk$Move", name := "to", desc := "(I)I" } : Jvm.MethodName)) ∈ lw_tbl := lw_at lw_m6 25 rfl
theorem q1390 : (Jvm.Cond.interfaceMethod "VibrationDesk$Move" "VibrationDesk$Move" "hand" "()I") ∈ lw_tbl := lw_at lw_m6 43 rfl
theorem q1391 : (Jvm.Cond.declares ({ cls := "VibrationDesk$Move", name := "hand", desc := "()I" } : Jvm.MethodName)) ∈ lw_tbl := lw_at lw_m6 44 rfl
theorem q1426 : (Jvm.Cond.static ({ cls := "VibrationDesk$Move", name := "same", desc := "(LVibrationDesk$Move;LVibrationDesk$Move;)Z" } : Jvm.MethodName)) ∈ lw_all := lw_g (lw_at lw_m6 79 rfl) rfl
theorem q1427 : (Jvm.Cond.code ({ cls := "VibrationDesk$Move", name := "same", desc := "(LVibrationDesk$Move;LVibrationDesk$Move;)Z" } : Jvm.MethodName) prog_9_method_8_code (3 : Nat) (Option.some Jvm.ClassFile.FieldType.boolean)) ∈ lw_all := lw_g (lw_at lw_m6 80 rfl) rfl
theorem q1428 : (Jvm.Cond.interfaceEntry "VibrationDesk$Move" (20 : Nat)) ∈ lw_tbl := lw_at lw_m6 81 rfl
theorem q1429 : (Jvm.Cond.methodLink "VibrationDesk$Move" (20 : Nat) ({ cls := "VibrationDesk$Move", name := "hand", desc := "()I" } : Jvm.MethodName)) ∈ lw_all := lw_g (lw_at lw_m6 82 rfl) rfl
theorem q1430 : (Jvm.Cond.interfaceEntry "VibrationDesk$Move" (9 : Nat)) ∈ lw_tbl := lw_at lw_m6 83 rfl
theorem q1431 : (Jvm.Cond.methodLink "VibrationDesk$Move" (9 : Nat) ({ cls := "VibrationDesk$Move", name := "many", desc := "()I" } : Jvm.MethodName)) ∈ lw_all := lw_g (lw_at lw_m6 84 rfl) rfl
theorem q1432 : (Jvm.Cond.interfaceMethod "VibrationDesk$Move" "VibrationDesk$Move" "many" "()I") ∈ lw_tbl := lw_at lw_m6 85 rfl
theorem q1433 : (Jvm.Cond.declares ({ cls := "VibrationDesk$Move", name := "many", desc := "()I" } : Jvm.MethodName)) ∈ lw_tbl := lw_at lw_m6 86 rfl
theorem q1446 : (Jvm.Cond.interfaceEntry "VibrationDesk$Move" (3 : Nat)) ∈ lw_tbl := lw_at lw_m6 99 rfl
theorem q1447 : (Jvm.Cond.methodLink "VibrationDesk$Move" (3 : Nat) ({ cls := "VibrationDesk$Move", name := "to", desc := "(I)I" } : Jvm.MethodName)) ∈ lw_all := lw_g (lw_at lw_m6 100 rfl) rfl
theorem q1600 : (Jvm.Cond.declares ({ cls := "VibrationDesk$Move", name := "staying", desc := "()I" } : Jvm.MethodName)) ∈ lw_tbl := lw_at lw_m7 13 rfl
theorem q1602 : (Jvm.Cond.instanceMethod ({ cls := "VibrationDesk$Move", name := "staying", desc := "()I" } : Jvm.MethodName)) ∈ lw_all := lw_g (lw_at lw_m7 15 rfl) rfl
theorem q1603 : (Jvm.Cond.publicMethod ({ cls := "VibrationDesk$Move", name := "staying", desc := "()I" } : Jvm.MethodName)) ∈ lw_tbl := lw_at lw_m7 16 rfl
theorem q1604 : (Jvm.Cond.code ({ cls := "VibrationDesk$Move", name := "staying", desc := "()I" } : Jvm.MethodName) prog_9_method_5_code (3 : Nat) (Option.some Jvm.ClassFile.FieldType.int)) ∈ lw_all := lw_g (lw_at lw_m7 17 rfl) rfl
theorem q1605 : (Jvm.Cond.interfaceEntry "VibrationDesk$Move" (13 : Nat)) ∈ lw_tbl := lw_at lw_m7 18 rfl
theorem q1606 : (Jvm.Cond.methodLink "VibrationDesk$Move" (13 : Nat) ({ cls := "VibrationDesk$Move", name := "leaves", desc := "(I)Z" } : Jvm.MethodName)) ∈ lw_all := lw_g (lw_at lw_m7 19 rfl) rfl
theorem q1607 : (Jvm.Cond.interfaceMethod "VibrationDesk$Move" "VibrationDesk$Move" "leaves" "(I)Z") ∈ lw_tbl := lw_at lw_m7 20 rfl
theorem q1608 : (Jvm.Cond.declares ({ cls := "VibrationDesk$Move", name := "leaves", desc := "(I)Z" } : Jvm.MethodName)) ∈ lw_tbl := lw_at lw_m7 21 rfl
theorem q1610 : (Jvm.Cond.instanceMethod ({ cls := "VibrationDesk$Move", name := "leaves", desc := "(I)Z" } : Jvm.MethodName)) ∈ lw_all := lw_g (lw_at lw_m7 23 rfl) rfl
theorem q1611 : (Jvm.Cond.publicMethod ({ cls := "VibrationDesk$Move", name := "leaves", desc := "(I)Z" } : Jvm.MethodName)) ∈ lw_tbl := lw_at lw_m7 24 rfl
theorem q1612 : (Jvm.Cond.code ({ cls := "VibrationDesk$Move", name := "leaves", desc := "(I)Z" } : Jvm.MethodName) prog_9_method_4_code (2 : Nat) (Option.some Jvm.ClassFile.FieldType.boolean)) ∈ lw_all := lw_g (lw_at lw_m7 25 rfl) rfl
theorem q1618 : (Jvm.Cond.declares ({ cls := "VibrationDesk$Move", name := "rounds", desc := "([I)I" } : Jvm.MethodName)) ∈ lw_tbl := lw_at lw_m7 31 rfl
theorem q1620 : (Jvm.Cond.instanceMethod ({ cls := "VibrationDesk$Move", name := "rounds", desc := "([I)I" } : Jvm.MethodName)) ∈ lw_all := lw_g (lw_at lw_m7 33 rfl) rfl
theorem q1621 : (Jvm.Cond.publicMethod ({ cls := "VibrationDesk$Move", name := "rounds", desc := "([I)I" } : Jvm.MethodName)) ∈ lw_tbl := lw_at lw_m7 34 rfl
theorem q1622 : (Jvm.Cond.code ({ cls := "VibrationDesk$Move", name := "rounds", desc := "([I)I" } : Jvm.MethodName) prog_9_method_6_code (5 : Nat) (Option.some Jvm.ClassFile.FieldType.int)) ∈ lw_all := lw_g (lw_at lw_m7 35 rfl) rfl
theorem q1623 : (Jvm.Cond.interfaceEntry "VibrationDesk$Move" (17 : Nat)) ∈ lw_tbl := lw_at lw_m7 36 rfl
theorem q1624 : (Jvm.Cond.methodLink "VibrationDesk$Move" (17 : Nat) ({ cls := "VibrationDesk$Move", name := "lengthFrom", desc := "(I)I" } : Jvm.MethodName)) ∈ lw_all := lw_g (lw_at lw_m7 37 rfl) rfl
theorem q1625 : (Jvm.Cond.interfaceMethod "VibrationDesk$Move" "VibrationDesk$Move" "lengthFrom" "(I)I") ∈ lw_tbl := lw_at lw_m7 38 rfl
theorem q1626 : (Jvm.Cond.declares ({ cls := "VibrationDesk$Move", name := "lengthFrom", desc := "(I)I" } : Jvm.MethodName)) ∈ lw_tbl := lw_at lw_m7 39 rfl
theorem q1628 : (Jvm.Cond.instanceMethod ({ cls := "VibrationDesk$Move", name := "lengthFrom", desc := "(I)I" } : Jvm.MethodName)) ∈ lw_all := lw_g (lw_at lw_m7 41 rfl) rfl
theorem q1629 : (Jvm.Cond.publicMethod ({ cls := "VibrationDesk$Move", name := "lengthFrom", desc := "(I)I" } : Jvm.MethodName)) ∈ lw_tbl := lw_at lw_m7 42 rfl
theorem q1630 : (Jvm.Cond.code ({ cls := "VibrationDesk$Move", name := "lengthFrom", desc := "(I)I" } : Jvm.MethodName) prog_9_method_7_code (4 : Nat) (Option.some Jvm.ClassFile.FieldType.int)) ∈ lw_all := lw_g (lw_at lw_m7 43 rfl) rfl
