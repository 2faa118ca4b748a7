/-! java/lang/StringUTF16 -/
set_option maxRecDepth 100000
def RJ5 : String := "java/lang/StringUTF16"
abbrev cJ5_newBytesFor : ByteArray := prog_29_method_2_code
def yJ5_newBytesFor : MethodName := ⟨RJ5, "newBytesFor", "(I)[B"⟩
def dkwJ5_newBytesFor_0 : List UInt8 := [26, 184, 0, 11, 188, 8, 176]
abbrev dktJ5_newBytesFor_0 : List UInt8 := dkwJ5_newBytesFor_0 ++ []
theorem dksJ5_newBytesFor_0 : cJ5_newBytesFor.data.toList.drop 0 = dktJ5_newBytesFor_0 := by decide +kernel
theorem dJ5_newBytesFor_0 : decode cJ5_newBytesFor 0 = .ok (.iload_n 0, 1) := dk_26 (dk_at dksJ5_newBytesFor_0 0 rfl rfl)
theorem dJ5_newBytesFor_1 : decode cJ5_newBytesFor 1 = .ok (.invokestatic 11, 3) := dk_184 0 11 (dk_at dksJ5_newBytesFor_0 1 rfl rfl)
theorem dJ5_newBytesFor_4 : decode cJ5_newBytesFor 4 = .ok (.newarray .byte, 2) := dk_188_8 (dk_at dksJ5_newBytesFor_0 4 rfl rfl)
theorem dJ5_newBytesFor_6 : decode cJ5_newBytesFor 6 = .ok (.areturn, 1) := dk_176 (dk_at dksJ5_newBytesFor_0 6 rfl rfl)
abbrev cJ5_newBytesLength : ByteArray := prog_29_method_3_code
def yJ5_newBytesLength : MethodName := ⟨RJ5, "newBytesLength", "(I)I"⟩
def dkwJ5_newBytesLength_2 : List UInt8 := [182, 0, 32, 182, 0, 37, 183, 0, 41, 191, 26, 4, 120, 172]
abbrev dktJ5_newBytesLength_2 : List UInt8 := dkwJ5_newBytesLength_2 ++ []
def dkwJ5_newBytesLength_1 : List UInt8 := [187, 0, 23, 89, 183, 0, 25, 18, 26, 182, 0, 28, 26, 182, 0, 32, 18, 35, 182, 0, 28, 18, 20]
abbrev dktJ5_newBytesLength_1 : List UInt8 := dkwJ5_newBytesLength_1 ++ dktJ5_newBytesLength_2
def dkwJ5_newBytesLength_0 : List UInt8 := [26, 156, 0, 11, 187, 0, 17, 89, 183, 0, 19, 191, 26, 18, 20, 161, 0, 40, 187, 0, 21, 89]
abbrev dktJ5_newBytesLength_0 : List UInt8 := dkwJ5_newBytesLength_0 ++ dktJ5_newBytesLength_1
theorem dksJ5_newBytesLength_0 : cJ5_newBytesLength.data.toList.drop 0 = dktJ5_newBytesLength_0 := by decide +kernel
theorem dksJ5_newBytesLength_1 : cJ5_newBytesLength.data.toList.drop 22 = dktJ5_newBytesLength_1 := dk_seg dksJ5_newBytesLength_0 22 rfl rfl
theorem dksJ5_newBytesLength_2 : cJ5_newBytesLength.data.toList.drop 45 = dktJ5_newBytesLength_2 := dk_seg dksJ5_newBytesLength_1 23 rfl rfl
theorem dJ5_newBytesLength_0 : decode cJ5_newBytesLength 0 = .ok (.iload_n 0, 1) := dk_26 (dk_at dksJ5_newBytesLength_0 0 rfl rfl)
theorem dJ5_newBytesLength_1 : decode cJ5_newBytesLength 1 = .ok (.ifCond .ge 11, 3) := dk_156 0 11 (dk_at dksJ5_newBytesLength_0 1 rfl rfl)
theorem dJ5_newBytesLength_4 : decode cJ5_newBytesLength 4 = .ok (.new 17, 3) := dk_187 0 17 (dk_at dksJ5_newBytesLength_0 4 rfl rfl)
theorem dJ5_newBytesLength_7 : decode cJ5_newBytesLength 7 = .ok (.dup, 1) := dk_89 (dk_at dksJ5_newBytesLength_0 7 rfl rfl)
theorem dJ5_newBytesLength_8 : decode cJ5_newBytesLength 8 = .ok (.invokespecial 19, 3) := dk_183 0 19 (dk_at dksJ5_newBytesLength_0 8 rfl rfl)
theorem dJ5_newBytesLength_11 : decode cJ5_newBytesLength 11 = .ok (.athrow, 1) := dk_191 (dk_at dksJ5_newBytesLength_0 11 rfl rfl)
theorem dJ5_newBytesLength_12 : decode cJ5_newBytesLength 12 = .ok (.iload_n 0, 1) := dk_26 (dk_at dksJ5_newBytesLength_0 12 rfl rfl)
theorem dJ5_newBytesLength_13 : decode cJ5_newBytesLength 13 = .ok (.ldc 20, 2) := dk_18 20 (dk_at dksJ5_newBytesLength_0 13 rfl rfl)
theorem dJ5_newBytesLength_15 : decode cJ5_newBytesLength 15 = .ok (.if_icmp .lt 40, 3) := dk_161 0 40 (dk_at dksJ5_newBytesLength_0 15 rfl rfl)
theorem dJ5_newBytesLength_18 : decode cJ5_newBytesLength 18 = .ok (.new 21, 3) := dk_187 0 21 (dk_at dksJ5_newBytesLength_0 18 rfl rfl)
theorem dJ5_newBytesLength_21 : decode cJ5_newBytesLength 21 = .ok (.dup, 1) := dk_89 (dk_at dksJ5_newBytesLength_0 21 rfl rfl)
theorem dJ5_newBytesLength_22 : decode cJ5_newBytesLength 22 = .ok (.new 23, 3) := dk_187 0 23 (dk_at dksJ5_newBytesLength_1 0 rfl rfl)
theorem dJ5_newBytesLength_25 : decode cJ5_newBytesLength 25 = .ok (.dup, 1) := dk_89 (dk_at dksJ5_newBytesLength_1 3 rfl rfl)
theorem dJ5_newBytesLength_26 : decode cJ5_newBytesLength 26 = .ok (.invokespecial 25, 3) := dk_183 0 25 (dk_at dksJ5_newBytesLength_1 4 rfl rfl)
theorem dJ5_newBytesLength_29 : decode cJ5_newBytesLength 29 = .ok (.ldc 26, 2) := dk_18 26 (dk_at dksJ5_newBytesLength_1 7 rfl rfl)
theorem dJ5_newBytesLength_31 : decode cJ5_newBytesLength 31 = .ok (.invokevirtual 28, 3) := dk_182 0 28 (dk_at dksJ5_newBytesLength_1 9 rfl rfl)
theorem dJ5_newBytesLength_34 : decode cJ5_newBytesLength 34 = .ok (.iload_n 0, 1) := dk_26 (dk_at dksJ5_newBytesLength_1 12 rfl rfl)
theorem dJ5_newBytesLength_35 : decode cJ5_newBytesLength 35 = .ok (.invokevirtual 32, 3) := dk_182 0 32 (dk_at dksJ5_newBytesLength_1 13 rfl rfl)
theorem dJ5_newBytesLength_38 : decode cJ5_newBytesLength 38 = .ok (.ldc 35, 2) := dk_18 35 (dk_at dksJ5_newBytesLength_1 16 rfl rfl)
theorem dJ5_newBytesLength_40 : decode cJ5_newBytesLength 40 = .ok (.invokevirtual 28, 3) := dk_182 0 28 (dk_at dksJ5_newBytesLength_1 18 rfl rfl)
theorem dJ5_newBytesLength_43 : decode cJ5_newBytesLength 43 = .ok (.ldc 20, 2) := dk_18 20 (dk_at dksJ5_newBytesLength_1 21 rfl rfl)
theorem dJ5_newBytesLength_45 : decode cJ5_newBytesLength 45 = .ok (.invokevirtual 32, 3) := dk_182 0 32 (dk_at dksJ5_newBytesLength_2 0 rfl rfl)
theorem dJ5_newBytesLength_48 : decode cJ5_newBytesLength 48 = .ok (.invokevirtual 37, 3) := dk_182 0 37 (dk_at dksJ5_newBytesLength_2 3 rfl rfl)
theorem dJ5_newBytesLength_51 : decode cJ5_newBytesLength 51 = .ok (.invokespecial 41, 3) := dk_183 0 41 (dk_at dksJ5_newBytesLength_2 6 rfl rfl)
theorem dJ5_newBytesLength_54 : decode cJ5_newBytesLength 54 = .ok (.athrow, 1) := dk_191 (dk_at dksJ5_newBytesLength_2 9 rfl rfl)
theorem dJ5_newBytesLength_55 : decode cJ5_newBytesLength 55 = .ok (.iload_n 0, 1) := dk_26 (dk_at dksJ5_newBytesLength_2 10 rfl rfl)
theorem dJ5_newBytesLength_56 : decode cJ5_newBytesLength 56 = .ok (.iconst 1, 1) := dk_4 (dk_at dksJ5_newBytesLength_2 11 rfl rfl)
theorem dJ5_newBytesLength_57 : decode cJ5_newBytesLength 57 = .ok (.ishl, 1) := dk_120 (dk_at dksJ5_newBytesLength_2 12 rfl rfl)
theorem dJ5_newBytesLength_58 : decode cJ5_newBytesLength 58 = .ok (.ireturn, 1) := dk_172 (dk_at dksJ5_newBytesLength_2 13 rfl rfl)
abbrev cJ5_fillNull : ByteArray := prog_29_method_70_code
def yJ5_fillNull : MethodName := ⟨RJ5, "fillNull", "([BII)V"⟩
def dkwJ5_fillNull_0 : List UInt8 := [42, 27, 4, 120, 28, 4, 120, 3, 184, 1, 124, 177]
abbrev dktJ5_fillNull_0 : List UInt8 := dkwJ5_fillNull_0 ++ []
theorem dksJ5_fillNull_0 : cJ5_fillNull.data.toList.drop 0 = dktJ5_fillNull_0 := by decide +kernel
theorem dJ5_fillNull_0 : decode cJ5_fillNull 0 = .ok (.aload_n 0, 1) := dk_42 (dk_at dksJ5_fillNull_0 0 rfl rfl)
theorem dJ5_fillNull_1 : decode cJ5_fillNull 1 = .ok (.iload_n 1, 1) := dk_27 (dk_at dksJ5_fillNull_0 1 rfl rfl)
theorem dJ5_fillNull_2 : decode cJ5_fillNull 2 = .ok (.iconst 1, 1) := dk_4 (dk_at dksJ5_fillNull_0 2 rfl rfl)
theorem dJ5_fillNull_3 : decode cJ5_fillNull 3 = .ok (.ishl, 1) := dk_120 (dk_at dksJ5_fillNull_0 3 rfl rfl)
theorem dJ5_fillNull_4 : decode cJ5_fillNull 4 = .ok (.iload_n 2, 1) := dk_28 (dk_at dksJ5_fillNull_0 4 rfl rfl)
theorem dJ5_fillNull_5 : decode cJ5_fillNull 5 = .ok (.iconst 1, 1) := dk_4 (dk_at dksJ5_fillNull_0 5 rfl rfl)
theorem dJ5_fillNull_6 : decode cJ5_fillNull 6 = .ok (.ishl, 1) := dk_120 (dk_at dksJ5_fillNull_0 6 rfl rfl)
theorem dJ5_fillNull_7 : decode cJ5_fillNull 7 = .ok (.iconst 0, 1) := dk_3 (dk_at dksJ5_fillNull_0 7 rfl rfl)
theorem dJ5_fillNull_8 : decode cJ5_fillNull 8 = .ok (.invokestatic 380, 3) := dk_184 1 124 (dk_at dksJ5_fillNull_0 8 rfl rfl)
theorem dJ5_fillNull_11 : decode cJ5_fillNull 11 = .ok (.return_, 1) := dk_177 (dk_at dksJ5_fillNull_0 11 rfl rfl)
abbrev cJ5_inflate : ByteArray := prog_29_method_86_code
def yJ5_inflate : MethodName := ⟨RJ5, "inflate", "([BI[BII)V"⟩
def dkwJ5_inflate_1 : List UInt8 := [132, 1, 1, 51, 17, 0, 255, 126, 184, 0, 111, 132, 5, 1, 167, 255, 228, 177]
abbrev dktJ5_inflate_1 : List UInt8 := dkwJ5_inflate_1 ++ []
def dkwJ5_inflate_0 : List UInt8 := [29, 21, 4, 44, 184, 0, 173, 3, 54, 5, 21, 5, 21, 4, 162, 0, 27, 44, 29, 132, 3, 1, 42, 27]
abbrev dktJ5_inflate_0 : List UInt8 := dkwJ5_inflate_0 ++ dktJ5_inflate_1
theorem dksJ5_inflate_0 : cJ5_inflate.data.toList.drop 0 = dktJ5_inflate_0 := by decide +kernel
theorem dksJ5_inflate_1 : cJ5_inflate.data.toList.drop 24 = dktJ5_inflate_1 := dk_seg dksJ5_inflate_0 24 rfl rfl
theorem dJ5_inflate_0 : decode cJ5_inflate 0 = .ok (.iload_n 3, 1) := dk_29 (dk_at dksJ5_inflate_0 0 rfl rfl)
theorem dJ5_inflate_1 : decode cJ5_inflate 1 = .ok (.iload 4, 2) := dk_21 4 (dk_at dksJ5_inflate_0 1 rfl rfl)
theorem dJ5_inflate_3 : decode cJ5_inflate 3 = .ok (.aload_n 2, 1) := dk_44 (dk_at dksJ5_inflate_0 3 rfl rfl)
theorem dJ5_inflate_4 : decode cJ5_inflate 4 = .ok (.invokestatic 173, 3) := dk_184 0 173 (dk_at dksJ5_inflate_0 4 rfl rfl)
theorem dJ5_inflate_7 : decode cJ5_inflate 7 = .ok (.iconst 0, 1) := dk_3 (dk_at dksJ5_inflate_0 7 rfl rfl)
theorem dJ5_inflate_8 : decode cJ5_inflate 8 = .ok (.istore 5, 2) := dk_54 5 (dk_at dksJ5_inflate_0 8 rfl rfl)
theorem dJ5_inflate_10 : decode cJ5_inflate 10 = .ok (.iload 5, 2) := dk_21 5 (dk_at dksJ5_inflate_0 10 rfl rfl)
theorem dJ5_inflate_12 : decode cJ5_inflate 12 = .ok (.iload 4, 2) := dk_21 4 (dk_at dksJ5_inflate_0 12 rfl rfl)
theorem dJ5_inflate_14 : decode cJ5_inflate 14 = .ok (.if_icmp .ge 27, 3) := dk_162 0 27 (dk_at dksJ5_inflate_0 14 rfl rfl)
theorem dJ5_inflate_17 : decode cJ5_inflate 17 = .ok (.aload_n 2, 1) := dk_44 (dk_at dksJ5_inflate_0 17 rfl rfl)
theorem dJ5_inflate_18 : decode cJ5_inflate 18 = .ok (.iload_n 3, 1) := dk_29 (dk_at dksJ5_inflate_0 18 rfl rfl)
theorem dJ5_inflate_19 : decode cJ5_inflate 19 = .ok (.iinc 3 1, 3) := dk_132 3 1 (dk_at dksJ5_inflate_0 19 rfl rfl)
theorem dJ5_inflate_22 : decode cJ5_inflate 22 = .ok (.aload_n 0, 1) := dk_42 (dk_at dksJ5_inflate_0 22 rfl rfl)
theorem dJ5_inflate_23 : decode cJ5_inflate 23 = .ok (.iload_n 1, 1) := dk_27 (dk_at dksJ5_inflate_0 23 rfl rfl)
theorem dJ5_inflate_24 : decode cJ5_inflate 24 = .ok (.iinc 1 1, 3) := dk_132 1 1 (dk_at dksJ5_inflate_1 0 rfl rfl)
theorem dJ5_inflate_27 : decode cJ5_inflate 27 = .ok (.baload, 1) := dk_51 (dk_at dksJ5_inflate_1 3 rfl rfl)
theorem dJ5_inflate_28 : decode cJ5_inflate 28 = .ok (.sipush 255, 3) := dk_17 0 255 (dk_at dksJ5_inflate_1 4 rfl rfl)
theorem dJ5_inflate_31 : decode cJ5_inflate 31 = .ok (.iand, 1) := dk_126 (dk_at dksJ5_inflate_1 7 rfl rfl)
theorem dJ5_inflate_32 : decode cJ5_inflate 32 = .ok (.invokestatic 111, 3) := dk_184 0 111 (dk_at dksJ5_inflate_1 8 rfl rfl)
theorem dJ5_inflate_35 : decode cJ5_inflate 35 = .ok (.iinc 5 1, 3) := dk_132 5 1 (dk_at dksJ5_inflate_1 11 rfl rfl)
theorem dJ5_inflate_38 : decode cJ5_inflate 38 = .ok (.goto (-28), 3) := dk_167 255 228 (dk_at dksJ5_inflate_1 14 rfl rfl)
theorem dJ5_inflate_41 : decode cJ5_inflate 41 = .ok (.return_, 1) := dk_177 (dk_at dksJ5_inflate_1 17 rfl rfl)
abbrev cJ5_checkBoundsOffCount : ByteArray := prog_29_method_94_code
def yJ5_checkBoundsOffCount : MethodName := ⟨RJ5, "checkBoundsOffCount", "(II[B)V"⟩
def dkwJ5_checkBoundsOffCount_0 : List UInt8 := [26, 27, 44, 184, 0, 48, 184, 1, 163, 87, 177]
abbrev dktJ5_checkBoundsOffCount_0 : List UInt8 := dkwJ5_checkBoundsOffCount_0 ++ []
theorem dksJ5_checkBoundsOffCount_0 : cJ5_checkBoundsOffCount.data.toList.drop 0 = dktJ5_checkBoundsOffCount_0 := by decide +kernel
theorem dJ5_checkBoundsOffCount_0 : decode cJ5_checkBoundsOffCount 0 = .ok (.iload_n 0, 1) := dk_26 (dk_at dksJ5_checkBoundsOffCount_0 0 rfl rfl)
theorem dJ5_checkBoundsOffCount_1 : decode cJ5_checkBoundsOffCount 1 = .ok (.iload_n 1, 1) := dk_27 (dk_at dksJ5_checkBoundsOffCount_0 1 rfl rfl)
theorem dJ5_checkBoundsOffCount_2 : decode cJ5_checkBoundsOffCount 2 = .ok (.aload_n 2, 1) := dk_44 (dk_at dksJ5_checkBoundsOffCount_0 2 rfl rfl)
theorem dJ5_checkBoundsOffCount_3 : decode cJ5_checkBoundsOffCount 3 = .ok (.invokestatic 48, 3) := dk_184 0 48 (dk_at dksJ5_checkBoundsOffCount_0 3 rfl rfl)
theorem dJ5_checkBoundsOffCount_6 : decode cJ5_checkBoundsOffCount 6 = .ok (.invokestatic 419, 3) := dk_184 1 163 (dk_at dksJ5_checkBoundsOffCount_0 6 rfl rfl)
theorem dJ5_checkBoundsOffCount_9 : decode cJ5_checkBoundsOffCount 9 = .ok (.pop, 1) := dk_87 (dk_at dksJ5_checkBoundsOffCount_0 9 rfl rfl)
theorem dJ5_checkBoundsOffCount_10 : decode cJ5_checkBoundsOffCount 10 = .ok (.return_, 1) := dk_177 (dk_at dksJ5_checkBoundsOffCount_0 10 rfl rfl)
abbrev cJ5_length : ByteArray := prog_29_method_6_code
def yJ5_length : MethodName := ⟨RJ5, "length", "([B)I"⟩
def dkwJ5_length_0 : List UInt8 := [42, 190, 4, 122, 172]
abbrev dktJ5_length_0 : List UInt8 := dkwJ5_length_0 ++ []
theorem dksJ5_length_0 : cJ5_length.data.toList.drop 0 = dktJ5_length_0 := by decide +kernel
theorem dJ5_length_0 : decode cJ5_length 0 = .ok (.aload_n 0, 1) := dk_42 (dk_at dksJ5_length_0 0 rfl rfl)
theorem dJ5_length_1 : decode cJ5_length 1 = .ok (.arraylength, 1) := dk_190 (dk_at dksJ5_length_0 1 rfl rfl)
theorem dJ5_length_2 : decode cJ5_length 2 = .ok (.iconst 1, 1) := dk_4 (dk_at dksJ5_length_0 2 rfl rfl)
theorem dJ5_length_3 : decode cJ5_length 3 = .ok (.ishr, 1) := dk_122 (dk_at dksJ5_length_0 3 rfl rfl)
theorem dJ5_length_4 : decode cJ5_length 4 = .ok (.ireturn, 1) := dk_172 (dk_at dksJ5_length_0 4 rfl rfl)
abbrev cJ5_putChar : ByteArray := prog_29_method_4_code
def yJ5_putChar : MethodName := ⟨RJ5, "putChar", "([BII)V"⟩
def dkwJ5_putChar_2 : List UInt8 := [178, 0, 63, 122, 145, 84, 177]
abbrev dktJ5_putChar_2 : List UInt8 := dkwJ5_putChar_2 ++ []
def dkwJ5_putChar_1 : List UInt8 := [183, 0, 56, 191, 27, 4, 120, 60, 42, 27, 132, 1, 1, 28, 178, 0, 59, 122, 145, 84, 42, 27, 28]
abbrev dktJ5_putChar_1 : List UInt8 := dkwJ5_putChar_1 ++ dktJ5_putChar_2
def dkwJ5_putChar_0 : List UInt8 := [178, 0, 44, 154, 0, 25, 27, 155, 0, 11, 27, 42, 184, 0, 48, 161, 0, 13, 187, 0, 52, 89, 18, 54]
abbrev dktJ5_putChar_0 : List UInt8 := dkwJ5_putChar_0 ++ dktJ5_putChar_1
theorem dksJ5_putChar_0 : cJ5_putChar.data.toList.drop 0 = dktJ5_putChar_0 := by decide +kernel
theorem dksJ5_putChar_1 : cJ5_putChar.data.toList.drop 24 = dktJ5_putChar_1 := dk_seg dksJ5_putChar_0 24 rfl rfl
theorem dksJ5_putChar_2 : cJ5_putChar.data.toList.drop 47 = dktJ5_putChar_2 := dk_seg dksJ5_putChar_1 23 rfl rfl
theorem dJ5_putChar_0 : decode cJ5_putChar 0 = .ok (.getstatic 44, 3) := dk_178 0 44 (dk_at dksJ5_putChar_0 0 rfl rfl)
theorem dJ5_putChar_3 : decode cJ5_putChar 3 = .ok (.ifCond .ne 25, 3) := dk_154 0 25 (dk_at dksJ5_putChar_0 3 rfl rfl)
theorem dJ5_putChar_6 : decode cJ5_putChar 6 = .ok (.iload_n 1, 1) := dk_27 (dk_at dksJ5_putChar_0 6 rfl rfl)
theorem dJ5_putChar_7 : decode cJ5_putChar 7 = .ok (.ifCond .lt 11, 3) := dk_155 0 11 (dk_at dksJ5_putChar_0 7 rfl rfl)
theorem dJ5_putChar_10 : decode cJ5_putChar 10 = .ok (.iload_n 1, 1) := dk_27 (dk_at dksJ5_putChar_0 10 rfl rfl)
theorem dJ5_putChar_11 : decode cJ5_putChar 11 = .ok (.aload_n 0, 1) := dk_42 (dk_at dksJ5_putChar_0 11 rfl rfl)
theorem dJ5_putChar_12 : decode cJ5_putChar 12 = .ok (.invokestatic 48, 3) := dk_184 0 48 (dk_at dksJ5_putChar_0 12 rfl rfl)
theorem dJ5_putChar_15 : decode cJ5_putChar 15 = .ok (.if_icmp .lt 13, 3) := dk_161 0 13 (dk_at dksJ5_putChar_0 15 rfl rfl)
theorem dJ5_putChar_18 : decode cJ5_putChar 18 = .ok (.new 52, 3) := dk_187 0 52 (dk_at dksJ5_putChar_0 18 rfl rfl)
theorem dJ5_putChar_21 : decode cJ5_putChar 21 = .ok (.dup, 1) := dk_89 (dk_at dksJ5_putChar_0 21 rfl rfl)
theorem dJ5_putChar_22 : decode cJ5_putChar 22 = .ok (.ldc 54, 2) := dk_18 54 (dk_at dksJ5_putChar_0 22 rfl rfl)
theorem dJ5_putChar_24 : decode cJ5_putChar 24 = .ok (.invokespecial 56, 3) := dk_183 0 56 (dk_at dksJ5_putChar_1 0 rfl rfl)
theorem dJ5_putChar_27 : decode cJ5_putChar 27 = .ok (.athrow, 1) := dk_191 (dk_at dksJ5_putChar_1 3 rfl rfl)
theorem dJ5_putChar_28 : decode cJ5_putChar 28 = .ok (.iload_n 1, 1) := dk_27 (dk_at dksJ5_putChar_1 4 rfl rfl)
theorem dJ5_putChar_29 : decode cJ5_putChar 29 = .ok (.iconst 1, 1) := dk_4 (dk_at dksJ5_putChar_1 5 rfl rfl)
theorem dJ5_putChar_30 : decode cJ5_putChar 30 = .ok (.ishl, 1) := dk_120 (dk_at dksJ5_putChar_1 6 rfl rfl)
theorem dJ5_putChar_31 : decode cJ5_putChar 31 = .ok (.istore_n 1, 1) := dk_60 (dk_at dksJ5_putChar_1 7 rfl rfl)
theorem dJ5_putChar_32 : decode cJ5_putChar 32 = .ok (.aload_n 0, 1) := dk_42 (dk_at dksJ5_putChar_1 8 rfl rfl)
theorem dJ5_putChar_33 : decode cJ5_putChar 33 = .ok (.iload_n 1, 1) := dk_27 (dk_at dksJ5_putChar_1 9 rfl rfl)
theorem dJ5_putChar_34 : decode cJ5_putChar 34 = .ok (.iinc 1 1, 3) := dk_132 1 1 (dk_at dksJ5_putChar_1 10 rfl rfl)
theorem dJ5_putChar_37 : decode cJ5_putChar 37 = .ok (.iload_n 2, 1) := dk_28 (dk_at dksJ5_putChar_1 13 rfl rfl)
theorem dJ5_putChar_38 : decode cJ5_putChar 38 = .ok (.getstatic 59, 3) := dk_178 0 59 (dk_at dksJ5_putChar_1 14 rfl rfl)
theorem dJ5_putChar_41 : decode cJ5_putChar 41 = .ok (.ishr, 1) := dk_122 (dk_at dksJ5_putChar_1 17 rfl rfl)
theorem dJ5_putChar_42 : decode cJ5_putChar 42 = .ok (.i2b, 1) := dk_145 (dk_at dksJ5_putChar_1 18 rfl rfl)
theorem dJ5_putChar_43 : decode cJ5_putChar 43 = .ok (.bastore, 1) := dk_84 (dk_at dksJ5_putChar_1 19 rfl rfl)
theorem dJ5_putChar_44 : decode cJ5_putChar 44 = .ok (.aload_n 0, 1) := dk_42 (dk_at dksJ5_putChar_1 20 rfl rfl)
theorem dJ5_putChar_45 : decode cJ5_putChar 45 = .ok (.iload_n 1, 1) := dk_27 (dk_at dksJ5_putChar_1 21 rfl rfl)
theorem dJ5_putChar_46 : decode cJ5_putChar 46 = .ok (.iload_n 2, 1) := dk_28 (dk_at dksJ5_putChar_1 22 rfl rfl)
theorem dJ5_putChar_47 : decode cJ5_putChar 47 = .ok (.getstatic 63, 3) := dk_178 0 63 (dk_at dksJ5_putChar_2 0 rfl rfl)
theorem dJ5_putChar_50 : decode cJ5_putChar 50 = .ok (.ishr, 1) := dk_122 (dk_at dksJ5_putChar_2 3 rfl rfl)
theorem dJ5_putChar_51 : decode cJ5_putChar 51 = .ok (.i2b, 1) := dk_145 (dk_at dksJ5_putChar_2 4 rfl rfl)
theorem dJ5_putChar_52 : decode cJ5_putChar 52 = .ok (.bastore, 1) := dk_84 (dk_at dksJ5_putChar_2 5 rfl rfl)
theorem dJ5_putChar_53 : decode cJ5_putChar 53 = .ok (.return_, 1) := dk_177 (dk_at dksJ5_putChar_2 6 rfl rfl)
abbrev cJ5_putCharSB : ByteArray := prog_29_method_71_code
def yJ5_putCharSB : MethodName := ⟨RJ5, "putCharSB", "([BII)V"⟩
def dkwJ5_putCharSB_0 : List UInt8 := [27, 42, 184, 0, 67, 42, 27, 28, 184, 0, 111, 177]
abbrev dktJ5_putCharSB_0 : List UInt8 := dkwJ5_putCharSB_0 ++ []
theorem dksJ5_putCharSB_0 : cJ5_putCharSB.data.toList.drop 0 = dktJ5_putCharSB_0 := by decide +kernel
theorem dJ5_putCharSB_0 : decode cJ5_putCharSB 0 = .ok (.iload_n 1, 1) := dk_27 (dk_at dksJ5_putCharSB_0 0 rfl rfl)
theorem dJ5_putCharSB_1 : decode cJ5_putCharSB 1 = .ok (.aload_n 0, 1) := dk_42 (dk_at dksJ5_putCharSB_0 1 rfl rfl)
theorem dJ5_putCharSB_2 : decode cJ5_putCharSB 2 = .ok (.invokestatic 67, 3) := dk_184 0 67 (dk_at dksJ5_putCharSB_0 2 rfl rfl)
theorem dJ5_putCharSB_5 : decode cJ5_putCharSB 5 = .ok (.aload_n 0, 1) := dk_42 (dk_at dksJ5_putCharSB_0 5 rfl rfl)
theorem dJ5_putCharSB_6 : decode cJ5_putCharSB 6 = .ok (.iload_n 1, 1) := dk_27 (dk_at dksJ5_putCharSB_0 6 rfl rfl)
theorem dJ5_putCharSB_7 : decode cJ5_putCharSB 7 = .ok (.iload_n 2, 1) := dk_28 (dk_at dksJ5_putCharSB_0 7 rfl rfl)
theorem dJ5_putCharSB_8 : decode cJ5_putCharSB 8 = .ok (.invokestatic 111, 3) := dk_184 0 111 (dk_at dksJ5_putCharSB_0 8 rfl rfl)
theorem dJ5_putCharSB_11 : decode cJ5_putCharSB 11 = .ok (.return_, 1) := dk_177 (dk_at dksJ5_putCharSB_0 11 rfl rfl)
abbrev cJ5_checkIndex : ByteArray := prog_29_method_91_code
def yJ5_checkIndex : MethodName := ⟨RJ5, "checkIndex", "(I[B)V"⟩
def dkwJ5_checkIndex_0 : List UInt8 := [26, 43, 184, 0, 48, 184, 1, 158, 177]
abbrev dktJ5_checkIndex_0 : List UInt8 := dkwJ5_checkIndex_0 ++ []
theorem dksJ5_checkIndex_0 : cJ5_checkIndex.data.toList.drop 0 = dktJ5_checkIndex_0 := by decide +kernel
theorem dJ5_checkIndex_0 : decode cJ5_checkIndex 0 = .ok (.iload_n 0, 1) := dk_26 (dk_at dksJ5_checkIndex_0 0 rfl rfl)
theorem dJ5_checkIndex_1 : decode cJ5_checkIndex 1 = .ok (.aload_n 1, 1) := dk_43 (dk_at dksJ5_checkIndex_0 1 rfl rfl)
theorem dJ5_checkIndex_2 : decode cJ5_checkIndex 2 = .ok (.invokestatic 48, 3) := dk_184 0 48 (dk_at dksJ5_checkIndex_0 2 rfl rfl)
theorem dJ5_checkIndex_5 : decode cJ5_checkIndex 5 = .ok (.invokestatic 414, 3) := dk_184 1 158 (dk_at dksJ5_checkIndex_0 5 rfl rfl)
theorem dJ5_checkIndex_8 : decode cJ5_checkIndex 8 = .ok (.return_, 1) := dk_177 (dk_at dksJ5_checkIndex_0 8 rfl rfl)
abbrev cJ5_compress : ByteArray := prog_29_method_17_code
def yJ5_compress : MethodName := ⟨RJ5, "compress", "([BII)[B"⟩
def dkwJ5_compress_2 : List UInt8 := [25, 5, 3, 45, 3, 28, 184, 0, 123, 28, 159, 0, 6, 25, 5, 176, 45, 176]
abbrev dktJ5_compress_2 : List UInt8 := dkwJ5_compress_2 ++ []
def dkwJ5_compress_1 : List UInt8 := [27, 28, 96, 184, 0, 11, 184, 0, 126, 58, 5, 25, 5, 21, 4, 184, 0, 71, 17, 0, 255, 163, 0, 16]
abbrev dktJ5_compress_1 : List UInt8 := dkwJ5_compress_1 ++ dktJ5_compress_2
def dkwJ5_compress_0 : List UInt8 := [28, 188, 8, 78, 42, 27, 45, 3, 28, 184, 0, 123, 54, 4, 21, 4, 28, 159, 0, 47, 42, 27, 4, 120]
abbrev dktJ5_compress_0 : List UInt8 := dkwJ5_compress_0 ++ dktJ5_compress_1
theorem dksJ5_compress_0 : cJ5_compress.data.toList.drop 0 = dktJ5_compress_0 := by decide +kernel
theorem dksJ5_compress_1 : cJ5_compress.data.toList.drop 24 = dktJ5_compress_1 := dk_seg dksJ5_compress_0 24 rfl rfl
theorem dksJ5_compress_2 : cJ5_compress.data.toList.drop 48 = dktJ5_compress_2 := dk_seg dksJ5_compress_1 24 rfl rfl
theorem dJ5_compress_0 : decode cJ5_compress 0 = .ok (.iload_n 2, 1) := dk_28 (dk_at dksJ5_compress_0 0 rfl rfl)
theorem dJ5_compress_1 : decode cJ5_compress 1 = .ok (.newarray .byte, 2) := dk_188_8 (dk_at dksJ5_compress_0 1 rfl rfl)
theorem dJ5_compress_3 : decode cJ5_compress 3 = .ok (.astore_n 3, 1) := dk_78 (dk_at dksJ5_compress_0 3 rfl rfl)
theorem dJ5_compress_4 : decode cJ5_compress 4 = .ok (.aload_n 0, 1) := dk_42 (dk_at dksJ5_compress_0 4 rfl rfl)
theorem dJ5_compress_5 : decode cJ5_compress 5 = .ok (.iload_n 1, 1) := dk_27 (dk_at dksJ5_compress_0 5 rfl rfl)
theorem dJ5_compress_6 : decode cJ5_compress 6 = .ok (.aload_n 3, 1) := dk_45 (dk_at dksJ5_compress_0 6 rfl rfl)
theorem dJ5_compress_7 : decode cJ5_compress 7 = .ok (.iconst 0, 1) := dk_3 (dk_at dksJ5_compress_0 7 rfl rfl)
theorem dJ5_compress_8 : decode cJ5_compress 8 = .ok (.iload_n 2, 1) := dk_28 (dk_at dksJ5_compress_0 8 rfl rfl)
theorem dJ5_compress_9 : decode cJ5_compress 9 = .ok (.invokestatic 123, 3) := dk_184 0 123 (dk_at dksJ5_compress_0 9 rfl rfl)
theorem dJ5_compress_12 : decode cJ5_compress 12 = .ok (.istore 4, 2) := dk_54 4 (dk_at dksJ5_compress_0 12 rfl rfl)
theorem dJ5_compress_14 : decode cJ5_compress 14 = .ok (.iload 4, 2) := dk_21 4 (dk_at dksJ5_compress_0 14 rfl rfl)
theorem dJ5_compress_16 : decode cJ5_compress 16 = .ok (.iload_n 2, 1) := dk_28 (dk_at dksJ5_compress_0 16 rfl rfl)
theorem dJ5_compress_17 : decode cJ5_compress 17 = .ok (.if_icmp .eq 47, 3) := dk_159 0 47 (dk_at dksJ5_compress_0 17 rfl rfl)
theorem dJ5_compress_20 : decode cJ5_compress 20 = .ok (.aload_n 0, 1) := dk_42 (dk_at dksJ5_compress_0 20 rfl rfl)
theorem dJ5_compress_21 : decode cJ5_compress 21 = .ok (.iload_n 1, 1) := dk_27 (dk_at dksJ5_compress_0 21 rfl rfl)
theorem dJ5_compress_22 : decode cJ5_compress 22 = .ok (.iconst 1, 1) := dk_4 (dk_at dksJ5_compress_0 22 rfl rfl)
theorem dJ5_compress_23 : decode cJ5_compress 23 = .ok (.ishl, 1) := dk_120 (dk_at dksJ5_compress_0 23 rfl rfl)
theorem dJ5_compress_24 : decode cJ5_compress 24 = .ok (.iload_n 1, 1) := dk_27 (dk_at dksJ5_compress_1 0 rfl rfl)
theorem dJ5_compress_25 : decode cJ5_compress 25 = .ok (.iload_n 2, 1) := dk_28 (dk_at dksJ5_compress_1 1 rfl rfl)
theorem dJ5_compress_26 : decode cJ5_compress 26 = .ok (.iadd, 1) := dk_96 (dk_at dksJ5_compress_1 2 rfl rfl)
theorem dJ5_compress_27 : decode cJ5_compress 27 = .ok (.invokestatic 11, 3) := dk_184 0 11 (dk_at dksJ5_compress_1 3 rfl rfl)
theorem dJ5_compress_30 : decode cJ5_compress 30 = .ok (.invokestatic 126, 3) := dk_184 0 126 (dk_at dksJ5_compress_1 6 rfl rfl)
theorem dJ5_compress_33 : decode cJ5_compress 33 = .ok (.astore 5, 2) := dk_58 5 (dk_at dksJ5_compress_1 9 rfl rfl)
theorem dJ5_compress_35 : decode cJ5_compress 35 = .ok (.aload 5, 2) := dk_25 5 (dk_at dksJ5_compress_1 11 rfl rfl)
theorem dJ5_compress_37 : decode cJ5_compress 37 = .ok (.iload 4, 2) := dk_21 4 (dk_at dksJ5_compress_1 13 rfl rfl)
theorem dJ5_compress_39 : decode cJ5_compress 39 = .ok (.invokestatic 71, 3) := dk_184 0 71 (dk_at dksJ5_compress_1 15 rfl rfl)
theorem dJ5_compress_42 : decode cJ5_compress 42 = .ok (.sipush 255, 3) := dk_17 0 255 (dk_at dksJ5_compress_1 18 rfl rfl)
theorem dJ5_compress_45 : decode cJ5_compress 45 = .ok (.if_icmp .gt 16, 3) := dk_163 0 16 (dk_at dksJ5_compress_1 21 rfl rfl)
theorem dJ5_compress_48 : decode cJ5_compress 48 = .ok (.aload 5, 2) := dk_25 5 (dk_at dksJ5_compress_2 0 rfl rfl)
theorem dJ5_compress_50 : decode cJ5_compress 50 = .ok (.iconst 0, 1) := dk_3 (dk_at dksJ5_compress_2 2 rfl rfl)
theorem dJ5_compress_51 : decode cJ5_compress 51 = .ok (.aload_n 3, 1) := dk_45 (dk_at dksJ5_compress_2 3 rfl rfl)
theorem dJ5_compress_52 : decode cJ5_compress 52 = .ok (.iconst 0, 1) := dk_3 (dk_at dksJ5_compress_2 4 rfl rfl)
theorem dJ5_compress_53 : decode cJ5_compress 53 = .ok (.iload_n 2, 1) := dk_28 (dk_at dksJ5_compress_2 5 rfl rfl)
theorem dJ5_compress_54 : decode cJ5_compress 54 = .ok (.invokestatic 123, 3) := dk_184 0 123 (dk_at dksJ5_compress_2 6 rfl rfl)
theorem dJ5_compress_57 : decode cJ5_compress 57 = .ok (.iload_n 2, 1) := dk_28 (dk_at dksJ5_compress_2 9 rfl rfl)
theorem dJ5_compress_58 : decode cJ5_compress 58 = .ok (.if_icmp .eq 6, 3) := dk_159 0 6 (dk_at dksJ5_compress_2 10 rfl rfl)
theorem dJ5_compress_61 : decode cJ5_compress 61 = .ok (.aload 5, 2) := dk_25 5 (dk_at dksJ5_compress_2 13 rfl rfl)
theorem dJ5_compress_63 : decode cJ5_compress 63 = .ok (.areturn, 1) := dk_176 (dk_at dksJ5_compress_2 15 rfl rfl)
theorem dJ5_compress_64 : decode cJ5_compress 64 = .ok (.aload_n 3, 1) := dk_45 (dk_at dksJ5_compress_2 16 rfl rfl)
theorem dJ5_compress_65 : decode cJ5_compress 65 = .ok (.areturn, 1) := dk_176 (dk_at dksJ5_compress_2 17 rfl rfl)
abbrev cJ5_compress_2 : ByteArray := prog_29_method_22_code
def yJ5_compress_2 : MethodName := ⟨RJ5, "compress", "([BI[BII)I"⟩
def dkwJ5_compress_2_2 : List UInt8 := [132, 5, 1, 167, 255, 216, 21, 4, 172]
abbrev dktJ5_compress_2_2 : List UInt8 := dkwJ5_compress_2_2 ++ []
def dkwJ5_compress_2_1 : List UInt8 := [21, 6, 17, 0, 255, 164, 0, 6, 21, 5, 172, 44, 29, 21, 6, 145, 84, 132, 1, 1, 132, 3, 1]
abbrev dktJ5_compress_2_1 : List UInt8 := dkwJ5_compress_2_1 ++ dktJ5_compress_2_2
def dkwJ5_compress_2_0 : List UInt8 := [27, 21, 4, 42, 184, 0, 173, 3, 54, 5, 21, 5, 21, 4, 162, 0, 39, 42, 27, 184, 0, 71, 54, 6]
abbrev dktJ5_compress_2_0 : List UInt8 := dkwJ5_compress_2_0 ++ dktJ5_compress_2_1
theorem dksJ5_compress_2_0 : cJ5_compress_2.data.toList.drop 0 = dktJ5_compress_2_0 := by decide +kernel
theorem dksJ5_compress_2_1 : cJ5_compress_2.data.toList.drop 24 = dktJ5_compress_2_1 := dk_seg dksJ5_compress_2_0 24 rfl rfl
theorem dksJ5_compress_2_2 : cJ5_compress_2.data.toList.drop 47 = dktJ5_compress_2_2 := dk_seg dksJ5_compress_2_1 23 rfl rfl
theorem dJ5_compress_2_0 : decode cJ5_compress_2 0 = .ok (.iload_n 1, 1) := dk_27 (dk_at dksJ5_compress_2_0 0 rfl rfl)
theorem dJ5_compress_2_1 : decode cJ5_compress_2 1 = .ok (.iload 4, 2) := dk_21 4 (dk_at dksJ5_compress_2_0 1 rfl rfl)
theorem dJ5_compress_2_3 : decode cJ5_compress_2 3 = .ok (.aload_n 0, 1) := dk_42 (dk_at dksJ5_compress_2_0 3 rfl rfl)
theorem dJ5_compress_2_4 : decode cJ5_compress_2 4 = .ok (.invokestatic 173, 3) := dk_184 0 173 (dk_at dksJ5_compress_2_0 4 rfl rfl)
theorem dJ5_compress_2_7 : decode cJ5_compress_2 7 = .ok (.iconst 0, 1) := dk_3 (dk_at dksJ5_compress_2_0 7 rfl rfl)
theorem dJ5_compress_2_8 : decode cJ5_compress_2 8 = .ok (.istore 5, 2) := dk_54 5 (dk_at dksJ5_compress_2_0 8 rfl rfl)
theorem dJ5_compress_2_10 : decode cJ5_compress_2 10 = .ok (.iload 5, 2) := dk_21 5 (dk_at dksJ5_compress_2_0 10 rfl rfl)
theorem dJ5_compress_2_12 : decode cJ5_compress_2 12 = .ok (.iload 4, 2) := dk_21 4 (dk_at dksJ5_compress_2_0 12 rfl rfl)
theorem dJ5_compress_2_14 : decode cJ5_compress_2 14 = .ok (.if_icmp .ge 39, 3) := dk_162 0 39 (dk_at dksJ5_compress_2_0 14 rfl rfl)
theorem dJ5_compress_2_17 : decode cJ5_compress_2 17 = .ok (.aload_n 0, 1) := dk_42 (dk_at dksJ5_compress_2_0 17 rfl rfl)
theorem dJ5_compress_2_18 : decode cJ5_compress_2 18 = .ok (.iload_n 1, 1) := dk_27 (dk_at dksJ5_compress_2_0 18 rfl rfl)
theorem dJ5_compress_2_19 : decode cJ5_compress_2 19 = .ok (.invokestatic 71, 3) := dk_184 0 71 (dk_at dksJ5_compress_2_0 19 rfl rfl)
theorem dJ5_compress_2_22 : decode cJ5_compress_2 22 = .ok (.istore 6, 2) := dk_54 6 (dk_at dksJ5_compress_2_0 22 rfl rfl)
theorem dJ5_compress_2_24 : decode cJ5_compress_2 24 = .ok (.iload 6, 2) := dk_21 6 (dk_at dksJ5_compress_2_1 0 rfl rfl)
theorem dJ5_compress_2_26 : decode cJ5_compress_2 26 = .ok (.sipush 255, 3) := dk_17 0 255 (dk_at dksJ5_compress_2_1 2 rfl rfl)
theorem dJ5_compress_2_29 : decode cJ5_compress_2 29 = .ok (.if_icmp .le 6, 3) := dk_164 0 6 (dk_at dksJ5_compress_2_1 5 rfl rfl)
theorem dJ5_compress_2_32 : decode cJ5_compress_2 32 = .ok (.iload 5, 2) := dk_21 5 (dk_at dksJ5_compress_2_1 8 rfl rfl)
theorem dJ5_compress_2_34 : decode cJ5_compress_2 34 = .ok (.ireturn, 1) := dk_172 (dk_at dksJ5_compress_2_1 10 rfl rfl)
theorem dJ5_compress_2_35 : decode cJ5_compress_2 35 = .ok (.aload_n 2, 1) := dk_44 (dk_at dksJ5_compress_2_1 11 rfl rfl)
theorem dJ5_compress_2_36 : decode cJ5_compress_2 36 = .ok (.iload_n 3, 1) := dk_29 (dk_at dksJ5_compress_2_1 12 rfl rfl)
theorem dJ5_compress_2_37 : decode cJ5_compress_2 37 = .ok (.iload 6, 2) := dk_21 6 (dk_at dksJ5_compress_2_1 13 rfl rfl)
theorem dJ5_compress_2_39 : decode cJ5_compress_2 39 = .ok (.i2b, 1) := dk_145 (dk_at dksJ5_compress_2_1 15 rfl rfl)
theorem dJ5_compress_2_40 : decode cJ5_compress_2 40 = .ok (.bastore, 1) := dk_84 (dk_at dksJ5_compress_2_1 16 rfl rfl)
theorem dJ5_compress_2_41 : decode cJ5_compress_2 41 = .ok (.iinc 1 1, 3) := dk_132 1 1 (dk_at dksJ5_compress_2_1 17 rfl rfl)
theorem dJ5_compress_2_44 : decode cJ5_compress_2 44 = .ok (.iinc 3 1, 3) := dk_132 3 1 (dk_at dksJ5_compress_2_1 20 rfl rfl)
theorem dJ5_compress_2_47 : decode cJ5_compress_2 47 = .ok (.iinc 5 1, 3) := dk_132 5 1 (dk_at dksJ5_compress_2_2 0 rfl rfl)
theorem dJ5_compress_2_50 : decode cJ5_compress_2 50 = .ok (.goto (-40), 3) := dk_167 255 216 (dk_at dksJ5_compress_2_2 3 rfl rfl)
theorem dJ5_compress_2_53 : decode cJ5_compress_2 53 = .ok (.iload 4, 2) := dk_21 4 (dk_at dksJ5_compress_2_2 6 rfl rfl)
theorem dJ5_compress_2_55 : decode cJ5_compress_2 55 = .ok (.ireturn, 1) := dk_172 (dk_at dksJ5_compress_2_2 8 rfl rfl)
abbrev cJ5_getChar : ByteArray := prog_29_method_5_code
def yJ5_getChar : MethodName := ⟨RJ5, "getChar", "([BI)C"⟩
def dkwJ5_getChar_2 : List UInt8 := [51, 17, 0, 255, 126, 178, 0, 63, 120, 128, 146, 172]
abbrev dktJ5_getChar_2 : List UInt8 := dkwJ5_getChar_2 ++ []
def dkwJ5_getChar_1 : List UInt8 := [183, 0, 56, 191, 27, 4, 120, 60, 42, 27, 132, 1, 1, 51, 17, 0, 255, 126, 178, 0, 59, 120, 42, 27]
abbrev dktJ5_getChar_1 : List UInt8 := dkwJ5_getChar_1 ++ dktJ5_getChar_2
def dkwJ5_getChar_0 : List UInt8 := [178, 0, 44, 154, 0, 25, 27, 155, 0, 11, 27, 42, 184, 0, 48, 161, 0, 13, 187, 0, 52, 89, 18, 54]
abbrev dktJ5_getChar_0 : List UInt8 := dkwJ5_getChar_0 ++ dktJ5_getChar_1
theorem dksJ5_getChar_0 : cJ5_getChar.data.toList.drop 0 = dktJ5_getChar_0 := by decide +kernel
theorem dksJ5_getChar_1 : cJ5_getChar.data.toList.drop 24 = dktJ5_getChar_1 := dk_seg dksJ5_getChar_0 24 rfl rfl
theorem dksJ5_getChar_2 : cJ5_getChar.data.toList.drop 48 = dktJ5_getChar_2 := dk_seg dksJ5_getChar_1 24 rfl rfl
theorem dJ5_getChar_0 : decode cJ5_getChar 0 = .ok (.getstatic 44, 3) := dk_178 0 44 (dk_at dksJ5_getChar_0 0 rfl rfl)
theorem dJ5_getChar_3 : decode cJ5_getChar 3 = .ok (.ifCond .ne 25, 3) := dk_154 0 25 (dk_at dksJ5_getChar_0 3 rfl rfl)
theorem dJ5_getChar_6 : decode cJ5_getChar 6 = .ok (.iload_n 1, 1) := dk_27 (dk_at dksJ5_getChar_0 6 rfl rfl)
theorem dJ5_getChar_7 : decode cJ5_getChar 7 = .ok (.ifCond .lt 11, 3) := dk_155 0 11 (dk_at dksJ5_getChar_0 7 rfl rfl)
theorem dJ5_getChar_10 : decode cJ5_getChar 10 = .ok (.iload_n 1, 1) := dk_27 (dk_at dksJ5_getChar_0 10 rfl rfl)
theorem dJ5_getChar_11 : decode cJ5_getChar 11 = .ok (.aload_n 0, 1) := dk_42 (dk_at dksJ5_getChar_0 11 rfl rfl)
theorem dJ5_getChar_12 : decode cJ5_getChar 12 = .ok (.invokestatic 48, 3) := dk_184 0 48 (dk_at dksJ5_getChar_0 12 rfl rfl)
theorem dJ5_getChar_15 : decode cJ5_getChar 15 = .ok (.if_icmp .lt 13, 3) := dk_161 0 13 (dk_at dksJ5_getChar_0 15 rfl rfl)
theorem dJ5_getChar_18 : decode cJ5_getChar 18 = .ok (.new 52, 3) := dk_187 0 52 (dk_at dksJ5_getChar_0 18 rfl rfl)
theorem dJ5_getChar_21 : decode cJ5_getChar 21 = .ok (.dup, 1) := dk_89 (dk_at dksJ5_getChar_0 21 rfl rfl)
theorem dJ5_getChar_22 : decode cJ5_getChar 22 = .ok (.ldc 54, 2) := dk_18 54 (dk_at dksJ5_getChar_0 22 rfl rfl)
theorem dJ5_getChar_24 : decode cJ5_getChar 24 = .ok (.invokespecial 56, 3) := dk_183 0 56 (dk_at dksJ5_getChar_1 0 rfl rfl)
theorem dJ5_getChar_27 : decode cJ5_getChar 27 = .ok (.athrow, 1) := dk_191 (dk_at dksJ5_getChar_1 3 rfl rfl)
theorem dJ5_getChar_28 : decode cJ5_getChar 28 = .ok (.iload_n 1, 1) := dk_27 (dk_at dksJ5_getChar_1 4 rfl rfl)
theorem dJ5_getChar_29 : decode cJ5_getChar 29 = .ok (.iconst 1, 1) := dk_4 (dk_at dksJ5_getChar_1 5 rfl rfl)
theorem dJ5_getChar_30 : decode cJ5_getChar 30 = .ok (.ishl, 1) := dk_120 (dk_at dksJ5_getChar_1 6 rfl rfl)
theorem dJ5_getChar_31 : decode cJ5_getChar 31 = .ok (.istore_n 1, 1) := dk_60 (dk_at dksJ5_getChar_1 7 rfl rfl)
theorem dJ5_getChar_32 : decode cJ5_getChar 32 = .ok (.aload_n 0, 1) := dk_42 (dk_at dksJ5_getChar_1 8 rfl rfl)
theorem dJ5_getChar_33 : decode cJ5_getChar 33 = .ok (.iload_n 1, 1) := dk_27 (dk_at dksJ5_getChar_1 9 rfl rfl)
theorem dJ5_getChar_34 : decode cJ5_getChar 34 = .ok (.iinc 1 1, 3) := dk_132 1 1 (dk_at dksJ5_getChar_1 10 rfl rfl)
theorem dJ5_getChar_37 : decode cJ5_getChar 37 = .ok (.baload, 1) := dk_51 (dk_at dksJ5_getChar_1 13 rfl rfl)
theorem dJ5_getChar_38 : decode cJ5_getChar 38 = .ok (.sipush 255, 3) := dk_17 0 255 (dk_at dksJ5_getChar_1 14 rfl rfl)
theorem dJ5_getChar_41 : decode cJ5_getChar 41 = .ok (.iand, 1) := dk_126 (dk_at dksJ5_getChar_1 17 rfl rfl)
theorem dJ5_getChar_42 : decode cJ5_getChar 42 = .ok (.getstatic 59, 3) := dk_178 0 59 (dk_at dksJ5_getChar_1 18 rfl rfl)
theorem dJ5_getChar_45 : decode cJ5_getChar 45 = .ok (.ishl, 1) := dk_120 (dk_at dksJ5_getChar_1 21 rfl rfl)
theorem dJ5_getChar_46 : decode cJ5_getChar 46 = .ok (.aload_n 0, 1) := dk_42 (dk_at dksJ5_getChar_1 22 rfl rfl)
theorem dJ5_getChar_47 : decode cJ5_getChar 47 = .ok (.iload_n 1, 1) := dk_27 (dk_at dksJ5_getChar_1 23 rfl rfl)
theorem dJ5_getChar_48 : decode cJ5_getChar 48 = .ok (.baload, 1) := dk_51 (dk_at dksJ5_getChar_2 0 rfl rfl)
theorem dJ5_getChar_49 : decode cJ5_getChar 49 = .ok (.sipush 255, 3) := dk_17 0 255 (dk_at dksJ5_getChar_2 1 rfl rfl)
theorem dJ5_getChar_52 : decode cJ5_getChar 52 = .ok (.iand, 1) := dk_126 (dk_at dksJ5_getChar_2 4 rfl rfl)
theorem dJ5_getChar_53 : decode cJ5_getChar 53 = .ok (.getstatic 63, 3) := dk_178 0 63 (dk_at dksJ5_getChar_2 5 rfl rfl)
theorem dJ5_getChar_56 : decode cJ5_getChar 56 = .ok (.ishl, 1) := dk_120 (dk_at dksJ5_getChar_2 8 rfl rfl)
theorem dJ5_getChar_57 : decode cJ5_getChar 57 = .ok (.ior, 1) := dk_128 (dk_at dksJ5_getChar_2 9 rfl rfl)
theorem dJ5_getChar_58 : decode cJ5_getChar 58 = .ok (.i2c, 1) := dk_146 (dk_at dksJ5_getChar_2 10 rfl rfl)
theorem dJ5_getChar_59 : decode cJ5_getChar 59 = .ok (.ireturn, 1) := dk_172 (dk_at dksJ5_getChar_2 11 rfl rfl)
abbrev cJ5_coderFromArrayLen : ByteArray := prog_29_method_15_code
def yJ5_coderFromArrayLen : MethodName := ⟨RJ5, "coderFromArrayLen", "([BI)B"⟩
def dkwJ5_coderFromArrayLen_0 : List UInt8 := [27, 42, 190, 100, 16, 31, 124, 145, 172]
abbrev dktJ5_coderFromArrayLen_0 : List UInt8 := dkwJ5_coderFromArrayLen_0 ++ []
theorem dksJ5_coderFromArrayLen_0 : cJ5_coderFromArrayLen.data.toList.drop 0 = dktJ5_coderFromArrayLen_0 := by decide +kernel
theorem dJ5_coderFromArrayLen_0 : decode cJ5_coderFromArrayLen 0 = .ok (.iload_n 1, 1) := dk_27 (dk_at dksJ5_coderFromArrayLen_0 0 rfl rfl)
theorem dJ5_coderFromArrayLen_1 : decode cJ5_coderFromArrayLen 1 = .ok (.aload_n 0, 1) := dk_42 (dk_at dksJ5_coderFromArrayLen_0 1 rfl rfl)
theorem dJ5_coderFromArrayLen_2 : decode cJ5_coderFromArrayLen 2 = .ok (.arraylength, 1) := dk_190 (dk_at dksJ5_coderFromArrayLen_0 2 rfl rfl)
theorem dJ5_coderFromArrayLen_3 : decode cJ5_coderFromArrayLen 3 = .ok (.isub, 1) := dk_100 (dk_at dksJ5_coderFromArrayLen_0 3 rfl rfl)
theorem dJ5_coderFromArrayLen_4 : decode cJ5_coderFromArrayLen 4 = .ok (.bipush 31, 2) := dk_16 31 (dk_at dksJ5_coderFromArrayLen_0 4 rfl rfl)
theorem dJ5_coderFromArrayLen_6 : decode cJ5_coderFromArrayLen 6 = .ok (.iushr, 1) := dk_124 (dk_at dksJ5_coderFromArrayLen_0 6 rfl rfl)
theorem dJ5_coderFromArrayLen_7 : decode cJ5_coderFromArrayLen 7 = .ok (.i2b, 1) := dk_145 (dk_at dksJ5_coderFromArrayLen_0 7 rfl rfl)
theorem dJ5_coderFromArrayLen_8 : decode cJ5_coderFromArrayLen 8 = .ok (.ireturn, 1) := dk_172 (dk_at dksJ5_coderFromArrayLen_0 8 rfl rfl)
abbrev cJ5_hashCode : ByteArray := prog_29_method_39_code
def yJ5_hashCode : MethodName := ⟨RJ5, "hashCode", "([B)I"⟩
def dkwJ5_hashCode_2 : List UInt8 := [3, 167, 0, 22, 42, 3, 184, 0, 71, 167, 0, 14, 42, 3, 42, 190, 4, 122, 3, 8, 184, 0, 220, 172]
abbrev dktJ5_hashCode_2 : List UInt8 := dkwJ5_hashCode_2 ++ []
def dkwJ5_hashCode_1 : List UInt8 := [171, 0, 0, 0, 0, 38, 0, 0, 0, 2, 0, 0, 0, 0, 0, 0, 0, 26, 0, 0, 0, 2, 0, 0, 0, 30]
abbrev dktJ5_hashCode_1 : List UInt8 := dkwJ5_hashCode_1 ++ dktJ5_hashCode_2
def dkwJ5_hashCode_0 : List UInt8 := [42, 190]
abbrev dktJ5_hashCode_0 : List UInt8 := dkwJ5_hashCode_0 ++ dktJ5_hashCode_1
theorem dksJ5_hashCode_0 : cJ5_hashCode.data.toList.drop 0 = dktJ5_hashCode_0 := by decide +kernel
theorem dksJ5_hashCode_1 : cJ5_hashCode.data.toList.drop 2 = dktJ5_hashCode_1 := dk_seg dksJ5_hashCode_0 2 rfl rfl
theorem dksJ5_hashCode_2 : cJ5_hashCode.data.toList.drop 28 = dktJ5_hashCode_2 := dk_seg dksJ5_hashCode_1 26 rfl rfl
theorem dJ5_hashCode_0 : decode cJ5_hashCode 0 = .ok (.aload_n 0, 1) := dk_42 (dk_at dksJ5_hashCode_0 0 rfl rfl)
theorem dJ5_hashCode_1 : decode cJ5_hashCode 1 = .ok (.arraylength, 1) := dk_190 (dk_at dksJ5_hashCode_0 1 rfl rfl)
theorem dJ5_hashCode_2 : decode cJ5_hashCode 2 = .ok (.lookupswitch 38 #[(0, 26), (2, 30)], 26) := by decide +kernel
theorem dJ5_hashCode_28 : decode cJ5_hashCode 28 = .ok (.iconst 0, 1) := dk_3 (dk_at dksJ5_hashCode_2 0 rfl rfl)
theorem dJ5_hashCode_29 : decode cJ5_hashCode 29 = .ok (.goto 22, 3) := dk_167 0 22 (dk_at dksJ5_hashCode_2 1 rfl rfl)
theorem dJ5_hashCode_32 : decode cJ5_hashCode 32 = .ok (.aload_n 0, 1) := dk_42 (dk_at dksJ5_hashCode_2 4 rfl rfl)
theorem dJ5_hashCode_33 : decode cJ5_hashCode 33 = .ok (.iconst 0, 1) := dk_3 (dk_at dksJ5_hashCode_2 5 rfl rfl)
theorem dJ5_hashCode_34 : decode cJ5_hashCode 34 = .ok (.invokestatic 71, 3) := dk_184 0 71 (dk_at dksJ5_hashCode_2 6 rfl rfl)
theorem dJ5_hashCode_37 : decode cJ5_hashCode 37 = .ok (.goto 14, 3) := dk_167 0 14 (dk_at dksJ5_hashCode_2 9 rfl rfl)
theorem dJ5_hashCode_40 : decode cJ5_hashCode 40 = .ok (.aload_n 0, 1) := dk_42 (dk_at dksJ5_hashCode_2 12 rfl rfl)
theorem dJ5_hashCode_41 : decode cJ5_hashCode 41 = .ok (.iconst 0, 1) := dk_3 (dk_at dksJ5_hashCode_2 13 rfl rfl)
theorem dJ5_hashCode_42 : decode cJ5_hashCode 42 = .ok (.aload_n 0, 1) := dk_42 (dk_at dksJ5_hashCode_2 14 rfl rfl)
theorem dJ5_hashCode_43 : decode cJ5_hashCode 43 = .ok (.arraylength, 1) := dk_190 (dk_at dksJ5_hashCode_2 15 rfl rfl)
theorem dJ5_hashCode_44 : decode cJ5_hashCode 44 = .ok (.iconst 1, 1) := dk_4 (dk_at dksJ5_hashCode_2 16 rfl rfl)
theorem dJ5_hashCode_45 : decode cJ5_hashCode 45 = .ok (.ishr, 1) := dk_122 (dk_at dksJ5_hashCode_2 17 rfl rfl)
theorem dJ5_hashCode_46 : decode cJ5_hashCode 46 = .ok (.iconst 0, 1) := dk_3 (dk_at dksJ5_hashCode_2 18 rfl rfl)
theorem dJ5_hashCode_47 : decode cJ5_hashCode 47 = .ok (.iconst 5, 1) := dk_8 (dk_at dksJ5_hashCode_2 19 rfl rfl)
theorem dJ5_hashCode_48 : decode cJ5_hashCode 48 = .ok (.invokestatic 220, 3) := dk_184 0 220 (dk_at dksJ5_hashCode_2 20 rfl rfl)
theorem dJ5_hashCode_51 : decode cJ5_hashCode 51 = .ok (.ireturn, 1) := dk_172 (dk_at dksJ5_hashCode_2 23 rfl rfl)
abbrev cJ5_putCharsAt : ByteArray := prog_29_method_81_code
def yJ5_putCharsAt : MethodName := ⟨RJ5, "putCharsAt", "([BICCCC)I"⟩
def dkwJ5_putCharsAt_3 : List UInt8 := [21, 6, 172]
abbrev dktJ5_putCharsAt_3 : List UInt8 := dkwJ5_putCharsAt_3 ++ []
def dkwJ5_putCharsAt_2 : List UInt8 := [184, 0, 111, 178, 0, 44, 154, 0, 17, 27, 21, 6, 159, 0, 11, 187, 0, 52, 89, 183, 0, 66, 191]
abbrev dktJ5_putCharsAt_2 : List UInt8 := dkwJ5_putCharsAt_2 ++ dktJ5_putCharsAt_3
def dkwJ5_putCharsAt_1 : List UInt8 := [132, 1, 1, 29, 184, 0, 111, 42, 27, 132, 1, 1, 21, 4, 184, 0, 111, 42, 27, 132, 1, 1, 21, 5]
abbrev dktJ5_putCharsAt_1 : List UInt8 := dkwJ5_putCharsAt_1 ++ dktJ5_putCharsAt_2
def dkwJ5_putCharsAt_0 : List UInt8 := [27, 7, 96, 54, 6, 27, 21, 6, 42, 184, 0, 96, 42, 27, 132, 1, 1, 28, 184, 0, 111, 42, 27]
abbrev dktJ5_putCharsAt_0 : List UInt8 := dkwJ5_putCharsAt_0 ++ dktJ5_putCharsAt_1
theorem dksJ5_putCharsAt_0 : cJ5_putCharsAt.data.toList.drop 0 = dktJ5_putCharsAt_0 := by decide +kernel
theorem dksJ5_putCharsAt_1 : cJ5_putCharsAt.data.toList.drop 23 = dktJ5_putCharsAt_1 := dk_seg dksJ5_putCharsAt_0 23 rfl rfl
theorem dksJ5_putCharsAt_2 : cJ5_putCharsAt.data.toList.drop 47 = dktJ5_putCharsAt_2 := dk_seg dksJ5_putCharsAt_1 24 rfl rfl
theorem dksJ5_putCharsAt_3 : cJ5_putCharsAt.data.toList.drop 70 = dktJ5_putCharsAt_3 := dk_seg dksJ5_putCharsAt_2 23 rfl rfl
theorem dJ5_putCharsAt_0 : decode cJ5_putCharsAt 0 = .ok (.iload_n 1, 1) := dk_27 (dk_at dksJ5_putCharsAt_0 0 rfl rfl)
theorem dJ5_putCharsAt_1 : decode cJ5_putCharsAt 1 = .ok (.iconst 4, 1) := dk_7 (dk_at dksJ5_putCharsAt_0 1 rfl rfl)
theorem dJ5_putCharsAt_2 : decode cJ5_putCharsAt 2 = .ok (.iadd, 1) := dk_96 (dk_at dksJ5_putCharsAt_0 2 rfl rfl)
theorem dJ5_putCharsAt_3 : decode cJ5_putCharsAt 3 = .ok (.istore 6, 2) := dk_54 6 (dk_at dksJ5_putCharsAt_0 3 rfl rfl)
theorem dJ5_putCharsAt_5 : decode cJ5_putCharsAt 5 = .ok (.iload_n 1, 1) := dk_27 (dk_at dksJ5_putCharsAt_0 5 rfl rfl)
theorem dJ5_putCharsAt_6 : decode cJ5_putCharsAt 6 = .ok (.iload 6, 2) := dk_21 6 (dk_at dksJ5_putCharsAt_0 6 rfl rfl)
theorem dJ5_putCharsAt_8 : decode cJ5_putCharsAt 8 = .ok (.aload_n 0, 1) := dk_42 (dk_at dksJ5_putCharsAt_0 8 rfl rfl)
theorem dJ5_putCharsAt_9 : decode cJ5_putCharsAt 9 = .ok (.invokestatic 96, 3) := dk_184 0 96 (dk_at dksJ5_putCharsAt_0 9 rfl rfl)
theorem dJ5_putCharsAt_12 : decode cJ5_putCharsAt 12 = .ok (.aload_n 0, 1) := dk_42 (dk_at dksJ5_putCharsAt_0 12 rfl rfl)
theorem dJ5_putCharsAt_13 : decode cJ5_putCharsAt 13 = .ok (.iload_n 1, 1) := dk_27 (dk_at dksJ5_putCharsAt_0 13 rfl rfl)
theorem dJ5_putCharsAt_14 : decode cJ5_putCharsAt 14 = .ok (.iinc 1 1, 3) := dk_132 1 1 (dk_at dksJ5_putCharsAt_0 14 rfl rfl)
theorem dJ5_putCharsAt_17 : decode cJ5_putCharsAt 17 = .ok (.iload_n 2, 1) := dk_28 (dk_at dksJ5_putCharsAt_0 17 rfl rfl)
theorem dJ5_putCharsAt_18 : decode cJ5_putCharsAt 18 = .ok (.invokestatic 111, 3) := dk_184 0 111 (dk_at dksJ5_putCharsAt_0 18 rfl rfl)
theorem dJ5_putCharsAt_21 : decode cJ5_putCharsAt 21 = .ok (.aload_n 0, 1) := dk_42 (dk_at dksJ5_putCharsAt_0 21 rfl rfl)
theorem dJ5_putCharsAt_22 : decode cJ5_putCharsAt 22 = .ok (.iload_n 1, 1) := dk_27 (dk_at dksJ5_putCharsAt_0 22 rfl rfl)
theorem dJ5_putCharsAt_23 : decode cJ5_putCharsAt 23 = .ok (.iinc 1 1, 3) := dk_132 1 1 (dk_at dksJ5_putCharsAt_1 0 rfl rfl)
theorem dJ5_putCharsAt_26 : decode cJ5_putCharsAt 26 = .ok (.iload_n 3, 1) := dk_29 (dk_at dksJ5_putCharsAt_1 3 rfl rfl)
theorem dJ5_putCharsAt_27 : decode cJ5_putCharsAt 27 = .ok (.invokestatic 111, 3) := dk_184 0 111 (dk_at dksJ5_putCharsAt_1 4 rfl rfl)
theorem dJ5_putCharsAt_30 : decode cJ5_putCharsAt 30 = .ok (.aload_n 0, 1) := dk_42 (dk_at dksJ5_putCharsAt_1 7 rfl rfl)
theorem dJ5_putCharsAt_31 : decode cJ5_putCharsAt 31 = .ok (.iload_n 1, 1) := dk_27 (dk_at dksJ5_putCharsAt_1 8 rfl rfl)
theorem dJ5_putCharsAt_32 : decode cJ5_putCharsAt 32 = .ok (.iinc 1 1, 3) := dk_132 1 1 (dk_at dksJ5_putCharsAt_1 9 rfl rfl)
theorem dJ5_putCharsAt_35 : decode cJ5_putCharsAt 35 = .ok (.iload 4, 2) := dk_21 4 (dk_at dksJ5_putCharsAt_1 12 rfl rfl)
theorem dJ5_putCharsAt_37 : decode cJ5_putCharsAt 37 = .ok (.invokestatic 111, 3) := dk_184 0 111 (dk_at dksJ5_putCharsAt_1 14 rfl rfl)
theorem dJ5_putCharsAt_40 : decode cJ5_putCharsAt 40 = .ok (.aload_n 0, 1) := dk_42 (dk_at dksJ5_putCharsAt_1 17 rfl rfl)
theorem dJ5_putCharsAt_41 : decode cJ5_putCharsAt 41 = .ok (.iload_n 1, 1) := dk_27 (dk_at dksJ5_putCharsAt_1 18 rfl rfl)
theorem dJ5_putCharsAt_42 : decode cJ5_putCharsAt 42 = .ok (.iinc 1 1, 3) := dk_132 1 1 (dk_at dksJ5_putCharsAt_1 19 rfl rfl)
theorem dJ5_putCharsAt_45 : decode cJ5_putCharsAt 45 = .ok (.iload 5, 2) := dk_21 5 (dk_at dksJ5_putCharsAt_1 22 rfl rfl)
theorem dJ5_putCharsAt_47 : decode cJ5_putCharsAt 47 = .ok (.invokestatic 111, 3) := dk_184 0 111 (dk_at dksJ5_putCharsAt_2 0 rfl rfl)
theorem dJ5_putCharsAt_50 : decode cJ5_putCharsAt 50 = .ok (.getstatic 44, 3) := dk_178 0 44 (dk_at dksJ5_putCharsAt_2 3 rfl rfl)
theorem dJ5_putCharsAt_53 : decode cJ5_putCharsAt 53 = .ok (.ifCond .ne 17, 3) := dk_154 0 17 (dk_at dksJ5_putCharsAt_2 6 rfl rfl)
theorem dJ5_putCharsAt_56 : decode cJ5_putCharsAt 56 = .ok (.iload_n 1, 1) := dk_27 (dk_at dksJ5_putCharsAt_2 9 rfl rfl)
theorem dJ5_putCharsAt_57 : decode cJ5_putCharsAt 57 = .ok (.iload 6, 2) := dk_21 6 (dk_at dksJ5_putCharsAt_2 10 rfl rfl)
theorem dJ5_putCharsAt_59 : decode cJ5_putCharsAt 59 = .ok (.if_icmp .eq 11, 3) := dk_159 0 11 (dk_at dksJ5_putCharsAt_2 12 rfl rfl)
theorem dJ5_putCharsAt_62 : decode cJ5_putCharsAt 62 = .ok (.new 52, 3) := dk_187 0 52 (dk_at dksJ5_putCharsAt_2 15 rfl rfl)
theorem dJ5_putCharsAt_65 : decode cJ5_putCharsAt 65 = .ok (.dup, 1) := dk_89 (dk_at dksJ5_putCharsAt_2 18 rfl rfl)
theorem dJ5_putCharsAt_66 : decode cJ5_putCharsAt 66 = .ok (.invokespecial 66, 3) := dk_183 0 66 (dk_at dksJ5_putCharsAt_2 19 rfl rfl)
theorem dJ5_putCharsAt_69 : decode cJ5_putCharsAt 69 = .ok (.athrow, 1) := dk_191 (dk_at dksJ5_putCharsAt_2 22 rfl rfl)
theorem dJ5_putCharsAt_70 : decode cJ5_putCharsAt 70 = .ok (.iload 6, 2) := dk_21 6 (dk_at dksJ5_putCharsAt_3 0 rfl rfl)
theorem dJ5_putCharsAt_72 : decode cJ5_putCharsAt 72 = .ok (.ireturn, 1) := dk_172 (dk_at dksJ5_putCharsAt_3 2 rfl rfl)
abbrev cJ5_checkBoundsBeginEnd : ByteArray := prog_29_method_93_code
def yJ5_checkBoundsBeginEnd : MethodName := ⟨RJ5, "checkBoundsBeginEnd", "(II[B)V"⟩
def dkwJ5_checkBoundsBeginEnd_0 : List UInt8 := [26, 27, 44, 184, 0, 48, 184, 0, 241, 177]
abbrev dktJ5_checkBoundsBeginEnd_0 : List UInt8 := dkwJ5_checkBoundsBeginEnd_0 ++ []
theorem dksJ5_checkBoundsBeginEnd_0 : cJ5_checkBoundsBeginEnd.data.toList.drop 0 = dktJ5_checkBoundsBeginEnd_0 := by decide +kernel
theorem dJ5_checkBoundsBeginEnd_0 : decode cJ5_checkBoundsBeginEnd 0 = .ok (.iload_n 0, 1) := dk_26 (dk_at dksJ5_checkBoundsBeginEnd_0 0 rfl rfl)
theorem dJ5_checkBoundsBeginEnd_1 : decode cJ5_checkBoundsBeginEnd 1 = .ok (.iload_n 1, 1) := dk_27 (dk_at dksJ5_checkBoundsBeginEnd_0 1 rfl rfl)
theorem dJ5_checkBoundsBeginEnd_2 : decode cJ5_checkBoundsBeginEnd 2 = .ok (.aload_n 2, 1) := dk_44 (dk_at dksJ5_checkBoundsBeginEnd_0 2 rfl rfl)
theorem dJ5_checkBoundsBeginEnd_3 : decode cJ5_checkBoundsBeginEnd 3 = .ok (.invokestatic 48, 3) := dk_184 0 48 (dk_at dksJ5_checkBoundsBeginEnd_0 3 rfl rfl)
theorem dJ5_checkBoundsBeginEnd_6 : decode cJ5_checkBoundsBeginEnd 6 = .ok (.invokestatic 241, 3) := dk_184 0 241 (dk_at dksJ5_checkBoundsBeginEnd_0 6 rfl rfl)
theorem dJ5_checkBoundsBeginEnd_9 : decode cJ5_checkBoundsBeginEnd 9 = .ok (.return_, 1) := dk_177 (dk_at dksJ5_checkBoundsBeginEnd_0 9 rfl rfl)
abbrev cJ5_charAt : ByteArray := prog_29_method_83_code
def yJ5_charAt : MethodName := ⟨RJ5, "charAt", "([BI)C"⟩
def dkwJ5_charAt_0 : List UInt8 := [27, 42, 184, 0, 67, 42, 27, 184, 0, 71, 172]
abbrev dktJ5_charAt_0 : List UInt8 := dkwJ5_charAt_0 ++ []
theorem dksJ5_charAt_0 : cJ5_charAt.data.toList.drop 0 = dktJ5_charAt_0 := by decide +kernel
theorem dJ5_charAt_0 : decode cJ5_charAt 0 = .ok (.iload_n 1, 1) := dk_27 (dk_at dksJ5_charAt_0 0 rfl rfl)
theorem dJ5_charAt_1 : decode cJ5_charAt 1 = .ok (.aload_n 0, 1) := dk_42 (dk_at dksJ5_charAt_0 1 rfl rfl)
theorem dJ5_charAt_2 : decode cJ5_charAt 2 = .ok (.invokestatic 67, 3) := dk_184 0 67 (dk_at dksJ5_charAt_0 2 rfl rfl)
theorem dJ5_charAt_5 : decode cJ5_charAt 5 = .ok (.aload_n 0, 1) := dk_42 (dk_at dksJ5_charAt_0 5 rfl rfl)
theorem dJ5_charAt_6 : decode cJ5_charAt 6 = .ok (.iload_n 1, 1) := dk_27 (dk_at dksJ5_charAt_0 6 rfl rfl)
theorem dJ5_charAt_7 : decode cJ5_charAt 7 = .ok (.invokestatic 71, 3) := dk_184 0 71 (dk_at dksJ5_charAt_0 7 rfl rfl)
theorem dJ5_charAt_10 : decode cJ5_charAt 10 = .ok (.ireturn, 1) := dk_172 (dk_at dksJ5_charAt_0 10 rfl rfl)
theorem q155 : (Jvm.Cond.initialized "java/lang/StringUTF16") ∈ lw_all := lw_g (lw_at lw_m1 8 rfl) rfl
theorem q282 : (Jvm.Cond.static ({ cls := "java/lang/StringUTF16", name := "newBytesFor", desc := "(I)[B" } : Jvm.MethodName)) ∈ lw_all := lw_g (lw_at lw_m1 135 rfl) rfl
theorem q283 : (Jvm.Cond.code ({ cls := "java/lang/StringUTF16", name := "newBytesFor", desc := "(I)[B" } : Jvm.MethodName) prog_29_method_2_code (1 : Nat) (Option.some (Jvm.ClassFile.FieldType.array Jvm.ClassFile.FieldType.byte))) ∈ lw_all := lw_g (lw_at lw_m1 136 rfl) rfl
theorem q284 : (Jvm.Cond.methodLink "java/lang/StringUTF16" (11 : Nat) ({ cls := "java/lang/StringUTF16", name := "newBytesLength", desc := "(I)I" } : Jvm.MethodName)) ∈ lw_all := lw_g (lw_at lw_m1 137 rfl) rfl
theorem q285 : (Jvm.Cond.static ({ cls := "java/lang/StringUTF16", name := "newBytesLength", desc := "(I)I" } : Jvm.MethodName)) ∈ lw_all := lw_g (lw_at lw_m1 138 rfl) rfl
theorem q286 : (Jvm.Cond.code ({ cls := "java/lang/StringUTF16", name := "newBytesLength", desc := "(I)I" } : Jvm.MethodName) prog_29_method_3_code (1 : Nat) (Option.some Jvm.ClassFile.FieldType.int)) ∈ lw_all := lw_g (lw_at lw_m1 139 rfl) rfl
theorem q287 : (Jvm.Cond.constant "java/lang/StringUTF16" (20 : Nat) (1073741823 : Int32)) ∈ lw_all := lw_g (lw_at lw_m1 140 rfl) rfl
theorem q795 : (Jvm.Cond.static ({ cls := "java/lang/StringUTF16", name := "fillNull", desc := "([BII)V" } : Jvm.MethodName)) ∈ lw_all := lw_g (lw_at lw_m3 168 rfl) rfl
theorem q796 : (Jvm.Cond.code ({ cls := "java/lang/StringUTF16", name := "fillNull", desc := "([BII)V" } : Jvm.MethodName) prog_29_method_70_code (3 : Nat) (Option.none : Option Jvm.ClassFile.FieldType)) ∈ lw_all := lw_g (lw_at lw_m3 169 rfl) rfl
theorem q797 : (Jvm.Cond.methodLink "java/lang/StringUTF16" (380 : Nat) ({ cls := "java/util/Arrays", name := "fill", desc := "([BIIB)V" } : Jvm.MethodName)) ∈ lw_all := lw_g (lw_at lw_m3 170 rfl) rfl
theorem q816 : (Jvm.Cond.static ({ cls := "java/lang/StringUTF16", name := "inflate", desc := "([BI[BII)V" } : Jvm.MethodName)) ∈ lw_all := lw_g (lw_at lw_m3 189 rfl) rfl
theorem q817 : (Jvm.Cond.code ({ cls := "java/lang/StringUTF16", name := "inflate", desc := "([BI[BII)V" } : Jvm.MethodName) prog_29_method_86_code (6 : Nat) (Option.none : Option Jvm.ClassFile.FieldType)) ∈ lw_all := lw_g (lw_at lw_m3 190 rfl) rfl
theorem q818 : (Jvm.Cond.methodLink "java/lang/StringUTF16" (173 : Nat) ({ cls := "java/lang/StringUTF16", name := "checkBoundsOffCount", desc := "(II[B)V" } : Jvm.MethodName)) ∈ lw_all := lw_g (lw_at lw_m3 191 rfl) rfl
theorem q819 : (Jvm.Cond.static ({ cls := "java/lang/StringUTF16", name := "checkBoundsOffCount", desc := "(II[B)V" } : Jvm.MethodName)) ∈ lw_all := lw_g (lw_at lw_m3 192 rfl) rfl
theorem q820 : (Jvm.Cond.code ({ cls := "java/lang/StringUTF16", name := "checkBoundsOffCount", desc := "(II[B)V" } : Jvm.MethodName) prog_29_method_94_code (3 : Nat) (Option.none : Option Jvm.ClassFile.FieldType)) ∈ lw_all := lw_g (lw_at lw_m3 193 rfl) rfl
theorem q821 : (Jvm.Cond.methodLink "java/lang/StringUTF16" (48 : Nat) ({ cls := "java/lang/StringUTF16", name := "length", desc := "([B)I" } : Jvm.MethodName)) ∈ lw_all := lw_g (lw_at lw_m3 194 rfl) rfl
theorem q822 : (Jvm.Cond.static ({ cls := "java/lang/StringUTF16", name := "length", desc := "([B)I" } : Jvm.MethodName)) ∈ lw_all := lw_g (lw_at lw_m3 195 rfl) rfl
theorem q823 : (Jvm.Cond.code ({ cls := "java/lang/StringUTF16", name := "length", desc := "([B)I" } : Jvm.MethodName) prog_29_method_6_code (1 : Nat) (Option.some Jvm.ClassFile.FieldType.int)) ∈ lw_all := lw_g (lw_at lw_m3 196 rfl) rfl
theorem q824 : (Jvm.Cond.methodLink "java/lang/StringUTF16" (419 : Nat) ({ cls := "java/lang/String", name := "checkBoundsOffCount", desc := "(III)I" } : Jvm.MethodName)) ∈ lw_all := lw_g (lw_at lw_m3 197 rfl) rfl
theorem q832 : (Jvm.Cond.methodLink "java/lang/StringUTF16" (111 : Nat) ({ cls := "java/lang/StringUTF16", name := "putChar", desc := "([BII)V" } : Jvm.MethodName)) ∈ lw_all := lw_g (lw_at lw_m3 205 rfl) rfl
theorem q833 : (Jvm.Cond.static ({ cls := "java/lang/StringUTF16", name := "putChar", desc := "([BII)V" } : Jvm.MethodName)) ∈ lw_all := lw_g (lw_at lw_m3 206 rfl) rfl
theorem q834 : (Jvm.Cond.code ({ cls := "java/lang/StringUTF16", name := "putChar", desc := "([BII)V" } : Jvm.MethodName) prog_29_method_4_code (3 : Nat) (Option.none : Option Jvm.ClassFile.FieldType)) ∈ lw_all := lw_g (lw_at lw_m3 207 rfl) rfl
theorem q835 : (Jvm.Cond.fieldLink "java/lang/StringUTF16" (44 : Nat) "java/lang/StringUTF16" "$assertionsDisabled" "Z") ∈ lw_all := lw_g (lw_at lw_m3 208 rfl) rfl
theorem q836 : (Jvm.Cond.laysStatic "java/lang/StringUTF16" "$assertionsDisabled" "Z") ∈ lw_tbl := lw_at lw_m3 209 rfl
theorem q837 : (Jvm.Cond.fieldLink "java/lang/StringUTF16" (59 : Nat) "java/lang/StringUTF16" "HI_BYTE_SHIFT" "I") ∈ lw_all := lw_g (lw_at lw_m3 210 rfl) rfl
theorem q838 : (Jvm.Cond.laysStatic "java/lang/StringUTF16" "HI_BYTE_SHIFT" "I") ∈ lw_tbl := lw_at lw_m3 211 rfl
theorem q839 : (Jvm.Cond.fieldLink "java/lang/StringUTF16" (63 : Nat) "java/lang/StringUTF16" "LO_BYTE_SHIFT" "I") ∈ lw_all := lw_g (lw_at lw_m3 212 rfl) rfl
theorem q840 : (Jvm.Cond.laysStatic "java/lang/StringUTF16" "LO_BYTE_SHIFT" "I") ∈ lw_tbl := lw_at lw_m3 213 rfl
theorem q842 : (Jvm.Cond.static ({ cls := "java/lang/StringUTF16", name := "putCharSB", desc := "([BII)V" } : Jvm.MethodName)) ∈ lw_all := lw_g (lw_at lw_m3 215 rfl) rfl
theorem q843 : (Jvm.Cond.code ({ cls := "java/lang/StringUTF16", name := "putCharSB", desc := "([BII)V" } : Jvm.MethodName) prog_29_method_71_code (3 : Nat) (Option.none : Option Jvm.ClassFile.FieldType)) ∈ lw_all := lw_g (lw_at lw_m3 216 rfl) rfl
theorem q844 : (Jvm.Cond.methodLink "java/lang/StringUTF16" (67 : Nat) ({ cls := "java/lang/StringUTF16", name := "checkIndex", desc := "(I[B)V" } : Jvm.MethodName)) ∈ lw_all := lw_g (lw_at lw_m3 217 rfl) rfl
theorem q845 : (Jvm.Cond.static ({ cls := "java/lang/StringUTF16", name := "checkIndex", desc := "(I[B)V" } : Jvm.MethodName)) ∈ lw_all := lw_g (lw_at lw_m3 218 rfl) rfl
theorem q846 : (Jvm.Cond.code ({ cls := "java/lang/StringUTF16", name := "checkIndex", desc := "(I[B)V" } : Jvm.MethodName) prog_29_method_91_code (2 : Nat) (Option.none : Option Jvm.ClassFile.FieldType)) ∈ lw_all := lw_g (lw_at lw_m3 219 rfl) rfl
theorem q847 : (Jvm.Cond.methodLink "java/lang/StringUTF16" (414 : Nat) ({ cls := "java/lang/String", name := "checkIndex", desc := "(II)V" } : Jvm.MethodName)) ∈ lw_all := lw_g (lw_at lw_m3 220 rfl) rfl
theorem q891 : (Jvm.Cond.static ({ cls := "java/lang/StringUTF16", name := "compress", desc := "([BII)[B" } : Jvm.MethodName)) ∈ lw_all := lw_g (lw_at lw_m4 24 rfl) rfl
theorem q892 : (Jvm.Cond.code ({ cls := "java/lang/StringUTF16", name := "compress", desc := "([BII)[B" } : Jvm.MethodName) prog_29_method_17_code (6 : Nat) (Option.some (Jvm.ClassFile.FieldType.array Jvm.ClassFile.FieldType.byte))) ∈ lw_all := lw_g (lw_at lw_m4 25 rfl) rfl
theorem q893 : (Jvm.Cond.methodLink "java/lang/StringUTF16" (123 : Nat) ({ cls := "java/lang/StringUTF16", name := "compress", desc := "([BI[BII)I" } : Jvm.MethodName)) ∈ lw_all := lw_g (lw_at lw_m4 26 rfl) rfl
theorem q894 : (Jvm.Cond.static ({ cls := "java/lang/StringUTF16", name := "compress", desc := "([BI[BII)I" } : Jvm.MethodName)) ∈ lw_all := lw_g (lw_at lw_m4 27 rfl) rfl
theorem q895 : (Jvm.Cond.code ({ cls := "java/lang/StringUTF16", name := "compress", desc := "([BI[BII)I" } : Jvm.MethodName) prog_29_method_22_code (7 : Nat) (Option.some Jvm.ClassFile.FieldType.int)) ∈ lw_all := lw_g (lw_at lw_m4 28 rfl) rfl
theorem q896 : (Jvm.Cond.methodLink "java/lang/StringUTF16" (71 : Nat) ({ cls := "java/lang/StringUTF16", name := "getChar", desc := "([BI)C" } : Jvm.MethodName)) ∈ lw_all := lw_g (lw_at lw_m4 29 rfl) rfl
theorem q897 : (Jvm.Cond.static ({ cls := "java/lang/StringUTF16", name := "getChar", desc := "([BI)C" } : Jvm.MethodName)) ∈ lw_all := lw_g (lw_at lw_m4 30 rfl) rfl
theorem q898 : (Jvm.Cond.code ({ cls := "java/lang/StringUTF16", name := "getChar", desc := "([BI)C" } : Jvm.MethodName) prog_29_method_5_code (2 : Nat) (Option.some Jvm.ClassFile.FieldType.char)) ∈ lw_all := lw_g (lw_at lw_m4 31 rfl) rfl
theorem q899 : (Jvm.Cond.methodLink "java/lang/StringUTF16" (126 : Nat) ({ cls := "java/util/Arrays", name := "copyOfRange", desc := "([BII)[B" } : Jvm.MethodName)) ∈ lw_all := lw_g (lw_at lw_m4 32 rfl) rfl
theorem q901 : (Jvm.Cond.static ({ cls := "java/lang/StringUTF16", name := "coderFromArrayLen", desc := "([BI)B" } : Jvm.MethodName)) ∈ lw_all := lw_g (lw_at lw_m4 34 rfl) rfl
theorem q902 : (Jvm.Cond.code ({ cls := "java/lang/StringUTF16", name := "coderFromArrayLen", desc := "([BI)B" } : Jvm.MethodName) prog_29_method_15_code (2 : Nat) (Option.some Jvm.ClassFile.FieldType.byte)) ∈ lw_all := lw_g (lw_at lw_m4 35 rfl) rfl
theorem q1007 : (Jvm.Cond.static ({ cls := "java/lang/StringUTF16", name := "hashCode", desc := "([B)I" } : Jvm.MethodName)) ∈ lw_all := lw_g (lw_at lw_m4 140 rfl) rfl
theorem q1008 : (Jvm.Cond.code ({ cls := "java/lang/StringUTF16", name := "hashCode", desc := "([B)I" } : Jvm.MethodName) prog_29_method_39_code (1 : Nat) (Option.some Jvm.ClassFile.FieldType.int)) ∈ lw_all := lw_g (lw_at lw_m4 141 rfl) rfl
theorem q1009 : (Jvm.Cond.methodLink "java/lang/StringUTF16" (220 : Nat) ({ cls := "jdk/internal/util/ArraysSupport", name := "vectorizedHashCode", desc := "(Ljava/lang/Object;IIII)I" } : Jvm.MethodName)) ∈ lw_all := lw_g (lw_at lw_m4 142 rfl) rfl
theorem q1490 : (Jvm.Cond.static ({ cls := "java/lang/StringUTF16", name := "putCharsAt", desc := "([BICCCC)I" } : Jvm.MethodName)) ∈ lw_all := lw_g (lw_at lw_m6 143 rfl) rfl
theorem q1491 : (Jvm.Cond.code ({ cls := "java/lang/StringUTF16", name := "putCharsAt", desc := "([BICCCC)I" } : Jvm.MethodName) prog_29_method_81_code (7 : Nat) (Option.some Jvm.ClassFile.FieldType.int)) ∈ lw_all := lw_g (lw_at lw_m6 144 rfl) rfl
theorem q1492 : (Jvm.Cond.methodLink "java/lang/StringUTF16" (96 : Nat) ({ cls := "java/lang/StringUTF16", name := "checkBoundsBeginEnd", desc := "(II[B)V" } : Jvm.MethodName)) ∈ lw_all := lw_g (lw_at lw_m6 145 rfl) rfl
theorem q1493 : (Jvm.Cond.static ({ cls := "java/lang/StringUTF16", name := "checkBoundsBeginEnd", desc := "(II[B)V" } : Jvm.MethodName)) ∈ lw_all := lw_g (lw_at lw_m6 146 rfl) rfl
theorem q1494 : (Jvm.Cond.code ({ cls := "java/lang/StringUTF16", name := "checkBoundsBeginEnd", desc := "(II[B)V" } : Jvm.MethodName) prog_29_method_93_code (3 : Nat) (Option.none : Option Jvm.ClassFile.FieldType)) ∈ lw_all := lw_g (lw_at lw_m6 147 rfl) rfl
theorem q1495 : (Jvm.Cond.methodLink "java/lang/StringUTF16" (241 : Nat) ({ cls := "java/lang/String", name := "checkBoundsBeginEnd", desc := "(III)V" } : Jvm.MethodName)) ∈ lw_all := lw_g (lw_at lw_m6 148 rfl) rfl
theorem q1833 : (Jvm.Cond.static ({ cls := "java/lang/StringUTF16", name := "charAt", desc := "([BI)C" } : Jvm.MethodName)) ∈ lw_all := lw_g (lw_at lw_m8 6 rfl) rfl
theorem q1834 : (Jvm.Cond.code ({ cls := "java/lang/StringUTF16", name := "charAt", desc := "([BI)C" } : Jvm.MethodName) prog_29_method_83_code (2 : Nat) (Option.some Jvm.ClassFile.FieldType.char)) ∈ lw_all := lw_g (lw_at lw_m8 7 rfl) rfl
/-! jdk/internal/util/ArraysSupport -/
set_option maxRecDepth 100000
def RJ6 : String := "jdk/internal/util/ArraysSupport"
abbrev cJ6_newLength : ByteArray := prog_35_method_27_code
def yJ6_newLength : MethodName := ⟨RJ6, "newLength", "(III)I"⟩
def dkwJ6_newLength_1 : List UInt8 := [184, 0, 201, 172]
abbrev dktJ6_newLength_1 : List UInt8 := dkwJ6_newLength_1 ++ []
def dkwJ6_newLength_0 : List UInt8 := [26, 27, 28, 184, 0, 194, 96, 62, 3, 29, 162, 0, 11, 29, 18, 200, 163, 0, 5, 29, 172, 26, 27]
abbrev dktJ6_newLength_0 : List UInt8 := dkwJ6_newLength_0 ++ dktJ6_newLength_1
theorem dksJ6_newLength_0 : cJ6_newLength.data.toList.drop 0 = dktJ6_newLength_0 := by decide +kernel
theorem dksJ6_newLength_1 : cJ6_newLength.data.toList.drop 23 = dktJ6_newLength_1 := dk_seg dksJ6_newLength_0 23 rfl rfl
theorem dJ6_newLength_0 : decode cJ6_newLength 0 = .ok (.iload_n 0, 1) := dk_26 (dk_at dksJ6_newLength_0 0 rfl rfl)
theorem dJ6_newLength_1 : decode cJ6_newLength 1 = .ok (.iload_n 1, 1) := dk_27 (dk_at dksJ6_newLength_0 1 rfl rfl)
theorem dJ6_newLength_2 : decode cJ6_newLength 2 = .ok (.iload_n 2, 1) := dk_28 (dk_at dksJ6_newLength_0 2 rfl rfl)
theorem dJ6_newLength_3 : decode cJ6_newLength 3 = .ok (.invokestatic 194, 3) := dk_184 0 194 (dk_at dksJ6_newLength_0 3 rfl rfl)
theorem dJ6_newLength_6 : decode cJ6_newLength 6 = .ok (.iadd, 1) := dk_96 (dk_at dksJ6_newLength_0 6 rfl rfl)
theorem dJ6_newLength_7 : decode cJ6_newLength 7 = .ok (.istore_n 3, 1) := dk_62 (dk_at dksJ6_newLength_0 7 rfl rfl)
theorem dJ6_newLength_8 : decode cJ6_newLength 8 = .ok (.iconst 0, 1) := dk_3 (dk_at dksJ6_newLength_0 8 rfl rfl)
theorem dJ6_newLength_9 : decode cJ6_newLength 9 = .ok (.iload_n 3, 1) := dk_29 (dk_at dksJ6_newLength_0 9 rfl rfl)
theorem dJ6_newLength_10 : decode cJ6_newLength 10 = .ok (.if_icmp .ge 11, 3) := dk_162 0 11 (dk_at dksJ6_newLength_0 10 rfl rfl)
theorem dJ6_newLength_13 : decode cJ6_newLength 13 = .ok (.iload_n 3, 1) := dk_29 (dk_at dksJ6_newLength_0 13 rfl rfl)
theorem dJ6_newLength_14 : decode cJ6_newLength 14 = .ok (.ldc 200, 2) := dk_18 200 (dk_at dksJ6_newLength_0 14 rfl rfl)
theorem dJ6_newLength_16 : decode cJ6_newLength 16 = .ok (.if_icmp .gt 5, 3) := dk_163 0 5 (dk_at dksJ6_newLength_0 16 rfl rfl)
theorem dJ6_newLength_19 : decode cJ6_newLength 19 = .ok (.iload_n 3, 1) := dk_29 (dk_at dksJ6_newLength_0 19 rfl rfl)
theorem dJ6_newLength_20 : decode cJ6_newLength 20 = .ok (.ireturn, 1) := dk_172 (dk_at dksJ6_newLength_0 20 rfl rfl)
theorem dJ6_newLength_21 : decode cJ6_newLength 21 = .ok (.iload_n 0, 1) := dk_26 (dk_at dksJ6_newLength_0 21 rfl rfl)
theorem dJ6_newLength_22 : decode cJ6_newLength 22 = .ok (.iload_n 1, 1) := dk_27 (dk_at dksJ6_newLength_0 22 rfl rfl)
theorem dJ6_newLength_23 : decode cJ6_newLength 23 = .ok (.invokestatic 201, 3) := dk_184 0 201 (dk_at dksJ6_newLength_1 0 rfl rfl)
theorem dJ6_newLength_26 : decode cJ6_newLength 26 = .ok (.ireturn, 1) := dk_172 (dk_at dksJ6_newLength_1 3 rfl rfl)
abbrev cJ6_hugeLength : ByteArray := prog_35_method_28_code
def yJ6_hugeLength : MethodName := ⟨RJ6, "hugeLength", "(II)I"⟩
def dkwJ6_hugeLength_2 : List UInt8 := [191, 28, 18, 200, 163, 0, 6, 18, 200, 172, 28, 172]
abbrev dktJ6_hugeLength_2 : List UInt8 := dkwJ6_hugeLength_2 ++ []
def dkwJ6_hugeLength_1 : List UInt8 := [26, 182, 0, 98, 18, 208, 182, 0, 94, 27, 182, 0, 98, 18, 210, 182, 0, 94, 182, 0, 101, 183, 0, 212]
abbrev dktJ6_hugeLength_1 : List UInt8 := dkwJ6_hugeLength_1 ++ dktJ6_hugeLength_2
def dkwJ6_hugeLength_0 : List UInt8 := [26, 27, 96, 61, 28, 156, 0, 44, 187, 0, 204, 89, 187, 0, 89, 89, 183, 0, 91, 18, 206, 182, 0, 94]
abbrev dktJ6_hugeLength_0 : List UInt8 := dkwJ6_hugeLength_0 ++ dktJ6_hugeLength_1
theorem dksJ6_hugeLength_0 : cJ6_hugeLength.data.toList.drop 0 = dktJ6_hugeLength_0 := by decide +kernel
theorem dksJ6_hugeLength_1 : cJ6_hugeLength.data.toList.drop 24 = dktJ6_hugeLength_1 := dk_seg dksJ6_hugeLength_0 24 rfl rfl
theorem dksJ6_hugeLength_2 : cJ6_hugeLength.data.toList.drop 48 = dktJ6_hugeLength_2 := dk_seg dksJ6_hugeLength_1 24 rfl rfl
theorem dJ6_hugeLength_0 : decode cJ6_hugeLength 0 = .ok (.iload_n 0, 1) := dk_26 (dk_at dksJ6_hugeLength_0 0 rfl rfl)
theorem dJ6_hugeLength_1 : decode cJ6_hugeLength 1 = .ok (.iload_n 1, 1) := dk_27 (dk_at dksJ6_hugeLength_0 1 rfl rfl)
theorem dJ6_hugeLength_2 : decode cJ6_hugeLength 2 = .ok (.iadd, 1) := dk_96 (dk_at dksJ6_hugeLength_0 2 rfl rfl)
theorem dJ6_hugeLength_3 : decode cJ6_hugeLength 3 = .ok (.istore_n 2, 1) := dk_61 (dk_at dksJ6_hugeLength_0 3 rfl rfl)
theorem dJ6_hugeLength_4 : decode cJ6_hugeLength 4 = .ok (.iload_n 2, 1) := dk_28 (dk_at dksJ6_hugeLength_0 4 rfl rfl)
theorem dJ6_hugeLength_5 : decode cJ6_hugeLength 5 = .ok (.ifCond .ge 44, 3) := dk_156 0 44 (dk_at dksJ6_hugeLength_0 5 rfl rfl)
theorem dJ6_hugeLength_8 : decode cJ6_hugeLength 8 = .ok (.new 204, 3) := dk_187 0 204 (dk_at dksJ6_hugeLength_0 8 rfl rfl)
theorem dJ6_hugeLength_11 : decode cJ6_hugeLength 11 = .ok (.dup, 1) := dk_89 (dk_at dksJ6_hugeLength_0 11 rfl rfl)
theorem dJ6_hugeLength_12 : decode cJ6_hugeLength 12 = .ok (.new 89, 3) := dk_187 0 89 (dk_at dksJ6_hugeLength_0 12 rfl rfl)
theorem dJ6_hugeLength_15 : decode cJ6_hugeLength 15 = .ok (.dup, 1) := dk_89 (dk_at dksJ6_hugeLength_0 15 rfl rfl)
theorem dJ6_hugeLength_16 : decode cJ6_hugeLength 16 = .ok (.invokespecial 91, 3) := dk_183 0 91 (dk_at dksJ6_hugeLength_0 16 rfl rfl)
theorem dJ6_hugeLength_19 : decode cJ6_hugeLength 19 = .ok (.ldc 206, 2) := dk_18 206 (dk_at dksJ6_hugeLength_0 19 rfl rfl)
theorem dJ6_hugeLength_21 : decode cJ6_hugeLength 21 = .ok (.invokevirtual 94, 3) := dk_182 0 94 (dk_at dksJ6_hugeLength_0 21 rfl rfl)
theorem dJ6_hugeLength_24 : decode cJ6_hugeLength 24 = .ok (.iload_n 0, 1) := dk_26 (dk_at dksJ6_hugeLength_1 0 rfl rfl)
theorem dJ6_hugeLength_25 : decode cJ6_hugeLength 25 = .ok (.invokevirtual 98, 3) := dk_182 0 98 (dk_at dksJ6_hugeLength_1 1 rfl rfl)
theorem dJ6_hugeLength_28 : decode cJ6_hugeLength 28 = .ok (.ldc 208, 2) := dk_18 208 (dk_at dksJ6_hugeLength_1 4 rfl rfl)
theorem dJ6_hugeLength_30 : decode cJ6_hugeLength 30 = .ok (.invokevirtual 94, 3) := dk_182 0 94 (dk_at dksJ6_hugeLength_1 6 rfl rfl)
theorem dJ6_hugeLength_33 : decode cJ6_hugeLength 33 = .ok (.iload_n 1, 1) := dk_27 (dk_at dksJ6_hugeLength_1 9 rfl rfl)
theorem dJ6_hugeLength_34 : decode cJ6_hugeLength 34 = .ok (.invokevirtual 98, 3) := dk_182 0 98 (dk_at dksJ6_hugeLength_1 10 rfl rfl)
theorem dJ6_hugeLength_37 : decode cJ6_hugeLength 37 = .ok (.ldc 210, 2) := dk_18 210 (dk_at dksJ6_hugeLength_1 13 rfl rfl)
theorem dJ6_hugeLength_39 : decode cJ6_hugeLength 39 = .ok (.invokevirtual 94, 3) := dk_182 0 94 (dk_at dksJ6_hugeLength_1 15 rfl rfl)
theorem dJ6_hugeLength_42 : decode cJ6_hugeLength 42 = .ok (.invokevirtual 101, 3) := dk_182 0 101 (dk_at dksJ6_hugeLength_1 18 rfl rfl)
theorem dJ6_hugeLength_45 : decode cJ6_hugeLength 45 = .ok (.invokespecial 212, 3) := dk_183 0 212 (dk_at dksJ6_hugeLength_1 21 rfl rfl)
theorem dJ6_hugeLength_48 : decode cJ6_hugeLength 48 = .ok (.athrow, 1) := dk_191 (dk_at dksJ6_hugeLength_2 0 rfl rfl)
theorem dJ6_hugeLength_49 : decode cJ6_hugeLength 49 = .ok (.iload_n 2, 1) := dk_28 (dk_at dksJ6_hugeLength_2 1 rfl rfl)
theorem dJ6_hugeLength_50 : decode cJ6_hugeLength 50 = .ok (.ldc 200, 2) := dk_18 200 (dk_at dksJ6_hugeLength_2 2 rfl rfl)
theorem dJ6_hugeLength_52 : decode cJ6_hugeLength 52 = .ok (.if_icmp .gt 6, 3) := dk_163 0 6 (dk_at dksJ6_hugeLength_2 4 rfl rfl)
theorem dJ6_hugeLength_55 : decode cJ6_hugeLength 55 = .ok (.ldc 200, 2) := dk_18 200 (dk_at dksJ6_hugeLength_2 7 rfl rfl)
theorem dJ6_hugeLength_57 : decode cJ6_hugeLength 57 = .ok (.ireturn, 1) := dk_172 (dk_at dksJ6_hugeLength_2 9 rfl rfl)
theorem dJ6_hugeLength_58 : decode cJ6_hugeLength 58 = .ok (.iload_n 2, 1) := dk_28 (dk_at dksJ6_hugeLength_2 10 rfl rfl)
theorem dJ6_hugeLength_59 : decode cJ6_hugeLength 59 = .ok (.ireturn, 1) := dk_172 (dk_at dksJ6_hugeLength_2 11 rfl rfl)
abbrev cJ6_vectorizedHashCode : ByteArray := prog_35_method_4_code
def yJ6_vectorizedHashCode : MethodName := ⟨RJ6, "vectorizedHashCode", "(Ljava/lang/Object;IIII)I"⟩
def dkwJ6_vectorizedHashCode_6 : List UInt8 := [183, 0, 91, 18, 92, 182, 0, 94, 21, 4, 182, 0, 98, 182, 0, 101, 183, 0, 105, 191, 172]
abbrev dktJ6_vectorizedHashCode_6 : List UInt8 := dkwJ6_vectorizedHashCode_6 ++ []
def dkwJ6_vectorizedHashCode_5 : List UInt8 := [167, 0, 44, 29, 42, 192, 0, 82, 27, 28, 184, 0, 84, 167, 0, 31, 187, 0, 87, 89, 187, 0, 89, 89]
abbrev dktJ6_vectorizedHashCode_5 : List UInt8 := dkwJ6_vectorizedHashCode_5 ++ dktJ6_vectorizedHashCode_6
def dkwJ6_vectorizedHashCode_4 : List UInt8 := [29, 42, 192, 0, 60, 27, 28, 184, 0, 75, 167, 0, 57, 29, 42, 192, 0, 77, 27, 28, 184, 0, 79]
abbrev dktJ6_vectorizedHashCode_4 : List UInt8 := dkwJ6_vectorizedHashCode_4 ++ dktJ6_vectorizedHashCode_5
def dkwJ6_vectorizedHashCode_3 : List UInt8 := [192, 0, 60, 27, 28, 184, 0, 66, 167, 0, 83, 29, 42, 192, 0, 69, 27, 28, 184, 0, 71, 167, 0, 70]
abbrev dktJ6_vectorizedHashCode_3 : List UInt8 := dkwJ6_vectorizedHashCode_3 ++ dktJ6_vectorizedHashCode_4
def dkwJ6_vectorizedHashCode_2 : List UInt8 := [29, 42, 192, 0, 60, 27, 28, 184, 0, 62, 167, 0, 103, 42, 193, 0, 60, 153, 0, 16, 29, 42]
abbrev dktJ6_vectorizedHashCode_2 : List UInt8 := dkwJ6_vectorizedHashCode_2 ++ dktJ6_vectorizedHashCode_3
def dkwJ6_vectorizedHashCode_1 : List UInt8 := [170, 0, 0, 0, 0, 127, 0, 0, 0, 4, 0, 0, 0, 10, 0, 0, 0, 42, 0, 0, 0, 55, 0, 0, 0, 127, 0, 0, 0, 127, 0, 0, 0, 88, 0, 0, 0, 101, 0, 0, 0, 114]
abbrev dktJ6_vectorizedHashCode_1 : List UInt8 := dkwJ6_vectorizedHashCode_1 ++ dktJ6_vectorizedHashCode_2
def dkwJ6_vectorizedHashCode_0 : List UInt8 := [21, 4]
abbrev dktJ6_vectorizedHashCode_0 : List UInt8 := dkwJ6_vectorizedHashCode_0 ++ dktJ6_vectorizedHashCode_1
theorem dksJ6_vectorizedHashCode_0 : cJ6_vectorizedHashCode.data.toList.drop 0 = dktJ6_vectorizedHashCode_0 := by decide +kernel
theorem dksJ6_vectorizedHashCode_1 : cJ6_vectorizedHashCode.data.toList.drop 2 = dktJ6_vectorizedHashCode_1 := dk_seg dksJ6_vectorizedHashCode_0 2 rfl rfl
theorem dksJ6_vectorizedHashCode_2 : cJ6_vectorizedHashCode.data.toList.drop 44 = dktJ6_vectorizedHashCode_2 := dk_seg dksJ6_vectorizedHashCode_1 42 rfl rfl
theorem dksJ6_vectorizedHashCode_3 : cJ6_vectorizedHashCode.data.toList.drop 66 = dktJ6_vectorizedHashCode_3 := dk_seg dksJ6_vectorizedHashCode_2 22 rfl rfl
theorem dksJ6_vectorizedHashCode_4 : cJ6_vectorizedHashCode.data.toList.drop 90 = dktJ6_vectorizedHashCode_4 := dk_seg dksJ6_vectorizedHashCode_3 24 rfl rfl
theorem dksJ6_vectorizedHashCode_5 : cJ6_vectorizedHashCode.data.toList.drop 113 = dktJ6_vectorizedHashCode_5 := dk_seg dksJ6_vectorizedHashCode_4 23 rfl rfl
theorem dksJ6_vectorizedHashCode_6 : cJ6_vectorizedHashCode.data.toList.drop 137 = dktJ6_vectorizedHashCode_6 := dk_seg dksJ6_vectorizedHashCode_5 24 rfl rfl
theorem dJ6_vectorizedHashCode_0 : decode cJ6_vectorizedHashCode 0 = .ok (.iload 4, 2) := dk_21 4 (dk_at dksJ6_vectorizedHashCode_0 0 rfl rfl)
theorem dJ6_vectorizedHashCode_2 : decode cJ6_vectorizedHashCode 2 = .ok (.tableswitch 127 4 10 #[42, 55, 127, 127, 88, 101, 114], 42) := by decide +kernel
theorem dJ6_vectorizedHashCode_44 : decode cJ6_vectorizedHashCode 44 = .ok (.iload_n 3, 1) := dk_29 (dk_at dksJ6_vectorizedHashCode_2 0 rfl rfl)
theorem dJ6_vectorizedHashCode_45 : decode cJ6_vectorizedHashCode 45 = .ok (.aload_n 0, 1) := dk_42 (dk_at dksJ6_vectorizedHashCode_2 1 rfl rfl)
theorem dJ6_vectorizedHashCode_46 : decode cJ6_vectorizedHashCode 46 = .ok (.checkcast 60, 3) := dk_192 0 60 (dk_at dksJ6_vectorizedHashCode_2 2 rfl rfl)
theorem dJ6_vectorizedHashCode_49 : decode cJ6_vectorizedHashCode 49 = .ok (.iload_n 1, 1) := dk_27 (dk_at dksJ6_vectorizedHashCode_2 5 rfl rfl)
theorem dJ6_vectorizedHashCode_50 : decode cJ6_vectorizedHashCode 50 = .ok (.iload_n 2, 1) := dk_28 (dk_at dksJ6_vectorizedHashCode_2 6 rfl rfl)
theorem dJ6_vectorizedHashCode_51 : decode cJ6_vectorizedHashCode 51 = .ok (.invokestatic 62, 3) := dk_184 0 62 (dk_at dksJ6_vectorizedHashCode_2 7 rfl rfl)
theorem dJ6_vectorizedHashCode_54 : decode cJ6_vectorizedHashCode 54 = .ok (.goto 103, 3) := dk_167 0 103 (dk_at dksJ6_vectorizedHashCode_2 10 rfl rfl)
theorem dJ6_vectorizedHashCode_57 : decode cJ6_vectorizedHashCode 57 = .ok (.aload_n 0, 1) := dk_42 (dk_at dksJ6_vectorizedHashCode_2 13 rfl rfl)
theorem dJ6_vectorizedHashCode_58 : decode cJ6_vectorizedHashCode 58 = .ok (.instanceof 60, 3) := dk_193 0 60 (dk_at dksJ6_vectorizedHashCode_2 14 rfl rfl)
theorem dJ6_vectorizedHashCode_61 : decode cJ6_vectorizedHashCode 61 = .ok (.ifCond .eq 16, 3) := dk_153 0 16 (dk_at dksJ6_vectorizedHashCode_2 17 rfl rfl)
theorem dJ6_vectorizedHashCode_64 : decode cJ6_vectorizedHashCode 64 = .ok (.iload_n 3, 1) := dk_29 (dk_at dksJ6_vectorizedHashCode_2 20 rfl rfl)
theorem dJ6_vectorizedHashCode_65 : decode cJ6_vectorizedHashCode 65 = .ok (.aload_n 0, 1) := dk_42 (dk_at dksJ6_vectorizedHashCode_2 21 rfl rfl)
theorem dJ6_vectorizedHashCode_66 : decode cJ6_vectorizedHashCode 66 = .ok (.checkcast 60, 3) := dk_192 0 60 (dk_at dksJ6_vectorizedHashCode_3 0 rfl rfl)
theorem dJ6_vectorizedHashCode_69 : decode cJ6_vectorizedHashCode 69 = .ok (.iload_n 1, 1) := dk_27 (dk_at dksJ6_vectorizedHashCode_3 3 rfl rfl)
theorem dJ6_vectorizedHashCode_70 : decode cJ6_vectorizedHashCode 70 = .ok (.iload_n 2, 1) := dk_28 (dk_at dksJ6_vectorizedHashCode_3 4 rfl rfl)
theorem dJ6_vectorizedHashCode_71 : decode cJ6_vectorizedHashCode 71 = .ok (.invokestatic 66, 3) := dk_184 0 66 (dk_at dksJ6_vectorizedHashCode_3 5 rfl rfl)
theorem dJ6_vectorizedHashCode_74 : decode cJ6_vectorizedHashCode 74 = .ok (.goto 83, 3) := dk_167 0 83 (dk_at dksJ6_vectorizedHashCode_3 8 rfl rfl)
theorem dJ6_vectorizedHashCode_77 : decode cJ6_vectorizedHashCode 77 = .ok (.iload_n 3, 1) := dk_29 (dk_at dksJ6_vectorizedHashCode_3 11 rfl rfl)
theorem dJ6_vectorizedHashCode_78 : decode cJ6_vectorizedHashCode 78 = .ok (.aload_n 0, 1) := dk_42 (dk_at dksJ6_vectorizedHashCode_3 12 rfl rfl)
theorem dJ6_vectorizedHashCode_79 : decode cJ6_vectorizedHashCode 79 = .ok (.checkcast 69, 3) := dk_192 0 69 (dk_at dksJ6_vectorizedHashCode_3 13 rfl rfl)
theorem dJ6_vectorizedHashCode_82 : decode cJ6_vectorizedHashCode 82 = .ok (.iload_n 1, 1) := dk_27 (dk_at dksJ6_vectorizedHashCode_3 16 rfl rfl)
theorem dJ6_vectorizedHashCode_83 : decode cJ6_vectorizedHashCode 83 = .ok (.iload_n 2, 1) := dk_28 (dk_at dksJ6_vectorizedHashCode_3 17 rfl rfl)
theorem dJ6_vectorizedHashCode_84 : decode cJ6_vectorizedHashCode 84 = .ok (.invokestatic 71, 3) := dk_184 0 71 (dk_at dksJ6_vectorizedHashCode_3 18 rfl rfl)
theorem dJ6_vectorizedHashCode_87 : decode cJ6_vectorizedHashCode 87 = .ok (.goto 70, 3) := dk_167 0 70 (dk_at dksJ6_vectorizedHashCode_3 21 rfl rfl)
theorem dJ6_vectorizedHashCode_90 : decode cJ6_vectorizedHashCode 90 = .ok (.iload_n 3, 1) := dk_29 (dk_at dksJ6_vectorizedHashCode_4 0 rfl rfl)
theorem dJ6_vectorizedHashCode_91 : decode cJ6_vectorizedHashCode 91 = .ok (.aload_n 0, 1) := dk_42 (dk_at dksJ6_vectorizedHashCode_4 1 rfl rfl)
theorem dJ6_vectorizedHashCode_92 : decode cJ6_vectorizedHashCode 92 = .ok (.checkcast 60, 3) := dk_192 0 60 (dk_at dksJ6_vectorizedHashCode_4 2 rfl rfl)
theorem dJ6_vectorizedHashCode_95 : decode cJ6_vectorizedHashCode 95 = .ok (.iload_n 1, 1) := dk_27 (dk_at dksJ6_vectorizedHashCode_4 5 rfl rfl)
theorem dJ6_vectorizedHashCode_96 : decode cJ6_vectorizedHashCode 96 = .ok (.iload_n 2, 1) := dk_28 (dk_at dksJ6_vectorizedHashCode_4 6 rfl rfl)
theorem dJ6_vectorizedHashCode_97 : decode cJ6_vectorizedHashCode 97 = .ok (.invokestatic 75, 3) := dk_184 0 75 (dk_at dksJ6_vectorizedHashCode_4 7 rfl rfl)
theorem dJ6_vectorizedHashCode_100 : decode cJ6_vectorizedHashCode 100 = .ok (.goto 57, 3) := dk_167 0 57 (dk_at dksJ6_vectorizedHashCode_4 10 rfl rfl)
theorem dJ6_vectorizedHashCode_103 : decode cJ6_vectorizedHashCode 103 = .ok (.iload_n 3, 1) := dk_29 (dk_at dksJ6_vectorizedHashCode_4 13 rfl rfl)
theorem dJ6_vectorizedHashCode_104 : decode cJ6_vectorizedHashCode 104 = .ok (.aload_n 0, 1) := dk_42 (dk_at dksJ6_vectorizedHashCode_4 14 rfl rfl)
theorem dJ6_vectorizedHashCode_105 : decode cJ6_vectorizedHashCode 105 = .ok (.checkcast 77, 3) := dk_192 0 77 (dk_at dksJ6_vectorizedHashCode_4 15 rfl rfl)
theorem dJ6_vectorizedHashCode_108 : decode cJ6_vectorizedHashCode 108 = .ok (.iload_n 1, 1) := dk_27 (dk_at dksJ6_vectorizedHashCode_4 18 rfl rfl)
theorem dJ6_vectorizedHashCode_109 : decode cJ6_vectorizedHashCode 109 = .ok (.iload_n 2, 1) := dk_28 (dk_at dksJ6_vectorizedHashCode_4 19 rfl rfl)
theorem dJ6_vectorizedHashCode_110 : decode cJ6_vectorizedHashCode 110 = .ok (.invokestatic 79, 3) := dk_184 0 79 (dk_at dksJ6_vectorizedHashCode_4 20 rfl rfl)
theorem dJ6_vectorizedHashCode_113 : decode cJ6_vectorizedHashCode 113 = .ok (.goto 44, 3) := dk_167 0 44 (dk_at dksJ6_vectorizedHashCode_5 0 rfl rfl)
theorem dJ6_vectorizedHashCode_116 : decode cJ6_vectorizedHashCode 116 = .ok (.iload_n 3, 1) := dk_29 (dk_at dksJ6_vectorizedHashCode_5 3 rfl rfl)
theorem dJ6_vectorizedHashCode_117 : decode cJ6_vectorizedHashCode 117 = .ok (.aload_n 0, 1) := dk_42 (dk_at dksJ6_vectorizedHashCode_5 4 rfl rfl)
theorem dJ6_vectorizedHashCode_118 : decode cJ6_vectorizedHashCode 118 = .ok (.checkcast 82, 3) := dk_192 0 82 (dk_at dksJ6_vectorizedHashCode_5 5 rfl rfl)
theorem dJ6_vectorizedHashCode_121 : decode cJ6_vectorizedHashCode 121 = .ok (.iload_n 1, 1) := dk_27 (dk_at dksJ6_vectorizedHashCode_5 8 rfl rfl)
theorem dJ6_vectorizedHashCode_122 : decode cJ6_vectorizedHashCode 122 = .ok (.iload_n 2, 1) := dk_28 (dk_at dksJ6_vectorizedHashCode_5 9 rfl rfl)
theorem dJ6_vectorizedHashCode_123 : decode cJ6_vectorizedHashCode 123 = .ok (.invokestatic 84, 3) := dk_184 0 84 (dk_at dksJ6_vectorizedHashCode_5 10 rfl rfl)
theorem dJ6_vectorizedHashCode_126 : decode cJ6_vectorizedHashCode 126 = .ok (.goto 31, 3) := dk_167 0 31 (dk_at dksJ6_vectorizedHashCode_5 13 rfl rfl)
theorem dJ6_vectorizedHashCode_129 : decode cJ6_vectorizedHashCode 129 = .ok (.new 87, 3) := dk_187 0 87 (dk_at dksJ6_vectorizedHashCode_5 16 rfl rfl)
theorem dJ6_vectorizedHashCode_132 : decode cJ6_vectorizedHashCode 132 = .ok (.dup, 1) := dk_89 (dk_at dksJ6_vectorizedHashCode_5 19 rfl rfl)
theorem dJ6_vectorizedHashCode_133 : decode cJ6_vectorizedHashCode 133 = .ok (.new 89, 3) := dk_187 0 89 (dk_at dksJ6_vectorizedHashCode_5 20 rfl rfl)
theorem dJ6_vectorizedHashCode_136 : decode cJ6_vectorizedHashCode 136 = .ok (.dup, 1) := dk_89 (dk_at dksJ6_vectorizedHashCode_5 23 rfl rfl)
theorem dJ6_vectorizedHashCode_137 : decode cJ6_vectorizedHashCode 137 = .ok (.invokespecial 91, 3) := dk_183 0 91 (dk_at dksJ6_vectorizedHashCode_6 0 rfl rfl)
theorem dJ6_vectorizedHashCode_140 : decode cJ6_vectorizedHashCode 140 = .ok (.ldc 92, 2) := dk_18 92 (dk_at dksJ6_vectorizedHashCode_6 3 rfl rfl)
theorem dJ6_vectorizedHashCode_142 : decode cJ6_vectorizedHashCode 142 = .ok (.invokevirtual 94, 3) := dk_182 0 94 (dk_at dksJ6_vectorizedHashCode_6 5 rfl rfl)
theorem dJ6_vectorizedHashCode_145 : decode cJ6_vectorizedHashCode 145 = .ok (.iload 4, 2) := dk_21 4 (dk_at dksJ6_vectorizedHashCode_6 8 rfl rfl)
theorem dJ6_vectorizedHashCode_147 : decode cJ6_vectorizedHashCode 147 = .ok (.invokevirtual 98, 3) := dk_182 0 98 (dk_at dksJ6_vectorizedHashCode_6 10 rfl rfl)
theorem dJ6_vectorizedHashCode_150 : decode cJ6_vectorizedHashCode 150 = .ok (.invokevirtual 101, 3) := dk_182 0 101 (dk_at dksJ6_vectorizedHashCode_6 13 rfl rfl)
theorem dJ6_vectorizedHashCode_153 : decode cJ6_vectorizedHashCode 153 = .ok (.invokespecial 105, 3) := dk_183 0 105 (dk_at dksJ6_vectorizedHashCode_6 16 rfl rfl)
theorem dJ6_vectorizedHashCode_156 : decode cJ6_vectorizedHashCode 156 = .ok (.athrow, 1) := dk_191 (dk_at dksJ6_vectorizedHashCode_6 19 rfl rfl)
theorem dJ6_vectorizedHashCode_157 : decode cJ6_vectorizedHashCode 157 = .ok (.ireturn, 1) := dk_172 (dk_at dksJ6_vectorizedHashCode_6 20 rfl rfl)
abbrev cJ6_signedHashCode : ByteArray := prog_35_method_5_code
def yJ6_signedHashCode : MethodName := ⟨RJ6, "signedHashCode", "(I[BII)I"⟩
def dkwJ6_signedHashCode_1 : List UInt8 := [17, 0, 255, 126, 96, 59, 132, 5, 1, 167, 255, 232, 26, 172]
abbrev dktJ6_signedHashCode_1 : List UInt8 := dkwJ6_signedHashCode_1 ++ []
def dkwJ6_signedHashCode_0 : List UInt8 := [28, 29, 96, 54, 4, 28, 54, 5, 21, 5, 21, 4, 162, 0, 23, 16, 31, 26, 104, 43, 21, 5, 51]
abbrev dktJ6_signedHashCode_0 : List UInt8 := dkwJ6_signedHashCode_0 ++ dktJ6_signedHashCode_1
theorem dksJ6_signedHashCode_0 : cJ6_signedHashCode.data.toList.drop 0 = dktJ6_signedHashCode_0 := by decide +kernel
theorem dksJ6_signedHashCode_1 : cJ6_signedHashCode.data.toList.drop 23 = dktJ6_signedHashCode_1 := dk_seg dksJ6_signedHashCode_0 23 rfl rfl
theorem dJ6_signedHashCode_0 : decode cJ6_signedHashCode 0 = .ok (.iload_n 2, 1) := dk_28 (dk_at dksJ6_signedHashCode_0 0 rfl rfl)
theorem dJ6_signedHashCode_1 : decode cJ6_signedHashCode 1 = .ok (.iload_n 3, 1) := dk_29 (dk_at dksJ6_signedHashCode_0 1 rfl rfl)
theorem dJ6_signedHashCode_2 : decode cJ6_signedHashCode 2 = .ok (.iadd, 1) := dk_96 (dk_at dksJ6_signedHashCode_0 2 rfl rfl)
theorem dJ6_signedHashCode_3 : decode cJ6_signedHashCode 3 = .ok (.istore 4, 2) := dk_54 4 (dk_at dksJ6_signedHashCode_0 3 rfl rfl)
theorem dJ6_signedHashCode_5 : decode cJ6_signedHashCode 5 = .ok (.iload_n 2, 1) := dk_28 (dk_at dksJ6_signedHashCode_0 5 rfl rfl)
theorem dJ6_signedHashCode_6 : decode cJ6_signedHashCode 6 = .ok (.istore 5, 2) := dk_54 5 (dk_at dksJ6_signedHashCode_0 6 rfl rfl)
theorem dJ6_signedHashCode_8 : decode cJ6_signedHashCode 8 = .ok (.iload 5, 2) := dk_21 5 (dk_at dksJ6_signedHashCode_0 8 rfl rfl)
theorem dJ6_signedHashCode_10 : decode cJ6_signedHashCode 10 = .ok (.iload 4, 2) := dk_21 4 (dk_at dksJ6_signedHashCode_0 10 rfl rfl)
theorem dJ6_signedHashCode_12 : decode cJ6_signedHashCode 12 = .ok (.if_icmp .ge 23, 3) := dk_162 0 23 (dk_at dksJ6_signedHashCode_0 12 rfl rfl)
theorem dJ6_signedHashCode_15 : decode cJ6_signedHashCode 15 = .ok (.bipush 31, 2) := dk_16 31 (dk_at dksJ6_signedHashCode_0 15 rfl rfl)
theorem dJ6_signedHashCode_17 : decode cJ6_signedHashCode 17 = .ok (.iload_n 0, 1) := dk_26 (dk_at dksJ6_signedHashCode_0 17 rfl rfl)
theorem dJ6_signedHashCode_18 : decode cJ6_signedHashCode 18 = .ok (.imul, 1) := dk_104 (dk_at dksJ6_signedHashCode_0 18 rfl rfl)
theorem dJ6_signedHashCode_19 : decode cJ6_signedHashCode 19 = .ok (.aload_n 1, 1) := dk_43 (dk_at dksJ6_signedHashCode_0 19 rfl rfl)
theorem dJ6_signedHashCode_20 : decode cJ6_signedHashCode 20 = .ok (.iload 5, 2) := dk_21 5 (dk_at dksJ6_signedHashCode_0 20 rfl rfl)
theorem dJ6_signedHashCode_22 : decode cJ6_signedHashCode 22 = .ok (.baload, 1) := dk_51 (dk_at dksJ6_signedHashCode_0 22 rfl rfl)
theorem dJ6_signedHashCode_23 : decode cJ6_signedHashCode 23 = .ok (.sipush 255, 3) := dk_17 0 255 (dk_at dksJ6_signedHashCode_1 0 rfl rfl)
theorem dJ6_signedHashCode_26 : decode cJ6_signedHashCode 26 = .ok (.iand, 1) := dk_126 (dk_at dksJ6_signedHashCode_1 3 rfl rfl)
theorem dJ6_signedHashCode_27 : decode cJ6_signedHashCode 27 = .ok (.iadd, 1) := dk_96 (dk_at dksJ6_signedHashCode_1 4 rfl rfl)
theorem dJ6_signedHashCode_28 : decode cJ6_signedHashCode 28 = .ok (.istore_n 0, 1) := dk_59 (dk_at dksJ6_signedHashCode_1 5 rfl rfl)
theorem dJ6_signedHashCode_29 : decode cJ6_signedHashCode 29 = .ok (.iinc 5 1, 3) := dk_132 5 1 (dk_at dksJ6_signedHashCode_1 6 rfl rfl)
theorem dJ6_signedHashCode_32 : decode cJ6_signedHashCode 32 = .ok (.goto (-24), 3) := dk_167 255 232 (dk_at dksJ6_signedHashCode_1 9 rfl rfl)
theorem dJ6_signedHashCode_35 : decode cJ6_signedHashCode 35 = .ok (.iload_n 0, 1) := dk_26 (dk_at dksJ6_signedHashCode_1 12 rfl rfl)
theorem dJ6_signedHashCode_36 : decode cJ6_signedHashCode 36 = .ok (.ireturn, 1) := dk_172 (dk_at dksJ6_signedHashCode_1 13 rfl rfl)
abbrev cJ6_utf16hashCode : ByteArray := prog_35_method_10_code
def yJ6_utf16hashCode : MethodName := ⟨RJ6, "utf16hashCode", "(I[BII)I"⟩
def dkwJ6_utf16hashCode_1 : List UInt8 := [21, 5, 185, 0, 110, 3, 0, 96, 59, 132, 5, 1, 167, 255, 229, 26, 172]
abbrev dktJ6_utf16hashCode_1 : List UInt8 := dkwJ6_utf16hashCode_1 ++ []
def dkwJ6_utf16hashCode_0 : List UInt8 := [28, 29, 96, 54, 4, 28, 54, 5, 21, 5, 21, 4, 162, 0, 26, 16, 31, 26, 104, 178, 0, 106, 43]
abbrev dktJ6_utf16hashCode_0 : List UInt8 := dkwJ6_utf16hashCode_0 ++ dktJ6_utf16hashCode_1
theorem dksJ6_utf16hashCode_0 : cJ6_utf16hashCode.data.toList.drop 0 = dktJ6_utf16hashCode_0 := by decide +kernel
theorem dksJ6_utf16hashCode_1 : cJ6_utf16hashCode.data.toList.drop 23 = dktJ6_utf16hashCode_1 := dk_seg dksJ6_utf16hashCode_0 23 rfl rfl
theorem dJ6_utf16hashCode_0 : decode cJ6_utf16hashCode 0 = .ok (.iload_n 2, 1) := dk_28 (dk_at dksJ6_utf16hashCode_0 0 rfl rfl)
theorem dJ6_utf16hashCode_1 : decode cJ6_utf16hashCode 1 = .ok (.iload_n 3, 1) := dk_29 (dk_at dksJ6_utf16hashCode_0 1 rfl rfl)
theorem dJ6_utf16hashCode_2 : decode cJ6_utf16hashCode 2 = .ok (.iadd, 1) := dk_96 (dk_at dksJ6_utf16hashCode_0 2 rfl rfl)
theorem dJ6_utf16hashCode_3 : decode cJ6_utf16hashCode 3 = .ok (.istore 4, 2) := dk_54 4 (dk_at dksJ6_utf16hashCode_0 3 rfl rfl)
theorem dJ6_utf16hashCode_5 : decode cJ6_utf16hashCode 5 = .ok (.iload_n 2, 1) := dk_28 (dk_at dksJ6_utf16hashCode_0 5 rfl rfl)
theorem dJ6_utf16hashCode_6 : decode cJ6_utf16hashCode 6 = .ok (.istore 5, 2) := dk_54 5 (dk_at dksJ6_utf16hashCode_0 6 rfl rfl)
theorem dJ6_utf16hashCode_8 : decode cJ6_utf16hashCode 8 = .ok (.iload 5, 2) := dk_21 5 (dk_at dksJ6_utf16hashCode_0 8 rfl rfl)
theorem dJ6_utf16hashCode_10 : decode cJ6_utf16hashCode 10 = .ok (.iload 4, 2) := dk_21 4 (dk_at dksJ6_utf16hashCode_0 10 rfl rfl)
theorem dJ6_utf16hashCode_12 : decode cJ6_utf16hashCode 12 = .ok (.if_icmp .ge 26, 3) := dk_162 0 26 (dk_at dksJ6_utf16hashCode_0 12 rfl rfl)
theorem dJ6_utf16hashCode_15 : decode cJ6_utf16hashCode 15 = .ok (.bipush 31, 2) := dk_16 31 (dk_at dksJ6_utf16hashCode_0 15 rfl rfl)
theorem dJ6_utf16hashCode_17 : decode cJ6_utf16hashCode 17 = .ok (.iload_n 0, 1) := dk_26 (dk_at dksJ6_utf16hashCode_0 17 rfl rfl)
theorem dJ6_utf16hashCode_18 : decode cJ6_utf16hashCode 18 = .ok (.imul, 1) := dk_104 (dk_at dksJ6_utf16hashCode_0 18 rfl rfl)
theorem dJ6_utf16hashCode_19 : decode cJ6_utf16hashCode 19 = .ok (.getstatic 106, 3) := dk_178 0 106 (dk_at dksJ6_utf16hashCode_0 19 rfl rfl)
theorem dJ6_utf16hashCode_22 : decode cJ6_utf16hashCode 22 = .ok (.aload_n 1, 1) := dk_43 (dk_at dksJ6_utf16hashCode_0 22 rfl rfl)
theorem dJ6_utf16hashCode_23 : decode cJ6_utf16hashCode 23 = .ok (.iload 5, 2) := dk_21 5 (dk_at dksJ6_utf16hashCode_1 0 rfl rfl)
theorem dJ6_utf16hashCode_25 : decode cJ6_utf16hashCode 25 = .ok (.invokeinterface 110 3, 5) := by decide +kernel
theorem dJ6_utf16hashCode_30 : decode cJ6_utf16hashCode 30 = .ok (.iadd, 1) := dk_96 (dk_at dksJ6_utf16hashCode_1 7 rfl rfl)
theorem dJ6_utf16hashCode_31 : decode cJ6_utf16hashCode 31 = .ok (.istore_n 0, 1) := dk_59 (dk_at dksJ6_utf16hashCode_1 8 rfl rfl)
theorem dJ6_utf16hashCode_32 : decode cJ6_utf16hashCode 32 = .ok (.iinc 5 1, 3) := dk_132 5 1 (dk_at dksJ6_utf16hashCode_1 9 rfl rfl)
theorem dJ6_utf16hashCode_35 : decode cJ6_utf16hashCode 35 = .ok (.goto (-27), 3) := dk_167 255 229 (dk_at dksJ6_utf16hashCode_1 12 rfl rfl)
theorem dJ6_utf16hashCode_38 : decode cJ6_utf16hashCode 38 = .ok (.iload_n 0, 1) := dk_26 (dk_at dksJ6_utf16hashCode_1 15 rfl rfl)
theorem dJ6_utf16hashCode_39 : decode cJ6_utf16hashCode 39 = .ok (.ireturn, 1) := dk_172 (dk_at dksJ6_utf16hashCode_1 16 rfl rfl)
abbrev cJ6_hashCode : ByteArray := prog_35_method_7_code
def yJ6_hashCode : MethodName := ⟨RJ6, "hashCode", "(I[CII)I"⟩
def dkwJ6_hashCode_1 : List UInt8 := [59, 132, 5, 1, 167, 255, 236, 26, 172]
abbrev dktJ6_hashCode_1 : List UInt8 := dkwJ6_hashCode_1 ++ []
def dkwJ6_hashCode_0 : List UInt8 := [28, 29, 96, 54, 4, 28, 54, 5, 21, 5, 21, 4, 162, 0, 19, 16, 31, 26, 104, 43, 21, 5, 52, 96]
abbrev dktJ6_hashCode_0 : List UInt8 := dkwJ6_hashCode_0 ++ dktJ6_hashCode_1
theorem dksJ6_hashCode_0 : cJ6_hashCode.data.toList.drop 0 = dktJ6_hashCode_0 := by decide +kernel
theorem dksJ6_hashCode_1 : cJ6_hashCode.data.toList.drop 24 = dktJ6_hashCode_1 := dk_seg dksJ6_hashCode_0 24 rfl rfl
theorem dJ6_hashCode_0 : decode cJ6_hashCode 0 = .ok (.iload_n 2, 1) := dk_28 (dk_at dksJ6_hashCode_0 0 rfl rfl)
theorem dJ6_hashCode_1 : decode cJ6_hashCode 1 = .ok (.iload_n 3, 1) := dk_29 (dk_at dksJ6_hashCode_0 1 rfl rfl)
theorem dJ6_hashCode_2 : decode cJ6_hashCode 2 = .ok (.iadd, 1) := dk_96 (dk_at dksJ6_hashCode_0 2 rfl rfl)
theorem dJ6_hashCode_3 : decode cJ6_hashCode 3 = .ok (.istore 4, 2) := dk_54 4 (dk_at dksJ6_hashCode_0 3 rfl rfl)
theorem dJ6_hashCode_5 : decode cJ6_hashCode 5 = .ok (.iload_n 2, 1) := dk_28 (dk_at dksJ6_hashCode_0 5 rfl rfl)
theorem dJ6_hashCode_6 : decode cJ6_hashCode 6 = .ok (.istore 5, 2) := dk_54 5 (dk_at dksJ6_hashCode_0 6 rfl rfl)
theorem dJ6_hashCode_8 : decode cJ6_hashCode 8 = .ok (.iload 5, 2) := dk_21 5 (dk_at dksJ6_hashCode_0 8 rfl rfl)
theorem dJ6_hashCode_10 : decode cJ6_hashCode 10 = .ok (.iload 4, 2) := dk_21 4 (dk_at dksJ6_hashCode_0 10 rfl rfl)
theorem dJ6_hashCode_12 : decode cJ6_hashCode 12 = .ok (.if_icmp .ge 19, 3) := dk_162 0 19 (dk_at dksJ6_hashCode_0 12 rfl rfl)
theorem dJ6_hashCode_15 : decode cJ6_hashCode 15 = .ok (.bipush 31, 2) := dk_16 31 (dk_at dksJ6_hashCode_0 15 rfl rfl)
theorem dJ6_hashCode_17 : decode cJ6_hashCode 17 = .ok (.iload_n 0, 1) := dk_26 (dk_at dksJ6_hashCode_0 17 rfl rfl)
theorem dJ6_hashCode_18 : decode cJ6_hashCode 18 = .ok (.imul, 1) := dk_104 (dk_at dksJ6_hashCode_0 18 rfl rfl)
theorem dJ6_hashCode_19 : decode cJ6_hashCode 19 = .ok (.aload_n 1, 1) := dk_43 (dk_at dksJ6_hashCode_0 19 rfl rfl)
theorem dJ6_hashCode_20 : decode cJ6_hashCode 20 = .ok (.iload 5, 2) := dk_21 5 (dk_at dksJ6_hashCode_0 20 rfl rfl)
theorem dJ6_hashCode_22 : decode cJ6_hashCode 22 = .ok (.caload, 1) := dk_52 (dk_at dksJ6_hashCode_0 22 rfl rfl)
theorem dJ6_hashCode_23 : decode cJ6_hashCode 23 = .ok (.iadd, 1) := dk_96 (dk_at dksJ6_hashCode_0 23 rfl rfl)
theorem dJ6_hashCode_24 : decode cJ6_hashCode 24 = .ok (.istore_n 0, 1) := dk_59 (dk_at dksJ6_hashCode_1 0 rfl rfl)
theorem dJ6_hashCode_25 : decode cJ6_hashCode 25 = .ok (.iinc 5 1, 3) := dk_132 5 1 (dk_at dksJ6_hashCode_1 1 rfl rfl)
theorem dJ6_hashCode_28 : decode cJ6_hashCode 28 = .ok (.goto (-20), 3) := dk_167 255 236 (dk_at dksJ6_hashCode_1 4 rfl rfl)
theorem dJ6_hashCode_31 : decode cJ6_hashCode 31 = .ok (.iload_n 0, 1) := dk_26 (dk_at dksJ6_hashCode_1 7 rfl rfl)
theorem dJ6_hashCode_32 : decode cJ6_hashCode 32 = .ok (.ireturn, 1) := dk_172 (dk_at dksJ6_hashCode_1 8 rfl rfl)
abbrev cJ6_hashCode_2 : ByteArray := prog_35_method_6_code
def yJ6_hashCode_2 : MethodName := ⟨RJ6, "hashCode", "(I[BII)I"⟩
def dkwJ6_hashCode_2_1 : List UInt8 := [59, 132, 5, 1, 167, 255, 236, 26, 172]
abbrev dktJ6_hashCode_2_1 : List UInt8 := dkwJ6_hashCode_2_1 ++ []
def dkwJ6_hashCode_2_0 : List UInt8 := [28, 29, 96, 54, 4, 28, 54, 5, 21, 5, 21, 4, 162, 0, 19, 16, 31, 26, 104, 43, 21, 5, 51, 96]
abbrev dktJ6_hashCode_2_0 : List UInt8 := dkwJ6_hashCode_2_0 ++ dktJ6_hashCode_2_1
theorem dksJ6_hashCode_2_0 : cJ6_hashCode_2.data.toList.drop 0 = dktJ6_hashCode_2_0 := by decide +kernel
theorem dksJ6_hashCode_2_1 : cJ6_hashCode_2.data.toList.drop 24 = dktJ6_hashCode_2_1 := dk_seg dksJ6_hashCode_2_0 24 rfl rfl
theorem dJ6_hashCode_2_0 : decode cJ6_hashCode_2 0 = .ok (.iload_n 2, 1) := dk_28 (dk_at dksJ6_hashCode_2_0 0 rfl rfl)
theorem dJ6_hashCode_2_1 : decode cJ6_hashCode_2 1 = .ok (.iload_n 3, 1) := dk_29 (dk_at dksJ6_hashCode_2_0 1 rfl rfl)
theorem dJ6_hashCode_2_2 : decode cJ6_hashCode_2 2 = .ok (.iadd, 1) := dk_96 (dk_at dksJ6_hashCode_2_0 2 rfl rfl)
theorem dJ6_hashCode_2_3 : decode cJ6_hashCode_2 3 = .ok (.istore 4, 2) := dk_54 4 (dk_at dksJ6_hashCode_2_0 3 rfl rfl)
theorem dJ6_hashCode_2_5 : decode cJ6_hashCode_2 5 = .ok (.iload_n 2, 1) := dk_28 (dk_at dksJ6_hashCode_2_0 5 rfl rfl)
theorem dJ6_hashCode_2_6 : decode cJ6_hashCode_2 6 = .ok (.istore 5, 2) := dk_54 5 (dk_at dksJ6_hashCode_2_0 6 rfl rfl)
theorem dJ6_hashCode_2_8 : decode cJ6_hashCode_2 8 = .ok (.iload 5, 2) := dk_21 5 (dk_at dksJ6_hashCode_2_0 8 rfl rfl)
theorem dJ6_hashCode_2_10 : decode cJ6_hashCode_2 10 = .ok (.iload 4, 2) := dk_21 4 (dk_at dksJ6_hashCode_2_0 10 rfl rfl)
theorem dJ6_hashCode_2_12 : decode cJ6_hashCode_2 12 = .ok (.if_icmp .ge 19, 3) := dk_162 0 19 (dk_at dksJ6_hashCode_2_0 12 rfl rfl)
theorem dJ6_hashCode_2_15 : decode cJ6_hashCode_2 15 = .ok (.bipush 31, 2) := dk_16 31 (dk_at dksJ6_hashCode_2_0 15 rfl rfl)
theorem dJ6_hashCode_2_17 : decode cJ6_hashCode_2 17 = .ok (.iload_n 0, 1) := dk_26 (dk_at dksJ6_hashCode_2_0 17 rfl rfl)
theorem dJ6_hashCode_2_18 : decode cJ6_hashCode_2 18 = .ok (.imul, 1) := dk_104 (dk_at dksJ6_hashCode_2_0 18 rfl rfl)
theorem dJ6_hashCode_2_19 : decode cJ6_hashCode_2 19 = .ok (.aload_n 1, 1) := dk_43 (dk_at dksJ6_hashCode_2_0 19 rfl rfl)
theorem dJ6_hashCode_2_20 : decode cJ6_hashCode_2 20 = .ok (.iload 5, 2) := dk_21 5 (dk_at dksJ6_hashCode_2_0 20 rfl rfl)
theorem dJ6_hashCode_2_22 : decode cJ6_hashCode_2 22 = .ok (.baload, 1) := dk_51 (dk_at dksJ6_hashCode_2_0 22 rfl rfl)
theorem dJ6_hashCode_2_23 : decode cJ6_hashCode_2 23 = .ok (.iadd, 1) := dk_96 (dk_at dksJ6_hashCode_2_0 23 rfl rfl)
theorem dJ6_hashCode_2_24 : decode cJ6_hashCode_2 24 = .ok (.istore_n 0, 1) := dk_59 (dk_at dksJ6_hashCode_2_1 0 rfl rfl)
theorem dJ6_hashCode_2_25 : decode cJ6_hashCode_2 25 = .ok (.iinc 5 1, 3) := dk_132 5 1 (dk_at dksJ6_hashCode_2_1 1 rfl rfl)
theorem dJ6_hashCode_2_28 : decode cJ6_hashCode_2 28 = .ok (.goto (-20), 3) := dk_167 255 236 (dk_at dksJ6_hashCode_2_1 4 rfl rfl)
theorem dJ6_hashCode_2_31 : decode cJ6_hashCode_2 31 = .ok (.iload_n 0, 1) := dk_26 (dk_at dksJ6_hashCode_2_1 7 rfl rfl)
theorem dJ6_hashCode_2_32 : decode cJ6_hashCode_2 32 = .ok (.ireturn, 1) := dk_172 (dk_at dksJ6_hashCode_2_1 8 rfl rfl)
abbrev cJ6_hashCode_3 : ByteArray := prog_35_method_8_code
def yJ6_hashCode_3 : MethodName := ⟨RJ6, "hashCode", "(I[SII)I"⟩
def dkwJ6_hashCode_3_1 : List UInt8 := [59, 132, 5, 1, 167, 255, 236, 26, 172]
abbrev dktJ6_hashCode_3_1 : List UInt8 := dkwJ6_hashCode_3_1 ++ []
def dkwJ6_hashCode_3_0 : List UInt8 := [28, 29, 96, 54, 4, 28, 54, 5, 21, 5, 21, 4, 162, 0, 19, 16, 31, 26, 104, 43, 21, 5, 53, 96]
abbrev dktJ6_hashCode_3_0 : List UInt8 := dkwJ6_hashCode_3_0 ++ dktJ6_hashCode_3_1
theorem dksJ6_hashCode_3_0 : cJ6_hashCode_3.data.toList.drop 0 = dktJ6_hashCode_3_0 := by decide +kernel
theorem dksJ6_hashCode_3_1 : cJ6_hashCode_3.data.toList.drop 24 = dktJ6_hashCode_3_1 := dk_seg dksJ6_hashCode_3_0 24 rfl rfl
theorem dJ6_hashCode_3_0 : decode cJ6_hashCode_3 0 = .ok (.iload_n 2, 1) := dk_28 (dk_at dksJ6_hashCode_3_0 0 rfl rfl)
theorem dJ6_hashCode_3_1 : decode cJ6_hashCode_3 1 = .ok (.iload_n 3, 1) := dk_29 (dk_at dksJ6_hashCode_3_0 1 rfl rfl)
theorem dJ6_hashCode_3_2 : decode cJ6_hashCode_3 2 = .ok (.iadd, 1) := dk_96 (dk_at dksJ6_hashCode_3_0 2 rfl rfl)
theorem dJ6_hashCode_3_3 : decode cJ6_hashCode_3 3 = .ok (.istore 4, 2) := dk_54 4 (dk_at dksJ6_hashCode_3_0 3 rfl rfl)
theorem dJ6_hashCode_3_5 : decode cJ6_hashCode_3 5 = .ok (.iload_n 2, 1) := dk_28 (dk_at dksJ6_hashCode_3_0 5 rfl rfl)
theorem dJ6_hashCode_3_6 : decode cJ6_hashCode_3 6 = .ok (.istore 5, 2) := dk_54 5 (dk_at dksJ6_hashCode_3_0 6 rfl rfl)
theorem dJ6_hashCode_3_8 : decode cJ6_hashCode_3 8 = .ok (.iload 5, 2) := dk_21 5 (dk_at dksJ6_hashCode_3_0 8 rfl rfl)
theorem dJ6_hashCode_3_10 : decode cJ6_hashCode_3 10 = .ok (.iload 4, 2) := dk_21 4 (dk_at dksJ6_hashCode_3_0 10 rfl rfl)
theorem dJ6_hashCode_3_12 : decode cJ6_hashCode_3 12 = .ok (.if_icmp .ge 19, 3) := dk_162 0 19 (dk_at dksJ6_hashCode_3_0 12 rfl rfl)
theorem dJ6_hashCode_3_15 : decode cJ6_hashCode_3 15 = .ok (.bipush 31, 2) := dk_16 31 (dk_at dksJ6_hashCode_3_0 15 rfl rfl)
theorem dJ6_hashCode_3_17 : decode cJ6_hashCode_3 17 = .ok (.iload_n 0, 1) := dk_26 (dk_at dksJ6_hashCode_3_0 17 rfl rfl)
theorem dJ6_hashCode_3_18 : decode cJ6_hashCode_3 18 = .ok (.imul, 1) := dk_104 (dk_at dksJ6_hashCode_3_0 18 rfl rfl)
theorem dJ6_hashCode_3_19 : decode cJ6_hashCode_3 19 = .ok (.aload_n 1, 1) := dk_43 (dk_at dksJ6_hashCode_3_0 19 rfl rfl)
theorem dJ6_hashCode_3_20 : decode cJ6_hashCode_3 20 = .ok (.iload 5, 2) := dk_21 5 (dk_at dksJ6_hashCode_3_0 20 rfl rfl)
theorem dJ6_hashCode_3_22 : decode cJ6_hashCode_3 22 = .ok (.saload, 1) := dk_53 (dk_at dksJ6_hashCode_3_0 22 rfl rfl)
theorem dJ6_hashCode_3_23 : decode cJ6_hashCode_3 23 = .ok (.iadd, 1) := dk_96 (dk_at dksJ6_hashCode_3_0 23 rfl rfl)
theorem dJ6_hashCode_3_24 : decode cJ6_hashCode_3 24 = .ok (.istore_n 0, 1) := dk_59 (dk_at dksJ6_hashCode_3_1 0 rfl rfl)
theorem dJ6_hashCode_3_25 : decode cJ6_hashCode_3 25 = .ok (.iinc 5 1, 3) := dk_132 5 1 (dk_at dksJ6_hashCode_3_1 1 rfl rfl)
theorem dJ6_hashCode_3_28 : decode cJ6_hashCode_3 28 = .ok (.goto (-20), 3) := dk_167 255 236 (dk_at dksJ6_hashCode_3_1 4 rfl rfl)
theorem dJ6_hashCode_3_31 : decode cJ6_hashCode_3 31 = .ok (.iload_n 0, 1) := dk_26 (dk_at dksJ6_hashCode_3_1 7 rfl rfl)
theorem dJ6_hashCode_3_32 : decode cJ6_hashCode_3 32 = .ok (.ireturn, 1) := dk_172 (dk_at dksJ6_hashCode_3_1 8 rfl rfl)
abbrev cJ6_hashCode_4 : ByteArray := prog_35_method_9_code
def yJ6_hashCode_4 : MethodName := ⟨RJ6, "hashCode", "(I[III)I"⟩
def dkwJ6_hashCode_4_1 : List UInt8 := [59, 132, 5, 1, 167, 255, 236, 26, 172]
abbrev dktJ6_hashCode_4_1 : List UInt8 := dkwJ6_hashCode_4_1 ++ []
def dkwJ6_hashCode_4_0 : List UInt8 := [28, 29, 96, 54, 4, 28, 54, 5, 21, 5, 21, 4, 162, 0, 19, 16, 31, 26, 104, 43, 21, 5, 46, 96]
abbrev dktJ6_hashCode_4_0 : List UInt8 := dkwJ6_hashCode_4_0 ++ dktJ6_hashCode_4_1
theorem dksJ6_hashCode_4_0 : cJ6_hashCode_4.data.toList.drop 0 = dktJ6_hashCode_4_0 := by decide +kernel
theorem dksJ6_hashCode_4_1 : cJ6_hashCode_4.data.toList.drop 24 = dktJ6_hashCode_4_1 := dk_seg dksJ6_hashCode_4_0 24 rfl rfl
theorem dJ6_hashCode_4_0 : decode cJ6_hashCode_4 0 = .ok (.iload_n 2, 1) := dk_28 (dk_at dksJ6_hashCode_4_0 0 rfl rfl)
theorem dJ6_hashCode_4_1 : decode cJ6_hashCode_4 1 = .ok (.iload_n 3, 1) := dk_29 (dk_at dksJ6_hashCode_4_0 1 rfl rfl)
theorem dJ6_hashCode_4_2 : decode cJ6_hashCode_4 2 = .ok (.iadd, 1) := dk_96 (dk_at dksJ6_hashCode_4_0 2 rfl rfl)
theorem dJ6_hashCode_4_3 : decode cJ6_hashCode_4 3 = .ok (.istore 4, 2) := dk_54 4 (dk_at dksJ6_hashCode_4_0 3 rfl rfl)
theorem dJ6_hashCode_4_5 : decode cJ6_hashCode_4 5 = .ok (.iload_n 2, 1) := dk_28 (dk_at dksJ6_hashCode_4_0 5 rfl rfl)
theorem dJ6_hashCode_4_6 : decode cJ6_hashCode_4 6 = .ok (.istore 5, 2) := dk_54 5 (dk_at dksJ6_hashCode_4_0 6 rfl rfl)
theorem dJ6_hashCode_4_8 : decode cJ6_hashCode_4 8 = .ok (.iload 5, 2) := dk_21 5 (dk_at dksJ6_hashCode_4_0 8 rfl rfl)
theorem dJ6_hashCode_4_10 : decode cJ6_hashCode_4 10 = .ok (.iload 4, 2) := dk_21 4 (dk_at dksJ6_hashCode_4_0 10 rfl rfl)
theorem dJ6_hashCode_4_12 : decode cJ6_hashCode_4 12 = .ok (.if_icmp .ge 19, 3) := dk_162 0 19 (dk_at dksJ6_hashCode_4_0 12 rfl rfl)
theorem dJ6_hashCode_4_15 : decode cJ6_hashCode_4 15 = .ok (.bipush 31, 2) := dk_16 31 (dk_at dksJ6_hashCode_4_0 15 rfl rfl)
theorem dJ6_hashCode_4_17 : decode cJ6_hashCode_4 17 = .ok (.iload_n 0, 1) := dk_26 (dk_at dksJ6_hashCode_4_0 17 rfl rfl)
theorem dJ6_hashCode_4_18 : decode cJ6_hashCode_4 18 = .ok (.imul, 1) := dk_104 (dk_at dksJ6_hashCode_4_0 18 rfl rfl)
theorem dJ6_hashCode_4_19 : decode cJ6_hashCode_4 19 = .ok (.aload_n 1, 1) := dk_43 (dk_at dksJ6_hashCode_4_0 19 rfl rfl)
theorem dJ6_hashCode_4_20 : decode cJ6_hashCode_4 20 = .ok (.iload 5, 2) := dk_21 5 (dk_at dksJ6_hashCode_4_0 20 rfl rfl)
theorem dJ6_hashCode_4_22 : decode cJ6_hashCode_4 22 = .ok (.iaload, 1) := dk_46 (dk_at dksJ6_hashCode_4_0 22 rfl rfl)
theorem dJ6_hashCode_4_23 : decode cJ6_hashCode_4 23 = .ok (.iadd, 1) := dk_96 (dk_at dksJ6_hashCode_4_0 23 rfl rfl)
theorem dJ6_hashCode_4_24 : decode cJ6_hashCode_4 24 = .ok (.istore_n 0, 1) := dk_59 (dk_at dksJ6_hashCode_4_1 0 rfl rfl)
theorem dJ6_hashCode_4_25 : decode cJ6_hashCode_4 25 = .ok (.iinc 5 1, 3) := dk_132 5 1 (dk_at dksJ6_hashCode_4_1 1 rfl rfl)
theorem dJ6_hashCode_4_28 : decode cJ6_hashCode_4 28 = .ok (.goto (-20), 3) := dk_167 255 236 (dk_at dksJ6_hashCode_4_1 4 rfl rfl)
theorem dJ6_hashCode_4_31 : decode cJ6_hashCode_4 31 = .ok (.iload_n 0, 1) := dk_26 (dk_at dksJ6_hashCode_4_1 7 rfl rfl)
theorem dJ6_hashCode_4_32 : decode cJ6_hashCode_4 32 = .ok (.ireturn, 1) := dk_172 (dk_at dksJ6_hashCode_4_1 8 rfl rfl)
theorem q166 : (Jvm.Cond.initialized "jdk/internal/util/ArraysSupport") ∈ lw_all := lw_g (lw_at lw_m1 19 rfl) rfl
theorem q756 : (Jvm.Cond.static ({ cls := "jdk/internal/util/ArraysSupport", name := "newLength", desc := "(III)I" } : Jvm.MethodName)) ∈ lw_all := lw_g (lw_at lw_m3 129 rfl) rfl
theorem q757 : (Jvm.Cond.code ({ cls := "jdk/internal/util/ArraysSupport", name := "newLength", desc := "(III)I" } : Jvm.MethodName) prog_35_method_27_code (4 : Nat) (Option.some Jvm.ClassFile.FieldType.int)) ∈ lw_all := lw_g (lw_at lw_m3 130 rfl) rfl
theorem q758 : (Jvm.Cond.methodLink "jdk/internal/util/ArraysSupport" (194 : Nat) ({ cls := "java/lang/Math", name := "max", desc := "(II)I" } : Jvm.MethodName)) ∈ lw_all := lw_g (lw_at lw_m3 131 rfl) rfl
theorem q761 : (Jvm.Cond.constant "jdk/internal/util/ArraysSupport" (200 : Nat) (2147483639 : Int32)) ∈ lw_all := lw_g (lw_at lw_m3 134 rfl) rfl
theorem q762 : (Jvm.Cond.methodLink "jdk/internal/util/ArraysSupport" (201 : Nat) ({ cls := "jdk/internal/util/ArraysSupport", name := "hugeLength", desc := "(II)I" } : Jvm.MethodName)) ∈ lw_all := lw_g (lw_at lw_m3 135 rfl) rfl
theorem q763 : (Jvm.Cond.static ({ cls := "jdk/internal/util/ArraysSupport", name := "hugeLength", desc := "(II)I" } : Jvm.MethodName)) ∈ lw_all := lw_g (lw_at lw_m3 136 rfl) rfl
theorem q764 : (Jvm.Cond.code ({ cls := "jdk/internal/util/ArraysSupport", name := "hugeLength", desc := "(II)I" } : Jvm.MethodName) prog_35_method_28_code (3 : Nat) (Option.some Jvm.ClassFile.FieldType.int)) ∈ lw_all := lw_g (lw_at lw_m3 137 rfl) rfl
theorem q969 : (Jvm.Cond.static ({ cls := "jdk/internal/util/ArraysSupport", name := "vectorizedHashCode", desc := "(Ljava/lang/Object;IIII)I" } : Jvm.MethodName)) ∈ lw_all := lw_g (lw_at lw_m4 102 rfl) rfl
theorem q970 : (Jvm.Cond.code ({ cls := "jdk/internal/util/ArraysSupport", name := "vectorizedHashCode", desc := "(Ljava/lang/Object;IIII)I" } : Jvm.MethodName) prog_35_method_4_code (5 : Nat) (Option.some Jvm.ClassFile.FieldType.int)) ∈ lw_all := lw_g (lw_at lw_m4 103 rfl) rfl
theorem q971 : (Jvm.Cond.classLink "jdk/internal/util/ArraysSupport" (60 : Nat) "[B") ∈ lw_all := lw_g (lw_at lw_m4 104 rfl) rfl
theorem q972 : (Jvm.Cond.methodLink "jdk/internal/util/ArraysSupport" (62 : Nat) ({ cls := "jdk/internal/util/ArraysSupport", name := "signedHashCode", desc := "(I[BII)I" } : Jvm.MethodName)) ∈ lw_all := lw_g (lw_at lw_m4 105 rfl) rfl
theorem q973 : (Jvm.Cond.static ({ cls := "jdk/internal/util/ArraysSupport", name := "signedHashCode", desc := "(I[BII)I" } : Jvm.MethodName)) ∈ lw_all := lw_g (lw_at lw_m4 106 rfl) rfl
theorem q974 : (Jvm.Cond.code ({ cls := "jdk/internal/util/ArraysSupport", name := "signedHashCode", desc := "(I[BII)I" } : Jvm.MethodName) prog_35_method_5_code (6 : Nat) (Option.some Jvm.ClassFile.FieldType.int)) ∈ lw_all := lw_g (lw_at lw_m4 107 rfl) rfl
theorem q975 : (Jvm.Cond.methodLink "jdk/internal/util/ArraysSupport" (66 : Nat) ({ cls := "jdk/internal/util/ArraysSupport", name := "utf16hashCode", desc := "(I[BII)I" } : Jvm.MethodName)) ∈ lw_all := lw_g (lw_at lw_m4 108 rfl) rfl
theorem q976 : (Jvm.Cond.static ({ cls := "jdk/internal/util/ArraysSupport", name := "utf16hashCode", desc := "(I[BII)I" } : Jvm.MethodName)) ∈ lw_all := lw_g (lw_at lw_m4 109 rfl) rfl
theorem q977 : (Jvm.Cond.code ({ cls := "jdk/internal/util/ArraysSupport", name := "utf16hashCode", desc := "(I[BII)I" } : Jvm.MethodName) prog_35_method_10_code (6 : Nat) (Option.some Jvm.ClassFile.FieldType.int)) ∈ lw_all := lw_g (lw_at lw_m4 110 rfl) rfl
theorem q978 : (Jvm.Cond.fieldLink "jdk/internal/util/ArraysSupport" (106 : Nat) "jdk/internal/util/ArraysSupport" "JLA" "Ljdk/internal/access/JavaLangAccess;") ∈ lw_all := lw_g (lw_at lw_m4 111 rfl) rfl
theorem q979 : (Jvm.Cond.laysStatic "jdk/internal/util/ArraysSupport" "JLA" "Ljdk/internal/access/JavaLangAccess;") ∈ lw_tbl := lw_at lw_m4 112 rfl
theorem q980 : (Jvm.Cond.interfaceEntry "jdk/internal/util/ArraysSupport" (110 : Nat)) ∈ lw_tbl := lw_at lw_m4 113 rfl
theorem q981 : (Jvm.Cond.methodLink "jdk/internal/util/ArraysSupport" (110 : Nat) ({ cls := "jdk/internal/access/JavaLangAccess", name := "getUTF16Char", desc := "([BI)C" } : Jvm.MethodName)) ∈ lw_all := lw_g (lw_at lw_m4 114 rfl) rfl
theorem q991 : (Jvm.Cond.classLink "jdk/internal/util/ArraysSupport" (69 : Nat) "[C") ∈ lw_all := lw_g (lw_at lw_m4 124 rfl) rfl
theorem q992 : (Jvm.Cond.methodLink "jdk/internal/util/ArraysSupport" (71 : Nat) ({ cls := "jdk/internal/util/ArraysSupport", name := "hashCode", desc := "(I[CII)I" } : Jvm.MethodName)) ∈ lw_all := lw_g (lw_at lw_m4 125 rfl) rfl
theorem q993 : (Jvm.Cond.static ({ cls := "jdk/internal/util/ArraysSupport", name := "hashCode", desc := "(I[CII)I" } : Jvm.MethodName)) ∈ lw_all := lw_g (lw_at lw_m4 126 rfl) rfl
theorem q994 : (Jvm.Cond.code ({ cls := "jdk/internal/util/ArraysSupport", name := "hashCode", desc := "(I[CII)I" } : Jvm.MethodName) prog_35_method_7_code (6 : Nat) (Option.some Jvm.ClassFile.FieldType.int)) ∈ lw_all := lw_g (lw_at lw_m4 127 rfl) rfl
theorem q995 : (Jvm.Cond.methodLink "jdk/internal/util/ArraysSupport" (75 : Nat) ({ cls := "jdk/internal/util/ArraysSupport", name := "hashCode", desc := "(I[BII)I" } : Jvm.MethodName)) ∈ lw_all := lw_g (lw_at lw_m4 128 rfl) rfl
theorem q996 : (Jvm.Cond.static ({ cls := "jdk/internal/util/ArraysSupport", name := "hashCode", desc := "(I[BII)I" } : Jvm.MethodName)) ∈ lw_all := lw_g (lw_at lw_m4 129 rfl) rfl
theorem q997 : (Jvm.Cond.code ({ cls := "jdk/internal/util/ArraysSupport", name := "hashCode", desc := "(I[BII)I" } : Jvm.MethodName) prog_35_method_6_code (6 : Nat) (Option.some Jvm.ClassFile.FieldType.int)) ∈ lw_all := lw_g (lw_at lw_m4 130 rfl) rfl
theorem q998 : (Jvm.Cond.classLink "jdk/internal/util/ArraysSupport" (77 : Nat) "[S") ∈ lw_all := lw_g (lw_at lw_m4 131 rfl) rfl
theorem q999 : (Jvm.Cond.methodLink "jdk/internal/util/ArraysSupport" (79 : Nat) ({ cls := "jdk/internal/util/ArraysSupport", name := "hashCode", desc := "(I[SII)I" } : Jvm.MethodName)) ∈ lw_all := lw_g (lw_at lw_m4 132 rfl) rfl
theorem q1000 : (Jvm.Cond.static ({ cls := "jdk/internal/util/ArraysSupport", name := "hashCode", desc := "(I[SII)I" } : Jvm.MethodName)) ∈ lw_all := lw_g (lw_at lw_m4 133 rfl) rfl
theorem q1001 : (Jvm.Cond.code ({ cls := "jdk/internal/util/ArraysSupport", name := "hashCode", desc := "(I[SII)I" } : Jvm.MethodName) prog_35_method_8_code (6 : Nat) (Option.some Jvm.ClassFile.FieldType.int)) ∈ lw_all := lw_g (lw_at lw_m4 134 rfl) rfl
theorem q1002 : (Jvm.Cond.classLink "jdk/internal/util/ArraysSupport" (82 : Nat) "[I") ∈ lw_all := lw_g (lw_at lw_m4 135 rfl) rfl
theorem q1003 : (Jvm.Cond.methodLink "jdk/internal/util/ArraysSupport" (84 : Nat) ({ cls := "jdk/internal/util/ArraysSupport", name := "hashCode", desc := "(I[III)I" } : Jvm.MethodName)) ∈ lw_all := lw_g (lw_at lw_m4 136 rfl) rfl
theorem q1004 : (Jvm.Cond.static ({ cls := "jdk/internal/util/ArraysSupport", name := "hashCode", desc := "(I[III)I" } : Jvm.MethodName)) ∈ lw_all := lw_g (lw_at lw_m4 137 rfl) rfl
theorem q1005 : (Jvm.Cond.code ({ cls := "jdk/internal/util/ArraysSupport", name := "hashCode", desc := "(I[III)I" } : Jvm.MethodName) prog_35_method_9_code (6 : Nat) (Option.some Jvm.ClassFile.FieldType.int)) ∈ lw_all := lw_g (lw_at lw_m4 138 rfl) rfl
/-! java/lang/Math -/
set_option maxRecDepth 100000
def RJ7 : String := "java/lang/Math"
abbrev cJ7_max : ByteArray := prog_22_method_65_code
def yJ7_max : MethodName := ⟨RJ7, "max", "(II)I"⟩
def dkwJ7_max_0 : List UInt8 := [26, 27, 161, 0, 7, 26, 167, 0, 4, 27, 172]
abbrev dktJ7_max_0 : List UInt8 := dkwJ7_max_0 ++ []
theorem dksJ7_max_0 : cJ7_max.data.toList.drop 0 = dktJ7_max_0 := by decide +kernel
theorem dJ7_max_0 : decode cJ7_max 0 = .ok (.iload_n 0, 1) := dk_26 (dk_at dksJ7_max_0 0 rfl rfl)
theorem dJ7_max_1 : decode cJ7_max 1 = .ok (.iload_n 1, 1) := dk_27 (dk_at dksJ7_max_0 1 rfl rfl)
theorem dJ7_max_2 : decode cJ7_max 2 = .ok (.if_icmp .lt 7, 3) := dk_161 0 7 (dk_at dksJ7_max_0 2 rfl rfl)
theorem dJ7_max_5 : decode cJ7_max 5 = .ok (.iload_n 0, 1) := dk_26 (dk_at dksJ7_max_0 5 rfl rfl)
theorem dJ7_max_6 : decode cJ7_max 6 = .ok (.goto 4, 3) := dk_167 0 4 (dk_at dksJ7_max_0 6 rfl rfl)
theorem dJ7_max_9 : decode cJ7_max 9 = .ok (.iload_n 1, 1) := dk_27 (dk_at dksJ7_max_0 9 rfl rfl)
theorem dJ7_max_10 : decode cJ7_max 10 = .ok (.ireturn, 1) := dk_172 (dk_at dksJ7_max_0 10 rfl rfl)
abbrev cJ7_min : ByteArray := prog_22_method_69_code
def yJ7_min : MethodName := ⟨RJ7, "min", "(II)I"⟩
def dkwJ7_min_0 : List UInt8 := [26, 27, 163, 0, 7, 26, 167, 0, 4, 27, 172]
abbrev dktJ7_min_0 : List UInt8 := dkwJ7_min_0 ++ []
theorem dksJ7_min_0 : cJ7_min.data.toList.drop 0 = dktJ7_min_0 := by decide +kernel
theorem dJ7_min_0 : decode cJ7_min 0 = .ok (.iload_n 0, 1) := dk_26 (dk_at dksJ7_min_0 0 rfl rfl)
theorem dJ7_min_1 : decode cJ7_min 1 = .ok (.iload_n 1, 1) := dk_27 (dk_at dksJ7_min_0 1 rfl rfl)
theorem dJ7_min_2 : decode cJ7_min 2 = .ok (.if_icmp .gt 7, 3) := dk_163 0 7 (dk_at dksJ7_min_0 2 rfl rfl)
theorem dJ7_min_5 : decode cJ7_min 5 = .ok (.iload_n 0, 1) := dk_26 (dk_at dksJ7_min_0 5 rfl rfl)
theorem dJ7_min_6 : decode cJ7_min 6 = .ok (.goto 4, 3) := dk_167 0 4 (dk_at dksJ7_min_0 6 rfl rfl)
theorem dJ7_min_9 : decode cJ7_min 9 = .ok (.iload_n 1, 1) := dk_27 (dk_at dksJ7_min_0 9 rfl rfl)
theorem dJ7_min_10 : decode cJ7_min 10 = .ok (.ireturn, 1) := dk_172 (dk_at dksJ7_min_0 10 rfl rfl)
abbrev cJ7_abs : ByteArray := prog_22_method_59_code
def yJ7_abs : MethodName := ⟨RJ7, "abs", "(I)I"⟩
def dkwJ7_abs_0 : List UInt8 := [26, 156, 0, 8, 26, 116, 167, 0, 4, 26, 172]
abbrev dktJ7_abs_0 : List UInt8 := dkwJ7_abs_0 ++ []
theorem dksJ7_abs_0 : cJ7_abs.data.toList.drop 0 = dktJ7_abs_0 := by decide +kernel
theorem dJ7_abs_0 : decode cJ7_abs 0 = .ok (.iload_n 0, 1) := dk_26 (dk_at dksJ7_abs_0 0 rfl rfl)
theorem dJ7_abs_1 : decode cJ7_abs 1 = .ok (.ifCond .ge 8, 3) := dk_156 0 8 (dk_at dksJ7_abs_0 1 rfl rfl)
theorem dJ7_abs_4 : decode cJ7_abs 4 = .ok (.iload_n 0, 1) := dk_26 (dk_at dksJ7_abs_0 4 rfl rfl)
theorem dJ7_abs_5 : decode cJ7_abs 5 = .ok (.ineg, 1) := dk_116 (dk_at dksJ7_abs_0 5 rfl rfl)
theorem dJ7_abs_6 : decode cJ7_abs 6 = .ok (.goto 4, 3) := dk_167 0 4 (dk_at dksJ7_abs_0 6 rfl rfl)
theorem dJ7_abs_9 : decode cJ7_abs 9 = .ok (.iload_n 0, 1) := dk_26 (dk_at dksJ7_abs_0 9 rfl rfl)
theorem dJ7_abs_10 : decode cJ7_abs 10 = .ok (.ireturn, 1) := dk_172 (dk_at dksJ7_abs_0 10 rfl rfl)
abbrev cJ7_multiplyExact : ByteArray := prog_22_method_28_code
def yJ7_multiplyExact : MethodName := ⟨RJ7, "multiplyExact", "(II)I"⟩
def dkwJ7_multiplyExact_1 : List UInt8 := [32, 136, 172]
abbrev dktJ7_multiplyExact_1 : List UInt8 := dkwJ7_multiplyExact_1 ++ []
def dkwJ7_multiplyExact_0 : List UInt8 := [26, 133, 27, 133, 105, 65, 32, 136, 133, 32, 148, 153, 0, 13, 187, 0, 109, 89, 18, 111, 183, 0, 113, 191]
abbrev dktJ7_multiplyExact_0 : List UInt8 := dkwJ7_multiplyExact_0 ++ dktJ7_multiplyExact_1
theorem dksJ7_multiplyExact_0 : cJ7_multiplyExact.data.toList.drop 0 = dktJ7_multiplyExact_0 := by decide +kernel
theorem dksJ7_multiplyExact_1 : cJ7_multiplyExact.data.toList.drop 24 = dktJ7_multiplyExact_1 := dk_seg dksJ7_multiplyExact_0 24 rfl rfl
theorem dJ7_multiplyExact_0 : decode cJ7_multiplyExact 0 = .ok (.iload_n 0, 1) := dk_26 (dk_at dksJ7_multiplyExact_0 0 rfl rfl)
theorem dJ7_multiplyExact_1 : decode cJ7_multiplyExact 1 = .ok (.i2l, 1) := dk_133 (dk_at dksJ7_multiplyExact_0 1 rfl rfl)
theorem dJ7_multiplyExact_2 : decode cJ7_multiplyExact 2 = .ok (.iload_n 1, 1) := dk_27 (dk_at dksJ7_multiplyExact_0 2 rfl rfl)
theorem dJ7_multiplyExact_3 : decode cJ7_multiplyExact 3 = .ok (.i2l, 1) := dk_133 (dk_at dksJ7_multiplyExact_0 3 rfl rfl)
theorem dJ7_multiplyExact_4 : decode cJ7_multiplyExact 4 = .ok (.lmul, 1) := dk_105 (dk_at dksJ7_multiplyExact_0 4 rfl rfl)
theorem dJ7_multiplyExact_5 : decode cJ7_multiplyExact 5 = .ok (.lstore_n 2, 1) := dk_65 (dk_at dksJ7_multiplyExact_0 5 rfl rfl)
theorem dJ7_multiplyExact_6 : decode cJ7_multiplyExact 6 = .ok (.lload_n 2, 1) := dk_32 (dk_at dksJ7_multiplyExact_0 6 rfl rfl)
theorem dJ7_multiplyExact_7 : decode cJ7_multiplyExact 7 = .ok (.l2i, 1) := dk_136 (dk_at dksJ7_multiplyExact_0 7 rfl rfl)
theorem dJ7_multiplyExact_8 : decode cJ7_multiplyExact 8 = .ok (.i2l, 1) := dk_133 (dk_at dksJ7_multiplyExact_0 8 rfl rfl)
theorem dJ7_multiplyExact_9 : decode cJ7_multiplyExact 9 = .ok (.lload_n 2, 1) := dk_32 (dk_at dksJ7_multiplyExact_0 9 rfl rfl)
theorem dJ7_multiplyExact_10 : decode cJ7_multiplyExact 10 = .ok (.lcmp, 1) := dk_148 (dk_at dksJ7_multiplyExact_0 10 rfl rfl)
theorem dJ7_multiplyExact_11 : decode cJ7_multiplyExact 11 = .ok (.ifCond .eq 13, 3) := dk_153 0 13 (dk_at dksJ7_multiplyExact_0 11 rfl rfl)
theorem dJ7_multiplyExact_14 : decode cJ7_multiplyExact 14 = .ok (.new 109, 3) := dk_187 0 109 (dk_at dksJ7_multiplyExact_0 14 rfl rfl)
theorem dJ7_multiplyExact_17 : decode cJ7_multiplyExact 17 = .ok (.dup, 1) := dk_89 (dk_at dksJ7_multiplyExact_0 17 rfl rfl)
theorem dJ7_multiplyExact_18 : decode cJ7_multiplyExact 18 = .ok (.ldc 111, 2) := dk_18 111 (dk_at dksJ7_multiplyExact_0 18 rfl rfl)
theorem dJ7_multiplyExact_20 : decode cJ7_multiplyExact 20 = .ok (.invokespecial 113, 3) := dk_183 0 113 (dk_at dksJ7_multiplyExact_0 20 rfl rfl)
theorem dJ7_multiplyExact_23 : decode cJ7_multiplyExact 23 = .ok (.athrow, 1) := dk_191 (dk_at dksJ7_multiplyExact_0 23 rfl rfl)
theorem dJ7_multiplyExact_24 : decode cJ7_multiplyExact 24 = .ok (.lload_n 2, 1) := dk_32 (dk_at dksJ7_multiplyExact_1 0 rfl rfl)
theorem dJ7_multiplyExact_25 : decode cJ7_multiplyExact 25 = .ok (.l2i, 1) := dk_136 (dk_at dksJ7_multiplyExact_1 1 rfl rfl)
theorem dJ7_multiplyExact_26 : decode cJ7_multiplyExact 26 = .ok (.ireturn, 1) := dk_172 (dk_at dksJ7_multiplyExact_1 2 rfl rfl)
abbrev cJ7_abs_2 : ByteArray := prog_22_method_61_code
def yJ7_abs_2 : MethodName := ⟨RJ7, "abs", "(J)J"⟩
def dkwJ7_abs_2_0 : List UInt8 := [30, 9, 148, 156, 0, 8, 30, 117, 167, 0, 4, 30, 173]
abbrev dktJ7_abs_2_0 : List UInt8 := dkwJ7_abs_2_0 ++ []
theorem dksJ7_abs_2_0 : cJ7_abs_2.data.toList.drop 0 = dktJ7_abs_2_0 := by decide +kernel
theorem dJ7_abs_2_0 : decode cJ7_abs_2 0 = .ok (.lload_n 0, 1) := dk_30 (dk_at dksJ7_abs_2_0 0 rfl rfl)
theorem dJ7_abs_2_1 : decode cJ7_abs_2 1 = .ok (.lconst 0, 1) := dk_9 (dk_at dksJ7_abs_2_0 1 rfl rfl)
theorem dJ7_abs_2_2 : decode cJ7_abs_2 2 = .ok (.lcmp, 1) := dk_148 (dk_at dksJ7_abs_2_0 2 rfl rfl)
theorem dJ7_abs_2_3 : decode cJ7_abs_2 3 = .ok (.ifCond .ge 8, 3) := dk_156 0 8 (dk_at dksJ7_abs_2_0 3 rfl rfl)
theorem dJ7_abs_2_6 : decode cJ7_abs_2 6 = .ok (.lload_n 0, 1) := dk_30 (dk_at dksJ7_abs_2_0 6 rfl rfl)
theorem dJ7_abs_2_7 : decode cJ7_abs_2 7 = .ok (.lneg, 1) := dk_117 (dk_at dksJ7_abs_2_0 7 rfl rfl)
theorem dJ7_abs_2_8 : decode cJ7_abs_2 8 = .ok (.goto 4, 3) := dk_167 0 4 (dk_at dksJ7_abs_2_0 8 rfl rfl)
theorem dJ7_abs_2_11 : decode cJ7_abs_2 11 = .ok (.lload_n 0, 1) := dk_30 (dk_at dksJ7_abs_2_0 11 rfl rfl)
theorem dJ7_abs_2_12 : decode cJ7_abs_2 12 = .ok (.lreturn, 1) := dk_173 (dk_at dksJ7_abs_2_0 12 rfl rfl)
abbrev cJ7_floorMod : ByteArray := prog_22_method_52_code
def yJ7_floorMod : MethodName := ⟨RJ7, "floorMod", "(JJ)J"⟩
def dkwJ7_floorMod_1 : List UInt8 := [173, 22, 4, 173]
abbrev dktJ7_floorMod_1 : List UInt8 := dkwJ7_floorMod_1 ++ []
def dkwJ7_floorMod_0 : List UInt8 := [30, 32, 113, 55, 4, 30, 32, 131, 9, 148, 156, 0, 15, 22, 4, 9, 148, 153, 0, 8, 22, 4, 32, 97]
abbrev dktJ7_floorMod_0 : List UInt8 := dkwJ7_floorMod_0 ++ dktJ7_floorMod_1
theorem dksJ7_floorMod_0 : cJ7_floorMod.data.toList.drop 0 = dktJ7_floorMod_0 := by decide +kernel
theorem dksJ7_floorMod_1 : cJ7_floorMod.data.toList.drop 24 = dktJ7_floorMod_1 := dk_seg dksJ7_floorMod_0 24 rfl rfl
theorem dJ7_floorMod_0 : decode cJ7_floorMod 0 = .ok (.lload_n 0, 1) := dk_30 (dk_at dksJ7_floorMod_0 0 rfl rfl)
theorem dJ7_floorMod_1 : decode cJ7_floorMod 1 = .ok (.lload_n 2, 1) := dk_32 (dk_at dksJ7_floorMod_0 1 rfl rfl)
theorem dJ7_floorMod_2 : decode cJ7_floorMod 2 = .ok (.lrem, 1) := dk_113 (dk_at dksJ7_floorMod_0 2 rfl rfl)
theorem dJ7_floorMod_3 : decode cJ7_floorMod 3 = .ok (.lstore 4, 2) := dk_55 4 (dk_at dksJ7_floorMod_0 3 rfl rfl)
theorem dJ7_floorMod_5 : decode cJ7_floorMod 5 = .ok (.lload_n 0, 1) := dk_30 (dk_at dksJ7_floorMod_0 5 rfl rfl)
theorem dJ7_floorMod_6 : decode cJ7_floorMod 6 = .ok (.lload_n 2, 1) := dk_32 (dk_at dksJ7_floorMod_0 6 rfl rfl)
theorem dJ7_floorMod_7 : decode cJ7_floorMod 7 = .ok (.lxor, 1) := dk_131 (dk_at dksJ7_floorMod_0 7 rfl rfl)
theorem dJ7_floorMod_8 : decode cJ7_floorMod 8 = .ok (.lconst 0, 1) := dk_9 (dk_at dksJ7_floorMod_0 8 rfl rfl)
theorem dJ7_floorMod_9 : decode cJ7_floorMod 9 = .ok (.lcmp, 1) := dk_148 (dk_at dksJ7_floorMod_0 9 rfl rfl)
theorem dJ7_floorMod_10 : decode cJ7_floorMod 10 = .ok (.ifCond .ge 15, 3) := dk_156 0 15 (dk_at dksJ7_floorMod_0 10 rfl rfl)
theorem dJ7_floorMod_13 : decode cJ7_floorMod 13 = .ok (.lload 4, 2) := dk_22 4 (dk_at dksJ7_floorMod_0 13 rfl rfl)
theorem dJ7_floorMod_15 : decode cJ7_floorMod 15 = .ok (.lconst 0, 1) := dk_9 (dk_at dksJ7_floorMod_0 15 rfl rfl)
theorem dJ7_floorMod_16 : decode cJ7_floorMod 16 = .ok (.lcmp, 1) := dk_148 (dk_at dksJ7_floorMod_0 16 rfl rfl)
theorem dJ7_floorMod_17 : decode cJ7_floorMod 17 = .ok (.ifCond .eq 8, 3) := dk_153 0 8 (dk_at dksJ7_floorMod_0 17 rfl rfl)
theorem dJ7_floorMod_20 : decode cJ7_floorMod 20 = .ok (.lload 4, 2) := dk_22 4 (dk_at dksJ7_floorMod_0 20 rfl rfl)
theorem dJ7_floorMod_22 : decode cJ7_floorMod 22 = .ok (.lload_n 2, 1) := dk_32 (dk_at dksJ7_floorMod_0 22 rfl rfl)
theorem dJ7_floorMod_23 : decode cJ7_floorMod 23 = .ok (.ladd, 1) := dk_97 (dk_at dksJ7_floorMod_0 23 rfl rfl)
theorem dJ7_floorMod_24 : decode cJ7_floorMod 24 = .ok (.lreturn, 1) := dk_173 (dk_at dksJ7_floorMod_1 0 rfl rfl)
theorem dJ7_floorMod_25 : decode cJ7_floorMod 25 = .ok (.lload 4, 2) := dk_22 4 (dk_at dksJ7_floorMod_1 1 rfl rfl)
theorem dJ7_floorMod_27 : decode cJ7_floorMod 27 = .ok (.lreturn, 1) := dk_173 (dk_at dksJ7_floorMod_1 3 rfl rfl)
abbrev cJ7_multiplyExact_2 : ByteArray := prog_22_method_30_code
def yJ7_multiplyExact_2 : MethodName := ⟨RJ7, "multiplyExact", "(JJ)J"⟩
def dkwJ7_multiplyExact_2_3 : List UInt8 := [191, 22, 4, 173]
abbrev dktJ7_multiplyExact_2_3 : List UInt8 := dkwJ7_multiplyExact_2_3 ++ []
def dkwJ7_multiplyExact_2_2 : List UInt8 := [20, 0, 128, 148, 154, 0, 21, 32, 20, 0, 130, 148, 154, 0, 13, 187, 0, 109, 89, 18, 116, 183, 0, 113]
abbrev dktJ7_multiplyExact_2_2 : List UInt8 := dkwJ7_multiplyExact_2_2 ++ dktJ7_multiplyExact_2_3
def dkwJ7_multiplyExact_2_1 : List UInt8 := [125, 9, 148, 153, 0, 44, 32, 9, 148, 153, 0, 12, 22, 4, 32, 109, 30, 148, 154, 0, 19, 30]
abbrev dktJ7_multiplyExact_2_1 : List UInt8 := dkwJ7_multiplyExact_2_1 ++ dktJ7_multiplyExact_2_2
def dkwJ7_multiplyExact_2_0 : List UInt8 := [30, 32, 105, 55, 4, 30, 184, 0, 122, 55, 6, 32, 184, 0, 122, 55, 8, 22, 6, 22, 8, 129, 16, 31]
abbrev dktJ7_multiplyExact_2_0 : List UInt8 := dkwJ7_multiplyExact_2_0 ++ dktJ7_multiplyExact_2_1
theorem dksJ7_multiplyExact_2_0 : cJ7_multiplyExact_2.data.toList.drop 0 = dktJ7_multiplyExact_2_0 := by decide +kernel
theorem dksJ7_multiplyExact_2_1 : cJ7_multiplyExact_2.data.toList.drop 24 = dktJ7_multiplyExact_2_1 := dk_seg dksJ7_multiplyExact_2_0 24 rfl rfl
theorem dksJ7_multiplyExact_2_2 : cJ7_multiplyExact_2.data.toList.drop 46 = dktJ7_multiplyExact_2_2 := dk_seg dksJ7_multiplyExact_2_1 22 rfl rfl
theorem dksJ7_multiplyExact_2_3 : cJ7_multiplyExact_2.data.toList.drop 70 = dktJ7_multiplyExact_2_3 := dk_seg dksJ7_multiplyExact_2_2 24 rfl rfl
theorem dJ7_multiplyExact_2_0 : decode cJ7_multiplyExact_2 0 = .ok (.lload_n 0, 1) := dk_30 (dk_at dksJ7_multiplyExact_2_0 0 rfl rfl)
theorem dJ7_multiplyExact_2_1 : decode cJ7_multiplyExact_2 1 = .ok (.lload_n 2, 1) := dk_32 (dk_at dksJ7_multiplyExact_2_0 1 rfl rfl)
theorem dJ7_multiplyExact_2_2 : decode cJ7_multiplyExact_2 2 = .ok (.lmul, 1) := dk_105 (dk_at dksJ7_multiplyExact_2_0 2 rfl rfl)
theorem dJ7_multiplyExact_2_3 : decode cJ7_multiplyExact_2 3 = .ok (.lstore 4, 2) := dk_55 4 (dk_at dksJ7_multiplyExact_2_0 3 rfl rfl)
theorem dJ7_multiplyExact_2_5 : decode cJ7_multiplyExact_2 5 = .ok (.lload_n 0, 1) := dk_30 (dk_at dksJ7_multiplyExact_2_0 5 rfl rfl)
theorem dJ7_multiplyExact_2_6 : decode cJ7_multiplyExact_2 6 = .ok (.invokestatic 122, 3) := dk_184 0 122 (dk_at dksJ7_multiplyExact_2_0 6 rfl rfl)
theorem dJ7_multiplyExact_2_9 : decode cJ7_multiplyExact_2 9 = .ok (.lstore 6, 2) := dk_55 6 (dk_at dksJ7_multiplyExact_2_0 9 rfl rfl)
theorem dJ7_multiplyExact_2_11 : decode cJ7_multiplyExact_2 11 = .ok (.lload_n 2, 1) := dk_32 (dk_at dksJ7_multiplyExact_2_0 11 rfl rfl)
theorem dJ7_multiplyExact_2_12 : decode cJ7_multiplyExact_2 12 = .ok (.invokestatic 122, 3) := dk_184 0 122 (dk_at dksJ7_multiplyExact_2_0 12 rfl rfl)
theorem dJ7_multiplyExact_2_15 : decode cJ7_multiplyExact_2 15 = .ok (.lstore 8, 2) := dk_55 8 (dk_at dksJ7_multiplyExact_2_0 15 rfl rfl)
theorem dJ7_multiplyExact_2_17 : decode cJ7_multiplyExact_2 17 = .ok (.lload 6, 2) := dk_22 6 (dk_at dksJ7_multiplyExact_2_0 17 rfl rfl)
theorem dJ7_multiplyExact_2_19 : decode cJ7_multiplyExact_2 19 = .ok (.lload 8, 2) := dk_22 8 (dk_at dksJ7_multiplyExact_2_0 19 rfl rfl)
theorem dJ7_multiplyExact_2_21 : decode cJ7_multiplyExact_2 21 = .ok (.lor, 1) := dk_129 (dk_at dksJ7_multiplyExact_2_0 21 rfl rfl)
theorem dJ7_multiplyExact_2_22 : decode cJ7_multiplyExact_2 22 = .ok (.bipush 31, 2) := dk_16 31 (dk_at dksJ7_multiplyExact_2_0 22 rfl rfl)
theorem dJ7_multiplyExact_2_24 : decode cJ7_multiplyExact_2 24 = .ok (.lushr, 1) := dk_125 (dk_at dksJ7_multiplyExact_2_1 0 rfl rfl)
theorem dJ7_multiplyExact_2_25 : decode cJ7_multiplyExact_2 25 = .ok (.lconst 0, 1) := dk_9 (dk_at dksJ7_multiplyExact_2_1 1 rfl rfl)
theorem dJ7_multiplyExact_2_26 : decode cJ7_multiplyExact_2 26 = .ok (.lcmp, 1) := dk_148 (dk_at dksJ7_multiplyExact_2_1 2 rfl rfl)
theorem dJ7_multiplyExact_2_27 : decode cJ7_multiplyExact_2 27 = .ok (.ifCond .eq 44, 3) := dk_153 0 44 (dk_at dksJ7_multiplyExact_2_1 3 rfl rfl)
theorem dJ7_multiplyExact_2_30 : decode cJ7_multiplyExact_2 30 = .ok (.lload_n 2, 1) := dk_32 (dk_at dksJ7_multiplyExact_2_1 6 rfl rfl)
theorem dJ7_multiplyExact_2_31 : decode cJ7_multiplyExact_2 31 = .ok (.lconst 0, 1) := dk_9 (dk_at dksJ7_multiplyExact_2_1 7 rfl rfl)
theorem dJ7_multiplyExact_2_32 : decode cJ7_multiplyExact_2 32 = .ok (.lcmp, 1) := dk_148 (dk_at dksJ7_multiplyExact_2_1 8 rfl rfl)
theorem dJ7_multiplyExact_2_33 : decode cJ7_multiplyExact_2 33 = .ok (.ifCond .eq 12, 3) := dk_153 0 12 (dk_at dksJ7_multiplyExact_2_1 9 rfl rfl)
theorem dJ7_multiplyExact_2_36 : decode cJ7_multiplyExact_2 36 = .ok (.lload 4, 2) := dk_22 4 (dk_at dksJ7_multiplyExact_2_1 12 rfl rfl)
theorem dJ7_multiplyExact_2_38 : decode cJ7_multiplyExact_2 38 = .ok (.lload_n 2, 1) := dk_32 (dk_at dksJ7_multiplyExact_2_1 14 rfl rfl)
theorem dJ7_multiplyExact_2_39 : decode cJ7_multiplyExact_2 39 = .ok (.ldiv, 1) := dk_109 (dk_at dksJ7_multiplyExact_2_1 15 rfl rfl)
theorem dJ7_multiplyExact_2_40 : decode cJ7_multiplyExact_2 40 = .ok (.lload_n 0, 1) := dk_30 (dk_at dksJ7_multiplyExact_2_1 16 rfl rfl)
theorem dJ7_multiplyExact_2_41 : decode cJ7_multiplyExact_2 41 = .ok (.lcmp, 1) := dk_148 (dk_at dksJ7_multiplyExact_2_1 17 rfl rfl)
theorem dJ7_multiplyExact_2_42 : decode cJ7_multiplyExact_2 42 = .ok (.ifCond .ne 19, 3) := dk_154 0 19 (dk_at dksJ7_multiplyExact_2_1 18 rfl rfl)
theorem dJ7_multiplyExact_2_45 : decode cJ7_multiplyExact_2 45 = .ok (.lload_n 0, 1) := dk_30 (dk_at dksJ7_multiplyExact_2_1 21 rfl rfl)
theorem dJ7_multiplyExact_2_46 : decode cJ7_multiplyExact_2 46 = .ok (.ldc2_w 128, 3) := dk_20 0 128 (dk_at dksJ7_multiplyExact_2_2 0 rfl rfl)
theorem dJ7_multiplyExact_2_49 : decode cJ7_multiplyExact_2 49 = .ok (.lcmp, 1) := dk_148 (dk_at dksJ7_multiplyExact_2_2 3 rfl rfl)
theorem dJ7_multiplyExact_2_50 : decode cJ7_multiplyExact_2 50 = .ok (.ifCond .ne 21, 3) := dk_154 0 21 (dk_at dksJ7_multiplyExact_2_2 4 rfl rfl)
theorem dJ7_multiplyExact_2_53 : decode cJ7_multiplyExact_2 53 = .ok (.lload_n 2, 1) := dk_32 (dk_at dksJ7_multiplyExact_2_2 7 rfl rfl)
theorem dJ7_multiplyExact_2_54 : decode cJ7_multiplyExact_2 54 = .ok (.ldc2_w 130, 3) := dk_20 0 130 (dk_at dksJ7_multiplyExact_2_2 8 rfl rfl)
theorem dJ7_multiplyExact_2_57 : decode cJ7_multiplyExact_2 57 = .ok (.lcmp, 1) := dk_148 (dk_at dksJ7_multiplyExact_2_2 11 rfl rfl)
theorem dJ7_multiplyExact_2_58 : decode cJ7_multiplyExact_2 58 = .ok (.ifCond .ne 13, 3) := dk_154 0 13 (dk_at dksJ7_multiplyExact_2_2 12 rfl rfl)
theorem dJ7_multiplyExact_2_61 : decode cJ7_multiplyExact_2 61 = .ok (.new 109, 3) := dk_187 0 109 (dk_at dksJ7_multiplyExact_2_2 15 rfl rfl)
theorem dJ7_multiplyExact_2_64 : decode cJ7_multiplyExact_2 64 = .ok (.dup, 1) := dk_89 (dk_at dksJ7_multiplyExact_2_2 18 rfl rfl)
theorem dJ7_multiplyExact_2_65 : decode cJ7_multiplyExact_2 65 = .ok (.ldc 116, 2) := dk_18 116 (dk_at dksJ7_multiplyExact_2_2 19 rfl rfl)
theorem dJ7_multiplyExact_2_67 : decode cJ7_multiplyExact_2 67 = .ok (.invokespecial 113, 3) := dk_183 0 113 (dk_at dksJ7_multiplyExact_2_2 21 rfl rfl)
theorem dJ7_multiplyExact_2_70 : decode cJ7_multiplyExact_2 70 = .ok (.athrow, 1) := dk_191 (dk_at dksJ7_multiplyExact_2_3 0 rfl rfl)
theorem dJ7_multiplyExact_2_71 : decode cJ7_multiplyExact_2 71 = .ok (.lload 4, 2) := dk_22 4 (dk_at dksJ7_multiplyExact_2_3 1 rfl rfl)
theorem dJ7_multiplyExact_2_73 : decode cJ7_multiplyExact_2 73 = .ok (.lreturn, 1) := dk_173 (dk_at dksJ7_multiplyExact_2_3 3 rfl rfl)
abbrev cJ7_addExact : ByteArray := prog_22_method_25_code
def yJ7_addExact : MethodName := ⟨RJ7, "addExact", "(JJ)J"⟩
def dkwJ7_addExact_1 : List UInt8 := [18, 116, 183, 0, 113, 191, 22, 4, 173]
abbrev dktJ7_addExact_1 : List UInt8 := dkwJ7_addExact_1 ++ []
def dkwJ7_addExact_0 : List UInt8 := [30, 32, 97, 55, 4, 30, 22, 4, 131, 32, 22, 4, 131, 127, 9, 148, 156, 0, 13, 187, 0, 109, 89]
abbrev dktJ7_addExact_0 : List UInt8 := dkwJ7_addExact_0 ++ dktJ7_addExact_1
theorem dksJ7_addExact_0 : cJ7_addExact.data.toList.drop 0 = dktJ7_addExact_0 := by decide +kernel
theorem dksJ7_addExact_1 : cJ7_addExact.data.toList.drop 23 = dktJ7_addExact_1 := dk_seg dksJ7_addExact_0 23 rfl rfl
theorem dJ7_addExact_0 : decode cJ7_addExact 0 = .ok (.lload_n 0, 1) := dk_30 (dk_at dksJ7_addExact_0 0 rfl rfl)
theorem dJ7_addExact_1 : decode cJ7_addExact 1 = .ok (.lload_n 2, 1) := dk_32 (dk_at dksJ7_addExact_0 1 rfl rfl)
theorem dJ7_addExact_2 : decode cJ7_addExact 2 = .ok (.ladd, 1) := dk_97 (dk_at dksJ7_addExact_0 2 rfl rfl)
theorem dJ7_addExact_3 : decode cJ7_addExact 3 = .ok (.lstore 4, 2) := dk_55 4 (dk_at dksJ7_addExact_0 3 rfl rfl)
theorem dJ7_addExact_5 : decode cJ7_addExact 5 = .ok (.lload_n 0, 1) := dk_30 (dk_at dksJ7_addExact_0 5 rfl rfl)
theorem dJ7_addExact_6 : decode cJ7_addExact 6 = .ok (.lload 4, 2) := dk_22 4 (dk_at dksJ7_addExact_0 6 rfl rfl)
theorem dJ7_addExact_8 : decode cJ7_addExact 8 = .ok (.lxor, 1) := dk_131 (dk_at dksJ7_addExact_0 8 rfl rfl)
theorem dJ7_addExact_9 : decode cJ7_addExact 9 = .ok (.lload_n 2, 1) := dk_32 (dk_at dksJ7_addExact_0 9 rfl rfl)
theorem dJ7_addExact_10 : decode cJ7_addExact 10 = .ok (.lload 4, 2) := dk_22 4 (dk_at dksJ7_addExact_0 10 rfl rfl)
theorem dJ7_addExact_12 : decode cJ7_addExact 12 = .ok (.lxor, 1) := dk_131 (dk_at dksJ7_addExact_0 12 rfl rfl)
theorem dJ7_addExact_13 : decode cJ7_addExact 13 = .ok (.land, 1) := dk_127 (dk_at dksJ7_addExact_0 13 rfl rfl)
theorem dJ7_addExact_14 : decode cJ7_addExact 14 = .ok (.lconst 0, 1) := dk_9 (dk_at dksJ7_addExact_0 14 rfl rfl)
theorem dJ7_addExact_15 : decode cJ7_addExact 15 = .ok (.lcmp, 1) := dk_148 (dk_at dksJ7_addExact_0 15 rfl rfl)
theorem dJ7_addExact_16 : decode cJ7_addExact 16 = .ok (.ifCond .ge 13, 3) := dk_156 0 13 (dk_at dksJ7_addExact_0 16 rfl rfl)
theorem dJ7_addExact_19 : decode cJ7_addExact 19 = .ok (.new 109, 3) := dk_187 0 109 (dk_at dksJ7_addExact_0 19 rfl rfl)
theorem dJ7_addExact_22 : decode cJ7_addExact 22 = .ok (.dup, 1) := dk_89 (dk_at dksJ7_addExact_0 22 rfl rfl)
theorem dJ7_addExact_23 : decode cJ7_addExact 23 = .ok (.ldc 116, 2) := dk_18 116 (dk_at dksJ7_addExact_1 0 rfl rfl)
theorem dJ7_addExact_25 : decode cJ7_addExact 25 = .ok (.invokespecial 113, 3) := dk_183 0 113 (dk_at dksJ7_addExact_1 2 rfl rfl)
theorem dJ7_addExact_28 : decode cJ7_addExact 28 = .ok (.athrow, 1) := dk_191 (dk_at dksJ7_addExact_1 5 rfl rfl)
theorem dJ7_addExact_29 : decode cJ7_addExact 29 = .ok (.lload 4, 2) := dk_22 4 (dk_at dksJ7_addExact_1 6 rfl rfl)
theorem dJ7_addExact_31 : decode cJ7_addExact 31 = .ok (.lreturn, 1) := dk_173 (dk_at dksJ7_addExact_1 8 rfl rfl)
theorem q167 : (Jvm.Cond.initialized "java/lang/Math") ∈ lw_all := lw_g (lw_at lw_m1 20 rfl) rfl
theorem q759 : (Jvm.Cond.static ({ cls := "java/lang/Math", name := "max", desc := "(II)I" } : Jvm.MethodName)) ∈ lw_all := lw_g (lw_at lw_m3 132 rfl) rfl
theorem q760 : (Jvm.Cond.code ({ cls := "java/lang/Math", name := "max", desc := "(II)I" } : Jvm.MethodName) prog_22_method_65_code (2 : Nat) (Option.some Jvm.ClassFile.FieldType.int)) ∈ lw_all := lw_g (lw_at lw_m3 133 rfl) rfl
theorem q777 : (Jvm.Cond.static ({ cls := "java/lang/Math", name := "min", desc := "(II)I" } : Jvm.MethodName)) ∈ lw_all := lw_g (lw_at lw_m3 150 rfl) rfl
theorem q778 : (Jvm.Cond.code ({ cls := "java/lang/Math", name := "min", desc := "(II)I" } : Jvm.MethodName) prog_22_method_69_code (2 : Nat) (Option.some Jvm.ClassFile.FieldType.int)) ∈ lw_all := lw_g (lw_at lw_m3 151 rfl) rfl
theorem q1057 : (Jvm.Cond.static ({ cls := "java/lang/Math", name := "abs", desc := "(I)I" } : Jvm.MethodName)) ∈ lw_all := lw_g (lw_at lw_m4 190 rfl) rfl
theorem q1058 : (Jvm.Cond.code ({ cls := "java/lang/Math", name := "abs", desc := "(I)I" } : Jvm.MethodName) prog_22_method_59_code (1 : Nat) (Option.some Jvm.ClassFile.FieldType.int)) ∈ lw_all := lw_g (lw_at lw_m4 191 rfl) rfl
theorem q1217 : (Jvm.Cond.static ({ cls := "java/lang/Math", name := "multiplyExact", desc := "(II)I" } : Jvm.MethodName)) ∈ lw_all := lw_g (lw_at lw_m5 110 rfl) rfl
theorem q1218 : (Jvm.Cond.code ({ cls := "java/lang/Math", name := "multiplyExact", desc := "(II)I" } : Jvm.MethodName) prog_22_method_28_code (4 : Nat) (Option.some Jvm.ClassFile.FieldType.int)) ∈ lw_all := lw_g (lw_at lw_m5 111 rfl) rfl
theorem q1219 : (Jvm.Cond.classLink "java/lang/Math" (109 : Nat) "java/lang/ArithmeticException") ∈ lw_all := lw_g (lw_at lw_m5 112 rfl) rfl
theorem q1220 : (Jvm.Cond.stringRef "java/lang/Math" (111 : Nat) "integer overflow") ∈ lw_tbl := lw_at lw_m5 113 rfl
theorem q1221 : (Jvm.Cond.methodLink "java/lang/Math" (113 : Nat) ({ cls := "java/lang/ArithmeticException", name := "<init>", desc := "(Ljava/lang/String;)V" } : Jvm.MethodName)) ∈ lw_all := lw_g (lw_at lw_m5 114 rfl) rfl
theorem q1299 : (Jvm.Cond.static ({ cls := "java/lang/Math", name := "abs", desc := "(J)J" } : Jvm.MethodName)) ∈ lw_all := lw_g (lw_at lw_m5 192 rfl) rfl
theorem q1300 : (Jvm.Cond.code ({ cls := "java/lang/Math", name := "abs", desc := "(J)J" } : Jvm.MethodName) prog_22_method_61_code (2 : Nat) (Option.some Jvm.ClassFile.FieldType.long)) ∈ lw_all := lw_g (lw_at lw_m5 193 rfl) rfl
theorem q1953 : (Jvm.Cond.static ({ cls := "java/lang/Math", name := "floorMod", desc := "(JJ)J" } : Jvm.MethodName)) ∈ lw_all := lw_g (lw_at lw_m8 126 rfl) rfl
theorem q1954 : (Jvm.Cond.code ({ cls := "java/lang/Math", name := "floorMod", desc := "(JJ)J" } : Jvm.MethodName) prog_22_method_52_code (6 : Nat) (Option.some Jvm.ClassFile.FieldType.long)) ∈ lw_all := lw_g (lw_at lw_m8 127 rfl) rfl
theorem q2051 : (Jvm.Cond.static ({ cls := "java/lang/Math", name := "multiplyExact", desc := "(JJ)J" } : Jvm.MethodName)) ∈ lw_all := lw_g (lw_at lw_m8 224 rfl) rfl
theorem q2052 : (Jvm.Cond.code ({ cls := "java/lang/Math", name := "multiplyExact", desc := "(JJ)J" } : Jvm.MethodName) prog_22_method_30_code (10 : Nat) (Option.some Jvm.ClassFile.FieldType.long)) ∈ lw_all := lw_g (lw_at lw_m8 225 rfl) rfl
theorem q2053 : (Jvm.Cond.methodLink "java/lang/Math" (122 : Nat) ({ cls := "java/lang/Math", name := "abs", desc := "(J)J" } : Jvm.MethodName)) ∈ lw_all := lw_g (lw_at lw_m8 226 rfl) rfl
theorem q2054 : (Jvm.Cond.constantLong "java/lang/Math" (128 : Nat) (-9223372036854775808 : Int64)) ∈ lw_all := lw_g (lw_at lw_m8 227 rfl) rfl
theorem q2055 : (Jvm.Cond.constantLong "java/lang/Math" (130 : Nat) (-1 : Int64)) ∈ lw_all := lw_g (lw_at lw_m8 228 rfl) rfl
theorem q2056 : (Jvm.Cond.stringRef "java/lang/Math" (116 : Nat) "long overflow") ∈ lw_tbl := lw_at lw_m8 229 rfl
theorem q2058 : (Jvm.Cond.static ({ cls := "java/lang/Math", name := "addExact", desc := "(JJ)J" } : Jvm.MethodName)) ∈ lw_all := lw_g (lw_at lw_m8 231 rfl) rfl
theorem q2059 : (Jvm.Cond.code ({ cls := "java/lang/Math", name := "addExact", desc := "(JJ)J" } : Jvm.MethodName) prog_22_method_25_code (6 : Nat) (Option.some Jvm.ClassFile.FieldType.long)) ∈ lw_all := lw_g (lw_at lw_m8 232 rfl) rfl
/-! java/util/Arrays -/
set_option maxRecDepth 100000
def RJ8 : String := "java/util/Arrays"
abbrev cJ8_copyOf : ByteArray := prog_33_method_121_code
def yJ8_copyOf : MethodName := ⟨RJ8, "copyOf", "([BI)[B"⟩
def dkwJ8_copyOf_1 : List UInt8 := [27, 184, 1, 48, 184, 0, 150, 44, 176]
abbrev dktJ8_copyOf_1 : List UInt8 := dkwJ8_copyOf_1 ++ []
def dkwJ8_copyOf_0 : List UInt8 := [27, 42, 190, 160, 0, 11, 42, 182, 1, 54, 192, 1, 55, 176, 27, 188, 8, 77, 42, 3, 44, 3, 42, 190]
abbrev dktJ8_copyOf_0 : List UInt8 := dkwJ8_copyOf_0 ++ dktJ8_copyOf_1
theorem dksJ8_copyOf_0 : cJ8_copyOf.data.toList.drop 0 = dktJ8_copyOf_0 := by decide +kernel
theorem dksJ8_copyOf_1 : cJ8_copyOf.data.toList.drop 24 = dktJ8_copyOf_1 := dk_seg dksJ8_copyOf_0 24 rfl rfl
theorem dJ8_copyOf_0 : decode cJ8_copyOf 0 = .ok (.iload_n 1, 1) := dk_27 (dk_at dksJ8_copyOf_0 0 rfl rfl)
theorem dJ8_copyOf_1 : decode cJ8_copyOf 1 = .ok (.aload_n 0, 1) := dk_42 (dk_at dksJ8_copyOf_0 1 rfl rfl)
theorem dJ8_copyOf_2 : decode cJ8_copyOf 2 = .ok (.arraylength, 1) := dk_190 (dk_at dksJ8_copyOf_0 2 rfl rfl)
theorem dJ8_copyOf_3 : decode cJ8_copyOf 3 = .ok (.if_icmp .ne 11, 3) := dk_160 0 11 (dk_at dksJ8_copyOf_0 3 rfl rfl)
theorem dJ8_copyOf_6 : decode cJ8_copyOf 6 = .ok (.aload_n 0, 1) := dk_42 (dk_at dksJ8_copyOf_0 6 rfl rfl)
theorem dJ8_copyOf_7 : decode cJ8_copyOf 7 = .ok (.invokevirtual 310, 3) := dk_182 1 54 (dk_at dksJ8_copyOf_0 7 rfl rfl)
theorem dJ8_copyOf_10 : decode cJ8_copyOf 10 = .ok (.checkcast 311, 3) := dk_192 1 55 (dk_at dksJ8_copyOf_0 10 rfl rfl)
theorem dJ8_copyOf_13 : decode cJ8_copyOf 13 = .ok (.areturn, 1) := dk_176 (dk_at dksJ8_copyOf_0 13 rfl rfl)
theorem dJ8_copyOf_14 : decode cJ8_copyOf 14 = .ok (.iload_n 1, 1) := dk_27 (dk_at dksJ8_copyOf_0 14 rfl rfl)
theorem dJ8_copyOf_15 : decode cJ8_copyOf 15 = .ok (.newarray .byte, 2) := dk_188_8 (dk_at dksJ8_copyOf_0 15 rfl rfl)
theorem dJ8_copyOf_17 : decode cJ8_copyOf 17 = .ok (.astore_n 2, 1) := dk_77 (dk_at dksJ8_copyOf_0 17 rfl rfl)
theorem dJ8_copyOf_18 : decode cJ8_copyOf 18 = .ok (.aload_n 0, 1) := dk_42 (dk_at dksJ8_copyOf_0 18 rfl rfl)
theorem dJ8_copyOf_19 : decode cJ8_copyOf 19 = .ok (.iconst 0, 1) := dk_3 (dk_at dksJ8_copyOf_0 19 rfl rfl)
theorem dJ8_copyOf_20 : decode cJ8_copyOf 20 = .ok (.aload_n 2, 1) := dk_44 (dk_at dksJ8_copyOf_0 20 rfl rfl)
theorem dJ8_copyOf_21 : decode cJ8_copyOf 21 = .ok (.iconst 0, 1) := dk_3 (dk_at dksJ8_copyOf_0 21 rfl rfl)
theorem dJ8_copyOf_22 : decode cJ8_copyOf 22 = .ok (.aload_n 0, 1) := dk_42 (dk_at dksJ8_copyOf_0 22 rfl rfl)
theorem dJ8_copyOf_23 : decode cJ8_copyOf 23 = .ok (.arraylength, 1) := dk_190 (dk_at dksJ8_copyOf_0 23 rfl rfl)
theorem dJ8_copyOf_24 : decode cJ8_copyOf 24 = .ok (.iload_n 1, 1) := dk_27 (dk_at dksJ8_copyOf_1 0 rfl rfl)
theorem dJ8_copyOf_25 : decode cJ8_copyOf 25 = .ok (.invokestatic 304, 3) := dk_184 1 48 (dk_at dksJ8_copyOf_1 1 rfl rfl)
theorem dJ8_copyOf_28 : decode cJ8_copyOf 28 = .ok (.invokestatic 150, 3) := dk_184 0 150 (dk_at dksJ8_copyOf_1 4 rfl rfl)
theorem dJ8_copyOf_31 : decode cJ8_copyOf 31 = .ok (.aload_n 2, 1) := dk_44 (dk_at dksJ8_copyOf_1 7 rfl rfl)
theorem dJ8_copyOf_32 : decode cJ8_copyOf 32 = .ok (.areturn, 1) := dk_176 (dk_at dksJ8_copyOf_1 8 rfl rfl)
abbrev cJ8_fill : ByteArray := prog_33_method_110_code
def yJ8_fill : MethodName := ⟨RJ8, "fill", "([BIIB)V"⟩
def dkwJ8_fill_1 : List UInt8 := [167, 255, 242, 177]
abbrev dktJ8_fill_1 : List UInt8 := dkwJ8_fill_1 ++ []
def dkwJ8_fill_0 : List UInt8 := [42, 190, 27, 28, 184, 0, 13, 27, 54, 4, 21, 4, 28, 162, 0, 14, 42, 21, 4, 29, 84, 132, 4, 1]
abbrev dktJ8_fill_0 : List UInt8 := dkwJ8_fill_0 ++ dktJ8_fill_1
theorem dksJ8_fill_0 : cJ8_fill.data.toList.drop 0 = dktJ8_fill_0 := by decide +kernel
theorem dksJ8_fill_1 : cJ8_fill.data.toList.drop 24 = dktJ8_fill_1 := dk_seg dksJ8_fill_0 24 rfl rfl
theorem dJ8_fill_0 : decode cJ8_fill 0 = .ok (.aload_n 0, 1) := dk_42 (dk_at dksJ8_fill_0 0 rfl rfl)
theorem dJ8_fill_1 : decode cJ8_fill 1 = .ok (.arraylength, 1) := dk_190 (dk_at dksJ8_fill_0 1 rfl rfl)
theorem dJ8_fill_2 : decode cJ8_fill 2 = .ok (.iload_n 1, 1) := dk_27 (dk_at dksJ8_fill_0 2 rfl rfl)
theorem dJ8_fill_3 : decode cJ8_fill 3 = .ok (.iload_n 2, 1) := dk_28 (dk_at dksJ8_fill_0 3 rfl rfl)
theorem dJ8_fill_4 : decode cJ8_fill 4 = .ok (.invokestatic 13, 3) := dk_184 0 13 (dk_at dksJ8_fill_0 4 rfl rfl)
theorem dJ8_fill_7 : decode cJ8_fill 7 = .ok (.iload_n 1, 1) := dk_27 (dk_at dksJ8_fill_0 7 rfl rfl)
theorem dJ8_fill_8 : decode cJ8_fill 8 = .ok (.istore 4, 2) := dk_54 4 (dk_at dksJ8_fill_0 8 rfl rfl)
theorem dJ8_fill_10 : decode cJ8_fill 10 = .ok (.iload 4, 2) := dk_21 4 (dk_at dksJ8_fill_0 10 rfl rfl)
theorem dJ8_fill_12 : decode cJ8_fill 12 = .ok (.iload_n 2, 1) := dk_28 (dk_at dksJ8_fill_0 12 rfl rfl)
theorem dJ8_fill_13 : decode cJ8_fill 13 = .ok (.if_icmp .ge 14, 3) := dk_162 0 14 (dk_at dksJ8_fill_0 13 rfl rfl)
theorem dJ8_fill_16 : decode cJ8_fill 16 = .ok (.aload_n 0, 1) := dk_42 (dk_at dksJ8_fill_0 16 rfl rfl)
theorem dJ8_fill_17 : decode cJ8_fill 17 = .ok (.iload 4, 2) := dk_21 4 (dk_at dksJ8_fill_0 17 rfl rfl)
theorem dJ8_fill_19 : decode cJ8_fill 19 = .ok (.iload_n 3, 1) := dk_29 (dk_at dksJ8_fill_0 19 rfl rfl)
theorem dJ8_fill_20 : decode cJ8_fill 20 = .ok (.bastore, 1) := dk_84 (dk_at dksJ8_fill_0 20 rfl rfl)
theorem dJ8_fill_21 : decode cJ8_fill 21 = .ok (.iinc 4 1, 3) := dk_132 4 1 (dk_at dksJ8_fill_0 21 rfl rfl)
theorem dJ8_fill_24 : decode cJ8_fill 24 = .ok (.goto (-14), 3) := dk_167 255 242 (dk_at dksJ8_fill_1 0 rfl rfl)
theorem dJ8_fill_27 : decode cJ8_fill 27 = .ok (.return_, 1) := dk_177 (dk_at dksJ8_fill_1 3 rfl rfl)
abbrev cJ8_rangeCheck : ByteArray := prog_33_method_30_code
def yJ8_rangeCheck : MethodName := ⟨RJ8, "rangeCheck", "(III)V"⟩
def dkwJ8_rangeCheck_3 : List UInt8 := [183, 0, 70, 191, 177]
abbrev dktJ8_rangeCheck_3 : List UInt8 := dkwJ8_rangeCheck_3 ++ []
def dkwJ8_rangeCheck_2 : List UInt8 := [27, 156, 0, 12, 187, 0, 68, 89, 27, 183, 0, 70, 191, 28, 26, 164, 0, 12, 187, 0, 68, 89, 28]
abbrev dktJ8_rangeCheck_2 : List UInt8 := dkwJ8_rangeCheck_2 ++ dktJ8_rangeCheck_3
def dkwJ8_rangeCheck_1 : List UInt8 := [182, 0, 54, 18, 57, 182, 0, 50, 28, 182, 0, 54, 18, 59, 182, 0, 50, 182, 0, 61, 183, 0, 65, 191]
abbrev dktJ8_rangeCheck_1 : List UInt8 := dkwJ8_rangeCheck_1 ++ dktJ8_rangeCheck_2
def dkwJ8_rangeCheck_0 : List UInt8 := [27, 28, 164, 0, 44, 187, 0, 43, 89, 187, 0, 45, 89, 183, 0, 47, 18, 48, 182, 0, 50, 27]
abbrev dktJ8_rangeCheck_0 : List UInt8 := dkwJ8_rangeCheck_0 ++ dktJ8_rangeCheck_1
theorem dksJ8_rangeCheck_0 : cJ8_rangeCheck.data.toList.drop 0 = dktJ8_rangeCheck_0 := by decide +kernel
theorem dksJ8_rangeCheck_1 : cJ8_rangeCheck.data.toList.drop 22 = dktJ8_rangeCheck_1 := dk_seg dksJ8_rangeCheck_0 22 rfl rfl
theorem dksJ8_rangeCheck_2 : cJ8_rangeCheck.data.toList.drop 46 = dktJ8_rangeCheck_2 := dk_seg dksJ8_rangeCheck_1 24 rfl rfl
theorem dksJ8_rangeCheck_3 : cJ8_rangeCheck.data.toList.drop 69 = dktJ8_rangeCheck_3 := dk_seg dksJ8_rangeCheck_2 23 rfl rfl
theorem dJ8_rangeCheck_0 : decode cJ8_rangeCheck 0 = .ok (.iload_n 1, 1) := dk_27 (dk_at dksJ8_rangeCheck_0 0 rfl rfl)
theorem dJ8_rangeCheck_1 : decode cJ8_rangeCheck 1 = .ok (.iload_n 2, 1) := dk_28 (dk_at dksJ8_rangeCheck_0 1 rfl rfl)
theorem dJ8_rangeCheck_2 : decode cJ8_rangeCheck 2 = .ok (.if_icmp .le 44, 3) := dk_164 0 44 (dk_at dksJ8_rangeCheck_0 2 rfl rfl)
theorem dJ8_rangeCheck_5 : decode cJ8_rangeCheck 5 = .ok (.new 43, 3) := dk_187 0 43 (dk_at dksJ8_rangeCheck_0 5 rfl rfl)
theorem dJ8_rangeCheck_8 : decode cJ8_rangeCheck 8 = .ok (.dup, 1) := dk_89 (dk_at dksJ8_rangeCheck_0 8 rfl rfl)
theorem dJ8_rangeCheck_9 : decode cJ8_rangeCheck 9 = .ok (.new 45, 3) := dk_187 0 45 (dk_at dksJ8_rangeCheck_0 9 rfl rfl)
theorem dJ8_rangeCheck_12 : decode cJ8_rangeCheck 12 = .ok (.dup, 1) := dk_89 (dk_at dksJ8_rangeCheck_0 12 rfl rfl)
theorem dJ8_rangeCheck_13 : decode cJ8_rangeCheck 13 = .ok (.invokespecial 47, 3) := dk_183 0 47 (dk_at dksJ8_rangeCheck_0 13 rfl rfl)
theorem dJ8_rangeCheck_16 : decode cJ8_rangeCheck 16 = .ok (.ldc 48, 2) := dk_18 48 (dk_at dksJ8_rangeCheck_0 16 rfl rfl)
theorem dJ8_rangeCheck_18 : decode cJ8_rangeCheck 18 = .ok (.invokevirtual 50, 3) := dk_182 0 50 (dk_at dksJ8_rangeCheck_0 18 rfl rfl)
theorem dJ8_rangeCheck_21 : decode cJ8_rangeCheck 21 = .ok (.iload_n 1, 1) := dk_27 (dk_at dksJ8_rangeCheck_0 21 rfl rfl)
theorem dJ8_rangeCheck_22 : decode cJ8_rangeCheck 22 = .ok (.invokevirtual 54, 3) := dk_182 0 54 (dk_at dksJ8_rangeCheck_1 0 rfl rfl)
theorem dJ8_rangeCheck_25 : decode cJ8_rangeCheck 25 = .ok (.ldc 57, 2) := dk_18 57 (dk_at dksJ8_rangeCheck_1 3 rfl rfl)
theorem dJ8_rangeCheck_27 : decode cJ8_rangeCheck 27 = .ok (.invokevirtual 50, 3) := dk_182 0 50 (dk_at dksJ8_rangeCheck_1 5 rfl rfl)
theorem dJ8_rangeCheck_30 : decode cJ8_rangeCheck 30 = .ok (.iload_n 2, 1) := dk_28 (dk_at dksJ8_rangeCheck_1 8 rfl rfl)
theorem dJ8_rangeCheck_31 : decode cJ8_rangeCheck 31 = .ok (.invokevirtual 54, 3) := dk_182 0 54 (dk_at dksJ8_rangeCheck_1 9 rfl rfl)
theorem dJ8_rangeCheck_34 : decode cJ8_rangeCheck 34 = .ok (.ldc 59, 2) := dk_18 59 (dk_at dksJ8_rangeCheck_1 12 rfl rfl)
theorem dJ8_rangeCheck_36 : decode cJ8_rangeCheck 36 = .ok (.invokevirtual 50, 3) := dk_182 0 50 (dk_at dksJ8_rangeCheck_1 14 rfl rfl)
theorem dJ8_rangeCheck_39 : decode cJ8_rangeCheck 39 = .ok (.invokevirtual 61, 3) := dk_182 0 61 (dk_at dksJ8_rangeCheck_1 17 rfl rfl)
theorem dJ8_rangeCheck_42 : decode cJ8_rangeCheck 42 = .ok (.invokespecial 65, 3) := dk_183 0 65 (dk_at dksJ8_rangeCheck_1 20 rfl rfl)
theorem dJ8_rangeCheck_45 : decode cJ8_rangeCheck 45 = .ok (.athrow, 1) := dk_191 (dk_at dksJ8_rangeCheck_1 23 rfl rfl)
theorem dJ8_rangeCheck_46 : decode cJ8_rangeCheck 46 = .ok (.iload_n 1, 1) := dk_27 (dk_at dksJ8_rangeCheck_2 0 rfl rfl)
theorem dJ8_rangeCheck_47 : decode cJ8_rangeCheck 47 = .ok (.ifCond .ge 12, 3) := dk_156 0 12 (dk_at dksJ8_rangeCheck_2 1 rfl rfl)
theorem dJ8_rangeCheck_50 : decode cJ8_rangeCheck 50 = .ok (.new 68, 3) := dk_187 0 68 (dk_at dksJ8_rangeCheck_2 4 rfl rfl)
theorem dJ8_rangeCheck_53 : decode cJ8_rangeCheck 53 = .ok (.dup, 1) := dk_89 (dk_at dksJ8_rangeCheck_2 7 rfl rfl)
theorem dJ8_rangeCheck_54 : decode cJ8_rangeCheck 54 = .ok (.iload_n 1, 1) := dk_27 (dk_at dksJ8_rangeCheck_2 8 rfl rfl)
theorem dJ8_rangeCheck_55 : decode cJ8_rangeCheck 55 = .ok (.invokespecial 70, 3) := dk_183 0 70 (dk_at dksJ8_rangeCheck_2 9 rfl rfl)
theorem dJ8_rangeCheck_58 : decode cJ8_rangeCheck 58 = .ok (.athrow, 1) := dk_191 (dk_at dksJ8_rangeCheck_2 12 rfl rfl)
theorem dJ8_rangeCheck_59 : decode cJ8_rangeCheck 59 = .ok (.iload_n 2, 1) := dk_28 (dk_at dksJ8_rangeCheck_2 13 rfl rfl)
theorem dJ8_rangeCheck_60 : decode cJ8_rangeCheck 60 = .ok (.iload_n 0, 1) := dk_26 (dk_at dksJ8_rangeCheck_2 14 rfl rfl)
theorem dJ8_rangeCheck_61 : decode cJ8_rangeCheck 61 = .ok (.if_icmp .le 12, 3) := dk_164 0 12 (dk_at dksJ8_rangeCheck_2 15 rfl rfl)
theorem dJ8_rangeCheck_64 : decode cJ8_rangeCheck 64 = .ok (.new 68, 3) := dk_187 0 68 (dk_at dksJ8_rangeCheck_2 18 rfl rfl)
theorem dJ8_rangeCheck_67 : decode cJ8_rangeCheck 67 = .ok (.dup, 1) := dk_89 (dk_at dksJ8_rangeCheck_2 21 rfl rfl)
theorem dJ8_rangeCheck_68 : decode cJ8_rangeCheck 68 = .ok (.iload_n 2, 1) := dk_28 (dk_at dksJ8_rangeCheck_2 22 rfl rfl)
theorem dJ8_rangeCheck_69 : decode cJ8_rangeCheck 69 = .ok (.invokespecial 70, 3) := dk_183 0 70 (dk_at dksJ8_rangeCheck_3 0 rfl rfl)
theorem dJ8_rangeCheck_72 : decode cJ8_rangeCheck 72 = .ok (.athrow, 1) := dk_191 (dk_at dksJ8_rangeCheck_3 3 rfl rfl)
theorem dJ8_rangeCheck_73 : decode cJ8_rangeCheck 73 = .ok (.return_, 1) := dk_177 (dk_at dksJ8_rangeCheck_3 4 rfl rfl)
abbrev cJ8_copyOfRange : ByteArray := prog_33_method_132_code
def yJ8_copyOfRange : MethodName := ⟨RJ8, "copyOfRange", "([BII)[B"⟩
def dkwJ8_copyOfRange_1 : List UInt8 := [176]
abbrev dktJ8_copyOfRange_1 : List UInt8 := dkwJ8_copyOfRange_1 ++ []
def dkwJ8_copyOfRange_0 : List UInt8 := [27, 154, 0, 9, 28, 42, 190, 159, 0, 10, 42, 27, 28, 184, 1, 83, 176, 42, 182, 1, 54, 192, 1, 55]
abbrev dktJ8_copyOfRange_0 : List UInt8 := dkwJ8_copyOfRange_0 ++ dktJ8_copyOfRange_1
theorem dksJ8_copyOfRange_0 : cJ8_copyOfRange.data.toList.drop 0 = dktJ8_copyOfRange_0 := by decide +kernel
theorem dksJ8_copyOfRange_1 : cJ8_copyOfRange.data.toList.drop 24 = dktJ8_copyOfRange_1 := dk_seg dksJ8_copyOfRange_0 24 rfl rfl
theorem dJ8_copyOfRange_0 : decode cJ8_copyOfRange 0 = .ok (.iload_n 1, 1) := dk_27 (dk_at dksJ8_copyOfRange_0 0 rfl rfl)
theorem dJ8_copyOfRange_1 : decode cJ8_copyOfRange 1 = .ok (.ifCond .ne 9, 3) := dk_154 0 9 (dk_at dksJ8_copyOfRange_0 1 rfl rfl)
theorem dJ8_copyOfRange_4 : decode cJ8_copyOfRange 4 = .ok (.iload_n 2, 1) := dk_28 (dk_at dksJ8_copyOfRange_0 4 rfl rfl)
theorem dJ8_copyOfRange_5 : decode cJ8_copyOfRange 5 = .ok (.aload_n 0, 1) := dk_42 (dk_at dksJ8_copyOfRange_0 5 rfl rfl)
theorem dJ8_copyOfRange_6 : decode cJ8_copyOfRange 6 = .ok (.arraylength, 1) := dk_190 (dk_at dksJ8_copyOfRange_0 6 rfl rfl)
theorem dJ8_copyOfRange_7 : decode cJ8_copyOfRange 7 = .ok (.if_icmp .eq 10, 3) := dk_159 0 10 (dk_at dksJ8_copyOfRange_0 7 rfl rfl)
theorem dJ8_copyOfRange_10 : decode cJ8_copyOfRange 10 = .ok (.aload_n 0, 1) := dk_42 (dk_at dksJ8_copyOfRange_0 10 rfl rfl)
theorem dJ8_copyOfRange_11 : decode cJ8_copyOfRange 11 = .ok (.iload_n 1, 1) := dk_27 (dk_at dksJ8_copyOfRange_0 11 rfl rfl)
theorem dJ8_copyOfRange_12 : decode cJ8_copyOfRange 12 = .ok (.iload_n 2, 1) := dk_28 (dk_at dksJ8_copyOfRange_0 12 rfl rfl)
theorem dJ8_copyOfRange_13 : decode cJ8_copyOfRange 13 = .ok (.invokestatic 339, 3) := dk_184 1 83 (dk_at dksJ8_copyOfRange_0 13 rfl rfl)
theorem dJ8_copyOfRange_16 : decode cJ8_copyOfRange 16 = .ok (.areturn, 1) := dk_176 (dk_at dksJ8_copyOfRange_0 16 rfl rfl)
theorem dJ8_copyOfRange_17 : decode cJ8_copyOfRange 17 = .ok (.aload_n 0, 1) := dk_42 (dk_at dksJ8_copyOfRange_0 17 rfl rfl)
theorem dJ8_copyOfRange_18 : decode cJ8_copyOfRange 18 = .ok (.invokevirtual 310, 3) := dk_182 1 54 (dk_at dksJ8_copyOfRange_0 18 rfl rfl)
theorem dJ8_copyOfRange_21 : decode cJ8_copyOfRange 21 = .ok (.checkcast 311, 3) := dk_192 1 55 (dk_at dksJ8_copyOfRange_0 21 rfl rfl)
theorem dJ8_copyOfRange_24 : decode cJ8_copyOfRange 24 = .ok (.areturn, 1) := dk_176 (dk_at dksJ8_copyOfRange_1 0 rfl rfl)
abbrev cJ8_copyOfRangeByte : ByteArray := prog_33_method_133_code
def yJ8_copyOfRangeByte : MethodName := ⟨RJ8, "copyOfRangeByte", "([BII)[B"⟩
def dkwJ8_copyOfRangeByte_1 : List UInt8 := [184, 1, 48, 184, 0, 150, 25, 4, 176]
abbrev dktJ8_copyOfRangeByte_1 : List UInt8 := dkwJ8_copyOfRangeByte_1 ++ []
def dkwJ8_copyOfRangeByte_0 : List UInt8 := [27, 28, 184, 1, 87, 28, 27, 100, 62, 29, 188, 8, 58, 4, 42, 27, 25, 4, 3, 42, 190, 27, 100, 29]
abbrev dktJ8_copyOfRangeByte_0 : List UInt8 := dkwJ8_copyOfRangeByte_0 ++ dktJ8_copyOfRangeByte_1
theorem dksJ8_copyOfRangeByte_0 : cJ8_copyOfRangeByte.data.toList.drop 0 = dktJ8_copyOfRangeByte_0 := by decide +kernel
theorem dksJ8_copyOfRangeByte_1 : cJ8_copyOfRangeByte.data.toList.drop 24 = dktJ8_copyOfRangeByte_1 := dk_seg dksJ8_copyOfRangeByte_0 24 rfl rfl
theorem dJ8_copyOfRangeByte_0 : decode cJ8_copyOfRangeByte 0 = .ok (.iload_n 1, 1) := dk_27 (dk_at dksJ8_copyOfRangeByte_0 0 rfl rfl)
theorem dJ8_copyOfRangeByte_1 : decode cJ8_copyOfRangeByte 1 = .ok (.iload_n 2, 1) := dk_28 (dk_at dksJ8_copyOfRangeByte_0 1 rfl rfl)
theorem dJ8_copyOfRangeByte_2 : decode cJ8_copyOfRangeByte 2 = .ok (.invokestatic 343, 3) := dk_184 1 87 (dk_at dksJ8_copyOfRangeByte_0 2 rfl rfl)
theorem dJ8_copyOfRangeByte_5 : decode cJ8_copyOfRangeByte 5 = .ok (.iload_n 2, 1) := dk_28 (dk_at dksJ8_copyOfRangeByte_0 5 rfl rfl)
theorem dJ8_copyOfRangeByte_6 : decode cJ8_copyOfRangeByte 6 = .ok (.iload_n 1, 1) := dk_27 (dk_at dksJ8_copyOfRangeByte_0 6 rfl rfl)
theorem dJ8_copyOfRangeByte_7 : decode cJ8_copyOfRangeByte 7 = .ok (.isub, 1) := dk_100 (dk_at dksJ8_copyOfRangeByte_0 7 rfl rfl)
theorem dJ8_copyOfRangeByte_8 : decode cJ8_copyOfRangeByte 8 = .ok (.istore_n 3, 1) := dk_62 (dk_at dksJ8_copyOfRangeByte_0 8 rfl rfl)
theorem dJ8_copyOfRangeByte_9 : decode cJ8_copyOfRangeByte 9 = .ok (.iload_n 3, 1) := dk_29 (dk_at dksJ8_copyOfRangeByte_0 9 rfl rfl)
theorem dJ8_copyOfRangeByte_10 : decode cJ8_copyOfRangeByte 10 = .ok (.newarray .byte, 2) := dk_188_8 (dk_at dksJ8_copyOfRangeByte_0 10 rfl rfl)
theorem dJ8_copyOfRangeByte_12 : decode cJ8_copyOfRangeByte 12 = .ok (.astore 4, 2) := dk_58 4 (dk_at dksJ8_copyOfRangeByte_0 12 rfl rfl)
theorem dJ8_copyOfRangeByte_14 : decode cJ8_copyOfRangeByte 14 = .ok (.aload_n 0, 1) := dk_42 (dk_at dksJ8_copyOfRangeByte_0 14 rfl rfl)
theorem dJ8_copyOfRangeByte_15 : decode cJ8_copyOfRangeByte 15 = .ok (.iload_n 1, 1) := dk_27 (dk_at dksJ8_copyOfRangeByte_0 15 rfl rfl)
theorem dJ8_copyOfRangeByte_16 : decode cJ8_copyOfRangeByte 16 = .ok (.aload 4, 2) := dk_25 4 (dk_at dksJ8_copyOfRangeByte_0 16 rfl rfl)
theorem dJ8_copyOfRangeByte_18 : decode cJ8_copyOfRangeByte 18 = .ok (.iconst 0, 1) := dk_3 (dk_at dksJ8_copyOfRangeByte_0 18 rfl rfl)
theorem dJ8_copyOfRangeByte_19 : decode cJ8_copyOfRangeByte 19 = .ok (.aload_n 0, 1) := dk_42 (dk_at dksJ8_copyOfRangeByte_0 19 rfl rfl)
theorem dJ8_copyOfRangeByte_20 : decode cJ8_copyOfRangeByte 20 = .ok (.arraylength, 1) := dk_190 (dk_at dksJ8_copyOfRangeByte_0 20 rfl rfl)
theorem dJ8_copyOfRangeByte_21 : decode cJ8_copyOfRangeByte 21 = .ok (.iload_n 1, 1) := dk_27 (dk_at dksJ8_copyOfRangeByte_0 21 rfl rfl)
theorem dJ8_copyOfRangeByte_22 : decode cJ8_copyOfRangeByte 22 = .ok (.isub, 1) := dk_100 (dk_at dksJ8_copyOfRangeByte_0 22 rfl rfl)
theorem dJ8_copyOfRangeByte_23 : decode cJ8_copyOfRangeByte 23 = .ok (.iload_n 3, 1) := dk_29 (dk_at dksJ8_copyOfRangeByte_0 23 rfl rfl)
theorem dJ8_copyOfRangeByte_24 : decode cJ8_copyOfRangeByte 24 = .ok (.invokestatic 304, 3) := dk_184 1 48 (dk_at dksJ8_copyOfRangeByte_1 0 rfl rfl)
theorem dJ8_copyOfRangeByte_27 : decode cJ8_copyOfRangeByte 27 = .ok (.invokestatic 150, 3) := dk_184 0 150 (dk_at dksJ8_copyOfRangeByte_1 3 rfl rfl)
theorem dJ8_copyOfRangeByte_30 : decode cJ8_copyOfRangeByte 30 = .ok (.aload 4, 2) := dk_25 4 (dk_at dksJ8_copyOfRangeByte_1 6 rfl rfl)
theorem dJ8_copyOfRangeByte_32 : decode cJ8_copyOfRangeByte 32 = .ok (.areturn, 1) := dk_176 (dk_at dksJ8_copyOfRangeByte_1 8 rfl rfl)
abbrev cJ8_checkLength : ByteArray := prog_33_method_131_code
def yJ8_checkLength : MethodName := ⟨RJ8, "checkLength", "(II)V"⟩
def dkwJ8_checkLength_1 : List UInt8 := [182, 0, 50, 27, 182, 0, 54, 182, 0, 61, 183, 0, 65, 191, 177]
abbrev dktJ8_checkLength_1 : List UInt8 := dkwJ8_checkLength_1 ++ []
def dkwJ8_checkLength_0 : List UInt8 := [27, 26, 162, 0, 35, 187, 0, 43, 89, 187, 0, 45, 89, 183, 0, 47, 26, 182, 0, 54, 19, 1, 81]
abbrev dktJ8_checkLength_0 : List UInt8 := dkwJ8_checkLength_0 ++ dktJ8_checkLength_1
theorem dksJ8_checkLength_0 : cJ8_checkLength.data.toList.drop 0 = dktJ8_checkLength_0 := by decide +kernel
theorem dksJ8_checkLength_1 : cJ8_checkLength.data.toList.drop 23 = dktJ8_checkLength_1 := dk_seg dksJ8_checkLength_0 23 rfl rfl
theorem dJ8_checkLength_0 : decode cJ8_checkLength 0 = .ok (.iload_n 1, 1) := dk_27 (dk_at dksJ8_checkLength_0 0 rfl rfl)
theorem dJ8_checkLength_1 : decode cJ8_checkLength 1 = .ok (.iload_n 0, 1) := dk_26 (dk_at dksJ8_checkLength_0 1 rfl rfl)
theorem dJ8_checkLength_2 : decode cJ8_checkLength 2 = .ok (.if_icmp .ge 35, 3) := dk_162 0 35 (dk_at dksJ8_checkLength_0 2 rfl rfl)
theorem dJ8_checkLength_5 : decode cJ8_checkLength 5 = .ok (.new 43, 3) := dk_187 0 43 (dk_at dksJ8_checkLength_0 5 rfl rfl)
theorem dJ8_checkLength_8 : decode cJ8_checkLength 8 = .ok (.dup, 1) := dk_89 (dk_at dksJ8_checkLength_0 8 rfl rfl)
theorem dJ8_checkLength_9 : decode cJ8_checkLength 9 = .ok (.new 45, 3) := dk_187 0 45 (dk_at dksJ8_checkLength_0 9 rfl rfl)
theorem dJ8_checkLength_12 : decode cJ8_checkLength 12 = .ok (.dup, 1) := dk_89 (dk_at dksJ8_checkLength_0 12 rfl rfl)
theorem dJ8_checkLength_13 : decode cJ8_checkLength 13 = .ok (.invokespecial 47, 3) := dk_183 0 47 (dk_at dksJ8_checkLength_0 13 rfl rfl)
theorem dJ8_checkLength_16 : decode cJ8_checkLength 16 = .ok (.iload_n 0, 1) := dk_26 (dk_at dksJ8_checkLength_0 16 rfl rfl)
theorem dJ8_checkLength_17 : decode cJ8_checkLength 17 = .ok (.invokevirtual 54, 3) := dk_182 0 54 (dk_at dksJ8_checkLength_0 17 rfl rfl)
theorem dJ8_checkLength_20 : decode cJ8_checkLength 20 = .ok (.ldc_w 337, 3) := dk_19 1 81 (dk_at dksJ8_checkLength_0 20 rfl rfl)
theorem dJ8_checkLength_23 : decode cJ8_checkLength 23 = .ok (.invokevirtual 50, 3) := dk_182 0 50 (dk_at dksJ8_checkLength_1 0 rfl rfl)
theorem dJ8_checkLength_26 : decode cJ8_checkLength 26 = .ok (.iload_n 1, 1) := dk_27 (dk_at dksJ8_checkLength_1 3 rfl rfl)
theorem dJ8_checkLength_27 : decode cJ8_checkLength 27 = .ok (.invokevirtual 54, 3) := dk_182 0 54 (dk_at dksJ8_checkLength_1 4 rfl rfl)
theorem dJ8_checkLength_30 : decode cJ8_checkLength 30 = .ok (.invokevirtual 61, 3) := dk_182 0 61 (dk_at dksJ8_checkLength_1 7 rfl rfl)
theorem dJ8_checkLength_33 : decode cJ8_checkLength 33 = .ok (.invokespecial 65, 3) := dk_183 0 65 (dk_at dksJ8_checkLength_1 10 rfl rfl)
theorem dJ8_checkLength_36 : decode cJ8_checkLength 36 = .ok (.athrow, 1) := dk_191 (dk_at dksJ8_checkLength_1 13 rfl rfl)
theorem dJ8_checkLength_37 : decode cJ8_checkLength 37 = .ok (.return_, 1) := dk_177 (dk_at dksJ8_checkLength_1 14 rfl rfl)
theorem q168 : (Jvm.Cond.initialized "java/util/Arrays") ∈ lw_all := lw_g (lw_at lw_m1 21 rfl) rfl
theorem q767 : (Jvm.Cond.static ({ cls := "java/util/Arrays", name := "copyOf", desc := "([BI)[B" } : Jvm.MethodName)) ∈ lw_all := lw_g (lw_at lw_m3 140 rfl) rfl
theorem q768 : (Jvm.Cond.code ({ cls := "java/util/Arrays", name := "copyOf", desc := "([BI)[B" } : Jvm.MethodName) prog_33_method_121_code (3 : Nat) (Option.some (Jvm.ClassFile.FieldType.array Jvm.ClassFile.FieldType.byte))) ∈ lw_all := lw_g (lw_at lw_m3 141 rfl) rfl
theorem q769 : (Jvm.Cond.methodLink "java/util/Arrays" (310 : Nat) ({ cls := "[B", name := "clone", desc := "()Ljava/lang/Object;" } : Jvm.MethodName)) ∈ lw_all := lw_g (lw_at lw_m3 142 rfl) rfl
theorem q775 : (Jvm.Cond.classLink "java/util/Arrays" (311 : Nat) "[B") ∈ lw_all := lw_g (lw_at lw_m3 148 rfl) rfl
theorem q776 : (Jvm.Cond.methodLink "java/util/Arrays" (304 : Nat) ({ cls := "java/lang/Math", name := "min", desc := "(II)I" } : Jvm.MethodName)) ∈ lw_all := lw_g (lw_at lw_m3 149 rfl) rfl
theorem q779 : (Jvm.Cond.methodLink "java/util/Arrays" (150 : Nat) ({ cls := "java/lang/System", name := "arraycopy", desc := "(Ljava/lang/Object;ILjava/lang/Object;II)V" } : Jvm.MethodName)) ∈ lw_all := lw_g (lw_at lw_m3 152 rfl) rfl
theorem q789 : (Jvm.Cond.static ({ cls := "java/util/Arrays", name := "fill", desc := "([BIIB)V" } : Jvm.MethodName)) ∈ lw_all := lw_g (lw_at lw_m3 162 rfl) rfl
theorem q790 : (Jvm.Cond.code ({ cls := "java/util/Arrays", name := "fill", desc := "([BIIB)V" } : Jvm.MethodName) prog_33_method_110_code (5 : Nat) (Option.none : Option Jvm.ClassFile.FieldType)) ∈ lw_all := lw_g (lw_at lw_m3 163 rfl) rfl
theorem q791 : (Jvm.Cond.methodLink "java/util/Arrays" (13 : Nat) ({ cls := "java/util/Arrays", name := "rangeCheck", desc := "(III)V" } : Jvm.MethodName)) ∈ lw_all := lw_g (lw_at lw_m3 164 rfl) rfl
theorem q792 : (Jvm.Cond.static ({ cls := "java/util/Arrays", name := "rangeCheck", desc := "(III)V" } : Jvm.MethodName)) ∈ lw_all := lw_g (lw_at lw_m3 165 rfl) rfl
theorem q793 : (Jvm.Cond.code ({ cls := "java/util/Arrays", name := "rangeCheck", desc := "(III)V" } : Jvm.MethodName) prog_33_method_30_code (3 : Nat) (Option.none : Option Jvm.ClassFile.FieldType)) ∈ lw_all := lw_g (lw_at lw_m3 166 rfl) rfl
theorem q881 : (Jvm.Cond.static ({ cls := "java/util/Arrays", name := "copyOfRange", desc := "([BII)[B" } : Jvm.MethodName)) ∈ lw_all := lw_g (lw_at lw_m4 14 rfl) rfl
theorem q882 : (Jvm.Cond.code ({ cls := "java/util/Arrays", name := "copyOfRange", desc := "([BII)[B" } : Jvm.MethodName) prog_33_method_132_code (3 : Nat) (Option.some (Jvm.ClassFile.FieldType.array Jvm.ClassFile.FieldType.byte))) ∈ lw_all := lw_g (lw_at lw_m4 15 rfl) rfl
theorem q883 : (Jvm.Cond.methodLink "java/util/Arrays" (339 : Nat) ({ cls := "java/util/Arrays", name := "copyOfRangeByte", desc := "([BII)[B" } : Jvm.MethodName)) ∈ lw_all := lw_g (lw_at lw_m4 16 rfl) rfl
theorem q884 : (Jvm.Cond.static ({ cls := "java/util/Arrays", name := "copyOfRangeByte", desc := "([BII)[B" } : Jvm.MethodName)) ∈ lw_all := lw_g (lw_at lw_m4 17 rfl) rfl
theorem q885 : (Jvm.Cond.code ({ cls := "java/util/Arrays", name := "copyOfRangeByte", desc := "([BII)[B" } : Jvm.MethodName) prog_33_method_133_code (5 : Nat) (Option.some (Jvm.ClassFile.FieldType.array Jvm.ClassFile.FieldType.byte))) ∈ lw_all := lw_g (lw_at lw_m4 18 rfl) rfl
theorem q886 : (Jvm.Cond.methodLink "java/util/Arrays" (343 : Nat) ({ cls := "java/util/Arrays", name := "checkLength", desc := "(II)V" } : Jvm.MethodName)) ∈ lw_all := lw_g (lw_at lw_m4 19 rfl) rfl
theorem q887 : (Jvm.Cond.static ({ cls := "java/util/Arrays", name := "checkLength", desc := "(II)V" } : Jvm.MethodName)) ∈ lw_all := lw_g (lw_at lw_m4 20 rfl) rfl
theorem q888 : (Jvm.Cond.code ({ cls := "java/util/Arrays", name := "checkLength", desc := "(II)V" } : Jvm.MethodName) prog_33_method_131_code (2 : Nat) (Option.none : Option Jvm.ClassFile.FieldType)) ∈ lw_all := lw_g (lw_at lw_m4 21 rfl) rfl
