/-! java/lang/StringUTF16 -/
set_option maxRecDepth 100000
def RJ14 : String := "java/lang/StringUTF16"
abbrev cJ14_newBytesFor : ByteArray := prog_38_method_2_code
def yJ14_newBytesFor : MethodName := ⟨RJ14, "newBytesFor", "(I)[B"⟩
def dkwJ14_newBytesFor_0 : List UInt8 := [26, 184, 0, 11, 188, 8, 176]
abbrev dktJ14_newBytesFor_0 : List UInt8 := dkwJ14_newBytesFor_0 ++ []
theorem dksJ14_newBytesFor_0 : cJ14_newBytesFor.data.toList.drop 0 = dktJ14_newBytesFor_0 := by decide +kernel
theorem dJ14_newBytesFor_0 : decode cJ14_newBytesFor 0 = .ok (.iload_n 0, 1) := dk_26 (dk_at dksJ14_newBytesFor_0 0 rfl rfl)
theorem dJ14_newBytesFor_1 : decode cJ14_newBytesFor 1 = .ok (.invokestatic 11, 3) := dk_184 0 11 (dk_at dksJ14_newBytesFor_0 1 rfl rfl)
theorem dJ14_newBytesFor_4 : decode cJ14_newBytesFor 4 = .ok (.newarray .byte, 2) := dk_188_8 (dk_at dksJ14_newBytesFor_0 4 rfl rfl)
theorem dJ14_newBytesFor_6 : decode cJ14_newBytesFor 6 = .ok (.areturn, 1) := dk_176 (dk_at dksJ14_newBytesFor_0 6 rfl rfl)
abbrev cJ14_newBytesLength : ByteArray := prog_38_method_3_code
def yJ14_newBytesLength : MethodName := ⟨RJ14, "newBytesLength", "(I)I"⟩
def dkwJ14_newBytesLength_2 : List UInt8 := [182, 0, 32, 182, 0, 37, 183, 0, 41, 191, 26, 4, 120, 172]
abbrev dktJ14_newBytesLength_2 : List UInt8 := dkwJ14_newBytesLength_2 ++ []
def dkwJ14_newBytesLength_1 : List UInt8 := [187, 0, 23, 89, 183, 0, 25, 18, 26, 182, 0, 28, 26, 182, 0, 32, 18, 35, 182, 0, 28, 18, 20]
abbrev dktJ14_newBytesLength_1 : List UInt8 := dkwJ14_newBytesLength_1 ++ dktJ14_newBytesLength_2
def dkwJ14_newBytesLength_0 : List UInt8 := [26, 156, 0, 11, 187, 0, 17, 89, 183, 0, 19, 191, 26, 18, 20, 161, 0, 40, 187, 0, 21, 89]
abbrev dktJ14_newBytesLength_0 : List UInt8 := dkwJ14_newBytesLength_0 ++ dktJ14_newBytesLength_1
theorem dksJ14_newBytesLength_0 : cJ14_newBytesLength.data.toList.drop 0 = dktJ14_newBytesLength_0 := by decide +kernel
theorem dksJ14_newBytesLength_1 : cJ14_newBytesLength.data.toList.drop 22 = dktJ14_newBytesLength_1 := dk_seg dksJ14_newBytesLength_0 22 rfl rfl
theorem dksJ14_newBytesLength_2 : cJ14_newBytesLength.data.toList.drop 45 = dktJ14_newBytesLength_2 := dk_seg dksJ14_newBytesLength_1 23 rfl rfl
theorem dJ14_newBytesLength_0 : decode cJ14_newBytesLength 0 = .ok (.iload_n 0, 1) := dk_26 (dk_at dksJ14_newBytesLength_0 0 rfl rfl)
theorem dJ14_newBytesLength_1 : decode cJ14_newBytesLength 1 = .ok (.ifCond .ge 11, 3) := dk_156 0 11 (dk_at dksJ14_newBytesLength_0 1 rfl rfl)
theorem dJ14_newBytesLength_4 : decode cJ14_newBytesLength 4 = .ok (.new 17, 3) := dk_187 0 17 (dk_at dksJ14_newBytesLength_0 4 rfl rfl)
theorem dJ14_newBytesLength_7 : decode cJ14_newBytesLength 7 = .ok (.dup, 1) := dk_89 (dk_at dksJ14_newBytesLength_0 7 rfl rfl)
theorem dJ14_newBytesLength_8 : decode cJ14_newBytesLength 8 = .ok (.invokespecial 19, 3) := dk_183 0 19 (dk_at dksJ14_newBytesLength_0 8 rfl rfl)
theorem dJ14_newBytesLength_11 : decode cJ14_newBytesLength 11 = .ok (.athrow, 1) := dk_191 (dk_at dksJ14_newBytesLength_0 11 rfl rfl)
theorem dJ14_newBytesLength_12 : decode cJ14_newBytesLength 12 = .ok (.iload_n 0, 1) := dk_26 (dk_at dksJ14_newBytesLength_0 12 rfl rfl)
theorem dJ14_newBytesLength_13 : decode cJ14_newBytesLength 13 = .ok (.ldc 20, 2) := dk_18 20 (dk_at dksJ14_newBytesLength_0 13 rfl rfl)
theorem dJ14_newBytesLength_15 : decode cJ14_newBytesLength 15 = .ok (.if_icmp .lt 40, 3) := dk_161 0 40 (dk_at dksJ14_newBytesLength_0 15 rfl rfl)
theorem dJ14_newBytesLength_18 : decode cJ14_newBytesLength 18 = .ok (.new 21, 3) := dk_187 0 21 (dk_at dksJ14_newBytesLength_0 18 rfl rfl)
theorem dJ14_newBytesLength_21 : decode cJ14_newBytesLength 21 = .ok (.dup, 1) := dk_89 (dk_at dksJ14_newBytesLength_0 21 rfl rfl)
theorem dJ14_newBytesLength_22 : decode cJ14_newBytesLength 22 = .ok (.new 23, 3) := dk_187 0 23 (dk_at dksJ14_newBytesLength_1 0 rfl rfl)
theorem dJ14_newBytesLength_25 : decode cJ14_newBytesLength 25 = .ok (.dup, 1) := dk_89 (dk_at dksJ14_newBytesLength_1 3 rfl rfl)
theorem dJ14_newBytesLength_26 : decode cJ14_newBytesLength 26 = .ok (.invokespecial 25, 3) := dk_183 0 25 (dk_at dksJ14_newBytesLength_1 4 rfl rfl)
theorem dJ14_newBytesLength_29 : decode cJ14_newBytesLength 29 = .ok (.ldc 26, 2) := dk_18 26 (dk_at dksJ14_newBytesLength_1 7 rfl rfl)
theorem dJ14_newBytesLength_31 : decode cJ14_newBytesLength 31 = .ok (.invokevirtual 28, 3) := dk_182 0 28 (dk_at dksJ14_newBytesLength_1 9 rfl rfl)
theorem dJ14_newBytesLength_34 : decode cJ14_newBytesLength 34 = .ok (.iload_n 0, 1) := dk_26 (dk_at dksJ14_newBytesLength_1 12 rfl rfl)
theorem dJ14_newBytesLength_35 : decode cJ14_newBytesLength 35 = .ok (.invokevirtual 32, 3) := dk_182 0 32 (dk_at dksJ14_newBytesLength_1 13 rfl rfl)
theorem dJ14_newBytesLength_38 : decode cJ14_newBytesLength 38 = .ok (.ldc 35, 2) := dk_18 35 (dk_at dksJ14_newBytesLength_1 16 rfl rfl)
theorem dJ14_newBytesLength_40 : decode cJ14_newBytesLength 40 = .ok (.invokevirtual 28, 3) := dk_182 0 28 (dk_at dksJ14_newBytesLength_1 18 rfl rfl)
theorem dJ14_newBytesLength_43 : decode cJ14_newBytesLength 43 = .ok (.ldc 20, 2) := dk_18 20 (dk_at dksJ14_newBytesLength_1 21 rfl rfl)
theorem dJ14_newBytesLength_45 : decode cJ14_newBytesLength 45 = .ok (.invokevirtual 32, 3) := dk_182 0 32 (dk_at dksJ14_newBytesLength_2 0 rfl rfl)
theorem dJ14_newBytesLength_48 : decode cJ14_newBytesLength 48 = .ok (.invokevirtual 37, 3) := dk_182 0 37 (dk_at dksJ14_newBytesLength_2 3 rfl rfl)
theorem dJ14_newBytesLength_51 : decode cJ14_newBytesLength 51 = .ok (.invokespecial 41, 3) := dk_183 0 41 (dk_at dksJ14_newBytesLength_2 6 rfl rfl)
theorem dJ14_newBytesLength_54 : decode cJ14_newBytesLength 54 = .ok (.athrow, 1) := dk_191 (dk_at dksJ14_newBytesLength_2 9 rfl rfl)
theorem dJ14_newBytesLength_55 : decode cJ14_newBytesLength 55 = .ok (.iload_n 0, 1) := dk_26 (dk_at dksJ14_newBytesLength_2 10 rfl rfl)
theorem dJ14_newBytesLength_56 : decode cJ14_newBytesLength 56 = .ok (.iconst 1, 1) := dk_4 (dk_at dksJ14_newBytesLength_2 11 rfl rfl)
theorem dJ14_newBytesLength_57 : decode cJ14_newBytesLength 57 = .ok (.ishl, 1) := dk_120 (dk_at dksJ14_newBytesLength_2 12 rfl rfl)
theorem dJ14_newBytesLength_58 : decode cJ14_newBytesLength 58 = .ok (.ireturn, 1) := dk_172 (dk_at dksJ14_newBytesLength_2 13 rfl rfl)
abbrev cJ14_inflate : ByteArray := prog_38_method_86_code
def yJ14_inflate : MethodName := ⟨RJ14, "inflate", "([BI[BII)V"⟩
def dkwJ14_inflate_1 : List UInt8 := [132, 1, 1, 51, 17, 0, 255, 126, 184, 0, 111, 132, 5, 1, 167, 255, 228, 177]
abbrev dktJ14_inflate_1 : List UInt8 := dkwJ14_inflate_1 ++ []
def dkwJ14_inflate_0 : List UInt8 := [29, 21, 4, 44, 184, 0, 173, 3, 54, 5, 21, 5, 21, 4, 162, 0, 27, 44, 29, 132, 3, 1, 42, 27]
abbrev dktJ14_inflate_0 : List UInt8 := dkwJ14_inflate_0 ++ dktJ14_inflate_1
theorem dksJ14_inflate_0 : cJ14_inflate.data.toList.drop 0 = dktJ14_inflate_0 := by decide +kernel
theorem dksJ14_inflate_1 : cJ14_inflate.data.toList.drop 24 = dktJ14_inflate_1 := dk_seg dksJ14_inflate_0 24 rfl rfl
theorem dJ14_inflate_0 : decode cJ14_inflate 0 = .ok (.iload_n 3, 1) := dk_29 (dk_at dksJ14_inflate_0 0 rfl rfl)
theorem dJ14_inflate_1 : decode cJ14_inflate 1 = .ok (.iload 4, 2) := dk_21 4 (dk_at dksJ14_inflate_0 1 rfl rfl)
theorem dJ14_inflate_3 : decode cJ14_inflate 3 = .ok (.aload_n 2, 1) := dk_44 (dk_at dksJ14_inflate_0 3 rfl rfl)
theorem dJ14_inflate_4 : decode cJ14_inflate 4 = .ok (.invokestatic 173, 3) := dk_184 0 173 (dk_at dksJ14_inflate_0 4 rfl rfl)
theorem dJ14_inflate_7 : decode cJ14_inflate 7 = .ok (.iconst 0, 1) := dk_3 (dk_at dksJ14_inflate_0 7 rfl rfl)
theorem dJ14_inflate_8 : decode cJ14_inflate 8 = .ok (.istore 5, 2) := dk_54 5 (dk_at dksJ14_inflate_0 8 rfl rfl)
theorem dJ14_inflate_10 : decode cJ14_inflate 10 = .ok (.iload 5, 2) := dk_21 5 (dk_at dksJ14_inflate_0 10 rfl rfl)
theorem dJ14_inflate_12 : decode cJ14_inflate 12 = .ok (.iload 4, 2) := dk_21 4 (dk_at dksJ14_inflate_0 12 rfl rfl)
theorem dJ14_inflate_14 : decode cJ14_inflate 14 = .ok (.if_icmp .ge 27, 3) := dk_162 0 27 (dk_at dksJ14_inflate_0 14 rfl rfl)
theorem dJ14_inflate_17 : decode cJ14_inflate 17 = .ok (.aload_n 2, 1) := dk_44 (dk_at dksJ14_inflate_0 17 rfl rfl)
theorem dJ14_inflate_18 : decode cJ14_inflate 18 = .ok (.iload_n 3, 1) := dk_29 (dk_at dksJ14_inflate_0 18 rfl rfl)
theorem dJ14_inflate_19 : decode cJ14_inflate 19 = .ok (.iinc 3 1, 3) := dk_132 3 1 (dk_at dksJ14_inflate_0 19 rfl rfl)
theorem dJ14_inflate_22 : decode cJ14_inflate 22 = .ok (.aload_n 0, 1) := dk_42 (dk_at dksJ14_inflate_0 22 rfl rfl)
theorem dJ14_inflate_23 : decode cJ14_inflate 23 = .ok (.iload_n 1, 1) := dk_27 (dk_at dksJ14_inflate_0 23 rfl rfl)
theorem dJ14_inflate_24 : decode cJ14_inflate 24 = .ok (.iinc 1 1, 3) := dk_132 1 1 (dk_at dksJ14_inflate_1 0 rfl rfl)
theorem dJ14_inflate_27 : decode cJ14_inflate 27 = .ok (.baload, 1) := dk_51 (dk_at dksJ14_inflate_1 3 rfl rfl)
theorem dJ14_inflate_28 : decode cJ14_inflate 28 = .ok (.sipush 255, 3) := dk_17 0 255 (dk_at dksJ14_inflate_1 4 rfl rfl)
theorem dJ14_inflate_31 : decode cJ14_inflate 31 = .ok (.iand, 1) := dk_126 (dk_at dksJ14_inflate_1 7 rfl rfl)
theorem dJ14_inflate_32 : decode cJ14_inflate 32 = .ok (.invokestatic 111, 3) := dk_184 0 111 (dk_at dksJ14_inflate_1 8 rfl rfl)
theorem dJ14_inflate_35 : decode cJ14_inflate 35 = .ok (.iinc 5 1, 3) := dk_132 5 1 (dk_at dksJ14_inflate_1 11 rfl rfl)
theorem dJ14_inflate_38 : decode cJ14_inflate 38 = .ok (.goto (-28), 3) := dk_167 255 228 (dk_at dksJ14_inflate_1 14 rfl rfl)
theorem dJ14_inflate_41 : decode cJ14_inflate 41 = .ok (.return_, 1) := dk_177 (dk_at dksJ14_inflate_1 17 rfl rfl)
abbrev cJ14_checkBoundsOffCount : ByteArray := prog_38_method_94_code
def yJ14_checkBoundsOffCount : MethodName := ⟨RJ14, "checkBoundsOffCount", "(II[B)V"⟩
def dkwJ14_checkBoundsOffCount_0 : List UInt8 := [26, 27, 44, 184, 0, 48, 184, 1, 163, 87, 177]
abbrev dktJ14_checkBoundsOffCount_0 : List UInt8 := dkwJ14_checkBoundsOffCount_0 ++ []
theorem dksJ14_checkBoundsOffCount_0 : cJ14_checkBoundsOffCount.data.toList.drop 0 = dktJ14_checkBoundsOffCount_0 := by decide +kernel
theorem dJ14_checkBoundsOffCount_0 : decode cJ14_checkBoundsOffCount 0 = .ok (.iload_n 0, 1) := dk_26 (dk_at dksJ14_checkBoundsOffCount_0 0 rfl rfl)
theorem dJ14_checkBoundsOffCount_1 : decode cJ14_checkBoundsOffCount 1 = .ok (.iload_n 1, 1) := dk_27 (dk_at dksJ14_checkBoundsOffCount_0 1 rfl rfl)
theorem dJ14_checkBoundsOffCount_2 : decode cJ14_checkBoundsOffCount 2 = .ok (.aload_n 2, 1) := dk_44 (dk_at dksJ14_checkBoundsOffCount_0 2 rfl rfl)
theorem dJ14_checkBoundsOffCount_3 : decode cJ14_checkBoundsOffCount 3 = .ok (.invokestatic 48, 3) := dk_184 0 48 (dk_at dksJ14_checkBoundsOffCount_0 3 rfl rfl)
theorem dJ14_checkBoundsOffCount_6 : decode cJ14_checkBoundsOffCount 6 = .ok (.invokestatic 419, 3) := dk_184 1 163 (dk_at dksJ14_checkBoundsOffCount_0 6 rfl rfl)
theorem dJ14_checkBoundsOffCount_9 : decode cJ14_checkBoundsOffCount 9 = .ok (.pop, 1) := dk_87 (dk_at dksJ14_checkBoundsOffCount_0 9 rfl rfl)
theorem dJ14_checkBoundsOffCount_10 : decode cJ14_checkBoundsOffCount 10 = .ok (.return_, 1) := dk_177 (dk_at dksJ14_checkBoundsOffCount_0 10 rfl rfl)
abbrev cJ14_length : ByteArray := prog_38_method_6_code
def yJ14_length : MethodName := ⟨RJ14, "length", "([B)I"⟩
def dkwJ14_length_0 : List UInt8 := [42, 190, 4, 122, 172]
abbrev dktJ14_length_0 : List UInt8 := dkwJ14_length_0 ++ []
theorem dksJ14_length_0 : cJ14_length.data.toList.drop 0 = dktJ14_length_0 := by decide +kernel
theorem dJ14_length_0 : decode cJ14_length 0 = .ok (.aload_n 0, 1) := dk_42 (dk_at dksJ14_length_0 0 rfl rfl)
theorem dJ14_length_1 : decode cJ14_length 1 = .ok (.arraylength, 1) := dk_190 (dk_at dksJ14_length_0 1 rfl rfl)
theorem dJ14_length_2 : decode cJ14_length 2 = .ok (.iconst 1, 1) := dk_4 (dk_at dksJ14_length_0 2 rfl rfl)
theorem dJ14_length_3 : decode cJ14_length 3 = .ok (.ishr, 1) := dk_122 (dk_at dksJ14_length_0 3 rfl rfl)
theorem dJ14_length_4 : decode cJ14_length 4 = .ok (.ireturn, 1) := dk_172 (dk_at dksJ14_length_0 4 rfl rfl)
abbrev cJ14_putChar : ByteArray := prog_38_method_4_code
def yJ14_putChar : MethodName := ⟨RJ14, "putChar", "([BII)V"⟩
def dkwJ14_putChar_2 : List UInt8 := [178, 0, 63, 122, 145, 84, 177]
abbrev dktJ14_putChar_2 : List UInt8 := dkwJ14_putChar_2 ++ []
def dkwJ14_putChar_1 : List UInt8 := [183, 0, 56, 191, 27, 4, 120, 60, 42, 27, 132, 1, 1, 28, 178, 0, 59, 122, 145, 84, 42, 27, 28]
abbrev dktJ14_putChar_1 : List UInt8 := dkwJ14_putChar_1 ++ dktJ14_putChar_2
def dkwJ14_putChar_0 : List UInt8 := [178, 0, 44, 154, 0, 25, 27, 155, 0, 11, 27, 42, 184, 0, 48, 161, 0, 13, 187, 0, 52, 89, 18, 54]
abbrev dktJ14_putChar_0 : List UInt8 := dkwJ14_putChar_0 ++ dktJ14_putChar_1
theorem dksJ14_putChar_0 : cJ14_putChar.data.toList.drop 0 = dktJ14_putChar_0 := by decide +kernel
theorem dksJ14_putChar_1 : cJ14_putChar.data.toList.drop 24 = dktJ14_putChar_1 := dk_seg dksJ14_putChar_0 24 rfl rfl
theorem dksJ14_putChar_2 : cJ14_putChar.data.toList.drop 47 = dktJ14_putChar_2 := dk_seg dksJ14_putChar_1 23 rfl rfl
theorem dJ14_putChar_0 : decode cJ14_putChar 0 = .ok (.getstatic 44, 3) := dk_178 0 44 (dk_at dksJ14_putChar_0 0 rfl rfl)
theorem dJ14_putChar_3 : decode cJ14_putChar 3 = .ok (.ifCond .ne 25, 3) := dk_154 0 25 (dk_at dksJ14_putChar_0 3 rfl rfl)
theorem dJ14_putChar_6 : decode cJ14_putChar 6 = .ok (.iload_n 1, 1) := dk_27 (dk_at dksJ14_putChar_0 6 rfl rfl)
theorem dJ14_putChar_7 : decode cJ14_putChar 7 = .ok (.ifCond .lt 11, 3) := dk_155 0 11 (dk_at dksJ14_putChar_0 7 rfl rfl)
theorem dJ14_putChar_10 : decode cJ14_putChar 10 = .ok (.iload_n 1, 1) := dk_27 (dk_at dksJ14_putChar_0 10 rfl rfl)
theorem dJ14_putChar_11 : decode cJ14_putChar 11 = .ok (.aload_n 0, 1) := dk_42 (dk_at dksJ14_putChar_0 11 rfl rfl)
theorem dJ14_putChar_12 : decode cJ14_putChar 12 = .ok (.invokestatic 48, 3) := dk_184 0 48 (dk_at dksJ14_putChar_0 12 rfl rfl)
theorem dJ14_putChar_15 : decode cJ14_putChar 15 = .ok (.if_icmp .lt 13, 3) := dk_161 0 13 (dk_at dksJ14_putChar_0 15 rfl rfl)
theorem dJ14_putChar_18 : decode cJ14_putChar 18 = .ok (.new 52, 3) := dk_187 0 52 (dk_at dksJ14_putChar_0 18 rfl rfl)
theorem dJ14_putChar_21 : decode cJ14_putChar 21 = .ok (.dup, 1) := dk_89 (dk_at dksJ14_putChar_0 21 rfl rfl)
theorem dJ14_putChar_22 : decode cJ14_putChar 22 = .ok (.ldc 54, 2) := dk_18 54 (dk_at dksJ14_putChar_0 22 rfl rfl)
theorem dJ14_putChar_24 : decode cJ14_putChar 24 = .ok (.invokespecial 56, 3) := dk_183 0 56 (dk_at dksJ14_putChar_1 0 rfl rfl)
theorem dJ14_putChar_27 : decode cJ14_putChar 27 = .ok (.athrow, 1) := dk_191 (dk_at dksJ14_putChar_1 3 rfl rfl)
theorem dJ14_putChar_28 : decode cJ14_putChar 28 = .ok (.iload_n 1, 1) := dk_27 (dk_at dksJ14_putChar_1 4 rfl rfl)
theorem dJ14_putChar_29 : decode cJ14_putChar 29 = .ok (.iconst 1, 1) := dk_4 (dk_at dksJ14_putChar_1 5 rfl rfl)
theorem dJ14_putChar_30 : decode cJ14_putChar 30 = .ok (.ishl, 1) := dk_120 (dk_at dksJ14_putChar_1 6 rfl rfl)
theorem dJ14_putChar_31 : decode cJ14_putChar 31 = .ok (.istore_n 1, 1) := dk_60 (dk_at dksJ14_putChar_1 7 rfl rfl)
theorem dJ14_putChar_32 : decode cJ14_putChar 32 = .ok (.aload_n 0, 1) := dk_42 (dk_at dksJ14_putChar_1 8 rfl rfl)
theorem dJ14_putChar_33 : decode cJ14_putChar 33 = .ok (.iload_n 1, 1) := dk_27 (dk_at dksJ14_putChar_1 9 rfl rfl)
theorem dJ14_putChar_34 : decode cJ14_putChar 34 = .ok (.iinc 1 1, 3) := dk_132 1 1 (dk_at dksJ14_putChar_1 10 rfl rfl)
theorem dJ14_putChar_37 : decode cJ14_putChar 37 = .ok (.iload_n 2, 1) := dk_28 (dk_at dksJ14_putChar_1 13 rfl rfl)
theorem dJ14_putChar_38 : decode cJ14_putChar 38 = .ok (.getstatic 59, 3) := dk_178 0 59 (dk_at dksJ14_putChar_1 14 rfl rfl)
theorem dJ14_putChar_41 : decode cJ14_putChar 41 = .ok (.ishr, 1) := dk_122 (dk_at dksJ14_putChar_1 17 rfl rfl)
theorem dJ14_putChar_42 : decode cJ14_putChar 42 = .ok (.i2b, 1) := dk_145 (dk_at dksJ14_putChar_1 18 rfl rfl)
theorem dJ14_putChar_43 : decode cJ14_putChar 43 = .ok (.bastore, 1) := dk_84 (dk_at dksJ14_putChar_1 19 rfl rfl)
theorem dJ14_putChar_44 : decode cJ14_putChar 44 = .ok (.aload_n 0, 1) := dk_42 (dk_at dksJ14_putChar_1 20 rfl rfl)
theorem dJ14_putChar_45 : decode cJ14_putChar 45 = .ok (.iload_n 1, 1) := dk_27 (dk_at dksJ14_putChar_1 21 rfl rfl)
theorem dJ14_putChar_46 : decode cJ14_putChar 46 = .ok (.iload_n 2, 1) := dk_28 (dk_at dksJ14_putChar_1 22 rfl rfl)
theorem dJ14_putChar_47 : decode cJ14_putChar 47 = .ok (.getstatic 63, 3) := dk_178 0 63 (dk_at dksJ14_putChar_2 0 rfl rfl)
theorem dJ14_putChar_50 : decode cJ14_putChar 50 = .ok (.ishr, 1) := dk_122 (dk_at dksJ14_putChar_2 3 rfl rfl)
theorem dJ14_putChar_51 : decode cJ14_putChar 51 = .ok (.i2b, 1) := dk_145 (dk_at dksJ14_putChar_2 4 rfl rfl)
theorem dJ14_putChar_52 : decode cJ14_putChar 52 = .ok (.bastore, 1) := dk_84 (dk_at dksJ14_putChar_2 5 rfl rfl)
theorem dJ14_putChar_53 : decode cJ14_putChar 53 = .ok (.return_, 1) := dk_177 (dk_at dksJ14_putChar_2 6 rfl rfl)
abbrev cJ14_putCharSB : ByteArray := prog_38_method_71_code
def yJ14_putCharSB : MethodName := ⟨RJ14, "putCharSB", "([BII)V"⟩
def dkwJ14_putCharSB_0 : List UInt8 := [27, 42, 184, 0, 67, 42, 27, 28, 184, 0, 111, 177]
abbrev dktJ14_putCharSB_0 : List UInt8 := dkwJ14_putCharSB_0 ++ []
theorem dksJ14_putCharSB_0 : cJ14_putCharSB.data.toList.drop 0 = dktJ14_putCharSB_0 := by decide +kernel
theorem dJ14_putCharSB_0 : decode cJ14_putCharSB 0 = .ok (.iload_n 1, 1) := dk_27 (dk_at dksJ14_putCharSB_0 0 rfl rfl)
theorem dJ14_putCharSB_1 : decode cJ14_putCharSB 1 = .ok (.aload_n 0, 1) := dk_42 (dk_at dksJ14_putCharSB_0 1 rfl rfl)
theorem dJ14_putCharSB_2 : decode cJ14_putCharSB 2 = .ok (.invokestatic 67, 3) := dk_184 0 67 (dk_at dksJ14_putCharSB_0 2 rfl rfl)
theorem dJ14_putCharSB_5 : decode cJ14_putCharSB 5 = .ok (.aload_n 0, 1) := dk_42 (dk_at dksJ14_putCharSB_0 5 rfl rfl)
theorem dJ14_putCharSB_6 : decode cJ14_putCharSB 6 = .ok (.iload_n 1, 1) := dk_27 (dk_at dksJ14_putCharSB_0 6 rfl rfl)
theorem dJ14_putCharSB_7 : decode cJ14_putCharSB 7 = .ok (.iload_n 2, 1) := dk_28 (dk_at dksJ14_putCharSB_0 7 rfl rfl)
theorem dJ14_putCharSB_8 : decode cJ14_putCharSB 8 = .ok (.invokestatic 111, 3) := dk_184 0 111 (dk_at dksJ14_putCharSB_0 8 rfl rfl)
theorem dJ14_putCharSB_11 : decode cJ14_putCharSB 11 = .ok (.return_, 1) := dk_177 (dk_at dksJ14_putCharSB_0 11 rfl rfl)
abbrev cJ14_checkIndex : ByteArray := prog_38_method_91_code
def yJ14_checkIndex : MethodName := ⟨RJ14, "checkIndex", "(I[B)V"⟩
def dkwJ14_checkIndex_0 : List UInt8 := [26, 43, 184, 0, 48, 184, 1, 158, 177]
abbrev dktJ14_checkIndex_0 : List UInt8 := dkwJ14_checkIndex_0 ++ []
theorem dksJ14_checkIndex_0 : cJ14_checkIndex.data.toList.drop 0 = dktJ14_checkIndex_0 := by decide +kernel
theorem dJ14_checkIndex_0 : decode cJ14_checkIndex 0 = .ok (.iload_n 0, 1) := dk_26 (dk_at dksJ14_checkIndex_0 0 rfl rfl)
theorem dJ14_checkIndex_1 : decode cJ14_checkIndex 1 = .ok (.aload_n 1, 1) := dk_43 (dk_at dksJ14_checkIndex_0 1 rfl rfl)
theorem dJ14_checkIndex_2 : decode cJ14_checkIndex 2 = .ok (.invokestatic 48, 3) := dk_184 0 48 (dk_at dksJ14_checkIndex_0 2 rfl rfl)
theorem dJ14_checkIndex_5 : decode cJ14_checkIndex 5 = .ok (.invokestatic 414, 3) := dk_184 1 158 (dk_at dksJ14_checkIndex_0 5 rfl rfl)
theorem dJ14_checkIndex_8 : decode cJ14_checkIndex 8 = .ok (.return_, 1) := dk_177 (dk_at dksJ14_checkIndex_0 8 rfl rfl)
abbrev cJ14_getChars : ByteArray := prog_38_method_77_code
def yJ14_getChars : MethodName := ⟨RJ14, "getChars", "(III[B)I"⟩
def dkwJ14_getChars_1 : List UInt8 := [159, 0, 11, 187, 0, 52, 89, 183, 0, 66, 191, 21, 4, 172]
abbrev dktJ14_getChars_1 : List UInt8 := dkwJ14_getChars_1 ++ []
def dkwJ14_getChars_0 : List UInt8 := [27, 28, 45, 184, 0, 96, 26, 28, 45, 184, 1, 137, 54, 4, 178, 0, 44, 154, 0, 17, 27, 21, 4]
abbrev dktJ14_getChars_0 : List UInt8 := dkwJ14_getChars_0 ++ dktJ14_getChars_1
theorem dksJ14_getChars_0 : cJ14_getChars.data.toList.drop 0 = dktJ14_getChars_0 := by decide +kernel
theorem dksJ14_getChars_1 : cJ14_getChars.data.toList.drop 23 = dktJ14_getChars_1 := dk_seg dksJ14_getChars_0 23 rfl rfl
theorem dJ14_getChars_0 : decode cJ14_getChars 0 = .ok (.iload_n 1, 1) := dk_27 (dk_at dksJ14_getChars_0 0 rfl rfl)
theorem dJ14_getChars_1 : decode cJ14_getChars 1 = .ok (.iload_n 2, 1) := dk_28 (dk_at dksJ14_getChars_0 1 rfl rfl)
theorem dJ14_getChars_2 : decode cJ14_getChars 2 = .ok (.aload_n 3, 1) := dk_45 (dk_at dksJ14_getChars_0 2 rfl rfl)
theorem dJ14_getChars_3 : decode cJ14_getChars 3 = .ok (.invokestatic 96, 3) := dk_184 0 96 (dk_at dksJ14_getChars_0 3 rfl rfl)
theorem dJ14_getChars_6 : decode cJ14_getChars 6 = .ok (.iload_n 0, 1) := dk_26 (dk_at dksJ14_getChars_0 6 rfl rfl)
theorem dJ14_getChars_7 : decode cJ14_getChars 7 = .ok (.iload_n 2, 1) := dk_28 (dk_at dksJ14_getChars_0 7 rfl rfl)
theorem dJ14_getChars_8 : decode cJ14_getChars 8 = .ok (.aload_n 3, 1) := dk_45 (dk_at dksJ14_getChars_0 8 rfl rfl)
theorem dJ14_getChars_9 : decode cJ14_getChars 9 = .ok (.invokestatic 393, 3) := dk_184 1 137 (dk_at dksJ14_getChars_0 9 rfl rfl)
theorem dJ14_getChars_12 : decode cJ14_getChars 12 = .ok (.istore 4, 2) := dk_54 4 (dk_at dksJ14_getChars_0 12 rfl rfl)
theorem dJ14_getChars_14 : decode cJ14_getChars 14 = .ok (.getstatic 44, 3) := dk_178 0 44 (dk_at dksJ14_getChars_0 14 rfl rfl)
theorem dJ14_getChars_17 : decode cJ14_getChars 17 = .ok (.ifCond .ne 17, 3) := dk_154 0 17 (dk_at dksJ14_getChars_0 17 rfl rfl)
theorem dJ14_getChars_20 : decode cJ14_getChars 20 = .ok (.iload_n 1, 1) := dk_27 (dk_at dksJ14_getChars_0 20 rfl rfl)
theorem dJ14_getChars_21 : decode cJ14_getChars 21 = .ok (.iload 4, 2) := dk_21 4 (dk_at dksJ14_getChars_0 21 rfl rfl)
theorem dJ14_getChars_23 : decode cJ14_getChars 23 = .ok (.if_icmp .eq 11, 3) := dk_159 0 11 (dk_at dksJ14_getChars_1 0 rfl rfl)
theorem dJ14_getChars_26 : decode cJ14_getChars 26 = .ok (.new 52, 3) := dk_187 0 52 (dk_at dksJ14_getChars_1 3 rfl rfl)
theorem dJ14_getChars_29 : decode cJ14_getChars 29 = .ok (.dup, 1) := dk_89 (dk_at dksJ14_getChars_1 6 rfl rfl)
theorem dJ14_getChars_30 : decode cJ14_getChars 30 = .ok (.invokespecial 66, 3) := dk_183 0 66 (dk_at dksJ14_getChars_1 7 rfl rfl)
theorem dJ14_getChars_33 : decode cJ14_getChars 33 = .ok (.athrow, 1) := dk_191 (dk_at dksJ14_getChars_1 10 rfl rfl)
theorem dJ14_getChars_34 : decode cJ14_getChars 34 = .ok (.iload 4, 2) := dk_21 4 (dk_at dksJ14_getChars_1 11 rfl rfl)
theorem dJ14_getChars_36 : decode cJ14_getChars 36 = .ok (.ireturn, 1) := dk_172 (dk_at dksJ14_getChars_1 13 rfl rfl)
abbrev cJ14_checkBoundsBeginEnd : ByteArray := prog_38_method_93_code
def yJ14_checkBoundsBeginEnd : MethodName := ⟨RJ14, "checkBoundsBeginEnd", "(II[B)V"⟩
def dkwJ14_checkBoundsBeginEnd_0 : List UInt8 := [26, 27, 44, 184, 0, 48, 184, 0, 241, 177]
abbrev dktJ14_checkBoundsBeginEnd_0 : List UInt8 := dkwJ14_checkBoundsBeginEnd_0 ++ []
theorem dksJ14_checkBoundsBeginEnd_0 : cJ14_checkBoundsBeginEnd.data.toList.drop 0 = dktJ14_checkBoundsBeginEnd_0 := by decide +kernel
theorem dJ14_checkBoundsBeginEnd_0 : decode cJ14_checkBoundsBeginEnd 0 = .ok (.iload_n 0, 1) := dk_26 (dk_at dksJ14_checkBoundsBeginEnd_0 0 rfl rfl)
theorem dJ14_checkBoundsBeginEnd_1 : decode cJ14_checkBoundsBeginEnd 1 = .ok (.iload_n 1, 1) := dk_27 (dk_at dksJ14_checkBoundsBeginEnd_0 1 rfl rfl)
theorem dJ14_checkBoundsBeginEnd_2 : decode cJ14_checkBoundsBeginEnd 2 = .ok (.aload_n 2, 1) := dk_44 (dk_at dksJ14_checkBoundsBeginEnd_0 2 rfl rfl)
theorem dJ14_checkBoundsBeginEnd_3 : decode cJ14_checkBoundsBeginEnd 3 = .ok (.invokestatic 48, 3) := dk_184 0 48 (dk_at dksJ14_checkBoundsBeginEnd_0 3 rfl rfl)
theorem dJ14_checkBoundsBeginEnd_6 : decode cJ14_checkBoundsBeginEnd 6 = .ok (.invokestatic 241, 3) := dk_184 0 241 (dk_at dksJ14_checkBoundsBeginEnd_0 6 rfl rfl)
theorem dJ14_checkBoundsBeginEnd_9 : decode cJ14_checkBoundsBeginEnd 9 = .ok (.return_, 1) := dk_177 (dk_at dksJ14_checkBoundsBeginEnd_0 9 rfl rfl)
abbrev cJ14_getChars_2 : ByteArray := prog_38_method_89_code
def yJ14_getChars_2 : MethodName := ⟨RJ14, "getChars", "(II[B)I"⟩
def dkwJ14_getChars_2_5 : List UInt8 := [132, 5, 255, 21, 5, 16, 45, 184, 0, 111, 21, 5, 172]
abbrev dktJ14_getChars_2_5 : List UInt8 := dkwJ14_getChars_2_5 ++ []
def dkwJ14_getChars_2_4 : List UInt8 := [162, 0, 18, 44, 132, 5, 255, 21, 5, 178, 1, 151, 26, 116, 51, 184, 0, 111, 21, 6, 153, 0, 14, 44]
abbrev dktJ14_getChars_2_4 : List UInt8 := dkwJ14_getChars_2_4 ++ dktJ14_getChars_2_5
def dkwJ14_getChars_2_3 : List UInt8 := [184, 0, 111, 167, 255, 205, 44, 132, 5, 255, 21, 5, 178, 1, 147, 26, 116, 51, 184, 0, 111, 26, 16, 247]
abbrev dktJ14_getChars_2_3 : List UInt8 := dkwJ14_getChars_2_3 ++ dktJ14_getChars_2_4
def dkwJ14_getChars_2_2 : List UInt8 := [21, 5, 178, 1, 147, 21, 4, 51, 184, 0, 111, 44, 132, 5, 255, 21, 5, 178, 1, 151, 21, 4, 51]
abbrev dktJ14_getChars_2_2 : List UInt8 := dkwJ14_getChars_2_2 ++ dktJ14_getChars_2_3
def dkwJ14_getChars_2_1 : List UInt8 := [16, 156, 163, 0, 51, 26, 16, 100, 108, 62, 29, 16, 100, 104, 26, 100, 54, 4, 29, 59, 44, 132, 5, 255]
abbrev dktJ14_getChars_2_1 : List UInt8 := dkwJ14_getChars_2_1 ++ dktJ14_getChars_2_2
def dkwJ14_getChars_2_0 : List UInt8 := [27, 54, 5, 26, 156, 0, 7, 4, 167, 0, 4, 3, 54, 6, 21, 6, 154, 0, 6, 26, 116, 59, 26]
abbrev dktJ14_getChars_2_0 : List UInt8 := dkwJ14_getChars_2_0 ++ dktJ14_getChars_2_1
theorem dksJ14_getChars_2_0 : cJ14_getChars_2.data.toList.drop 0 = dktJ14_getChars_2_0 := by decide +kernel
theorem dksJ14_getChars_2_1 : cJ14_getChars_2.data.toList.drop 23 = dktJ14_getChars_2_1 := dk_seg dksJ14_getChars_2_0 23 rfl rfl
theorem dksJ14_getChars_2_2 : cJ14_getChars_2.data.toList.drop 47 = dktJ14_getChars_2_2 := dk_seg dksJ14_getChars_2_1 24 rfl rfl
theorem dksJ14_getChars_2_3 : cJ14_getChars_2.data.toList.drop 70 = dktJ14_getChars_2_3 := dk_seg dksJ14_getChars_2_2 23 rfl rfl
theorem dksJ14_getChars_2_4 : cJ14_getChars_2.data.toList.drop 94 = dktJ14_getChars_2_4 := dk_seg dksJ14_getChars_2_3 24 rfl rfl
theorem dksJ14_getChars_2_5 : cJ14_getChars_2.data.toList.drop 118 = dktJ14_getChars_2_5 := dk_seg dksJ14_getChars_2_4 24 rfl rfl
theorem dJ14_getChars_2_0 : decode cJ14_getChars_2 0 = .ok (.iload_n 1, 1) := dk_27 (dk_at dksJ14_getChars_2_0 0 rfl rfl)
theorem dJ14_getChars_2_1 : decode cJ14_getChars_2 1 = .ok (.istore 5, 2) := dk_54 5 (dk_at dksJ14_getChars_2_0 1 rfl rfl)
theorem dJ14_getChars_2_3 : decode cJ14_getChars_2 3 = .ok (.iload_n 0, 1) := dk_26 (dk_at dksJ14_getChars_2_0 3 rfl rfl)
theorem dJ14_getChars_2_4 : decode cJ14_getChars_2 4 = .ok (.ifCond .ge 7, 3) := dk_156 0 7 (dk_at dksJ14_getChars_2_0 4 rfl rfl)
theorem dJ14_getChars_2_7 : decode cJ14_getChars_2 7 = .ok (.iconst 1, 1) := dk_4 (dk_at dksJ14_getChars_2_0 7 rfl rfl)
theorem dJ14_getChars_2_8 : decode cJ14_getChars_2 8 = .ok (.goto 4, 3) := dk_167 0 4 (dk_at dksJ14_getChars_2_0 8 rfl rfl)
theorem dJ14_getChars_2_11 : decode cJ14_getChars_2 11 = .ok (.iconst 0, 1) := dk_3 (dk_at dksJ14_getChars_2_0 11 rfl rfl)
theorem dJ14_getChars_2_12 : decode cJ14_getChars_2 12 = .ok (.istore 6, 2) := dk_54 6 (dk_at dksJ14_getChars_2_0 12 rfl rfl)
theorem dJ14_getChars_2_14 : decode cJ14_getChars_2 14 = .ok (.iload 6, 2) := dk_21 6 (dk_at dksJ14_getChars_2_0 14 rfl rfl)
theorem dJ14_getChars_2_16 : decode cJ14_getChars_2 16 = .ok (.ifCond .ne 6, 3) := dk_154 0 6 (dk_at dksJ14_getChars_2_0 16 rfl rfl)
theorem dJ14_getChars_2_19 : decode cJ14_getChars_2 19 = .ok (.iload_n 0, 1) := dk_26 (dk_at dksJ14_getChars_2_0 19 rfl rfl)
theorem dJ14_getChars_2_20 : decode cJ14_getChars_2 20 = .ok (.ineg, 1) := dk_116 (dk_at dksJ14_getChars_2_0 20 rfl rfl)
theorem dJ14_getChars_2_21 : decode cJ14_getChars_2 21 = .ok (.istore_n 0, 1) := dk_59 (dk_at dksJ14_getChars_2_0 21 rfl rfl)
theorem dJ14_getChars_2_22 : decode cJ14_getChars_2 22 = .ok (.iload_n 0, 1) := dk_26 (dk_at dksJ14_getChars_2_0 22 rfl rfl)
theorem dJ14_getChars_2_23 : decode cJ14_getChars_2 23 = .ok (.bipush (-100), 2) := dk_16 156 (dk_at dksJ14_getChars_2_1 0 rfl rfl)
theorem dJ14_getChars_2_25 : decode cJ14_getChars_2 25 = .ok (.if_icmp .gt 51, 3) := dk_163 0 51 (dk_at dksJ14_getChars_2_1 2 rfl rfl)
theorem dJ14_getChars_2_28 : decode cJ14_getChars_2 28 = .ok (.iload_n 0, 1) := dk_26 (dk_at dksJ14_getChars_2_1 5 rfl rfl)
theorem dJ14_getChars_2_29 : decode cJ14_getChars_2 29 = .ok (.bipush 100, 2) := dk_16 100 (dk_at dksJ14_getChars_2_1 6 rfl rfl)
theorem dJ14_getChars_2_31 : decode cJ14_getChars_2 31 = .ok (.idiv, 1) := dk_108 (dk_at dksJ14_getChars_2_1 8 rfl rfl)
theorem dJ14_getChars_2_32 : decode cJ14_getChars_2 32 = .ok (.istore_n 3, 1) := dk_62 (dk_at dksJ14_getChars_2_1 9 rfl rfl)
theorem dJ14_getChars_2_33 : decode cJ14_getChars_2 33 = .ok (.iload_n 3, 1) := dk_29 (dk_at dksJ14_getChars_2_1 10 rfl rfl)
theorem dJ14_getChars_2_34 : decode cJ14_getChars_2 34 = .ok (.bipush 100, 2) := dk_16 100 (dk_at dksJ14_getChars_2_1 11 rfl rfl)
theorem dJ14_getChars_2_36 : decode cJ14_getChars_2 36 = .ok (.imul, 1) := dk_104 (dk_at dksJ14_getChars_2_1 13 rfl rfl)
theorem dJ14_getChars_2_37 : decode cJ14_getChars_2 37 = .ok (.iload_n 0, 1) := dk_26 (dk_at dksJ14_getChars_2_1 14 rfl rfl)
theorem dJ14_getChars_2_38 : decode cJ14_getChars_2 38 = .ok (.isub, 1) := dk_100 (dk_at dksJ14_getChars_2_1 15 rfl rfl)
theorem dJ14_getChars_2_39 : decode cJ14_getChars_2 39 = .ok (.istore 4, 2) := dk_54 4 (dk_at dksJ14_getChars_2_1 16 rfl rfl)
theorem dJ14_getChars_2_41 : decode cJ14_getChars_2 41 = .ok (.iload_n 3, 1) := dk_29 (dk_at dksJ14_getChars_2_1 18 rfl rfl)
theorem dJ14_getChars_2_42 : decode cJ14_getChars_2 42 = .ok (.istore_n 0, 1) := dk_59 (dk_at dksJ14_getChars_2_1 19 rfl rfl)
theorem dJ14_getChars_2_43 : decode cJ14_getChars_2 43 = .ok (.aload_n 2, 1) := dk_44 (dk_at dksJ14_getChars_2_1 20 rfl rfl)
theorem dJ14_getChars_2_44 : decode cJ14_getChars_2 44 = .ok (.iinc 5 (-1), 3) := dk_132 5 255 (dk_at dksJ14_getChars_2_1 21 rfl rfl)
theorem dJ14_getChars_2_47 : decode cJ14_getChars_2 47 = .ok (.iload 5, 2) := dk_21 5 (dk_at dksJ14_getChars_2_2 0 rfl rfl)
theorem dJ14_getChars_2_49 : decode cJ14_getChars_2 49 = .ok (.getstatic 403, 3) := dk_178 1 147 (dk_at dksJ14_getChars_2_2 2 rfl rfl)
theorem dJ14_getChars_2_52 : decode cJ14_getChars_2 52 = .ok (.iload 4, 2) := dk_21 4 (dk_at dksJ14_getChars_2_2 5 rfl rfl)
theorem dJ14_getChars_2_54 : decode cJ14_getChars_2 54 = .ok (.baload, 1) := dk_51 (dk_at dksJ14_getChars_2_2 7 rfl rfl)
theorem dJ14_getChars_2_55 : decode cJ14_getChars_2 55 = .ok (.invokestatic 111, 3) := dk_184 0 111 (dk_at dksJ14_getChars_2_2 8 rfl rfl)
theorem dJ14_getChars_2_58 : decode cJ14_getChars_2 58 = .ok (.aload_n 2, 1) := dk_44 (dk_at dksJ14_getChars_2_2 11 rfl rfl)
theorem dJ14_getChars_2_59 : decode cJ14_getChars_2 59 = .ok (.iinc 5 (-1), 3) := dk_132 5 255 (dk_at dksJ14_getChars_2_2 12 rfl rfl)
theorem dJ14_getChars_2_62 : decode cJ14_getChars_2 62 = .ok (.iload 5, 2) := dk_21 5 (dk_at dksJ14_getChars_2_2 15 rfl rfl)
theorem dJ14_getChars_2_64 : decode cJ14_getChars_2 64 = .ok (.getstatic 407, 3) := dk_178 1 151 (dk_at dksJ14_getChars_2_2 17 rfl rfl)
theorem dJ14_getChars_2_67 : decode cJ14_getChars_2 67 = .ok (.iload 4, 2) := dk_21 4 (dk_at dksJ14_getChars_2_2 20 rfl rfl)
theorem dJ14_getChars_2_69 : decode cJ14_getChars_2 69 = .ok (.baload, 1) := dk_51 (dk_at dksJ14_getChars_2_2 22 rfl rfl)
theorem dJ14_getChars_2_70 : decode cJ14_getChars_2 70 = .ok (.invokestatic 111, 3) := dk_184 0 111 (dk_at dksJ14_getChars_2_3 0 rfl rfl)
theorem dJ14_getChars_2_73 : decode cJ14_getChars_2 73 = .ok (.goto (-51), 3) := dk_167 255 205 (dk_at dksJ14_getChars_2_3 3 rfl rfl)
theorem dJ14_getChars_2_76 : decode cJ14_getChars_2 76 = .ok (.aload_n 2, 1) := dk_44 (dk_at dksJ14_getChars_2_3 6 rfl rfl)
theorem dJ14_getChars_2_77 : decode cJ14_getChars_2 77 = .ok (.iinc 5 (-1), 3) := dk_132 5 255 (dk_at dksJ14_getChars_2_3 7 rfl rfl)
theorem dJ14_getChars_2_80 : decode cJ14_getChars_2 80 = .ok (.iload 5, 2) := dk_21 5 (dk_at dksJ14_getChars_2_3 10 rfl rfl)
theorem dJ14_getChars_2_82 : decode cJ14_getChars_2 82 = .ok (.getstatic 403, 3) := dk_178 1 147 (dk_at dksJ14_getChars_2_3 12 rfl rfl)
theorem dJ14_getChars_2_85 : decode cJ14_getChars_2 85 = .ok (.iload_n 0, 1) := dk_26 (dk_at dksJ14_getChars_2_3 15 rfl rfl)
theorem dJ14_getChars_2_86 : decode cJ14_getChars_2 86 = .ok (.ineg, 1) := dk_116 (dk_at dksJ14_getChars_2_3 16 rfl rfl)
theorem dJ14_getChars_2_87 : decode cJ14_getChars_2 87 = .ok (.baload, 1) := dk_51 (dk_at dksJ14_getChars_2_3 17 rfl rfl)
theorem dJ14_getChars_2_88 : decode cJ14_getChars_2 88 = .ok (.invokestatic 111, 3) := dk_184 0 111 (dk_at dksJ14_getChars_2_3 18 rfl rfl)
theorem dJ14_getChars_2_91 : decode cJ14_getChars_2 91 = .ok (.iload_n 0, 1) := dk_26 (dk_at dksJ14_getChars_2_3 21 rfl rfl)
theorem dJ14_getChars_2_92 : decode cJ14_getChars_2 92 = .ok (.bipush (-9), 2) := dk_16 247 (dk_at dksJ14_getChars_2_3 22 rfl rfl)
theorem dJ14_getChars_2_94 : decode cJ14_getChars_2 94 = .ok (.if_icmp .ge 18, 3) := dk_162 0 18 (dk_at dksJ14_getChars_2_4 0 rfl rfl)
theorem dJ14_getChars_2_97 : decode cJ14_getChars_2 97 = .ok (.aload_n 2, 1) := dk_44 (dk_at dksJ14_getChars_2_4 3 rfl rfl)
theorem dJ14_getChars_2_98 : decode cJ14_getChars_2 98 = .ok (.iinc 5 (-1), 3) := dk_132 5 255 (dk_at dksJ14_getChars_2_4 4 rfl rfl)
theorem dJ14_getChars_2_101 : decode cJ14_getChars_2 101 = .ok (.iload 5, 2) := dk_21 5 (dk_at dksJ14_getChars_2_4 7 rfl rfl)
theorem dJ14_getChars_2_103 : decode cJ14_getChars_2 103 = .ok (.getstatic 407, 3) := dk_178 1 151 (dk_at dksJ14_getChars_2_4 9 rfl rfl)
theorem dJ14_getChars_2_106 : decode cJ14_getChars_2 106 = .ok (.iload_n 0, 1) := dk_26 (dk_at dksJ14_getChars_2_4 12 rfl rfl)
theorem dJ14_getChars_2_107 : decode cJ14_getChars_2 107 = .ok (.ineg, 1) := dk_116 (dk_at dksJ14_getChars_2_4 13 rfl rfl)
theorem dJ14_getChars_2_108 : decode cJ14_getChars_2 108 = .ok (.baload, 1) := dk_51 (dk_at dksJ14_getChars_2_4 14 rfl rfl)
theorem dJ14_getChars_2_109 : decode cJ14_getChars_2 109 = .ok (.invokestatic 111, 3) := dk_184 0 111 (dk_at dksJ14_getChars_2_4 15 rfl rfl)
theorem dJ14_getChars_2_112 : decode cJ14_getChars_2 112 = .ok (.iload 6, 2) := dk_21 6 (dk_at dksJ14_getChars_2_4 18 rfl rfl)
theorem dJ14_getChars_2_114 : decode cJ14_getChars_2 114 = .ok (.ifCond .eq 14, 3) := dk_153 0 14 (dk_at dksJ14_getChars_2_4 20 rfl rfl)
theorem dJ14_getChars_2_117 : decode cJ14_getChars_2 117 = .ok (.aload_n 2, 1) := dk_44 (dk_at dksJ14_getChars_2_4 23 rfl rfl)
theorem dJ14_getChars_2_118 : decode cJ14_getChars_2 118 = .ok (.iinc 5 (-1), 3) := dk_132 5 255 (dk_at dksJ14_getChars_2_5 0 rfl rfl)
theorem dJ14_getChars_2_121 : decode cJ14_getChars_2 121 = .ok (.iload 5, 2) := dk_21 5 (dk_at dksJ14_getChars_2_5 3 rfl rfl)
theorem dJ14_getChars_2_123 : decode cJ14_getChars_2 123 = .ok (.bipush 45, 2) := dk_16 45 (dk_at dksJ14_getChars_2_5 5 rfl rfl)
theorem dJ14_getChars_2_125 : decode cJ14_getChars_2 125 = .ok (.invokestatic 111, 3) := dk_184 0 111 (dk_at dksJ14_getChars_2_5 7 rfl rfl)
theorem dJ14_getChars_2_128 : decode cJ14_getChars_2 128 = .ok (.iload 5, 2) := dk_21 5 (dk_at dksJ14_getChars_2_5 10 rfl rfl)
theorem dJ14_getChars_2_130 : decode cJ14_getChars_2 130 = .ok (.ireturn, 1) := dk_172 (dk_at dksJ14_getChars_2_5 12 rfl rfl)
abbrev cJ14_putCharsAt : ByteArray := prog_38_method_81_code
def yJ14_putCharsAt : MethodName := ⟨RJ14, "putCharsAt", "([BICCCC)I"⟩
def dkwJ14_putCharsAt_3 : List UInt8 := [21, 6, 172]
abbrev dktJ14_putCharsAt_3 : List UInt8 := dkwJ14_putCharsAt_3 ++ []
def dkwJ14_putCharsAt_2 : List UInt8 := [184, 0, 111, 178, 0, 44, 154, 0, 17, 27, 21, 6, 159, 0, 11, 187, 0, 52, 89, 183, 0, 66, 191]
abbrev dktJ14_putCharsAt_2 : List UInt8 := dkwJ14_putCharsAt_2 ++ dktJ14_putCharsAt_3
def dkwJ14_putCharsAt_1 : List UInt8 := [132, 1, 1, 29, 184, 0, 111, 42, 27, 132, 1, 1, 21, 4, 184, 0, 111, 42, 27, 132, 1, 1, 21, 5]
abbrev dktJ14_putCharsAt_1 : List UInt8 := dkwJ14_putCharsAt_1 ++ dktJ14_putCharsAt_2
def dkwJ14_putCharsAt_0 : List UInt8 := [27, 7, 96, 54, 6, 27, 21, 6, 42, 184, 0, 96, 42, 27, 132, 1, 1, 28, 184, 0, 111, 42, 27]
abbrev dktJ14_putCharsAt_0 : List UInt8 := dkwJ14_putCharsAt_0 ++ dktJ14_putCharsAt_1
theorem dksJ14_putCharsAt_0 : cJ14_putCharsAt.data.toList.drop 0 = dktJ14_putCharsAt_0 := by decide +kernel
theorem dksJ14_putCharsAt_1 : cJ14_putCharsAt.data.toList.drop 23 = dktJ14_putCharsAt_1 := dk_seg dksJ14_putCharsAt_0 23 rfl rfl
theorem dksJ14_putCharsAt_2 : cJ14_putCharsAt.data.toList.drop 47 = dktJ14_putCharsAt_2 := dk_seg dksJ14_putCharsAt_1 24 rfl rfl
theorem dksJ14_putCharsAt_3 : cJ14_putCharsAt.data.toList.drop 70 = dktJ14_putCharsAt_3 := dk_seg dksJ14_putCharsAt_2 23 rfl rfl
theorem dJ14_putCharsAt_0 : decode cJ14_putCharsAt 0 = .ok (.iload_n 1, 1) := dk_27 (dk_at dksJ14_putCharsAt_0 0 rfl rfl)
theorem dJ14_putCharsAt_1 : decode cJ14_putCharsAt 1 = .ok (.iconst 4, 1) := dk_7 (dk_at dksJ14_putCharsAt_0 1 rfl rfl)
theorem dJ14_putCharsAt_2 : decode cJ14_putCharsAt 2 = .ok (.iadd, 1) := dk_96 (dk_at dksJ14_putCharsAt_0 2 rfl rfl)
theorem dJ14_putCharsAt_3 : decode cJ14_putCharsAt 3 = .ok (.istore 6, 2) := dk_54 6 (dk_at dksJ14_putCharsAt_0 3 rfl rfl)
theorem dJ14_putCharsAt_5 : decode cJ14_putCharsAt 5 = .ok (.iload_n 1, 1) := dk_27 (dk_at dksJ14_putCharsAt_0 5 rfl rfl)
theorem dJ14_putCharsAt_6 : decode cJ14_putCharsAt 6 = .ok (.iload 6, 2) := dk_21 6 (dk_at dksJ14_putCharsAt_0 6 rfl rfl)
theorem dJ14_putCharsAt_8 : decode cJ14_putCharsAt 8 = .ok (.aload_n 0, 1) := dk_42 (dk_at dksJ14_putCharsAt_0 8 rfl rfl)
theorem dJ14_putCharsAt_9 : decode cJ14_putCharsAt 9 = .ok (.invokestatic 96, 3) := dk_184 0 96 (dk_at dksJ14_putCharsAt_0 9 rfl rfl)
theorem dJ14_putCharsAt_12 : decode cJ14_putCharsAt 12 = .ok (.aload_n 0, 1) := dk_42 (dk_at dksJ14_putCharsAt_0 12 rfl rfl)
theorem dJ14_putCharsAt_13 : decode cJ14_putCharsAt 13 = .ok (.iload_n 1, 1) := dk_27 (dk_at dksJ14_putCharsAt_0 13 rfl rfl)
theorem dJ14_putCharsAt_14 : decode cJ14_putCharsAt 14 = .ok (.iinc 1 1, 3) := dk_132 1 1 (dk_at dksJ14_putCharsAt_0 14 rfl rfl)
theorem dJ14_putCharsAt_17 : decode cJ14_putCharsAt 17 = .ok (.iload_n 2, 1) := dk_28 (dk_at dksJ14_putCharsAt_0 17 rfl rfl)
theorem dJ14_putCharsAt_18 : decode cJ14_putCharsAt 18 = .ok (.invokestatic 111, 3) := dk_184 0 111 (dk_at dksJ14_putCharsAt_0 18 rfl rfl)
theorem dJ14_putCharsAt_21 : decode cJ14_putCharsAt 21 = .ok (.aload_n 0, 1) := dk_42 (dk_at dksJ14_putCharsAt_0 21 rfl rfl)
theorem dJ14_putCharsAt_22 : decode cJ14_putCharsAt 22 = .ok (.iload_n 1, 1) := dk_27 (dk_at dksJ14_putCharsAt_0 22 rfl rfl)
theorem dJ14_putCharsAt_23 : decode cJ14_putCharsAt 23 = .ok (.iinc 1 1, 3) := dk_132 1 1 (dk_at dksJ14_putCharsAt_1 0 rfl rfl)
theorem dJ14_putCharsAt_26 : decode cJ14_putCharsAt 26 = .ok (.iload_n 3, 1) := dk_29 (dk_at dksJ14_putCharsAt_1 3 rfl rfl)
theorem dJ14_putCharsAt_27 : decode cJ14_putCharsAt 27 = .ok (.invokestatic 111, 3) := dk_184 0 111 (dk_at dksJ14_putCharsAt_1 4 rfl rfl)
theorem dJ14_putCharsAt_30 : decode cJ14_putCharsAt 30 = .ok (.aload_n 0, 1) := dk_42 (dk_at dksJ14_putCharsAt_1 7 rfl rfl)
theorem dJ14_putCharsAt_31 : decode cJ14_putCharsAt 31 = .ok (.iload_n 1, 1) := dk_27 (dk_at dksJ14_putCharsAt_1 8 rfl rfl)
theorem dJ14_putCharsAt_32 : decode cJ14_putCharsAt 32 = .ok (.iinc 1 1, 3) := dk_132 1 1 (dk_at dksJ14_putCharsAt_1 9 rfl rfl)
theorem dJ14_putCharsAt_35 : decode cJ14_putCharsAt 35 = .ok (.iload 4, 2) := dk_21 4 (dk_at dksJ14_putCharsAt_1 12 rfl rfl)
theorem dJ14_putCharsAt_37 : decode cJ14_putCharsAt 37 = .ok (.invokestatic 111, 3) := dk_184 0 111 (dk_at dksJ14_putCharsAt_1 14 rfl rfl)
theorem dJ14_putCharsAt_40 : decode cJ14_putCharsAt 40 = .ok (.aload_n 0, 1) := dk_42 (dk_at dksJ14_putCharsAt_1 17 rfl rfl)
theorem dJ14_putCharsAt_41 : decode cJ14_putCharsAt 41 = .ok (.iload_n 1, 1) := dk_27 (dk_at dksJ14_putCharsAt_1 18 rfl rfl)
theorem dJ14_putCharsAt_42 : decode cJ14_putCharsAt 42 = .ok (.iinc 1 1, 3) := dk_132 1 1 (dk_at dksJ14_putCharsAt_1 19 rfl rfl)
theorem dJ14_putCharsAt_45 : decode cJ14_putCharsAt 45 = .ok (.iload 5, 2) := dk_21 5 (dk_at dksJ14_putCharsAt_1 22 rfl rfl)
theorem dJ14_putCharsAt_47 : decode cJ14_putCharsAt 47 = .ok (.invokestatic 111, 3) := dk_184 0 111 (dk_at dksJ14_putCharsAt_2 0 rfl rfl)
theorem dJ14_putCharsAt_50 : decode cJ14_putCharsAt 50 = .ok (.getstatic 44, 3) := dk_178 0 44 (dk_at dksJ14_putCharsAt_2 3 rfl rfl)
theorem dJ14_putCharsAt_53 : decode cJ14_putCharsAt 53 = .ok (.ifCond .ne 17, 3) := dk_154 0 17 (dk_at dksJ14_putCharsAt_2 6 rfl rfl)
theorem dJ14_putCharsAt_56 : decode cJ14_putCharsAt 56 = .ok (.iload_n 1, 1) := dk_27 (dk_at dksJ14_putCharsAt_2 9 rfl rfl)
theorem dJ14_putCharsAt_57 : decode cJ14_putCharsAt 57 = .ok (.iload 6, 2) := dk_21 6 (dk_at dksJ14_putCharsAt_2 10 rfl rfl)
theorem dJ14_putCharsAt_59 : decode cJ14_putCharsAt 59 = .ok (.if_icmp .eq 11, 3) := dk_159 0 11 (dk_at dksJ14_putCharsAt_2 12 rfl rfl)
theorem dJ14_putCharsAt_62 : decode cJ14_putCharsAt 62 = .ok (.new 52, 3) := dk_187 0 52 (dk_at dksJ14_putCharsAt_2 15 rfl rfl)
theorem dJ14_putCharsAt_65 : decode cJ14_putCharsAt 65 = .ok (.dup, 1) := dk_89 (dk_at dksJ14_putCharsAt_2 18 rfl rfl)
theorem dJ14_putCharsAt_66 : decode cJ14_putCharsAt 66 = .ok (.invokespecial 66, 3) := dk_183 0 66 (dk_at dksJ14_putCharsAt_2 19 rfl rfl)
theorem dJ14_putCharsAt_69 : decode cJ14_putCharsAt 69 = .ok (.athrow, 1) := dk_191 (dk_at dksJ14_putCharsAt_2 22 rfl rfl)
theorem dJ14_putCharsAt_70 : decode cJ14_putCharsAt 70 = .ok (.iload 6, 2) := dk_21 6 (dk_at dksJ14_putCharsAt_3 0 rfl rfl)
theorem dJ14_putCharsAt_72 : decode cJ14_putCharsAt 72 = .ok (.ireturn, 1) := dk_172 (dk_at dksJ14_putCharsAt_3 2 rfl rfl)
abbrev cJ14_compress : ByteArray := prog_38_method_17_code
def yJ14_compress : MethodName := ⟨RJ14, "compress", "([BII)[B"⟩
def dkwJ14_compress_2 : List UInt8 := [25, 5, 3, 45, 3, 28, 184, 0, 123, 28, 159, 0, 6, 25, 5, 176, 45, 176]
abbrev dktJ14_compress_2 : List UInt8 := dkwJ14_compress_2 ++ []
def dkwJ14_compress_1 : List UInt8 := [27, 28, 96, 184, 0, 11, 184, 0, 126, 58, 5, 25, 5, 21, 4, 184, 0, 71, 17, 0, 255, 163, 0, 16]
abbrev dktJ14_compress_1 : List UInt8 := dkwJ14_compress_1 ++ dktJ14_compress_2
def dkwJ14_compress_0 : List UInt8 := [28, 188, 8, 78, 42, 27, 45, 3, 28, 184, 0, 123, 54, 4, 21, 4, 28, 159, 0, 47, 42, 27, 4, 120]
abbrev dktJ14_compress_0 : List UInt8 := dkwJ14_compress_0 ++ dktJ14_compress_1
theorem dksJ14_compress_0 : cJ14_compress.data.toList.drop 0 = dktJ14_compress_0 := by decide +kernel
theorem dksJ14_compress_1 : cJ14_compress.data.toList.drop 24 = dktJ14_compress_1 := dk_seg dksJ14_compress_0 24 rfl rfl
theorem dksJ14_compress_2 : cJ14_compress.data.toList.drop 48 = dktJ14_compress_2 := dk_seg dksJ14_compress_1 24 rfl rfl
theorem dJ14_compress_0 : decode cJ14_compress 0 = .ok (.iload_n 2, 1) := dk_28 (dk_at dksJ14_compress_0 0 rfl rfl)
theorem dJ14_compress_1 : decode cJ14_compress 1 = .ok (.newarray .byte, 2) := dk_188_8 (dk_at dksJ14_compress_0 1 rfl rfl)
theorem dJ14_compress_3 : decode cJ14_compress 3 = .ok (.astore_n 3, 1) := dk_78 (dk_at dksJ14_compress_0 3 rfl rfl)
theorem dJ14_compress_4 : decode cJ14_compress 4 = .ok (.aload_n 0, 1) := dk_42 (dk_at dksJ14_compress_0 4 rfl rfl)
theorem dJ14_compress_5 : decode cJ14_compress 5 = .ok (.iload_n 1, 1) := dk_27 (dk_at dksJ14_compress_0 5 rfl rfl)
theorem dJ14_compress_6 : decode cJ14_compress 6 = .ok (.aload_n 3, 1) := dk_45 (dk_at dksJ14_compress_0 6 rfl rfl)
theorem dJ14_compress_7 : decode cJ14_compress 7 = .ok (.iconst 0, 1) := dk_3 (dk_at dksJ14_compress_0 7 rfl rfl)
theorem dJ14_compress_8 : decode cJ14_compress 8 = .ok (.iload_n 2, 1) := dk_28 (dk_at dksJ14_compress_0 8 rfl rfl)
theorem dJ14_compress_9 : decode cJ14_compress 9 = .ok (.invokestatic 123, 3) := dk_184 0 123 (dk_at dksJ14_compress_0 9 rfl rfl)
theorem dJ14_compress_12 : decode cJ14_compress 12 = .ok (.istore 4, 2) := dk_54 4 (dk_at dksJ14_compress_0 12 rfl rfl)
theorem dJ14_compress_14 : decode cJ14_compress 14 = .ok (.iload 4, 2) := dk_21 4 (dk_at dksJ14_compress_0 14 rfl rfl)
theorem dJ14_compress_16 : decode cJ14_compress 16 = .ok (.iload_n 2, 1) := dk_28 (dk_at dksJ14_compress_0 16 rfl rfl)
theorem dJ14_compress_17 : decode cJ14_compress 17 = .ok (.if_icmp .eq 47, 3) := dk_159 0 47 (dk_at dksJ14_compress_0 17 rfl rfl)
theorem dJ14_compress_20 : decode cJ14_compress 20 = .ok (.aload_n 0, 1) := dk_42 (dk_at dksJ14_compress_0 20 rfl rfl)
theorem dJ14_compress_21 : decode cJ14_compress 21 = .ok (.iload_n 1, 1) := dk_27 (dk_at dksJ14_compress_0 21 rfl rfl)
theorem dJ14_compress_22 : decode cJ14_compress 22 = .ok (.iconst 1, 1) := dk_4 (dk_at dksJ14_compress_0 22 rfl rfl)
theorem dJ14_compress_23 : decode cJ14_compress 23 = .ok (.ishl, 1) := dk_120 (dk_at dksJ14_compress_0 23 rfl rfl)
theorem dJ14_compress_24 : decode cJ14_compress 24 = .ok (.iload_n 1, 1) := dk_27 (dk_at dksJ14_compress_1 0 rfl rfl)
theorem dJ14_compress_25 : decode cJ14_compress 25 = .ok (.iload_n 2, 1) := dk_28 (dk_at dksJ14_compress_1 1 rfl rfl)
theorem dJ14_compress_26 : decode cJ14_compress 26 = .ok (.iadd, 1) := dk_96 (dk_at dksJ14_compress_1 2 rfl rfl)
theorem dJ14_compress_27 : decode cJ14_compress 27 = .ok (.invokestatic 11, 3) := dk_184 0 11 (dk_at dksJ14_compress_1 3 rfl rfl)
theorem dJ14_compress_30 : decode cJ14_compress 30 = .ok (.invokestatic 126, 3) := dk_184 0 126 (dk_at dksJ14_compress_1 6 rfl rfl)
theorem dJ14_compress_33 : decode cJ14_compress 33 = .ok (.astore 5, 2) := dk_58 5 (dk_at dksJ14_compress_1 9 rfl rfl)
theorem dJ14_compress_35 : decode cJ14_compress 35 = .ok (.aload 5, 2) := dk_25 5 (dk_at dksJ14_compress_1 11 rfl rfl)
theorem dJ14_compress_37 : decode cJ14_compress 37 = .ok (.iload 4, 2) := dk_21 4 (dk_at dksJ14_compress_1 13 rfl rfl)
theorem dJ14_compress_39 : decode cJ14_compress 39 = .ok (.invokestatic 71, 3) := dk_184 0 71 (dk_at dksJ14_compress_1 15 rfl rfl)
theorem dJ14_compress_42 : decode cJ14_compress 42 = .ok (.sipush 255, 3) := dk_17 0 255 (dk_at dksJ14_compress_1 18 rfl rfl)
theorem dJ14_compress_45 : decode cJ14_compress 45 = .ok (.if_icmp .gt 16, 3) := dk_163 0 16 (dk_at dksJ14_compress_1 21 rfl rfl)
theorem dJ14_compress_48 : decode cJ14_compress 48 = .ok (.aload 5, 2) := dk_25 5 (dk_at dksJ14_compress_2 0 rfl rfl)
theorem dJ14_compress_50 : decode cJ14_compress 50 = .ok (.iconst 0, 1) := dk_3 (dk_at dksJ14_compress_2 2 rfl rfl)
theorem dJ14_compress_51 : decode cJ14_compress 51 = .ok (.aload_n 3, 1) := dk_45 (dk_at dksJ14_compress_2 3 rfl rfl)
theorem dJ14_compress_52 : decode cJ14_compress 52 = .ok (.iconst 0, 1) := dk_3 (dk_at dksJ14_compress_2 4 rfl rfl)
theorem dJ14_compress_53 : decode cJ14_compress 53 = .ok (.iload_n 2, 1) := dk_28 (dk_at dksJ14_compress_2 5 rfl rfl)
theorem dJ14_compress_54 : decode cJ14_compress 54 = .ok (.invokestatic 123, 3) := dk_184 0 123 (dk_at dksJ14_compress_2 6 rfl rfl)
theorem dJ14_compress_57 : decode cJ14_compress 57 = .ok (.iload_n 2, 1) := dk_28 (dk_at dksJ14_compress_2 9 rfl rfl)
theorem dJ14_compress_58 : decode cJ14_compress 58 = .ok (.if_icmp .eq 6, 3) := dk_159 0 6 (dk_at dksJ14_compress_2 10 rfl rfl)
theorem dJ14_compress_61 : decode cJ14_compress 61 = .ok (.aload 5, 2) := dk_25 5 (dk_at dksJ14_compress_2 13 rfl rfl)
theorem dJ14_compress_63 : decode cJ14_compress 63 = .ok (.areturn, 1) := dk_176 (dk_at dksJ14_compress_2 15 rfl rfl)
theorem dJ14_compress_64 : decode cJ14_compress 64 = .ok (.aload_n 3, 1) := dk_45 (dk_at dksJ14_compress_2 16 rfl rfl)
theorem dJ14_compress_65 : decode cJ14_compress 65 = .ok (.areturn, 1) := dk_176 (dk_at dksJ14_compress_2 17 rfl rfl)
abbrev cJ14_compress_2 : ByteArray := prog_38_method_22_code
def yJ14_compress_2 : MethodName := ⟨RJ14, "compress", "([BI[BII)I"⟩
def dkwJ14_compress_2_2 : List UInt8 := [132, 5, 1, 167, 255, 216, 21, 4, 172]
abbrev dktJ14_compress_2_2 : List UInt8 := dkwJ14_compress_2_2 ++ []
def dkwJ14_compress_2_1 : List UInt8 := [21, 6, 17, 0, 255, 164, 0, 6, 21, 5, 172, 44, 29, 21, 6, 145, 84, 132, 1, 1, 132, 3, 1]
abbrev dktJ14_compress_2_1 : List UInt8 := dkwJ14_compress_2_1 ++ dktJ14_compress_2_2
def dkwJ14_compress_2_0 : List UInt8 := [27, 21, 4, 42, 184, 0, 173, 3, 54, 5, 21, 5, 21, 4, 162, 0, 39, 42, 27, 184, 0, 71, 54, 6]
abbrev dktJ14_compress_2_0 : List UInt8 := dkwJ14_compress_2_0 ++ dktJ14_compress_2_1
theorem dksJ14_compress_2_0 : cJ14_compress_2.data.toList.drop 0 = dktJ14_compress_2_0 := by decide +kernel
theorem dksJ14_compress_2_1 : cJ14_compress_2.data.toList.drop 24 = dktJ14_compress_2_1 := dk_seg dksJ14_compress_2_0 24 rfl rfl
theorem dksJ14_compress_2_2 : cJ14_compress_2.data.toList.drop 47 = dktJ14_compress_2_2 := dk_seg dksJ14_compress_2_1 23 rfl rfl
theorem dJ14_compress_2_0 : decode cJ14_compress_2 0 = .ok (.iload_n 1, 1) := dk_27 (dk_at dksJ14_compress_2_0 0 rfl rfl)
theorem dJ14_compress_2_1 : decode cJ14_compress_2 1 = .ok (.iload 4, 2) := dk_21 4 (dk_at dksJ14_compress_2_0 1 rfl rfl)
theorem dJ14_compress_2_3 : decode cJ14_compress_2 3 = .ok (.aload_n 0, 1) := dk_42 (dk_at dksJ14_compress_2_0 3 rfl rfl)
theorem dJ14_compress_2_4 : decode cJ14_compress_2 4 = .ok (.invokestatic 173, 3) := dk_184 0 173 (dk_at dksJ14_compress_2_0 4 rfl rfl)
theorem dJ14_compress_2_7 : decode cJ14_compress_2 7 = .ok (.iconst 0, 1) := dk_3 (dk_at dksJ14_compress_2_0 7 rfl rfl)
theorem dJ14_compress_2_8 : decode cJ14_compress_2 8 = .ok (.istore 5, 2) := dk_54 5 (dk_at dksJ14_compress_2_0 8 rfl rfl)
theorem dJ14_compress_2_10 : decode cJ14_compress_2 10 = .ok (.iload 5, 2) := dk_21 5 (dk_at dksJ14_compress_2_0 10 rfl rfl)
theorem dJ14_compress_2_12 : decode cJ14_compress_2 12 = .ok (.iload 4, 2) := dk_21 4 (dk_at dksJ14_compress_2_0 12 rfl rfl)
theorem dJ14_compress_2_14 : decode cJ14_compress_2 14 = .ok (.if_icmp .ge 39, 3) := dk_162 0 39 (dk_at dksJ14_compress_2_0 14 rfl rfl)
theorem dJ14_compress_2_17 : decode cJ14_compress_2 17 = .ok (.aload_n 0, 1) := dk_42 (dk_at dksJ14_compress_2_0 17 rfl rfl)
theorem dJ14_compress_2_18 : decode cJ14_compress_2 18 = .ok (.iload_n 1, 1) := dk_27 (dk_at dksJ14_compress_2_0 18 rfl rfl)
theorem dJ14_compress_2_19 : decode cJ14_compress_2 19 = .ok (.invokestatic 71, 3) := dk_184 0 71 (dk_at dksJ14_compress_2_0 19 rfl rfl)
theorem dJ14_compress_2_22 : decode cJ14_compress_2 22 = .ok (.istore 6, 2) := dk_54 6 (dk_at dksJ14_compress_2_0 22 rfl rfl)
theorem dJ14_compress_2_24 : decode cJ14_compress_2 24 = .ok (.iload 6, 2) := dk_21 6 (dk_at dksJ14_compress_2_1 0 rfl rfl)
theorem dJ14_compress_2_26 : decode cJ14_compress_2 26 = .ok (.sipush 255, 3) := dk_17 0 255 (dk_at dksJ14_compress_2_1 2 rfl rfl)
theorem dJ14_compress_2_29 : decode cJ14_compress_2 29 = .ok (.if_icmp .le 6, 3) := dk_164 0 6 (dk_at dksJ14_compress_2_1 5 rfl rfl)
theorem dJ14_compress_2_32 : decode cJ14_compress_2 32 = .ok (.iload 5, 2) := dk_21 5 (dk_at dksJ14_compress_2_1 8 rfl rfl)
theorem dJ14_compress_2_34 : decode cJ14_compress_2 34 = .ok (.ireturn, 1) := dk_172 (dk_at dksJ14_compress_2_1 10 rfl rfl)
theorem dJ14_compress_2_35 : decode cJ14_compress_2 35 = .ok (.aload_n 2, 1) := dk_44 (dk_at dksJ14_compress_2_1 11 rfl rfl)
theorem dJ14_compress_2_36 : decode cJ14_compress_2 36 = .ok (.iload_n 3, 1) := dk_29 (dk_at dksJ14_compress_2_1 12 rfl rfl)
theorem dJ14_compress_2_37 : decode cJ14_compress_2 37 = .ok (.iload 6, 2) := dk_21 6 (dk_at dksJ14_compress_2_1 13 rfl rfl)
theorem dJ14_compress_2_39 : decode cJ14_compress_2 39 = .ok (.i2b, 1) := dk_145 (dk_at dksJ14_compress_2_1 15 rfl rfl)
theorem dJ14_compress_2_40 : decode cJ14_compress_2 40 = .ok (.bastore, 1) := dk_84 (dk_at dksJ14_compress_2_1 16 rfl rfl)
theorem dJ14_compress_2_41 : decode cJ14_compress_2 41 = .ok (.iinc 1 1, 3) := dk_132 1 1 (dk_at dksJ14_compress_2_1 17 rfl rfl)
theorem dJ14_compress_2_44 : decode cJ14_compress_2 44 = .ok (.iinc 3 1, 3) := dk_132 3 1 (dk_at dksJ14_compress_2_1 20 rfl rfl)
theorem dJ14_compress_2_47 : decode cJ14_compress_2 47 = .ok (.iinc 5 1, 3) := dk_132 5 1 (dk_at dksJ14_compress_2_2 0 rfl rfl)
theorem dJ14_compress_2_50 : decode cJ14_compress_2 50 = .ok (.goto (-40), 3) := dk_167 255 216 (dk_at dksJ14_compress_2_2 3 rfl rfl)
theorem dJ14_compress_2_53 : decode cJ14_compress_2 53 = .ok (.iload 4, 2) := dk_21 4 (dk_at dksJ14_compress_2_2 6 rfl rfl)
theorem dJ14_compress_2_55 : decode cJ14_compress_2 55 = .ok (.ireturn, 1) := dk_172 (dk_at dksJ14_compress_2_2 8 rfl rfl)
abbrev cJ14_getChar : ByteArray := prog_38_method_5_code
def yJ14_getChar : MethodName := ⟨RJ14, "getChar", "([BI)C"⟩
def dkwJ14_getChar_2 : List UInt8 := [51, 17, 0, 255, 126, 178, 0, 63, 120, 128, 146, 172]
abbrev dktJ14_getChar_2 : List UInt8 := dkwJ14_getChar_2 ++ []
def dkwJ14_getChar_1 : List UInt8 := [183, 0, 56, 191, 27, 4, 120, 60, 42, 27, 132, 1, 1, 51, 17, 0, 255, 126, 178, 0, 59, 120, 42, 27]
abbrev dktJ14_getChar_1 : List UInt8 := dkwJ14_getChar_1 ++ dktJ14_getChar_2
def dkwJ14_getChar_0 : List UInt8 := [178, 0, 44, 154, 0, 25, 27, 155, 0, 11, 27, 42, 184, 0, 48, 161, 0, 13, 187, 0, 52, 89, 18, 54]
abbrev dktJ14_getChar_0 : List UInt8 := dkwJ14_getChar_0 ++ dktJ14_getChar_1
theorem dksJ14_getChar_0 : cJ14_getChar.data.toList.drop 0 = dktJ14_getChar_0 := by decide +kernel
theorem dksJ14_getChar_1 : cJ14_getChar.data.toList.drop 24 = dktJ14_getChar_1 := dk_seg dksJ14_getChar_0 24 rfl rfl
theorem dksJ14_getChar_2 : cJ14_getChar.data.toList.drop 48 = dktJ14_getChar_2 := dk_seg dksJ14_getChar_1 24 rfl rfl
theorem dJ14_getChar_0 : decode cJ14_getChar 0 = .ok (.getstatic 44, 3) := dk_178 0 44 (dk_at dksJ14_getChar_0 0 rfl rfl)
theorem dJ14_getChar_3 : decode cJ14_getChar 3 = .ok (.ifCond .ne 25, 3) := dk_154 0 25 (dk_at dksJ14_getChar_0 3 rfl rfl)
theorem dJ14_getChar_6 : decode cJ14_getChar 6 = .ok (.iload_n 1, 1) := dk_27 (dk_at dksJ14_getChar_0 6 rfl rfl)
theorem dJ14_getChar_7 : decode cJ14_getChar 7 = .ok (.ifCond .lt 11, 3) := dk_155 0 11 (dk_at dksJ14_getChar_0 7 rfl rfl)
theorem dJ14_getChar_10 : decode cJ14_getChar 10 = .ok (.iload_n 1, 1) := dk_27 (dk_at dksJ14_getChar_0 10 rfl rfl)
theorem dJ14_getChar_11 : decode cJ14_getChar 11 = .ok (.aload_n 0, 1) := dk_42 (dk_at dksJ14_getChar_0 11 rfl rfl)
theorem dJ14_getChar_12 : decode cJ14_getChar 12 = .ok (.invokestatic 48, 3) := dk_184 0 48 (dk_at dksJ14_getChar_0 12 rfl rfl)
theorem dJ14_getChar_15 : decode cJ14_getChar 15 = .ok (.if_icmp .lt 13, 3) := dk_161 0 13 (dk_at dksJ14_getChar_0 15 rfl rfl)
theorem dJ14_getChar_18 : decode cJ14_getChar 18 = .ok (.new 52, 3) := dk_187 0 52 (dk_at dksJ14_getChar_0 18 rfl rfl)
theorem dJ14_getChar_21 : decode cJ14_getChar 21 = .ok (.dup, 1) := dk_89 (dk_at dksJ14_getChar_0 21 rfl rfl)
theorem dJ14_getChar_22 : decode cJ14_getChar 22 = .ok (.ldc 54, 2) := dk_18 54 (dk_at dksJ14_getChar_0 22 rfl rfl)
theorem dJ14_getChar_24 : decode cJ14_getChar 24 = .ok (.invokespecial 56, 3) := dk_183 0 56 (dk_at dksJ14_getChar_1 0 rfl rfl)
theorem dJ14_getChar_27 : decode cJ14_getChar 27 = .ok (.athrow, 1) := dk_191 (dk_at dksJ14_getChar_1 3 rfl rfl)
theorem dJ14_getChar_28 : decode cJ14_getChar 28 = .ok (.iload_n 1, 1) := dk_27 (dk_at dksJ14_getChar_1 4 rfl rfl)
theorem dJ14_getChar_29 : decode cJ14_getChar 29 = .ok (.iconst 1, 1) := dk_4 (dk_at dksJ14_getChar_1 5 rfl rfl)
theorem dJ14_getChar_30 : decode cJ14_getChar 30 = .ok (.ishl, 1) := dk_120 (dk_at dksJ14_getChar_1 6 rfl rfl)
theorem dJ14_getChar_31 : decode cJ14_getChar 31 = .ok (.istore_n 1, 1) := dk_60 (dk_at dksJ14_getChar_1 7 rfl rfl)
theorem dJ14_getChar_32 : decode cJ14_getChar 32 = .ok (.aload_n 0, 1) := dk_42 (dk_at dksJ14_getChar_1 8 rfl rfl)
theorem dJ14_getChar_33 : decode cJ14_getChar 33 = .ok (.iload_n 1, 1) := dk_27 (dk_at dksJ14_getChar_1 9 rfl rfl)
theorem dJ14_getChar_34 : decode cJ14_getChar 34 = .ok (.iinc 1 1, 3) := dk_132 1 1 (dk_at dksJ14_getChar_1 10 rfl rfl)
theorem dJ14_getChar_37 : decode cJ14_getChar 37 = .ok (.baload, 1) := dk_51 (dk_at dksJ14_getChar_1 13 rfl rfl)
theorem dJ14_getChar_38 : decode cJ14_getChar 38 = .ok (.sipush 255, 3) := dk_17 0 255 (dk_at dksJ14_getChar_1 14 rfl rfl)
theorem dJ14_getChar_41 : decode cJ14_getChar 41 = .ok (.iand, 1) := dk_126 (dk_at dksJ14_getChar_1 17 rfl rfl)
theorem dJ14_getChar_42 : decode cJ14_getChar 42 = .ok (.getstatic 59, 3) := dk_178 0 59 (dk_at dksJ14_getChar_1 18 rfl rfl)
theorem dJ14_getChar_45 : decode cJ14_getChar 45 = .ok (.ishl, 1) := dk_120 (dk_at dksJ14_getChar_1 21 rfl rfl)
theorem dJ14_getChar_46 : decode cJ14_getChar 46 = .ok (.aload_n 0, 1) := dk_42 (dk_at dksJ14_getChar_1 22 rfl rfl)
theorem dJ14_getChar_47 : decode cJ14_getChar 47 = .ok (.iload_n 1, 1) := dk_27 (dk_at dksJ14_getChar_1 23 rfl rfl)
theorem dJ14_getChar_48 : decode cJ14_getChar 48 = .ok (.baload, 1) := dk_51 (dk_at dksJ14_getChar_2 0 rfl rfl)
theorem dJ14_getChar_49 : decode cJ14_getChar 49 = .ok (.sipush 255, 3) := dk_17 0 255 (dk_at dksJ14_getChar_2 1 rfl rfl)
theorem dJ14_getChar_52 : decode cJ14_getChar 52 = .ok (.iand, 1) := dk_126 (dk_at dksJ14_getChar_2 4 rfl rfl)
theorem dJ14_getChar_53 : decode cJ14_getChar 53 = .ok (.getstatic 63, 3) := dk_178 0 63 (dk_at dksJ14_getChar_2 5 rfl rfl)
theorem dJ14_getChar_56 : decode cJ14_getChar 56 = .ok (.ishl, 1) := dk_120 (dk_at dksJ14_getChar_2 8 rfl rfl)
theorem dJ14_getChar_57 : decode cJ14_getChar 57 = .ok (.ior, 1) := dk_128 (dk_at dksJ14_getChar_2 9 rfl rfl)
theorem dJ14_getChar_58 : decode cJ14_getChar 58 = .ok (.i2c, 1) := dk_146 (dk_at dksJ14_getChar_2 10 rfl rfl)
theorem dJ14_getChar_59 : decode cJ14_getChar 59 = .ok (.ireturn, 1) := dk_172 (dk_at dksJ14_getChar_2 11 rfl rfl)
abbrev cJ14_coderFromArrayLen : ByteArray := prog_38_method_15_code
def yJ14_coderFromArrayLen : MethodName := ⟨RJ14, "coderFromArrayLen", "([BI)B"⟩
def dkwJ14_coderFromArrayLen_0 : List UInt8 := [27, 42, 190, 100, 16, 31, 124, 145, 172]
abbrev dktJ14_coderFromArrayLen_0 : List UInt8 := dkwJ14_coderFromArrayLen_0 ++ []
theorem dksJ14_coderFromArrayLen_0 : cJ14_coderFromArrayLen.data.toList.drop 0 = dktJ14_coderFromArrayLen_0 := by decide +kernel
theorem dJ14_coderFromArrayLen_0 : decode cJ14_coderFromArrayLen 0 = .ok (.iload_n 1, 1) := dk_27 (dk_at dksJ14_coderFromArrayLen_0 0 rfl rfl)
theorem dJ14_coderFromArrayLen_1 : decode cJ14_coderFromArrayLen 1 = .ok (.aload_n 0, 1) := dk_42 (dk_at dksJ14_coderFromArrayLen_0 1 rfl rfl)
theorem dJ14_coderFromArrayLen_2 : decode cJ14_coderFromArrayLen 2 = .ok (.arraylength, 1) := dk_190 (dk_at dksJ14_coderFromArrayLen_0 2 rfl rfl)
theorem dJ14_coderFromArrayLen_3 : decode cJ14_coderFromArrayLen 3 = .ok (.isub, 1) := dk_100 (dk_at dksJ14_coderFromArrayLen_0 3 rfl rfl)
theorem dJ14_coderFromArrayLen_4 : decode cJ14_coderFromArrayLen 4 = .ok (.bipush 31, 2) := dk_16 31 (dk_at dksJ14_coderFromArrayLen_0 4 rfl rfl)
theorem dJ14_coderFromArrayLen_6 : decode cJ14_coderFromArrayLen 6 = .ok (.iushr, 1) := dk_124 (dk_at dksJ14_coderFromArrayLen_0 6 rfl rfl)
theorem dJ14_coderFromArrayLen_7 : decode cJ14_coderFromArrayLen 7 = .ok (.i2b, 1) := dk_145 (dk_at dksJ14_coderFromArrayLen_0 7 rfl rfl)
theorem dJ14_coderFromArrayLen_8 : decode cJ14_coderFromArrayLen 8 = .ok (.ireturn, 1) := dk_172 (dk_at dksJ14_coderFromArrayLen_0 8 rfl rfl)
abbrev cJ14_charAt : ByteArray := prog_38_method_83_code
def yJ14_charAt : MethodName := ⟨RJ14, "charAt", "([BI)C"⟩
def dkwJ14_charAt_0 : List UInt8 := [27, 42, 184, 0, 67, 42, 27, 184, 0, 71, 172]
abbrev dktJ14_charAt_0 : List UInt8 := dkwJ14_charAt_0 ++ []
theorem dksJ14_charAt_0 : cJ14_charAt.data.toList.drop 0 = dktJ14_charAt_0 := by decide +kernel
theorem dJ14_charAt_0 : decode cJ14_charAt 0 = .ok (.iload_n 1, 1) := dk_27 (dk_at dksJ14_charAt_0 0 rfl rfl)
theorem dJ14_charAt_1 : decode cJ14_charAt 1 = .ok (.aload_n 0, 1) := dk_42 (dk_at dksJ14_charAt_0 1 rfl rfl)
theorem dJ14_charAt_2 : decode cJ14_charAt 2 = .ok (.invokestatic 67, 3) := dk_184 0 67 (dk_at dksJ14_charAt_0 2 rfl rfl)
theorem dJ14_charAt_5 : decode cJ14_charAt 5 = .ok (.aload_n 0, 1) := dk_42 (dk_at dksJ14_charAt_0 5 rfl rfl)
theorem dJ14_charAt_6 : decode cJ14_charAt 6 = .ok (.iload_n 1, 1) := dk_27 (dk_at dksJ14_charAt_0 6 rfl rfl)
theorem dJ14_charAt_7 : decode cJ14_charAt 7 = .ok (.invokestatic 71, 3) := dk_184 0 71 (dk_at dksJ14_charAt_0 7 rfl rfl)
theorem dJ14_charAt_10 : decode cJ14_charAt 10 = .ok (.ireturn, 1) := dk_172 (dk_at dksJ14_charAt_0 10 rfl rfl)
abbrev cJ14_newString : ByteArray := prog_38_method_69_code
def yJ14_newString : MethodName := ⟨RJ14, "newString", "([BII)Ljava/lang/String;"⟩
def dkwJ14_newString_2 : List UInt8 := [42, 27, 4, 120, 29, 4, 120, 184, 0, 126, 4, 183, 1, 7, 176]
abbrev dktJ14_newString_2 : List UInt8 := dkwJ14_newString_2 ++ []
def dkwJ14_newString_1 : List UInt8 := [184, 1, 3, 54, 4, 187, 0, 3, 89, 45, 21, 4, 183, 1, 7, 176, 27, 28, 96, 62, 187, 0, 3, 89]
abbrev dktJ14_newString_1 : List UInt8 := dkwJ14_newString_1 ++ dktJ14_newString_2
def dkwJ14_newString_0 : List UInt8 := [28, 154, 0, 7, 19, 1, 39, 176, 178, 0, 251, 153, 0, 28, 42, 27, 28, 184, 1, 1, 78, 45, 28]
abbrev dktJ14_newString_0 : List UInt8 := dkwJ14_newString_0 ++ dktJ14_newString_1
theorem dksJ14_newString_0 : cJ14_newString.data.toList.drop 0 = dktJ14_newString_0 := by decide +kernel
theorem dksJ14_newString_1 : cJ14_newString.data.toList.drop 23 = dktJ14_newString_1 := dk_seg dksJ14_newString_0 23 rfl rfl
theorem dksJ14_newString_2 : cJ14_newString.data.toList.drop 47 = dktJ14_newString_2 := dk_seg dksJ14_newString_1 24 rfl rfl
theorem dJ14_newString_0 : decode cJ14_newString 0 = .ok (.iload_n 2, 1) := dk_28 (dk_at dksJ14_newString_0 0 rfl rfl)
theorem dJ14_newString_1 : decode cJ14_newString 1 = .ok (.ifCond .ne 7, 3) := dk_154 0 7 (dk_at dksJ14_newString_0 1 rfl rfl)
theorem dJ14_newString_4 : decode cJ14_newString 4 = .ok (.ldc_w 295, 3) := dk_19 1 39 (dk_at dksJ14_newString_0 4 rfl rfl)
theorem dJ14_newString_7 : decode cJ14_newString 7 = .ok (.areturn, 1) := dk_176 (dk_at dksJ14_newString_0 7 rfl rfl)
theorem dJ14_newString_8 : decode cJ14_newString 8 = .ok (.getstatic 251, 3) := dk_178 0 251 (dk_at dksJ14_newString_0 8 rfl rfl)
theorem dJ14_newString_11 : decode cJ14_newString 11 = .ok (.ifCond .eq 28, 3) := dk_153 0 28 (dk_at dksJ14_newString_0 11 rfl rfl)
theorem dJ14_newString_14 : decode cJ14_newString 14 = .ok (.aload_n 0, 1) := dk_42 (dk_at dksJ14_newString_0 14 rfl rfl)
theorem dJ14_newString_15 : decode cJ14_newString 15 = .ok (.iload_n 1, 1) := dk_27 (dk_at dksJ14_newString_0 15 rfl rfl)
theorem dJ14_newString_16 : decode cJ14_newString 16 = .ok (.iload_n 2, 1) := dk_28 (dk_at dksJ14_newString_0 16 rfl rfl)
theorem dJ14_newString_17 : decode cJ14_newString 17 = .ok (.invokestatic 257, 3) := dk_184 1 1 (dk_at dksJ14_newString_0 17 rfl rfl)
theorem dJ14_newString_20 : decode cJ14_newString 20 = .ok (.astore_n 3, 1) := dk_78 (dk_at dksJ14_newString_0 20 rfl rfl)
theorem dJ14_newString_21 : decode cJ14_newString 21 = .ok (.aload_n 3, 1) := dk_45 (dk_at dksJ14_newString_0 21 rfl rfl)
theorem dJ14_newString_22 : decode cJ14_newString 22 = .ok (.iload_n 2, 1) := dk_28 (dk_at dksJ14_newString_0 22 rfl rfl)
theorem dJ14_newString_23 : decode cJ14_newString 23 = .ok (.invokestatic 259, 3) := dk_184 1 3 (dk_at dksJ14_newString_1 0 rfl rfl)
theorem dJ14_newString_26 : decode cJ14_newString 26 = .ok (.istore 4, 2) := dk_54 4 (dk_at dksJ14_newString_1 3 rfl rfl)
theorem dJ14_newString_28 : decode cJ14_newString 28 = .ok (.new 3, 3) := dk_187 0 3 (dk_at dksJ14_newString_1 5 rfl rfl)
theorem dJ14_newString_31 : decode cJ14_newString 31 = .ok (.dup, 1) := dk_89 (dk_at dksJ14_newString_1 8 rfl rfl)
theorem dJ14_newString_32 : decode cJ14_newString 32 = .ok (.aload_n 3, 1) := dk_45 (dk_at dksJ14_newString_1 9 rfl rfl)
theorem dJ14_newString_33 : decode cJ14_newString 33 = .ok (.iload 4, 2) := dk_21 4 (dk_at dksJ14_newString_1 10 rfl rfl)
theorem dJ14_newString_35 : decode cJ14_newString 35 = .ok (.invokespecial 263, 3) := dk_183 1 7 (dk_at dksJ14_newString_1 12 rfl rfl)
theorem dJ14_newString_38 : decode cJ14_newString 38 = .ok (.areturn, 1) := dk_176 (dk_at dksJ14_newString_1 15 rfl rfl)
theorem dJ14_newString_39 : decode cJ14_newString 39 = .ok (.iload_n 1, 1) := dk_27 (dk_at dksJ14_newString_1 16 rfl rfl)
theorem dJ14_newString_40 : decode cJ14_newString 40 = .ok (.iload_n 2, 1) := dk_28 (dk_at dksJ14_newString_1 17 rfl rfl)
theorem dJ14_newString_41 : decode cJ14_newString 41 = .ok (.iadd, 1) := dk_96 (dk_at dksJ14_newString_1 18 rfl rfl)
theorem dJ14_newString_42 : decode cJ14_newString 42 = .ok (.istore_n 3, 1) := dk_62 (dk_at dksJ14_newString_1 19 rfl rfl)
theorem dJ14_newString_43 : decode cJ14_newString 43 = .ok (.new 3, 3) := dk_187 0 3 (dk_at dksJ14_newString_1 20 rfl rfl)
theorem dJ14_newString_46 : decode cJ14_newString 46 = .ok (.dup, 1) := dk_89 (dk_at dksJ14_newString_1 23 rfl rfl)
theorem dJ14_newString_47 : decode cJ14_newString 47 = .ok (.aload_n 0, 1) := dk_42 (dk_at dksJ14_newString_2 0 rfl rfl)
theorem dJ14_newString_48 : decode cJ14_newString 48 = .ok (.iload_n 1, 1) := dk_27 (dk_at dksJ14_newString_2 1 rfl rfl)
theorem dJ14_newString_49 : decode cJ14_newString 49 = .ok (.iconst 1, 1) := dk_4 (dk_at dksJ14_newString_2 2 rfl rfl)
theorem dJ14_newString_50 : decode cJ14_newString 50 = .ok (.ishl, 1) := dk_120 (dk_at dksJ14_newString_2 3 rfl rfl)
theorem dJ14_newString_51 : decode cJ14_newString 51 = .ok (.iload_n 3, 1) := dk_29 (dk_at dksJ14_newString_2 4 rfl rfl)
theorem dJ14_newString_52 : decode cJ14_newString 52 = .ok (.iconst 1, 1) := dk_4 (dk_at dksJ14_newString_2 5 rfl rfl)
theorem dJ14_newString_53 : decode cJ14_newString 53 = .ok (.ishl, 1) := dk_120 (dk_at dksJ14_newString_2 6 rfl rfl)
theorem dJ14_newString_54 : decode cJ14_newString 54 = .ok (.invokestatic 126, 3) := dk_184 0 126 (dk_at dksJ14_newString_2 7 rfl rfl)
theorem dJ14_newString_57 : decode cJ14_newString 57 = .ok (.iconst 1, 1) := dk_4 (dk_at dksJ14_newString_2 10 rfl rfl)
theorem dJ14_newString_58 : decode cJ14_newString 58 = .ok (.invokespecial 263, 3) := dk_183 1 7 (dk_at dksJ14_newString_2 11 rfl rfl)
theorem dJ14_newString_61 : decode cJ14_newString 61 = .ok (.areturn, 1) := dk_176 (dk_at dksJ14_newString_2 14 rfl rfl)
abbrev cJ14_indexOf : ByteArray := prog_38_method_40_code
def yJ14_indexOf : MethodName := ⟨RJ14, "indexOf", "([BIII)I"⟩
def dkwJ14_indexOf_1 : List UInt8 := [18, 227, 162, 0, 11, 42, 27, 28, 29, 184, 0, 228, 172, 42, 27, 28, 29, 184, 0, 232, 172]
abbrev dktJ14_indexOf_1 : List UInt8 := dkwJ14_indexOf_1 ++ []
def dkwJ14_indexOf_0 : List UInt8 := [28, 3, 184, 0, 224, 61, 29, 42, 190, 4, 122, 184, 0, 183, 62, 28, 29, 161, 0, 5, 2, 172, 27]
abbrev dktJ14_indexOf_0 : List UInt8 := dkwJ14_indexOf_0 ++ dktJ14_indexOf_1
theorem dksJ14_indexOf_0 : cJ14_indexOf.data.toList.drop 0 = dktJ14_indexOf_0 := by decide +kernel
theorem dksJ14_indexOf_1 : cJ14_indexOf.data.toList.drop 23 = dktJ14_indexOf_1 := dk_seg dksJ14_indexOf_0 23 rfl rfl
theorem dJ14_indexOf_0 : decode cJ14_indexOf 0 = .ok (.iload_n 2, 1) := dk_28 (dk_at dksJ14_indexOf_0 0 rfl rfl)
theorem dJ14_indexOf_1 : decode cJ14_indexOf 1 = .ok (.iconst 0, 1) := dk_3 (dk_at dksJ14_indexOf_0 1 rfl rfl)
theorem dJ14_indexOf_2 : decode cJ14_indexOf 2 = .ok (.invokestatic 224, 3) := dk_184 0 224 (dk_at dksJ14_indexOf_0 2 rfl rfl)
theorem dJ14_indexOf_5 : decode cJ14_indexOf 5 = .ok (.istore_n 2, 1) := dk_61 (dk_at dksJ14_indexOf_0 5 rfl rfl)
theorem dJ14_indexOf_6 : decode cJ14_indexOf 6 = .ok (.iload_n 3, 1) := dk_29 (dk_at dksJ14_indexOf_0 6 rfl rfl)
theorem dJ14_indexOf_7 : decode cJ14_indexOf 7 = .ok (.aload_n 0, 1) := dk_42 (dk_at dksJ14_indexOf_0 7 rfl rfl)
theorem dJ14_indexOf_8 : decode cJ14_indexOf 8 = .ok (.arraylength, 1) := dk_190 (dk_at dksJ14_indexOf_0 8 rfl rfl)
theorem dJ14_indexOf_9 : decode cJ14_indexOf 9 = .ok (.iconst 1, 1) := dk_4 (dk_at dksJ14_indexOf_0 9 rfl rfl)
theorem dJ14_indexOf_10 : decode cJ14_indexOf 10 = .ok (.ishr, 1) := dk_122 (dk_at dksJ14_indexOf_0 10 rfl rfl)
theorem dJ14_indexOf_11 : decode cJ14_indexOf 11 = .ok (.invokestatic 183, 3) := dk_184 0 183 (dk_at dksJ14_indexOf_0 11 rfl rfl)
theorem dJ14_indexOf_14 : decode cJ14_indexOf 14 = .ok (.istore_n 3, 1) := dk_62 (dk_at dksJ14_indexOf_0 14 rfl rfl)
theorem dJ14_indexOf_15 : decode cJ14_indexOf 15 = .ok (.iload_n 2, 1) := dk_28 (dk_at dksJ14_indexOf_0 15 rfl rfl)
theorem dJ14_indexOf_16 : decode cJ14_indexOf 16 = .ok (.iload_n 3, 1) := dk_29 (dk_at dksJ14_indexOf_0 16 rfl rfl)
theorem dJ14_indexOf_17 : decode cJ14_indexOf 17 = .ok (.if_icmp .lt 5, 3) := dk_161 0 5 (dk_at dksJ14_indexOf_0 17 rfl rfl)
theorem dJ14_indexOf_20 : decode cJ14_indexOf 20 = .ok (.iconst (-1), 1) := dk_2 (dk_at dksJ14_indexOf_0 20 rfl rfl)
theorem dJ14_indexOf_21 : decode cJ14_indexOf 21 = .ok (.ireturn, 1) := dk_172 (dk_at dksJ14_indexOf_0 21 rfl rfl)
theorem dJ14_indexOf_22 : decode cJ14_indexOf 22 = .ok (.iload_n 1, 1) := dk_27 (dk_at dksJ14_indexOf_0 22 rfl rfl)
theorem dJ14_indexOf_23 : decode cJ14_indexOf 23 = .ok (.ldc 227, 2) := dk_18 227 (dk_at dksJ14_indexOf_1 0 rfl rfl)
theorem dJ14_indexOf_25 : decode cJ14_indexOf 25 = .ok (.if_icmp .ge 11, 3) := dk_162 0 11 (dk_at dksJ14_indexOf_1 2 rfl rfl)
theorem dJ14_indexOf_28 : decode cJ14_indexOf 28 = .ok (.aload_n 0, 1) := dk_42 (dk_at dksJ14_indexOf_1 5 rfl rfl)
theorem dJ14_indexOf_29 : decode cJ14_indexOf 29 = .ok (.iload_n 1, 1) := dk_27 (dk_at dksJ14_indexOf_1 6 rfl rfl)
theorem dJ14_indexOf_30 : decode cJ14_indexOf 30 = .ok (.iload_n 2, 1) := dk_28 (dk_at dksJ14_indexOf_1 7 rfl rfl)
theorem dJ14_indexOf_31 : decode cJ14_indexOf 31 = .ok (.iload_n 3, 1) := dk_29 (dk_at dksJ14_indexOf_1 8 rfl rfl)
theorem dJ14_indexOf_32 : decode cJ14_indexOf 32 = .ok (.invokestatic 228, 3) := dk_184 0 228 (dk_at dksJ14_indexOf_1 9 rfl rfl)
theorem dJ14_indexOf_35 : decode cJ14_indexOf 35 = .ok (.ireturn, 1) := dk_172 (dk_at dksJ14_indexOf_1 12 rfl rfl)
theorem dJ14_indexOf_36 : decode cJ14_indexOf 36 = .ok (.aload_n 0, 1) := dk_42 (dk_at dksJ14_indexOf_1 13 rfl rfl)
theorem dJ14_indexOf_37 : decode cJ14_indexOf 37 = .ok (.iload_n 1, 1) := dk_27 (dk_at dksJ14_indexOf_1 14 rfl rfl)
theorem dJ14_indexOf_38 : decode cJ14_indexOf 38 = .ok (.iload_n 2, 1) := dk_28 (dk_at dksJ14_indexOf_1 15 rfl rfl)
theorem dJ14_indexOf_39 : decode cJ14_indexOf 39 = .ok (.iload_n 3, 1) := dk_29 (dk_at dksJ14_indexOf_1 16 rfl rfl)
theorem dJ14_indexOf_40 : decode cJ14_indexOf 40 = .ok (.invokestatic 232, 3) := dk_184 0 232 (dk_at dksJ14_indexOf_1 17 rfl rfl)
theorem dJ14_indexOf_43 : decode cJ14_indexOf 43 = .ok (.ireturn, 1) := dk_172 (dk_at dksJ14_indexOf_1 20 rfl rfl)
abbrev cJ14_indexOfChar : ByteArray := prog_38_method_47_code
def yJ14_indexOfChar : MethodName := ⟨RJ14, "indexOfChar", "([BIII)I"⟩
def dkwJ14_indexOfChar_0 : List UInt8 := [28, 29, 42, 184, 0, 96, 42, 27, 28, 29, 184, 0, 244, 172]
abbrev dktJ14_indexOfChar_0 : List UInt8 := dkwJ14_indexOfChar_0 ++ []
theorem dksJ14_indexOfChar_0 : cJ14_indexOfChar.data.toList.drop 0 = dktJ14_indexOfChar_0 := by decide +kernel
theorem dJ14_indexOfChar_0 : decode cJ14_indexOfChar 0 = .ok (.iload_n 2, 1) := dk_28 (dk_at dksJ14_indexOfChar_0 0 rfl rfl)
theorem dJ14_indexOfChar_1 : decode cJ14_indexOfChar 1 = .ok (.iload_n 3, 1) := dk_29 (dk_at dksJ14_indexOfChar_0 1 rfl rfl)
theorem dJ14_indexOfChar_2 : decode cJ14_indexOfChar 2 = .ok (.aload_n 0, 1) := dk_42 (dk_at dksJ14_indexOfChar_0 2 rfl rfl)
theorem dJ14_indexOfChar_3 : decode cJ14_indexOfChar 3 = .ok (.invokestatic 96, 3) := dk_184 0 96 (dk_at dksJ14_indexOfChar_0 3 rfl rfl)
theorem dJ14_indexOfChar_6 : decode cJ14_indexOfChar 6 = .ok (.aload_n 0, 1) := dk_42 (dk_at dksJ14_indexOfChar_0 6 rfl rfl)
theorem dJ14_indexOfChar_7 : decode cJ14_indexOfChar 7 = .ok (.iload_n 1, 1) := dk_27 (dk_at dksJ14_indexOfChar_0 7 rfl rfl)
theorem dJ14_indexOfChar_8 : decode cJ14_indexOfChar 8 = .ok (.iload_n 2, 1) := dk_28 (dk_at dksJ14_indexOfChar_0 8 rfl rfl)
theorem dJ14_indexOfChar_9 : decode cJ14_indexOfChar 9 = .ok (.iload_n 3, 1) := dk_29 (dk_at dksJ14_indexOfChar_0 9 rfl rfl)
theorem dJ14_indexOfChar_10 : decode cJ14_indexOfChar 10 = .ok (.invokestatic 244, 3) := dk_184 0 244 (dk_at dksJ14_indexOfChar_0 10 rfl rfl)
theorem dJ14_indexOfChar_13 : decode cJ14_indexOfChar 13 = .ok (.ireturn, 1) := dk_172 (dk_at dksJ14_indexOfChar_0 13 rfl rfl)
abbrev cJ14_indexOfCharUnsafe : ByteArray := prog_38_method_48_code
def yJ14_indexOfCharUnsafe : MethodName := ⟨RJ14, "indexOfCharUnsafe", "([BIII)I"⟩
def dkwJ14_indexOfCharUnsafe_1 : List UInt8 := [132, 4, 1, 167, 255, 234, 2, 172]
abbrev dktJ14_indexOfCharUnsafe_1 : List UInt8 := dkwJ14_indexOfCharUnsafe_1 ++ []
def dkwJ14_indexOfCharUnsafe_0 : List UInt8 := [28, 54, 4, 21, 4, 29, 162, 0, 22, 42, 21, 4, 184, 0, 71, 27, 160, 0, 6, 21, 4, 172]
abbrev dktJ14_indexOfCharUnsafe_0 : List UInt8 := dkwJ14_indexOfCharUnsafe_0 ++ dktJ14_indexOfCharUnsafe_1
theorem dksJ14_indexOfCharUnsafe_0 : cJ14_indexOfCharUnsafe.data.toList.drop 0 = dktJ14_indexOfCharUnsafe_0 := by decide +kernel
theorem dksJ14_indexOfCharUnsafe_1 : cJ14_indexOfCharUnsafe.data.toList.drop 22 = dktJ14_indexOfCharUnsafe_1 := dk_seg dksJ14_indexOfCharUnsafe_0 22 rfl rfl
theorem dJ14_indexOfCharUnsafe_0 : decode cJ14_indexOfCharUnsafe 0 = .ok (.iload_n 2, 1) := dk_28 (dk_at dksJ14_indexOfCharUnsafe_0 0 rfl rfl)
theorem dJ14_indexOfCharUnsafe_1 : decode cJ14_indexOfCharUnsafe 1 = .ok (.istore 4, 2) := dk_54 4 (dk_at dksJ14_indexOfCharUnsafe_0 1 rfl rfl)
theorem dJ14_indexOfCharUnsafe_3 : decode cJ14_indexOfCharUnsafe 3 = .ok (.iload 4, 2) := dk_21 4 (dk_at dksJ14_indexOfCharUnsafe_0 3 rfl rfl)
theorem dJ14_indexOfCharUnsafe_5 : decode cJ14_indexOfCharUnsafe 5 = .ok (.iload_n 3, 1) := dk_29 (dk_at dksJ14_indexOfCharUnsafe_0 5 rfl rfl)
theorem dJ14_indexOfCharUnsafe_6 : decode cJ14_indexOfCharUnsafe 6 = .ok (.if_icmp .ge 22, 3) := dk_162 0 22 (dk_at dksJ14_indexOfCharUnsafe_0 6 rfl rfl)
theorem dJ14_indexOfCharUnsafe_9 : decode cJ14_indexOfCharUnsafe 9 = .ok (.aload_n 0, 1) := dk_42 (dk_at dksJ14_indexOfCharUnsafe_0 9 rfl rfl)
theorem dJ14_indexOfCharUnsafe_10 : decode cJ14_indexOfCharUnsafe 10 = .ok (.iload 4, 2) := dk_21 4 (dk_at dksJ14_indexOfCharUnsafe_0 10 rfl rfl)
theorem dJ14_indexOfCharUnsafe_12 : decode cJ14_indexOfCharUnsafe 12 = .ok (.invokestatic 71, 3) := dk_184 0 71 (dk_at dksJ14_indexOfCharUnsafe_0 12 rfl rfl)
theorem dJ14_indexOfCharUnsafe_15 : decode cJ14_indexOfCharUnsafe 15 = .ok (.iload_n 1, 1) := dk_27 (dk_at dksJ14_indexOfCharUnsafe_0 15 rfl rfl)
theorem dJ14_indexOfCharUnsafe_16 : decode cJ14_indexOfCharUnsafe 16 = .ok (.if_icmp .ne 6, 3) := dk_160 0 6 (dk_at dksJ14_indexOfCharUnsafe_0 16 rfl rfl)
theorem dJ14_indexOfCharUnsafe_19 : decode cJ14_indexOfCharUnsafe 19 = .ok (.iload 4, 2) := dk_21 4 (dk_at dksJ14_indexOfCharUnsafe_0 19 rfl rfl)
theorem dJ14_indexOfCharUnsafe_21 : decode cJ14_indexOfCharUnsafe 21 = .ok (.ireturn, 1) := dk_172 (dk_at dksJ14_indexOfCharUnsafe_0 21 rfl rfl)
theorem dJ14_indexOfCharUnsafe_22 : decode cJ14_indexOfCharUnsafe 22 = .ok (.iinc 4 1, 3) := dk_132 4 1 (dk_at dksJ14_indexOfCharUnsafe_1 0 rfl rfl)
theorem dJ14_indexOfCharUnsafe_25 : decode cJ14_indexOfCharUnsafe 25 = .ok (.goto (-22), 3) := dk_167 255 234 (dk_at dksJ14_indexOfCharUnsafe_1 3 rfl rfl)
theorem dJ14_indexOfCharUnsafe_28 : decode cJ14_indexOfCharUnsafe 28 = .ok (.iconst (-1), 1) := dk_2 (dk_at dksJ14_indexOfCharUnsafe_1 6 rfl rfl)
theorem dJ14_indexOfCharUnsafe_29 : decode cJ14_indexOfCharUnsafe 29 = .ok (.ireturn, 1) := dk_172 (dk_at dksJ14_indexOfCharUnsafe_1 7 rfl rfl)
abbrev cJ14_indexOfSupplementary : ByteArray := prog_38_method_49_code
def yJ14_indexOfSupplementary : MethodName := ⟨RJ14, "indexOfSupplementary", "([BIII)I"⟩
def dkwJ14_indexOfSupplementary_3 : List UInt8 := [167, 255, 218, 2, 172]
abbrev dktJ14_indexOfSupplementary_3 : List UInt8 := dkwJ14_indexOfSupplementary_3 ++ []
def dkwJ14_indexOfSupplementary_2 : List UInt8 := [160, 0, 19, 42, 21, 6, 4, 96, 184, 0, 71, 21, 5, 160, 0, 6, 21, 6, 172, 132, 6, 1]
abbrev dktJ14_indexOfSupplementary_2 : List UInt8 := dkwJ14_indexOfSupplementary_2 ++ dktJ14_indexOfSupplementary_3
def dkwJ14_indexOfSupplementary_1 : List UInt8 := [184, 0, 96, 28, 54, 6, 21, 6, 29, 4, 100, 162, 0, 36, 42, 21, 6, 184, 0, 71, 21, 4]
abbrev dktJ14_indexOfSupplementary_1 : List UInt8 := dkwJ14_indexOfSupplementary_1 ++ dktJ14_indexOfSupplementary_2
def dkwJ14_indexOfSupplementary_0 : List UInt8 := [27, 184, 0, 164, 153, 0, 65, 27, 184, 0, 157, 54, 4, 27, 184, 0, 161, 54, 5, 28, 29, 42]
abbrev dktJ14_indexOfSupplementary_0 : List UInt8 := dkwJ14_indexOfSupplementary_0 ++ dktJ14_indexOfSupplementary_1
theorem dksJ14_indexOfSupplementary_0 : cJ14_indexOfSupplementary.data.toList.drop 0 = dktJ14_indexOfSupplementary_0 := by decide +kernel
theorem dksJ14_indexOfSupplementary_1 : cJ14_indexOfSupplementary.data.toList.drop 22 = dktJ14_indexOfSupplementary_1 := dk_seg dksJ14_indexOfSupplementary_0 22 rfl rfl
theorem dksJ14_indexOfSupplementary_2 : cJ14_indexOfSupplementary.data.toList.drop 44 = dktJ14_indexOfSupplementary_2 := dk_seg dksJ14_indexOfSupplementary_1 22 rfl rfl
theorem dksJ14_indexOfSupplementary_3 : cJ14_indexOfSupplementary.data.toList.drop 66 = dktJ14_indexOfSupplementary_3 := dk_seg dksJ14_indexOfSupplementary_2 22 rfl rfl
theorem dJ14_indexOfSupplementary_0 : decode cJ14_indexOfSupplementary 0 = .ok (.iload_n 1, 1) := dk_27 (dk_at dksJ14_indexOfSupplementary_0 0 rfl rfl)
theorem dJ14_indexOfSupplementary_1 : decode cJ14_indexOfSupplementary 1 = .ok (.invokestatic 164, 3) := dk_184 0 164 (dk_at dksJ14_indexOfSupplementary_0 1 rfl rfl)
theorem dJ14_indexOfSupplementary_4 : decode cJ14_indexOfSupplementary 4 = .ok (.ifCond .eq 65, 3) := dk_153 0 65 (dk_at dksJ14_indexOfSupplementary_0 4 rfl rfl)
theorem dJ14_indexOfSupplementary_7 : decode cJ14_indexOfSupplementary 7 = .ok (.iload_n 1, 1) := dk_27 (dk_at dksJ14_indexOfSupplementary_0 7 rfl rfl)
theorem dJ14_indexOfSupplementary_8 : decode cJ14_indexOfSupplementary 8 = .ok (.invokestatic 157, 3) := dk_184 0 157 (dk_at dksJ14_indexOfSupplementary_0 8 rfl rfl)
theorem dJ14_indexOfSupplementary_11 : decode cJ14_indexOfSupplementary 11 = .ok (.istore 4, 2) := dk_54 4 (dk_at dksJ14_indexOfSupplementary_0 11 rfl rfl)
theorem dJ14_indexOfSupplementary_13 : decode cJ14_indexOfSupplementary 13 = .ok (.iload_n 1, 1) := dk_27 (dk_at dksJ14_indexOfSupplementary_0 13 rfl rfl)
theorem dJ14_indexOfSupplementary_14 : decode cJ14_indexOfSupplementary 14 = .ok (.invokestatic 161, 3) := dk_184 0 161 (dk_at dksJ14_indexOfSupplementary_0 14 rfl rfl)
theorem dJ14_indexOfSupplementary_17 : decode cJ14_indexOfSupplementary 17 = .ok (.istore 5, 2) := dk_54 5 (dk_at dksJ14_indexOfSupplementary_0 17 rfl rfl)
theorem dJ14_indexOfSupplementary_19 : decode cJ14_indexOfSupplementary 19 = .ok (.iload_n 2, 1) := dk_28 (dk_at dksJ14_indexOfSupplementary_0 19 rfl rfl)
theorem dJ14_indexOfSupplementary_20 : decode cJ14_indexOfSupplementary 20 = .ok (.iload_n 3, 1) := dk_29 (dk_at dksJ14_indexOfSupplementary_0 20 rfl rfl)
theorem dJ14_indexOfSupplementary_21 : decode cJ14_indexOfSupplementary 21 = .ok (.aload_n 0, 1) := dk_42 (dk_at dksJ14_indexOfSupplementary_0 21 rfl rfl)
theorem dJ14_indexOfSupplementary_22 : decode cJ14_indexOfSupplementary 22 = .ok (.invokestatic 96, 3) := dk_184 0 96 (dk_at dksJ14_indexOfSupplementary_1 0 rfl rfl)
theorem dJ14_indexOfSupplementary_25 : decode cJ14_indexOfSupplementary 25 = .ok (.iload_n 2, 1) := dk_28 (dk_at dksJ14_indexOfSupplementary_1 3 rfl rfl)
theorem dJ14_indexOfSupplementary_26 : decode cJ14_indexOfSupplementary 26 = .ok (.istore 6, 2) := dk_54 6 (dk_at dksJ14_indexOfSupplementary_1 4 rfl rfl)
theorem dJ14_indexOfSupplementary_28 : decode cJ14_indexOfSupplementary 28 = .ok (.iload 6, 2) := dk_21 6 (dk_at dksJ14_indexOfSupplementary_1 6 rfl rfl)
theorem dJ14_indexOfSupplementary_30 : decode cJ14_indexOfSupplementary 30 = .ok (.iload_n 3, 1) := dk_29 (dk_at dksJ14_indexOfSupplementary_1 8 rfl rfl)
theorem dJ14_indexOfSupplementary_31 : decode cJ14_indexOfSupplementary 31 = .ok (.iconst 1, 1) := dk_4 (dk_at dksJ14_indexOfSupplementary_1 9 rfl rfl)
theorem dJ14_indexOfSupplementary_32 : decode cJ14_indexOfSupplementary 32 = .ok (.isub, 1) := dk_100 (dk_at dksJ14_indexOfSupplementary_1 10 rfl rfl)
theorem dJ14_indexOfSupplementary_33 : decode cJ14_indexOfSupplementary 33 = .ok (.if_icmp .ge 36, 3) := dk_162 0 36 (dk_at dksJ14_indexOfSupplementary_1 11 rfl rfl)
theorem dJ14_indexOfSupplementary_36 : decode cJ14_indexOfSupplementary 36 = .ok (.aload_n 0, 1) := dk_42 (dk_at dksJ14_indexOfSupplementary_1 14 rfl rfl)
theorem dJ14_indexOfSupplementary_37 : decode cJ14_indexOfSupplementary 37 = .ok (.iload 6, 2) := dk_21 6 (dk_at dksJ14_indexOfSupplementary_1 15 rfl rfl)
theorem dJ14_indexOfSupplementary_39 : decode cJ14_indexOfSupplementary 39 = .ok (.invokestatic 71, 3) := dk_184 0 71 (dk_at dksJ14_indexOfSupplementary_1 17 rfl rfl)
theorem dJ14_indexOfSupplementary_42 : decode cJ14_indexOfSupplementary 42 = .ok (.iload 4, 2) := dk_21 4 (dk_at dksJ14_indexOfSupplementary_1 20 rfl rfl)
theorem dJ14_indexOfSupplementary_44 : decode cJ14_indexOfSupplementary 44 = .ok (.if_icmp .ne 19, 3) := dk_160 0 19 (dk_at dksJ14_indexOfSupplementary_2 0 rfl rfl)
theorem dJ14_indexOfSupplementary_47 : decode cJ14_indexOfSupplementary 47 = .ok (.aload_n 0, 1) := dk_42 (dk_at dksJ14_indexOfSupplementary_2 3 rfl rfl)
theorem dJ14_indexOfSupplementary_48 : decode cJ14_indexOfSupplementary 48 = .ok (.iload 6, 2) := dk_21 6 (dk_at dksJ14_indexOfSupplementary_2 4 rfl rfl)
theorem dJ14_indexOfSupplementary_50 : decode cJ14_indexOfSupplementary 50 = .ok (.iconst 1, 1) := dk_4 (dk_at dksJ14_indexOfSupplementary_2 6 rfl rfl)
theorem dJ14_indexOfSupplementary_51 : decode cJ14_indexOfSupplementary 51 = .ok (.iadd, 1) := dk_96 (dk_at dksJ14_indexOfSupplementary_2 7 rfl rfl)
theorem dJ14_indexOfSupplementary_52 : decode cJ14_indexOfSupplementary 52 = .ok (.invokestatic 71, 3) := dk_184 0 71 (dk_at dksJ14_indexOfSupplementary_2 8 rfl rfl)
theorem dJ14_indexOfSupplementary_55 : decode cJ14_indexOfSupplementary 55 = .ok (.iload 5, 2) := dk_21 5 (dk_at dksJ14_indexOfSupplementary_2 11 rfl rfl)
theorem dJ14_indexOfSupplementary_57 : decode cJ14_indexOfSupplementary 57 = .ok (.if_icmp .ne 6, 3) := dk_160 0 6 (dk_at dksJ14_indexOfSupplementary_2 13 rfl rfl)
theorem dJ14_indexOfSupplementary_60 : decode cJ14_indexOfSupplementary 60 = .ok (.iload 6, 2) := dk_21 6 (dk_at dksJ14_indexOfSupplementary_2 16 rfl rfl)
theorem dJ14_indexOfSupplementary_62 : decode cJ14_indexOfSupplementary 62 = .ok (.ireturn, 1) := dk_172 (dk_at dksJ14_indexOfSupplementary_2 18 rfl rfl)
theorem dJ14_indexOfSupplementary_63 : decode cJ14_indexOfSupplementary 63 = .ok (.iinc 6 1, 3) := dk_132 6 1 (dk_at dksJ14_indexOfSupplementary_2 19 rfl rfl)
theorem dJ14_indexOfSupplementary_66 : decode cJ14_indexOfSupplementary 66 = .ok (.goto (-38), 3) := dk_167 255 218 (dk_at dksJ14_indexOfSupplementary_3 0 rfl rfl)
theorem dJ14_indexOfSupplementary_69 : decode cJ14_indexOfSupplementary 69 = .ok (.iconst (-1), 1) := dk_2 (dk_at dksJ14_indexOfSupplementary_3 3 rfl rfl)
theorem dJ14_indexOfSupplementary_70 : decode cJ14_indexOfSupplementary 70 = .ok (.ireturn, 1) := dk_172 (dk_at dksJ14_indexOfSupplementary_3 4 rfl rfl)
abbrev cJ14_hashCode : ByteArray := prog_38_method_39_code
def yJ14_hashCode : MethodName := ⟨RJ14, "hashCode", "([B)I"⟩
def dkwJ14_hashCode_2 : List UInt8 := [3, 167, 0, 22, 42, 3, 184, 0, 71, 167, 0, 14, 42, 3, 42, 190, 4, 122, 3, 8, 184, 0, 220, 172]
abbrev dktJ14_hashCode_2 : List UInt8 := dkwJ14_hashCode_2 ++ []
def dkwJ14_hashCode_1 : List UInt8 := [171, 0, 0, 0, 0, 38, 0, 0, 0, 2, 0, 0, 0, 0, 0, 0, 0, 26, 0, 0, 0, 2, 0, 0, 0, 30]
abbrev dktJ14_hashCode_1 : List UInt8 := dkwJ14_hashCode_1 ++ dktJ14_hashCode_2
def dkwJ14_hashCode_0 : List UInt8 := [42, 190]
abbrev dktJ14_hashCode_0 : List UInt8 := dkwJ14_hashCode_0 ++ dktJ14_hashCode_1
theorem dksJ14_hashCode_0 : cJ14_hashCode.data.toList.drop 0 = dktJ14_hashCode_0 := by decide +kernel
theorem dksJ14_hashCode_1 : cJ14_hashCode.data.toList.drop 2 = dktJ14_hashCode_1 := dk_seg dksJ14_hashCode_0 2 rfl rfl
theorem dksJ14_hashCode_2 : cJ14_hashCode.data.toList.drop 28 = dktJ14_hashCode_2 := dk_seg dksJ14_hashCode_1 26 rfl rfl
theorem dJ14_hashCode_0 : decode cJ14_hashCode 0 = .ok (.aload_n 0, 1) := dk_42 (dk_at dksJ14_hashCode_0 0 rfl rfl)
theorem dJ14_hashCode_1 : decode cJ14_hashCode 1 = .ok (.arraylength, 1) := dk_190 (dk_at dksJ14_hashCode_0 1 rfl rfl)
theorem dJ14_hashCode_2 : decode cJ14_hashCode 2 = .ok (.lookupswitch 38 #[(0, 26), (2, 30)], 26) := by decide +kernel
theorem dJ14_hashCode_28 : decode cJ14_hashCode 28 = .ok (.iconst 0, 1) := dk_3 (dk_at dksJ14_hashCode_2 0 rfl rfl)
theorem dJ14_hashCode_29 : decode cJ14_hashCode 29 = .ok (.goto 22, 3) := dk_167 0 22 (dk_at dksJ14_hashCode_2 1 rfl rfl)
theorem dJ14_hashCode_32 : decode cJ14_hashCode 32 = .ok (.aload_n 0, 1) := dk_42 (dk_at dksJ14_hashCode_2 4 rfl rfl)
theorem dJ14_hashCode_33 : decode cJ14_hashCode 33 = .ok (.iconst 0, 1) := dk_3 (dk_at dksJ14_hashCode_2 5 rfl rfl)
theorem dJ14_hashCode_34 : decode cJ14_hashCode 34 = .ok (.invokestatic 71, 3) := dk_184 0 71 (dk_at dksJ14_hashCode_2 6 rfl rfl)
theorem dJ14_hashCode_37 : decode cJ14_hashCode 37 = .ok (.goto 14, 3) := dk_167 0 14 (dk_at dksJ14_hashCode_2 9 rfl rfl)
theorem dJ14_hashCode_40 : decode cJ14_hashCode 40 = .ok (.aload_n 0, 1) := dk_42 (dk_at dksJ14_hashCode_2 12 rfl rfl)
theorem dJ14_hashCode_41 : decode cJ14_hashCode 41 = .ok (.iconst 0, 1) := dk_3 (dk_at dksJ14_hashCode_2 13 rfl rfl)
theorem dJ14_hashCode_42 : decode cJ14_hashCode 42 = .ok (.aload_n 0, 1) := dk_42 (dk_at dksJ14_hashCode_2 14 rfl rfl)
theorem dJ14_hashCode_43 : decode cJ14_hashCode 43 = .ok (.arraylength, 1) := dk_190 (dk_at dksJ14_hashCode_2 15 rfl rfl)
theorem dJ14_hashCode_44 : decode cJ14_hashCode 44 = .ok (.iconst 1, 1) := dk_4 (dk_at dksJ14_hashCode_2 16 rfl rfl)
theorem dJ14_hashCode_45 : decode cJ14_hashCode 45 = .ok (.ishr, 1) := dk_122 (dk_at dksJ14_hashCode_2 17 rfl rfl)
theorem dJ14_hashCode_46 : decode cJ14_hashCode 46 = .ok (.iconst 0, 1) := dk_3 (dk_at dksJ14_hashCode_2 18 rfl rfl)
theorem dJ14_hashCode_47 : decode cJ14_hashCode 47 = .ok (.iconst 5, 1) := dk_8 (dk_at dksJ14_hashCode_2 19 rfl rfl)
theorem dJ14_hashCode_48 : decode cJ14_hashCode 48 = .ok (.invokestatic 220, 3) := dk_184 0 220 (dk_at dksJ14_hashCode_2 20 rfl rfl)
theorem dJ14_hashCode_51 : decode cJ14_hashCode 51 = .ok (.ireturn, 1) := dk_172 (dk_at dksJ14_hashCode_2 23 rfl rfl)
abbrev cJ14_compareTo : ByteArray := prog_38_method_29_code
def yJ14_compareTo : MethodName := ⟨RJ14, "compareTo", "([B[B)I"⟩
def dkwJ14_compareTo_0 : List UInt8 := [42, 184, 0, 48, 61, 43, 184, 0, 48, 62, 42, 43, 28, 29, 184, 0, 176, 172]
abbrev dktJ14_compareTo_0 : List UInt8 := dkwJ14_compareTo_0 ++ []
theorem dksJ14_compareTo_0 : cJ14_compareTo.data.toList.drop 0 = dktJ14_compareTo_0 := by decide +kernel
theorem dJ14_compareTo_0 : decode cJ14_compareTo 0 = .ok (.aload_n 0, 1) := dk_42 (dk_at dksJ14_compareTo_0 0 rfl rfl)
theorem dJ14_compareTo_1 : decode cJ14_compareTo 1 = .ok (.invokestatic 48, 3) := dk_184 0 48 (dk_at dksJ14_compareTo_0 1 rfl rfl)
theorem dJ14_compareTo_4 : decode cJ14_compareTo 4 = .ok (.istore_n 2, 1) := dk_61 (dk_at dksJ14_compareTo_0 4 rfl rfl)
theorem dJ14_compareTo_5 : decode cJ14_compareTo 5 = .ok (.aload_n 1, 1) := dk_43 (dk_at dksJ14_compareTo_0 5 rfl rfl)
theorem dJ14_compareTo_6 : decode cJ14_compareTo 6 = .ok (.invokestatic 48, 3) := dk_184 0 48 (dk_at dksJ14_compareTo_0 6 rfl rfl)
theorem dJ14_compareTo_9 : decode cJ14_compareTo 9 = .ok (.istore_n 3, 1) := dk_62 (dk_at dksJ14_compareTo_0 9 rfl rfl)
theorem dJ14_compareTo_10 : decode cJ14_compareTo 10 = .ok (.aload_n 0, 1) := dk_42 (dk_at dksJ14_compareTo_0 10 rfl rfl)
theorem dJ14_compareTo_11 : decode cJ14_compareTo 11 = .ok (.aload_n 1, 1) := dk_43 (dk_at dksJ14_compareTo_0 11 rfl rfl)
theorem dJ14_compareTo_12 : decode cJ14_compareTo 12 = .ok (.iload_n 2, 1) := dk_28 (dk_at dksJ14_compareTo_0 12 rfl rfl)
theorem dJ14_compareTo_13 : decode cJ14_compareTo 13 = .ok (.iload_n 3, 1) := dk_29 (dk_at dksJ14_compareTo_0 13 rfl rfl)
theorem dJ14_compareTo_14 : decode cJ14_compareTo 14 = .ok (.invokestatic 176, 3) := dk_184 0 176 (dk_at dksJ14_compareTo_0 14 rfl rfl)
theorem dJ14_compareTo_17 : decode cJ14_compareTo 17 = .ok (.ireturn, 1) := dk_172 (dk_at dksJ14_compareTo_0 17 rfl rfl)
abbrev cJ14_compareValues : ByteArray := prog_38_method_31_code
def yJ14_compareValues : MethodName := ⟨RJ14, "compareValues", "([B[BII)I"⟩
def dkwJ14_compareValues_2 : List UInt8 := [132, 5, 1, 167, 255, 217, 28, 29, 100, 172]
abbrev dktJ14_compareValues_2 : List UInt8 := dkwJ14_compareValues_2 ++ []
def dkwJ14_compareValues_1 : List UInt8 := [54, 6, 43, 21, 5, 184, 0, 71, 54, 7, 21, 6, 21, 7, 159, 0, 9, 21, 6, 21, 7, 100, 172]
abbrev dktJ14_compareValues_1 : List UInt8 := dkwJ14_compareValues_1 ++ dktJ14_compareValues_2
def dkwJ14_compareValues_0 : List UInt8 := [28, 29, 184, 0, 183, 54, 4, 3, 54, 5, 21, 5, 21, 4, 162, 0, 38, 42, 21, 5, 184, 0, 71]
abbrev dktJ14_compareValues_0 : List UInt8 := dkwJ14_compareValues_0 ++ dktJ14_compareValues_1
theorem dksJ14_compareValues_0 : cJ14_compareValues.data.toList.drop 0 = dktJ14_compareValues_0 := by decide +kernel
theorem dksJ14_compareValues_1 : cJ14_compareValues.data.toList.drop 23 = dktJ14_compareValues_1 := dk_seg dksJ14_compareValues_0 23 rfl rfl
theorem dksJ14_compareValues_2 : cJ14_compareValues.data.toList.drop 46 = dktJ14_compareValues_2 := dk_seg dksJ14_compareValues_1 23 rfl rfl
theorem dJ14_compareValues_0 : decode cJ14_compareValues 0 = .ok (.iload_n 2, 1) := dk_28 (dk_at dksJ14_compareValues_0 0 rfl rfl)
theorem dJ14_compareValues_1 : decode cJ14_compareValues 1 = .ok (.iload_n 3, 1) := dk_29 (dk_at dksJ14_compareValues_0 1 rfl rfl)
theorem dJ14_compareValues_2 : decode cJ14_compareValues 2 = .ok (.invokestatic 183, 3) := dk_184 0 183 (dk_at dksJ14_compareValues_0 2 rfl rfl)
theorem dJ14_compareValues_5 : decode cJ14_compareValues 5 = .ok (.istore 4, 2) := dk_54 4 (dk_at dksJ14_compareValues_0 5 rfl rfl)
theorem dJ14_compareValues_7 : decode cJ14_compareValues 7 = .ok (.iconst 0, 1) := dk_3 (dk_at dksJ14_compareValues_0 7 rfl rfl)
theorem dJ14_compareValues_8 : decode cJ14_compareValues 8 = .ok (.istore 5, 2) := dk_54 5 (dk_at dksJ14_compareValues_0 8 rfl rfl)
theorem dJ14_compareValues_10 : decode cJ14_compareValues 10 = .ok (.iload 5, 2) := dk_21 5 (dk_at dksJ14_compareValues_0 10 rfl rfl)
theorem dJ14_compareValues_12 : decode cJ14_compareValues 12 = .ok (.iload 4, 2) := dk_21 4 (dk_at dksJ14_compareValues_0 12 rfl rfl)
theorem dJ14_compareValues_14 : decode cJ14_compareValues 14 = .ok (.if_icmp .ge 38, 3) := dk_162 0 38 (dk_at dksJ14_compareValues_0 14 rfl rfl)
theorem dJ14_compareValues_17 : decode cJ14_compareValues 17 = .ok (.aload_n 0, 1) := dk_42 (dk_at dksJ14_compareValues_0 17 rfl rfl)
theorem dJ14_compareValues_18 : decode cJ14_compareValues 18 = .ok (.iload 5, 2) := dk_21 5 (dk_at dksJ14_compareValues_0 18 rfl rfl)
theorem dJ14_compareValues_20 : decode cJ14_compareValues 20 = .ok (.invokestatic 71, 3) := dk_184 0 71 (dk_at dksJ14_compareValues_0 20 rfl rfl)
theorem dJ14_compareValues_23 : decode cJ14_compareValues 23 = .ok (.istore 6, 2) := dk_54 6 (dk_at dksJ14_compareValues_1 0 rfl rfl)
theorem dJ14_compareValues_25 : decode cJ14_compareValues 25 = .ok (.aload_n 1, 1) := dk_43 (dk_at dksJ14_compareValues_1 2 rfl rfl)
theorem dJ14_compareValues_26 : decode cJ14_compareValues 26 = .ok (.iload 5, 2) := dk_21 5 (dk_at dksJ14_compareValues_1 3 rfl rfl)
theorem dJ14_compareValues_28 : decode cJ14_compareValues 28 = .ok (.invokestatic 71, 3) := dk_184 0 71 (dk_at dksJ14_compareValues_1 5 rfl rfl)
theorem dJ14_compareValues_31 : decode cJ14_compareValues 31 = .ok (.istore 7, 2) := dk_54 7 (dk_at dksJ14_compareValues_1 8 rfl rfl)
theorem dJ14_compareValues_33 : decode cJ14_compareValues 33 = .ok (.iload 6, 2) := dk_21 6 (dk_at dksJ14_compareValues_1 10 rfl rfl)
theorem dJ14_compareValues_35 : decode cJ14_compareValues 35 = .ok (.iload 7, 2) := dk_21 7 (dk_at dksJ14_compareValues_1 12 rfl rfl)
theorem dJ14_compareValues_37 : decode cJ14_compareValues 37 = .ok (.if_icmp .eq 9, 3) := dk_159 0 9 (dk_at dksJ14_compareValues_1 14 rfl rfl)
theorem dJ14_compareValues_40 : decode cJ14_compareValues 40 = .ok (.iload 6, 2) := dk_21 6 (dk_at dksJ14_compareValues_1 17 rfl rfl)
theorem dJ14_compareValues_42 : decode cJ14_compareValues 42 = .ok (.iload 7, 2) := dk_21 7 (dk_at dksJ14_compareValues_1 19 rfl rfl)
theorem dJ14_compareValues_44 : decode cJ14_compareValues 44 = .ok (.isub, 1) := dk_100 (dk_at dksJ14_compareValues_1 21 rfl rfl)
theorem dJ14_compareValues_45 : decode cJ14_compareValues 45 = .ok (.ireturn, 1) := dk_172 (dk_at dksJ14_compareValues_1 22 rfl rfl)
theorem dJ14_compareValues_46 : decode cJ14_compareValues 46 = .ok (.iinc 5 1, 3) := dk_132 5 1 (dk_at dksJ14_compareValues_2 0 rfl rfl)
theorem dJ14_compareValues_49 : decode cJ14_compareValues 49 = .ok (.goto (-39), 3) := dk_167 255 217 (dk_at dksJ14_compareValues_2 3 rfl rfl)
theorem dJ14_compareValues_52 : decode cJ14_compareValues 52 = .ok (.iload_n 2, 1) := dk_28 (dk_at dksJ14_compareValues_2 6 rfl rfl)
theorem dJ14_compareValues_53 : decode cJ14_compareValues 53 = .ok (.iload_n 3, 1) := dk_29 (dk_at dksJ14_compareValues_2 7 rfl rfl)
theorem dJ14_compareValues_54 : decode cJ14_compareValues 54 = .ok (.isub, 1) := dk_100 (dk_at dksJ14_compareValues_2 8 rfl rfl)
theorem dJ14_compareValues_55 : decode cJ14_compareValues 55 = .ok (.ireturn, 1) := dk_172 (dk_at dksJ14_compareValues_2 9 rfl rfl)
abbrev cJ14_compareToLatin1 : ByteArray := prog_38_method_32_code
def yJ14_compareToLatin1 : MethodName := ⟨RJ14, "compareToLatin1", "([B[B)I"⟩
def dkwJ14_compareToLatin1_0 : List UInt8 := [43, 42, 184, 0, 189, 116, 172]
abbrev dktJ14_compareToLatin1_0 : List UInt8 := dkwJ14_compareToLatin1_0 ++ []
theorem dksJ14_compareToLatin1_0 : cJ14_compareToLatin1.data.toList.drop 0 = dktJ14_compareToLatin1_0 := by decide +kernel
theorem dJ14_compareToLatin1_0 : decode cJ14_compareToLatin1 0 = .ok (.aload_n 1, 1) := dk_43 (dk_at dksJ14_compareToLatin1_0 0 rfl rfl)
theorem dJ14_compareToLatin1_1 : decode cJ14_compareToLatin1 1 = .ok (.aload_n 0, 1) := dk_42 (dk_at dksJ14_compareToLatin1_0 1 rfl rfl)
theorem dJ14_compareToLatin1_2 : decode cJ14_compareToLatin1 2 = .ok (.invokestatic 189, 3) := dk_184 0 189 (dk_at dksJ14_compareToLatin1_0 2 rfl rfl)
theorem dJ14_compareToLatin1_5 : decode cJ14_compareToLatin1 5 = .ok (.ineg, 1) := dk_116 (dk_at dksJ14_compareToLatin1_0 5 rfl rfl)
theorem dJ14_compareToLatin1_6 : decode cJ14_compareToLatin1 6 = .ok (.ireturn, 1) := dk_172 (dk_at dksJ14_compareToLatin1_0 6 rfl rfl)
abbrev cJ14_compareTo_2 : ByteArray := prog_38_method_30_code
def yJ14_compareTo_2 : MethodName := ⟨RJ14, "compareTo", "([B[BII)I"⟩
def dkwJ14_compareTo_2_0 : List UInt8 := [28, 42, 184, 0, 180, 29, 43, 184, 0, 180, 42, 43, 28, 29, 184, 0, 176, 172]
abbrev dktJ14_compareTo_2_0 : List UInt8 := dkwJ14_compareTo_2_0 ++ []
theorem dksJ14_compareTo_2_0 : cJ14_compareTo_2.data.toList.drop 0 = dktJ14_compareTo_2_0 := by decide +kernel
theorem dJ14_compareTo_2_0 : decode cJ14_compareTo_2 0 = .ok (.iload_n 2, 1) := dk_28 (dk_at dksJ14_compareTo_2_0 0 rfl rfl)
theorem dJ14_compareTo_2_1 : decode cJ14_compareTo_2 1 = .ok (.aload_n 0, 1) := dk_42 (dk_at dksJ14_compareTo_2_0 1 rfl rfl)
theorem dJ14_compareTo_2_2 : decode cJ14_compareTo_2 2 = .ok (.invokestatic 180, 3) := dk_184 0 180 (dk_at dksJ14_compareTo_2_0 2 rfl rfl)
theorem dJ14_compareTo_2_5 : decode cJ14_compareTo_2 5 = .ok (.iload_n 3, 1) := dk_29 (dk_at dksJ14_compareTo_2_0 5 rfl rfl)
theorem dJ14_compareTo_2_6 : decode cJ14_compareTo_2 6 = .ok (.aload_n 1, 1) := dk_43 (dk_at dksJ14_compareTo_2_0 6 rfl rfl)
theorem dJ14_compareTo_2_7 : decode cJ14_compareTo_2 7 = .ok (.invokestatic 180, 3) := dk_184 0 180 (dk_at dksJ14_compareTo_2_0 7 rfl rfl)
theorem dJ14_compareTo_2_10 : decode cJ14_compareTo_2 10 = .ok (.aload_n 0, 1) := dk_42 (dk_at dksJ14_compareTo_2_0 10 rfl rfl)
theorem dJ14_compareTo_2_11 : decode cJ14_compareTo_2 11 = .ok (.aload_n 1, 1) := dk_43 (dk_at dksJ14_compareTo_2_0 11 rfl rfl)
theorem dJ14_compareTo_2_12 : decode cJ14_compareTo_2 12 = .ok (.iload_n 2, 1) := dk_28 (dk_at dksJ14_compareTo_2_0 12 rfl rfl)
theorem dJ14_compareTo_2_13 : decode cJ14_compareTo_2 13 = .ok (.iload_n 3, 1) := dk_29 (dk_at dksJ14_compareTo_2_0 13 rfl rfl)
theorem dJ14_compareTo_2_14 : decode cJ14_compareTo_2 14 = .ok (.invokestatic 176, 3) := dk_184 0 176 (dk_at dksJ14_compareTo_2_0 14 rfl rfl)
theorem dJ14_compareTo_2_17 : decode cJ14_compareTo_2 17 = .ok (.ireturn, 1) := dk_172 (dk_at dksJ14_compareTo_2_0 17 rfl rfl)
abbrev cJ14_checkOffset : ByteArray := prog_38_method_92_code
def yJ14_checkOffset : MethodName := ⟨RJ14, "checkOffset", "(I[B)V"⟩
def dkwJ14_checkOffset_0 : List UInt8 := [26, 43, 184, 0, 48, 184, 1, 161, 177]
abbrev dktJ14_checkOffset_0 : List UInt8 := dkwJ14_checkOffset_0 ++ []
theorem dksJ14_checkOffset_0 : cJ14_checkOffset.data.toList.drop 0 = dktJ14_checkOffset_0 := by decide +kernel
theorem dJ14_checkOffset_0 : decode cJ14_checkOffset 0 = .ok (.iload_n 0, 1) := dk_26 (dk_at dksJ14_checkOffset_0 0 rfl rfl)
theorem dJ14_checkOffset_1 : decode cJ14_checkOffset 1 = .ok (.aload_n 1, 1) := dk_43 (dk_at dksJ14_checkOffset_0 1 rfl rfl)
theorem dJ14_checkOffset_2 : decode cJ14_checkOffset 2 = .ok (.invokestatic 48, 3) := dk_184 0 48 (dk_at dksJ14_checkOffset_0 2 rfl rfl)
theorem dJ14_checkOffset_5 : decode cJ14_checkOffset 5 = .ok (.invokestatic 417, 3) := dk_184 1 161 (dk_at dksJ14_checkOffset_0 5 rfl rfl)
theorem dJ14_checkOffset_8 : decode cJ14_checkOffset 8 = .ok (.return_, 1) := dk_177 (dk_at dksJ14_checkOffset_0 8 rfl rfl)
abbrev cJ14_compareToLatin1_2 : ByteArray := prog_38_method_33_code
def yJ14_compareToLatin1_2 : MethodName := ⟨RJ14, "compareToLatin1", "([B[BII)I"⟩
def dkwJ14_compareToLatin1_2_0 : List UInt8 := [43, 42, 29, 28, 184, 0, 193, 116, 172]
abbrev dktJ14_compareToLatin1_2_0 : List UInt8 := dkwJ14_compareToLatin1_2_0 ++ []
theorem dksJ14_compareToLatin1_2_0 : cJ14_compareToLatin1_2.data.toList.drop 0 = dktJ14_compareToLatin1_2_0 := by decide +kernel
theorem dJ14_compareToLatin1_2_0 : decode cJ14_compareToLatin1_2 0 = .ok (.aload_n 1, 1) := dk_43 (dk_at dksJ14_compareToLatin1_2_0 0 rfl rfl)
theorem dJ14_compareToLatin1_2_1 : decode cJ14_compareToLatin1_2 1 = .ok (.aload_n 0, 1) := dk_42 (dk_at dksJ14_compareToLatin1_2_0 1 rfl rfl)
theorem dJ14_compareToLatin1_2_2 : decode cJ14_compareToLatin1_2 2 = .ok (.iload_n 3, 1) := dk_29 (dk_at dksJ14_compareToLatin1_2_0 2 rfl rfl)
theorem dJ14_compareToLatin1_2_3 : decode cJ14_compareToLatin1_2 3 = .ok (.iload_n 2, 1) := dk_28 (dk_at dksJ14_compareToLatin1_2_0 3 rfl rfl)
theorem dJ14_compareToLatin1_2_4 : decode cJ14_compareToLatin1_2 4 = .ok (.invokestatic 193, 3) := dk_184 0 193 (dk_at dksJ14_compareToLatin1_2_0 4 rfl rfl)
theorem dJ14_compareToLatin1_2_7 : decode cJ14_compareToLatin1_2 7 = .ok (.ineg, 1) := dk_116 (dk_at dksJ14_compareToLatin1_2_0 7 rfl rfl)
theorem dJ14_compareToLatin1_2_8 : decode cJ14_compareToLatin1_2 8 = .ok (.ireturn, 1) := dk_172 (dk_at dksJ14_compareToLatin1_2_0 8 rfl rfl)
theorem q135 : (Jvm.Cond.initialized "java/lang/StringUTF16") ∈ lw_all := lw_g (lw_at lw_m1 20 rfl) rfl
theorem q494 : (Jvm.Cond.static ({ cls := "java/lang/StringUTF16", name := "newBytesFor", desc := "(I)[B" } : Jvm.MethodName)) ∈ lw_all := lw_g (lw_at lw_m2 139 rfl) rfl
theorem q495 : (Jvm.Cond.code ({ cls := "java/lang/StringUTF16", name := "newBytesFor", desc := "(I)[B" } : Jvm.MethodName) prog_38_method_2_code (1 : Nat) (Option.some (Jvm.ClassFile.FieldType.array Jvm.ClassFile.FieldType.byte))) ∈ lw_all := lw_g (lw_at lw_m2 140 rfl) rfl
theorem q496 : (Jvm.Cond.methodLink "java/lang/StringUTF16" (11 : Nat) ({ cls := "java/lang/StringUTF16", name := "newBytesLength", desc := "(I)I" } : Jvm.MethodName)) ∈ lw_all := lw_g (lw_at lw_m2 141 rfl) rfl
theorem q497 : (Jvm.Cond.static ({ cls := "java/lang/StringUTF16", name := "newBytesLength", desc := "(I)I" } : Jvm.MethodName)) ∈ lw_all := lw_g (lw_at lw_m2 142 rfl) rfl
theorem q498 : (Jvm.Cond.code ({ cls := "java/lang/StringUTF16", name := "newBytesLength", desc := "(I)I" } : Jvm.MethodName) prog_38_method_3_code (1 : Nat) (Option.some Jvm.ClassFile.FieldType.int)) ∈ lw_all := lw_g (lw_at lw_m2 143 rfl) rfl
theorem q499 : (Jvm.Cond.constant "java/lang/StringUTF16" (20 : Nat) (1073741823 : Int32)) ∈ lw_all := lw_g (lw_at lw_m2 144 rfl) rfl
theorem q578 : (Jvm.Cond.static ({ cls := "java/lang/StringUTF16", name := "inflate", desc := "([BI[BII)V" } : Jvm.MethodName)) ∈ lw_all := lw_g (lw_at lw_m2 223 rfl) rfl
theorem q579 : (Jvm.Cond.code ({ cls := "java/lang/StringUTF16", name := "inflate", desc := "([BI[BII)V" } : Jvm.MethodName) prog_38_method_86_code (6 : Nat) (Option.none : Option Jvm.ClassFile.FieldType)) ∈ lw_all := lw_g (lw_at lw_m2 224 rfl) rfl
theorem q580 : (Jvm.Cond.methodLink "java/lang/StringUTF16" (173 : Nat) ({ cls := "java/lang/StringUTF16", name := "checkBoundsOffCount", desc := "(II[B)V" } : Jvm.MethodName)) ∈ lw_all := lw_g (lw_at lw_m2 225 rfl) rfl
theorem q581 : (Jvm.Cond.static ({ cls := "java/lang/StringUTF16", name := "checkBoundsOffCount", desc := "(II[B)V" } : Jvm.MethodName)) ∈ lw_all := lw_g (lw_at lw_m2 226 rfl) rfl
theorem q582 : (Jvm.Cond.code ({ cls := "java/lang/StringUTF16", name := "checkBoundsOffCount", desc := "(II[B)V" } : Jvm.MethodName) prog_38_method_94_code (3 : Nat) (Option.none : Option Jvm.ClassFile.FieldType)) ∈ lw_all := lw_g (lw_at lw_m2 227 rfl) rfl
theorem q583 : (Jvm.Cond.methodLink "java/lang/StringUTF16" (48 : Nat) ({ cls := "java/lang/StringUTF16", name := "length", desc := "([B)I" } : Jvm.MethodName)) ∈ lw_all := lw_g (lw_at lw_m2 228 rfl) rfl
theorem q584 : (Jvm.Cond.static ({ cls := "java/lang/StringUTF16", name := "length", desc := "([B)I" } : Jvm.MethodName)) ∈ lw_all := lw_g (lw_at lw_m2 229 rfl) rfl
theorem q585 : (Jvm.Cond.code ({ cls := "java/lang/StringUTF16", name := "length", desc := "([B)I" } : Jvm.MethodName) prog_38_method_6_code (1 : Nat) (Option.some Jvm.ClassFile.FieldType.int)) ∈ lw_all := lw_g (lw_at lw_m2 230 rfl) rfl
theorem q586 : (Jvm.Cond.methodLink "java/lang/StringUTF16" (419 : Nat) ({ cls := "java/lang/String", name := "checkBoundsOffCount", desc := "(III)I" } : Jvm.MethodName)) ∈ lw_all := lw_g (lw_at lw_m2 231 rfl) rfl
theorem q594 : (Jvm.Cond.methodLink "java/lang/StringUTF16" (111 : Nat) ({ cls := "java/lang/StringUTF16", name := "putChar", desc := "([BII)V" } : Jvm.MethodName)) ∈ lw_all := lw_g (lw_at lw_m2 239 rfl) rfl
theorem q595 : (Jvm.Cond.static ({ cls := "java/lang/StringUTF16", name := "putChar", desc := "([BII)V" } : Jvm.MethodName)) ∈ lw_all := lw_g (lw_at lw_m3 0 rfl) rfl
theorem q596 : (Jvm.Cond.code ({ cls := "java/lang/StringUTF16", name := "putChar", desc := "([BII)V" } : Jvm.MethodName) prog_38_method_4_code (3 : Nat) (Option.none : Option Jvm.ClassFile.FieldType)) ∈ lw_all := lw_g (lw_at lw_m3 1 rfl) rfl
theorem q597 : (Jvm.Cond.fieldLink "java/lang/StringUTF16" (44 : Nat) "java/lang/StringUTF16" "$assertionsDisabled" "Z") ∈ lw_all := lw_g (lw_at lw_m3 2 rfl) rfl
theorem q598 : (Jvm.Cond.laysStatic "java/lang/StringUTF16" "$assertionsDisabled" "Z") ∈ lw_tbl := lw_at lw_m3 3 rfl
theorem q599 : (Jvm.Cond.fieldLink "java/lang/StringUTF16" (59 : Nat) "java/lang/StringUTF16" "HI_BYTE_SHIFT" "I") ∈ lw_all := lw_g (lw_at lw_m3 4 rfl) rfl
theorem q600 : (Jvm.Cond.laysStatic "java/lang/StringUTF16" "HI_BYTE_SHIFT" "I") ∈ lw_tbl := lw_at lw_m3 5 rfl
theorem q601 : (Jvm.Cond.fieldLink "java/lang/StringUTF16" (63 : Nat) "java/lang/StringUTF16" "LO_BYTE_SHIFT" "I") ∈ lw_all := lw_g (lw_at lw_m3 6 rfl) rfl
theorem q602 : (Jvm.Cond.laysStatic "java/lang/StringUTF16" "LO_BYTE_SHIFT" "I") ∈ lw_tbl := lw_at lw_m3 7 rfl
theorem q604 : (Jvm.Cond.static ({ cls := "java/lang/StringUTF16", name := "putCharSB", desc := "([BII)V" } : Jvm.MethodName)) ∈ lw_all := lw_g (lw_at lw_m3 9 rfl) rfl
theorem q605 : (Jvm.Cond.code ({ cls := "java/lang/StringUTF16", name := "putCharSB", desc := "([BII)V" } : Jvm.MethodName) prog_38_method_71_code (3 : Nat) (Option.none : Option Jvm.ClassFile.FieldType)) ∈ lw_all := lw_g (lw_at lw_m3 10 rfl) rfl
theorem q606 : (Jvm.Cond.methodLink "java/lang/StringUTF16" (67 : Nat) ({ cls := "java/lang/StringUTF16", name := "checkIndex", desc := "(I[B)V" } : Jvm.MethodName)) ∈ lw_all := lw_g (lw_at lw_m3 11 rfl) rfl
theorem q607 : (Jvm.Cond.static ({ cls := "java/lang/StringUTF16", name := "checkIndex", desc := "(I[B)V" } : Jvm.MethodName)) ∈ lw_all := lw_g (lw_at lw_m3 12 rfl) rfl
theorem q608 : (Jvm.Cond.code ({ cls := "java/lang/StringUTF16", name := "checkIndex", desc := "(I[B)V" } : Jvm.MethodName) prog_38_method_91_code (2 : Nat) (Option.none : Option Jvm.ClassFile.FieldType)) ∈ lw_all := lw_g (lw_at lw_m3 13 rfl) rfl
theorem q609 : (Jvm.Cond.methodLink "java/lang/StringUTF16" (414 : Nat) ({ cls := "java/lang/String", name := "checkIndex", desc := "(II)V" } : Jvm.MethodName)) ∈ lw_all := lw_g (lw_at lw_m3 14 rfl) rfl
theorem q673 : (Jvm.Cond.static ({ cls := "java/lang/StringUTF16", name := "getChars", desc := "(III[B)I" } : Jvm.MethodName)) ∈ lw_all := lw_g (lw_at lw_m3 78 rfl) rfl
theorem q674 : (Jvm.Cond.code ({ cls := "java/lang/StringUTF16", name := "getChars", desc := "(III[B)I" } : Jvm.MethodName) prog_38_method_77_code (5 : Nat) (Option.some Jvm.ClassFile.FieldType.int)) ∈ lw_all := lw_g (lw_at lw_m3 79 rfl) rfl
theorem q675 : (Jvm.Cond.methodLink "java/lang/StringUTF16" (96 : Nat) ({ cls := "java/lang/StringUTF16", name := "checkBoundsBeginEnd", desc := "(II[B)V" } : Jvm.MethodName)) ∈ lw_all := lw_g (lw_at lw_m3 80 rfl) rfl
theorem q676 : (Jvm.Cond.static ({ cls := "java/lang/StringUTF16", name := "checkBoundsBeginEnd", desc := "(II[B)V" } : Jvm.MethodName)) ∈ lw_all := lw_g (lw_at lw_m3 81 rfl) rfl
theorem q677 : (Jvm.Cond.code ({ cls := "java/lang/StringUTF16", name := "checkBoundsBeginEnd", desc := "(II[B)V" } : Jvm.MethodName) prog_38_method_93_code (3 : Nat) (Option.none : Option Jvm.ClassFile.FieldType)) ∈ lw_all := lw_g (lw_at lw_m3 82 rfl) rfl
theorem q678 : (Jvm.Cond.methodLink "java/lang/StringUTF16" (241 : Nat) ({ cls := "java/lang/String", name := "checkBoundsBeginEnd", desc := "(III)V" } : Jvm.MethodName)) ∈ lw_all := lw_g (lw_at lw_m3 83 rfl) rfl
theorem q684 : (Jvm.Cond.methodLink "java/lang/StringUTF16" (393 : Nat) ({ cls := "java/lang/StringUTF16", name := "getChars", desc := "(II[B)I" } : Jvm.MethodName)) ∈ lw_all := lw_g (lw_at lw_m3 89 rfl) rfl
theorem q685 : (Jvm.Cond.static ({ cls := "java/lang/StringUTF16", name := "getChars", desc := "(II[B)I" } : Jvm.MethodName)) ∈ lw_all := lw_g (lw_at lw_m3 90 rfl) rfl
theorem q686 : (Jvm.Cond.code ({ cls := "java/lang/StringUTF16", name := "getChars", desc := "(II[B)I" } : Jvm.MethodName) prog_38_method_89_code (7 : Nat) (Option.some Jvm.ClassFile.FieldType.int)) ∈ lw_all := lw_g (lw_at lw_m3 91 rfl) rfl
theorem q687 : (Jvm.Cond.fieldLink "java/lang/StringUTF16" (403 : Nat) "java/lang/Integer" "DigitOnes" "[B") ∈ lw_all := lw_g (lw_at lw_m3 92 rfl) rfl
theorem q688 : (Jvm.Cond.fieldLink "java/lang/StringUTF16" (407 : Nat) "java/lang/Integer" "DigitTens" "[B") ∈ lw_all := lw_g (lw_at lw_m3 93 rfl) rfl
theorem q702 : (Jvm.Cond.static ({ cls := "java/lang/StringUTF16", name := "putCharsAt", desc := "([BICCCC)I" } : Jvm.MethodName)) ∈ lw_all := lw_g (lw_at lw_m3 107 rfl) rfl
theorem q703 : (Jvm.Cond.code ({ cls := "java/lang/StringUTF16", name := "putCharsAt", desc := "([BICCCC)I" } : Jvm.MethodName) prog_38_method_81_code (7 : Nat) (Option.some Jvm.ClassFile.FieldType.int)) ∈ lw_all := lw_g (lw_at lw_m3 108 rfl) rfl
theorem q736 : (Jvm.Cond.static ({ cls := "java/lang/StringUTF16", name := "compress", desc := "([BII)[B" } : Jvm.MethodName)) ∈ lw_all := lw_g (lw_at lw_m3 141 rfl) rfl
theorem q737 : (Jvm.Cond.code ({ cls := "java/lang/StringUTF16", name := "compress", desc := "([BII)[B" } : Jvm.MethodName) prog_38_method_17_code (6 : Nat) (Option.some (Jvm.ClassFile.FieldType.array Jvm.ClassFile.FieldType.byte))) ∈ lw_all := lw_g (lw_at lw_m3 142 rfl) rfl
theorem q738 : (Jvm.Cond.methodLink "java/lang/StringUTF16" (123 : Nat) ({ cls := "java/lang/StringUTF16", name := "compress", desc := "([BI[BII)I" } : Jvm.MethodName)) ∈ lw_all := lw_g (lw_at lw_m3 143 rfl) rfl
theorem q739 : (Jvm.Cond.static ({ cls := "java/lang/StringUTF16", name := "compress", desc := "([BI[BII)I" } : Jvm.MethodName)) ∈ lw_all := lw_g (lw_at lw_m3 144 rfl) rfl
theorem q740 : (Jvm.Cond.code ({ cls := "java/lang/StringUTF16", name := "compress", desc := "([BI[BII)I" } : Jvm.MethodName) prog_38_method_22_code (7 : Nat) (Option.some Jvm.ClassFile.FieldType.int)) ∈ lw_all := lw_g (lw_at lw_m3 145 rfl) rfl
theorem q741 : (Jvm.Cond.methodLink "java/lang/StringUTF16" (71 : Nat) ({ cls := "java/lang/StringUTF16", name := "getChar", desc := "([BI)C" } : Jvm.MethodName)) ∈ lw_all := lw_g (lw_at lw_m3 146 rfl) rfl
theorem q742 : (Jvm.Cond.static ({ cls := "java/lang/StringUTF16", name := "getChar", desc := "([BI)C" } : Jvm.MethodName)) ∈ lw_all := lw_g (lw_at lw_m3 147 rfl) rfl
theorem q743 : (Jvm.Cond.code ({ cls := "java/lang/StringUTF16", name := "getChar", desc := "([BI)C" } : Jvm.MethodName) prog_38_method_5_code (2 : Nat) (Option.some Jvm.ClassFile.FieldType.char)) ∈ lw_all := lw_g (lw_at lw_m3 148 rfl) rfl
theorem q744 : (Jvm.Cond.methodLink "java/lang/StringUTF16" (126 : Nat) ({ cls := "java/util/Arrays", name := "copyOfRange", desc := "([BII)[B" } : Jvm.MethodName)) ∈ lw_all := lw_g (lw_at lw_m3 149 rfl) rfl
theorem q746 : (Jvm.Cond.static ({ cls := "java/lang/StringUTF16", name := "coderFromArrayLen", desc := "([BI)B" } : Jvm.MethodName)) ∈ lw_all := lw_g (lw_at lw_m3 151 rfl) rfl
theorem q747 : (Jvm.Cond.code ({ cls := "java/lang/StringUTF16", name := "coderFromArrayLen", desc := "([BI)B" } : Jvm.MethodName) prog_38_method_15_code (2 : Nat) (Option.some Jvm.ClassFile.FieldType.byte)) ∈ lw_all := lw_g (lw_at lw_m3 152 rfl) rfl
theorem q779 : (Jvm.Cond.static ({ cls := "java/lang/StringUTF16", name := "charAt", desc := "([BI)C" } : Jvm.MethodName)) ∈ lw_all := lw_g (lw_at lw_m3 184 rfl) rfl
theorem q780 : (Jvm.Cond.code ({ cls := "java/lang/StringUTF16", name := "charAt", desc := "([BI)C" } : Jvm.MethodName) prog_38_method_83_code (2 : Nat) (Option.some Jvm.ClassFile.FieldType.char)) ∈ lw_all := lw_g (lw_at lw_m3 185 rfl) rfl
theorem q802 : (Jvm.Cond.static ({ cls := "java/lang/StringUTF16", name := "newString", desc := "([BII)Ljava/lang/String;" } : Jvm.MethodName)) ∈ lw_all := lw_g (lw_at lw_m3 207 rfl) rfl
theorem q803 : (Jvm.Cond.code ({ cls := "java/lang/StringUTF16", name := "newString", desc := "([BII)Ljava/lang/String;" } : Jvm.MethodName) prog_38_method_69_code (5 : Nat) (Option.some (Jvm.ClassFile.FieldType.object "java/lang/String"))) ∈ lw_all := lw_g (lw_at lw_m3 208 rfl) rfl
theorem q804 : (Jvm.Cond.stringRef "java/lang/StringUTF16" (295 : Nat) "") ∈ lw_tbl := lw_at lw_m3 209 rfl
theorem q805 : (Jvm.Cond.fieldLink "java/lang/StringUTF16" (251 : Nat) "java/lang/String" "COMPACT_STRINGS" "Z") ∈ lw_all := lw_g (lw_at lw_m3 210 rfl) rfl
theorem q806 : (Jvm.Cond.methodLink "java/lang/StringUTF16" (257 : Nat) ({ cls := "java/lang/StringUTF16", name := "compress", desc := "([BII)[B" } : Jvm.MethodName)) ∈ lw_all := lw_g (lw_at lw_m3 211 rfl) rfl
theorem q807 : (Jvm.Cond.methodLink "java/lang/StringUTF16" (259 : Nat) ({ cls := "java/lang/StringUTF16", name := "coderFromArrayLen", desc := "([BI)B" } : Jvm.MethodName)) ∈ lw_all := lw_g (lw_at lw_m3 212 rfl) rfl
theorem q808 : (Jvm.Cond.classLink "java/lang/StringUTF16" (3 : Nat) "java/lang/String") ∈ lw_all := lw_g (lw_at lw_m3 213 rfl) rfl
theorem q809 : (Jvm.Cond.methodLink "java/lang/StringUTF16" (263 : Nat) ({ cls := "java/lang/String", name := "<init>", desc := "([BB)V" } : Jvm.MethodName)) ∈ lw_all := lw_g (lw_at lw_m3 214 rfl) rfl
theorem q935 : (Jvm.Cond.static ({ cls := "java/lang/StringUTF16", name := "indexOf", desc := "([BIII)I" } : Jvm.MethodName)) ∈ lw_all := lw_g (lw_at lw_m4 100 rfl) rfl
theorem q936 : (Jvm.Cond.code ({ cls := "java/lang/StringUTF16", name := "indexOf", desc := "([BIII)I" } : Jvm.MethodName) prog_38_method_40_code (4 : Nat) (Option.some Jvm.ClassFile.FieldType.int)) ∈ lw_all := lw_g (lw_at lw_m4 101 rfl) rfl
theorem q937 : (Jvm.Cond.methodLink "java/lang/StringUTF16" (224 : Nat) ({ cls := "java/lang/Math", name := "max", desc := "(II)I" } : Jvm.MethodName)) ∈ lw_all := lw_g (lw_at lw_m4 102 rfl) rfl
theorem q938 : (Jvm.Cond.methodLink "java/lang/StringUTF16" (183 : Nat) ({ cls := "java/lang/Math", name := "min", desc := "(II)I" } : Jvm.MethodName)) ∈ lw_all := lw_g (lw_at lw_m4 103 rfl) rfl
theorem q939 : (Jvm.Cond.constant "java/lang/StringUTF16" (227 : Nat) (65536 : Int32)) ∈ lw_all := lw_g (lw_at lw_m4 104 rfl) rfl
theorem q940 : (Jvm.Cond.methodLink "java/lang/StringUTF16" (228 : Nat) ({ cls := "java/lang/StringUTF16", name := "indexOfChar", desc := "([BIII)I" } : Jvm.MethodName)) ∈ lw_all := lw_g (lw_at lw_m4 105 rfl) rfl
theorem q941 : (Jvm.Cond.static ({ cls := "java/lang/StringUTF16", name := "indexOfChar", desc := "([BIII)I" } : Jvm.MethodName)) ∈ lw_all := lw_g (lw_at lw_m4 106 rfl) rfl
theorem q942 : (Jvm.Cond.code ({ cls := "java/lang/StringUTF16", name := "indexOfChar", desc := "([BIII)I" } : Jvm.MethodName) prog_38_method_47_code (4 : Nat) (Option.some Jvm.ClassFile.FieldType.int)) ∈ lw_all := lw_g (lw_at lw_m4 107 rfl) rfl
theorem q943 : (Jvm.Cond.methodLink "java/lang/StringUTF16" (244 : Nat) ({ cls := "java/lang/StringUTF16", name := "indexOfCharUnsafe", desc := "([BIII)I" } : Jvm.MethodName)) ∈ lw_all := lw_g (lw_at lw_m4 108 rfl) rfl
theorem q944 : (Jvm.Cond.static ({ cls := "java/lang/StringUTF16", name := "indexOfCharUnsafe", desc := "([BIII)I" } : Jvm.MethodName)) ∈ lw_all := lw_g (lw_at lw_m4 109 rfl) rfl
theorem q945 : (Jvm.Cond.code ({ cls := "java/lang/StringUTF16", name := "indexOfCharUnsafe", desc := "([BIII)I" } : Jvm.MethodName) prog_38_method_48_code (5 : Nat) (Option.some Jvm.ClassFile.FieldType.int)) ∈ lw_all := lw_g (lw_at lw_m4 110 rfl) rfl
theorem q946 : (Jvm.Cond.methodLink "java/lang/StringUTF16" (232 : Nat) ({ cls := "java/lang/StringUTF16", name := "indexOfSupplementary", desc := "([BIII)I" } : Jvm.MethodName)) ∈ lw_all := lw_g (lw_at lw_m4 111 rfl) rfl
theorem q947 : (Jvm.Cond.static ({ cls := "java/lang/StringUTF16", name := "indexOfSupplementary", desc := "([BIII)I" } : Jvm.MethodName)) ∈ lw_all := lw_g (lw_at lw_m4 112 rfl) rfl
theorem q948 : (Jvm.Cond.code ({ cls := "java/lang/StringUTF16", name := "indexOfSupplementary", desc := "([BIII)I" } : Jvm.MethodName) prog_38_method_49_code (7 : Nat) (Option.some Jvm.ClassFile.FieldType.int)) ∈ lw_all := lw_g (lw_at lw_m4 113 rfl) rfl
theorem q949 : (Jvm.Cond.methodLink "java/lang/StringUTF16" (164 : Nat) ({ cls := "java/lang/Character", name := "isValidCodePoint", desc := "(I)Z" } : Jvm.MethodName)) ∈ lw_all := lw_g (lw_at lw_m4 114 rfl) rfl
theorem q952 : (Jvm.Cond.methodLink "java/lang/StringUTF16" (157 : Nat) ({ cls := "java/lang/Character", name := "highSurrogate", desc := "(I)C" } : Jvm.MethodName)) ∈ lw_all := lw_g (lw_at lw_m4 117 rfl) rfl
theorem q956 : (Jvm.Cond.methodLink "java/lang/StringUTF16" (161 : Nat) ({ cls := "java/lang/Character", name := "lowSurrogate", desc := "(I)C" } : Jvm.MethodName)) ∈ lw_all := lw_g (lw_at lw_m4 121 rfl) rfl
theorem q1210 : (Jvm.Cond.static ({ cls := "java/lang/StringUTF16", name := "hashCode", desc := "([B)I" } : Jvm.MethodName)) ∈ lw_all := lw_g (lw_at lw_m5 135 rfl) rfl
theorem q1211 : (Jvm.Cond.code ({ cls := "java/lang/StringUTF16", name := "hashCode", desc := "([B)I" } : Jvm.MethodName) prog_38_method_39_code (1 : Nat) (Option.some Jvm.ClassFile.FieldType.int)) ∈ lw_all := lw_g (lw_at lw_m5 136 rfl) rfl
theorem q1212 : (Jvm.Cond.methodLink "java/lang/StringUTF16" (220 : Nat) ({ cls := "jdk/internal/util/ArraysSupport", name := "vectorizedHashCode", desc := "(Ljava/lang/Object;IIII)I" } : Jvm.MethodName)) ∈ lw_all := lw_g (lw_at lw_m5 137 rfl) rfl
theorem q1443 : (Jvm.Cond.static ({ cls := "java/lang/StringUTF16", name := "compareTo", desc := "([B[B)I" } : Jvm.MethodName)) ∈ lw_all := lw_g (lw_at lw_m6 128 rfl) rfl
theorem q1444 : (Jvm.Cond.code ({ cls := "java/lang/StringUTF16", name := "compareTo", desc := "([B[B)I" } : Jvm.MethodName) prog_38_method_29_code (4 : Nat) (Option.some Jvm.ClassFile.FieldType.int)) ∈ lw_all := lw_g (lw_at lw_m6 129 rfl) rfl
theorem q1445 : (Jvm.Cond.methodLink "java/lang/StringUTF16" (176 : Nat) ({ cls := "java/lang/StringUTF16", name := "compareValues", desc := "([B[BII)I" } : Jvm.MethodName)) ∈ lw_all := lw_g (lw_at lw_m6 130 rfl) rfl
theorem q1446 : (Jvm.Cond.static ({ cls := "java/lang/StringUTF16", name := "compareValues", desc := "([B[BII)I" } : Jvm.MethodName)) ∈ lw_all := lw_g (lw_at lw_m6 131 rfl) rfl
theorem q1447 : (Jvm.Cond.code ({ cls := "java/lang/StringUTF16", name := "compareValues", desc := "([B[BII)I" } : Jvm.MethodName) prog_38_method_31_code (8 : Nat) (Option.some Jvm.ClassFile.FieldType.int)) ∈ lw_all := lw_g (lw_at lw_m6 132 rfl) rfl
theorem q1460 : (Jvm.Cond.static ({ cls := "java/lang/StringUTF16", name := "compareToLatin1", desc := "([B[B)I" } : Jvm.MethodName)) ∈ lw_all := lw_g (lw_at lw_m6 145 rfl) rfl
theorem q1461 : (Jvm.Cond.code ({ cls := "java/lang/StringUTF16", name := "compareToLatin1", desc := "([B[B)I" } : Jvm.MethodName) prog_38_method_32_code (2 : Nat) (Option.some Jvm.ClassFile.FieldType.int)) ∈ lw_all := lw_g (lw_at lw_m6 146 rfl) rfl
theorem q1462 : (Jvm.Cond.methodLink "java/lang/StringUTF16" (189 : Nat) ({ cls := "java/lang/StringLatin1", name := "compareToUTF16", desc := "([B[B)I" } : Jvm.MethodName)) ∈ lw_all := lw_g (lw_at lw_m6 147 rfl) rfl
theorem q1479 : (Jvm.Cond.static ({ cls := "java/lang/StringUTF16", name := "compareTo", desc := "([B[BII)I" } : Jvm.MethodName)) ∈ lw_all := lw_g (lw_at lw_m6 164 rfl) rfl
theorem q1480 : (Jvm.Cond.code ({ cls := "java/lang/StringUTF16", name := "compareTo", desc := "([B[BII)I" } : Jvm.MethodName) prog_38_method_30_code (4 : Nat) (Option.some Jvm.ClassFile.FieldType.int)) ∈ lw_all := lw_g (lw_at lw_m6 165 rfl) rfl
theorem q1481 : (Jvm.Cond.methodLink "java/lang/StringUTF16" (180 : Nat) ({ cls := "java/lang/StringUTF16", name := "checkOffset", desc := "(I[B)V" } : Jvm.MethodName)) ∈ lw_all := lw_g (lw_at lw_m6 166 rfl) rfl
theorem q1482 : (Jvm.Cond.static ({ cls := "java/lang/StringUTF16", name := "checkOffset", desc := "(I[B)V" } : Jvm.MethodName)) ∈ lw_all := lw_g (lw_at lw_m6 167 rfl) rfl
theorem q1483 : (Jvm.Cond.code ({ cls := "java/lang/StringUTF16", name := "checkOffset", desc := "(I[B)V" } : Jvm.MethodName) prog_38_method_92_code (2 : Nat) (Option.none : Option Jvm.ClassFile.FieldType)) ∈ lw_all := lw_g (lw_at lw_m6 168 rfl) rfl
theorem q1484 : (Jvm.Cond.methodLink "java/lang/StringUTF16" (417 : Nat) ({ cls := "java/lang/String", name := "checkOffset", desc := "(II)V" } : Jvm.MethodName)) ∈ lw_all := lw_g (lw_at lw_m6 169 rfl) rfl
theorem q1492 : (Jvm.Cond.static ({ cls := "java/lang/StringUTF16", name := "compareToLatin1", desc := "([B[BII)I" } : Jvm.MethodName)) ∈ lw_all := lw_g (lw_at lw_m6 177 rfl) rfl
theorem q1493 : (Jvm.Cond.code ({ cls := "java/lang/StringUTF16", name := "compareToLatin1", desc := "([B[BII)I" } : Jvm.MethodName) prog_38_method_33_code (4 : Nat) (Option.some Jvm.ClassFile.FieldType.int)) ∈ lw_all := lw_g (lw_at lw_m6 178 rfl) rfl
theorem q1494 : (Jvm.Cond.methodLink "java/lang/StringUTF16" (193 : Nat) ({ cls := "java/lang/StringLatin1", name := "compareToUTF16", desc := "([B[BII)I" } : Jvm.MethodName)) ∈ lw_all := lw_g (lw_at lw_m6 179 rfl) rfl
/-! jdk/internal/util/ArraysSupport -/
set_option maxRecDepth 100000
def RJ15 : String := "jdk/internal/util/ArraysSupport"
abbrev cJ15_newLength : ByteArray := prog_70_method_27_code
def yJ15_newLength : MethodName := ⟨RJ15, "newLength", "(III)I"⟩
def dkwJ15_newLength_1 : List UInt8 := [184, 0, 201, 172]
abbrev dktJ15_newLength_1 : List UInt8 := dkwJ15_newLength_1 ++ []
def dkwJ15_newLength_0 : List UInt8 := [26, 27, 28, 184, 0, 194, 96, 62, 3, 29, 162, 0, 11, 29, 18, 200, 163, 0, 5, 29, 172, 26, 27]
abbrev dktJ15_newLength_0 : List UInt8 := dkwJ15_newLength_0 ++ dktJ15_newLength_1
theorem dksJ15_newLength_0 : cJ15_newLength.data.toList.drop 0 = dktJ15_newLength_0 := by decide +kernel
theorem dksJ15_newLength_1 : cJ15_newLength.data.toList.drop 23 = dktJ15_newLength_1 := dk_seg dksJ15_newLength_0 23 rfl rfl
theorem dJ15_newLength_0 : decode cJ15_newLength 0 = .ok (.iload_n 0, 1) := dk_26 (dk_at dksJ15_newLength_0 0 rfl rfl)
theorem dJ15_newLength_1 : decode cJ15_newLength 1 = .ok (.iload_n 1, 1) := dk_27 (dk_at dksJ15_newLength_0 1 rfl rfl)
theorem dJ15_newLength_2 : decode cJ15_newLength 2 = .ok (.iload_n 2, 1) := dk_28 (dk_at dksJ15_newLength_0 2 rfl rfl)
theorem dJ15_newLength_3 : decode cJ15_newLength 3 = .ok (.invokestatic 194, 3) := dk_184 0 194 (dk_at dksJ15_newLength_0 3 rfl rfl)
theorem dJ15_newLength_6 : decode cJ15_newLength 6 = .ok (.iadd, 1) := dk_96 (dk_at dksJ15_newLength_0 6 rfl rfl)
theorem dJ15_newLength_7 : decode cJ15_newLength 7 = .ok (.istore_n 3, 1) := dk_62 (dk_at dksJ15_newLength_0 7 rfl rfl)
theorem dJ15_newLength_8 : decode cJ15_newLength 8 = .ok (.iconst 0, 1) := dk_3 (dk_at dksJ15_newLength_0 8 rfl rfl)
theorem dJ15_newLength_9 : decode cJ15_newLength 9 = .ok (.iload_n 3, 1) := dk_29 (dk_at dksJ15_newLength_0 9 rfl rfl)
theorem dJ15_newLength_10 : decode cJ15_newLength 10 = .ok (.if_icmp .ge 11, 3) := dk_162 0 11 (dk_at dksJ15_newLength_0 10 rfl rfl)
theorem dJ15_newLength_13 : decode cJ15_newLength 13 = .ok (.iload_n 3, 1) := dk_29 (dk_at dksJ15_newLength_0 13 rfl rfl)
theorem dJ15_newLength_14 : decode cJ15_newLength 14 = .ok (.ldc 200, 2) := dk_18 200 (dk_at dksJ15_newLength_0 14 rfl rfl)
theorem dJ15_newLength_16 : decode cJ15_newLength 16 = .ok (.if_icmp .gt 5, 3) := dk_163 0 5 (dk_at dksJ15_newLength_0 16 rfl rfl)
theorem dJ15_newLength_19 : decode cJ15_newLength 19 = .ok (.iload_n 3, 1) := dk_29 (dk_at dksJ15_newLength_0 19 rfl rfl)
theorem dJ15_newLength_20 : decode cJ15_newLength 20 = .ok (.ireturn, 1) := dk_172 (dk_at dksJ15_newLength_0 20 rfl rfl)
theorem dJ15_newLength_21 : decode cJ15_newLength 21 = .ok (.iload_n 0, 1) := dk_26 (dk_at dksJ15_newLength_0 21 rfl rfl)
theorem dJ15_newLength_22 : decode cJ15_newLength 22 = .ok (.iload_n 1, 1) := dk_27 (dk_at dksJ15_newLength_0 22 rfl rfl)
theorem dJ15_newLength_23 : decode cJ15_newLength 23 = .ok (.invokestatic 201, 3) := dk_184 0 201 (dk_at dksJ15_newLength_1 0 rfl rfl)
theorem dJ15_newLength_26 : decode cJ15_newLength 26 = .ok (.ireturn, 1) := dk_172 (dk_at dksJ15_newLength_1 3 rfl rfl)
abbrev cJ15_hugeLength : ByteArray := prog_70_method_28_code
def yJ15_hugeLength : MethodName := ⟨RJ15, "hugeLength", "(II)I"⟩
def dkwJ15_hugeLength_2 : List UInt8 := [191, 28, 18, 200, 163, 0, 6, 18, 200, 172, 28, 172]
abbrev dktJ15_hugeLength_2 : List UInt8 := dkwJ15_hugeLength_2 ++ []
def dkwJ15_hugeLength_1 : List UInt8 := [26, 182, 0, 98, 18, 208, 182, 0, 94, 27, 182, 0, 98, 18, 210, 182, 0, 94, 182, 0, 101, 183, 0, 212]
abbrev dktJ15_hugeLength_1 : List UInt8 := dkwJ15_hugeLength_1 ++ dktJ15_hugeLength_2
def dkwJ15_hugeLength_0 : List UInt8 := [26, 27, 96, 61, 28, 156, 0, 44, 187, 0, 204, 89, 187, 0, 89, 89, 183, 0, 91, 18, 206, 182, 0, 94]
abbrev dktJ15_hugeLength_0 : List UInt8 := dkwJ15_hugeLength_0 ++ dktJ15_hugeLength_1
theorem dksJ15_hugeLength_0 : cJ15_hugeLength.data.toList.drop 0 = dktJ15_hugeLength_0 := by decide +kernel
theorem dksJ15_hugeLength_1 : cJ15_hugeLength.data.toList.drop 24 = dktJ15_hugeLength_1 := dk_seg dksJ15_hugeLength_0 24 rfl rfl
theorem dksJ15_hugeLength_2 : cJ15_hugeLength.data.toList.drop 48 = dktJ15_hugeLength_2 := dk_seg dksJ15_hugeLength_1 24 rfl rfl
theorem dJ15_hugeLength_0 : decode cJ15_hugeLength 0 = .ok (.iload_n 0, 1) := dk_26 (dk_at dksJ15_hugeLength_0 0 rfl rfl)
theorem dJ15_hugeLength_1 : decode cJ15_hugeLength 1 = .ok (.iload_n 1, 1) := dk_27 (dk_at dksJ15_hugeLength_0 1 rfl rfl)
theorem dJ15_hugeLength_2 : decode cJ15_hugeLength 2 = .ok (.iadd, 1) := dk_96 (dk_at dksJ15_hugeLength_0 2 rfl rfl)
theorem dJ15_hugeLength_3 : decode cJ15_hugeLength 3 = .ok (.istore_n 2, 1) := dk_61 (dk_at dksJ15_hugeLength_0 3 rfl rfl)
theorem dJ15_hugeLength_4 : decode cJ15_hugeLength 4 = .ok (.iload_n 2, 1) := dk_28 (dk_at dksJ15_hugeLength_0 4 rfl rfl)
theorem dJ15_hugeLength_5 : decode cJ15_hugeLength 5 = .ok (.ifCond .ge 44, 3) := dk_156 0 44 (dk_at dksJ15_hugeLength_0 5 rfl rfl)
theorem dJ15_hugeLength_8 : decode cJ15_hugeLength 8 = .ok (.new 204, 3) := dk_187 0 204 (dk_at dksJ15_hugeLength_0 8 rfl rfl)
theorem dJ15_hugeLength_11 : decode cJ15_hugeLength 11 = .ok (.dup, 1) := dk_89 (dk_at dksJ15_hugeLength_0 11 rfl rfl)
theorem dJ15_hugeLength_12 : decode cJ15_hugeLength 12 = .ok (.new 89, 3) := dk_187 0 89 (dk_at dksJ15_hugeLength_0 12 rfl rfl)
theorem dJ15_hugeLength_15 : decode cJ15_hugeLength 15 = .ok (.dup, 1) := dk_89 (dk_at dksJ15_hugeLength_0 15 rfl rfl)
theorem dJ15_hugeLength_16 : decode cJ15_hugeLength 16 = .ok (.invokespecial 91, 3) := dk_183 0 91 (dk_at dksJ15_hugeLength_0 16 rfl rfl)
theorem dJ15_hugeLength_19 : decode cJ15_hugeLength 19 = .ok (.ldc 206, 2) := dk_18 206 (dk_at dksJ15_hugeLength_0 19 rfl rfl)
theorem dJ15_hugeLength_21 : decode cJ15_hugeLength 21 = .ok (.invokevirtual 94, 3) := dk_182 0 94 (dk_at dksJ15_hugeLength_0 21 rfl rfl)
theorem dJ15_hugeLength_24 : decode cJ15_hugeLength 24 = .ok (.iload_n 0, 1) := dk_26 (dk_at dksJ15_hugeLength_1 0 rfl rfl)
theorem dJ15_hugeLength_25 : decode cJ15_hugeLength 25 = .ok (.invokevirtual 98, 3) := dk_182 0 98 (dk_at dksJ15_hugeLength_1 1 rfl rfl)
theorem dJ15_hugeLength_28 : decode cJ15_hugeLength 28 = .ok (.ldc 208, 2) := dk_18 208 (dk_at dksJ15_hugeLength_1 4 rfl rfl)
theorem dJ15_hugeLength_30 : decode cJ15_hugeLength 30 = .ok (.invokevirtual 94, 3) := dk_182 0 94 (dk_at dksJ15_hugeLength_1 6 rfl rfl)
theorem dJ15_hugeLength_33 : decode cJ15_hugeLength 33 = .ok (.iload_n 1, 1) := dk_27 (dk_at dksJ15_hugeLength_1 9 rfl rfl)
theorem dJ15_hugeLength_34 : decode cJ15_hugeLength 34 = .ok (.invokevirtual 98, 3) := dk_182 0 98 (dk_at dksJ15_hugeLength_1 10 rfl rfl)
theorem dJ15_hugeLength_37 : decode cJ15_hugeLength 37 = .ok (.ldc 210, 2) := dk_18 210 (dk_at dksJ15_hugeLength_1 13 rfl rfl)
theorem dJ15_hugeLength_39 : decode cJ15_hugeLength 39 = .ok (.invokevirtual 94, 3) := dk_182 0 94 (dk_at dksJ15_hugeLength_1 15 rfl rfl)
theorem dJ15_hugeLength_42 : decode cJ15_hugeLength 42 = .ok (.invokevirtual 101, 3) := dk_182 0 101 (dk_at dksJ15_hugeLength_1 18 rfl rfl)
theorem dJ15_hugeLength_45 : decode cJ15_hugeLength 45 = .ok (.invokespecial 212, 3) := dk_183 0 212 (dk_at dksJ15_hugeLength_1 21 rfl rfl)
theorem dJ15_hugeLength_48 : decode cJ15_hugeLength 48 = .ok (.athrow, 1) := dk_191 (dk_at dksJ15_hugeLength_2 0 rfl rfl)
theorem dJ15_hugeLength_49 : decode cJ15_hugeLength 49 = .ok (.iload_n 2, 1) := dk_28 (dk_at dksJ15_hugeLength_2 1 rfl rfl)
theorem dJ15_hugeLength_50 : decode cJ15_hugeLength 50 = .ok (.ldc 200, 2) := dk_18 200 (dk_at dksJ15_hugeLength_2 2 rfl rfl)
theorem dJ15_hugeLength_52 : decode cJ15_hugeLength 52 = .ok (.if_icmp .gt 6, 3) := dk_163 0 6 (dk_at dksJ15_hugeLength_2 4 rfl rfl)
theorem dJ15_hugeLength_55 : decode cJ15_hugeLength 55 = .ok (.ldc 200, 2) := dk_18 200 (dk_at dksJ15_hugeLength_2 7 rfl rfl)
theorem dJ15_hugeLength_57 : decode cJ15_hugeLength 57 = .ok (.ireturn, 1) := dk_172 (dk_at dksJ15_hugeLength_2 9 rfl rfl)
theorem dJ15_hugeLength_58 : decode cJ15_hugeLength 58 = .ok (.iload_n 2, 1) := dk_28 (dk_at dksJ15_hugeLength_2 10 rfl rfl)
theorem dJ15_hugeLength_59 : decode cJ15_hugeLength 59 = .ok (.ireturn, 1) := dk_172 (dk_at dksJ15_hugeLength_2 11 rfl rfl)
abbrev cJ15_vectorizedHashCode : ByteArray := prog_70_method_4_code
def yJ15_vectorizedHashCode : MethodName := ⟨RJ15, "vectorizedHashCode", "(Ljava/lang/Object;IIII)I"⟩
def dkwJ15_vectorizedHashCode_6 : List UInt8 := [183, 0, 91, 18, 92, 182, 0, 94, 21, 4, 182, 0, 98, 182, 0, 101, 183, 0, 105, 191, 172]
abbrev dktJ15_vectorizedHashCode_6 : List UInt8 := dkwJ15_vectorizedHashCode_6 ++ []
def dkwJ15_vectorizedHashCode_5 : List UInt8 := [167, 0, 44, 29, 42, 192, 0, 82, 27, 28, 184, 0, 84, 167, 0, 31, 187, 0, 87, 89, 187, 0, 89, 89]
abbrev dktJ15_vectorizedHashCode_5 : List UInt8 := dkwJ15_vectorizedHashCode_5 ++ dktJ15_vectorizedHashCode_6
def dkwJ15_vectorizedHashCode_4 : List UInt8 := [29, 42, 192, 0, 60, 27, 28, 184, 0, 75, 167, 0, 57, 29, 42, 192, 0, 77, 27, 28, 184, 0, 79]
abbrev dktJ15_vectorizedHashCode_4 : List UInt8 := dkwJ15_vectorizedHashCode_4 ++ dktJ15_vectorizedHashCode_5
def dkwJ15_vectorizedHashCode_3 : List UInt8 := [192, 0, 60, 27, 28, 184, 0, 66, 167, 0, 83, 29, 42, 192, 0, 69, 27, 28, 184, 0, 71, 167, 0, 70]
abbrev dktJ15_vectorizedHashCode_3 : List UInt8 := dkwJ15_vectorizedHashCode_3 ++ dktJ15_vectorizedHashCode_4
def dkwJ15_vectorizedHashCode_2 : List UInt8 := [29, 42, 192, 0, 60, 27, 28, 184, 0, 62, 167, 0, 103, 42, 193, 0, 60, 153, 0, 16, 29, 42]
abbrev dktJ15_vectorizedHashCode_2 : List UInt8 := dkwJ15_vectorizedHashCode_2 ++ dktJ15_vectorizedHashCode_3
def dkwJ15_vectorizedHashCode_1 : List UInt8 := [170, 0, 0, 0, 0, 127, 0, 0, 0, 4, 0, 0, 0, 10, 0, 0, 0, 42, 0, 0, 0, 55, 0, 0, 0, 127, 0, 0, 0, 127, 0, 0, 0, 88, 0, 0, 0, 101, 0, 0, 0, 114]
abbrev dktJ15_vectorizedHashCode_1 : List UInt8 := dkwJ15_vectorizedHashCode_1 ++ dktJ15_vectorizedHashCode_2
def dkwJ15_vectorizedHashCode_0 : List UInt8 := [21, 4]
abbrev dktJ15_vectorizedHashCode_0 : List UInt8 := dkwJ15_vectorizedHashCode_0 ++ dktJ15_vectorizedHashCode_1
theorem dksJ15_vectorizedHashCode_0 : cJ15_vectorizedHashCode.data.toList.drop 0 = dktJ15_vectorizedHashCode_0 := by decide +kernel
theorem dksJ15_vectorizedHashCode_1 : cJ15_vectorizedHashCode.data.toList.drop 2 = dktJ15_vectorizedHashCode_1 := dk_seg dksJ15_vectorizedHashCode_0 2 rfl rfl
theorem dksJ15_vectorizedHashCode_2 : cJ15_vectorizedHashCode.data.toList.drop 44 = dktJ15_vectorizedHashCode_2 := dk_seg dksJ15_vectorizedHashCode_1 42 rfl rfl
theorem dksJ15_vectorizedHashCode_3 : cJ15_vectorizedHashCode.data.toList.drop 66 = dktJ15_vectorizedHashCode_3 := dk_seg dksJ15_vectorizedHashCode_2 22 rfl rfl
theorem dksJ15_vectorizedHashCode_4 : cJ15_vectorizedHashCode.data.toList.drop 90 = dktJ15_vectorizedHashCode_4 := dk_seg dksJ15_vectorizedHashCode_3 24 rfl rfl
theorem dksJ15_vectorizedHashCode_5 : cJ15_vectorizedHashCode.data.toList.drop 113 = dktJ15_vectorizedHashCode_5 := dk_seg dksJ15_vectorizedHashCode_4 23 rfl rfl
theorem dksJ15_vectorizedHashCode_6 : cJ15_vectorizedHashCode.data.toList.drop 137 = dktJ15_vectorizedHashCode_6 := dk_seg dksJ15_vectorizedHashCode_5 24 rfl rfl
theorem dJ15_vectorizedHashCode_0 : decode cJ15_vectorizedHashCode 0 = .ok (.iload 4, 2) := dk_21 4 (dk_at dksJ15_vectorizedHashCode_0 0 rfl rfl)
theorem dJ15_vectorizedHashCode_2 : decode cJ15_vectorizedHashCode 2 = .ok (.tableswitch 127 4 10 #[42, 55, 127, 127, 88, 101, 114], 42) := by decide +kernel
theorem dJ15_vectorizedHashCode_44 : decode cJ15_vectorizedHashCode 44 = .ok (.iload_n 3, 1) := dk_29 (dk_at dksJ15_vectorizedHashCode_2 0 rfl rfl)
theorem dJ15_vectorizedHashCode_45 : decode cJ15_vectorizedHashCode 45 = .ok (.aload_n 0, 1) := dk_42 (dk_at dksJ15_vectorizedHashCode_2 1 rfl rfl)
theorem dJ15_vectorizedHashCode_46 : decode cJ15_vectorizedHashCode 46 = .ok (.checkcast 60, 3) := dk_192 0 60 (dk_at dksJ15_vectorizedHashCode_2 2 rfl rfl)
theorem dJ15_vectorizedHashCode_49 : decode cJ15_vectorizedHashCode 49 = .ok (.iload_n 1, 1) := dk_27 (dk_at dksJ15_vectorizedHashCode_2 5 rfl rfl)
theorem dJ15_vectorizedHashCode_50 : decode cJ15_vectorizedHashCode 50 = .ok (.iload_n 2, 1) := dk_28 (dk_at dksJ15_vectorizedHashCode_2 6 rfl rfl)
theorem dJ15_vectorizedHashCode_51 : decode cJ15_vectorizedHashCode 51 = .ok (.invokestatic 62, 3) := dk_184 0 62 (dk_at dksJ15_vectorizedHashCode_2 7 rfl rfl)
theorem dJ15_vectorizedHashCode_54 : decode cJ15_vectorizedHashCode 54 = .ok (.goto 103, 3) := dk_167 0 103 (dk_at dksJ15_vectorizedHashCode_2 10 rfl rfl)
theorem dJ15_vectorizedHashCode_57 : decode cJ15_vectorizedHashCode 57 = .ok (.aload_n 0, 1) := dk_42 (dk_at dksJ15_vectorizedHashCode_2 13 rfl rfl)
theorem dJ15_vectorizedHashCode_58 : decode cJ15_vectorizedHashCode 58 = .ok (.instanceof 60, 3) := dk_193 0 60 (dk_at dksJ15_vectorizedHashCode_2 14 rfl rfl)
theorem dJ15_vectorizedHashCode_61 : decode cJ15_vectorizedHashCode 61 = .ok (.ifCond .eq 16, 3) := dk_153 0 16 (dk_at dksJ15_vectorizedHashCode_2 17 rfl rfl)
theorem dJ15_vectorizedHashCode_64 : decode cJ15_vectorizedHashCode 64 = .ok (.iload_n 3, 1) := dk_29 (dk_at dksJ15_vectorizedHashCode_2 20 rfl rfl)
theorem dJ15_vectorizedHashCode_65 : decode cJ15_vectorizedHashCode 65 = .ok (.aload_n 0, 1) := dk_42 (dk_at dksJ15_vectorizedHashCode_2 21 rfl rfl)
theorem dJ15_vectorizedHashCode_66 : decode cJ15_vectorizedHashCode 66 = .ok (.checkcast 60, 3) := dk_192 0 60 (dk_at dksJ15_vectorizedHashCode_3 0 rfl rfl)
theorem dJ15_vectorizedHashCode_69 : decode cJ15_vectorizedHashCode 69 = .ok (.iload_n 1, 1) := dk_27 (dk_at dksJ15_vectorizedHashCode_3 3 rfl rfl)
theorem dJ15_vectorizedHashCode_70 : decode cJ15_vectorizedHashCode 70 = .ok (.iload_n 2, 1) := dk_28 (dk_at dksJ15_vectorizedHashCode_3 4 rfl rfl)
theorem dJ15_vectorizedHashCode_71 : decode cJ15_vectorizedHashCode 71 = .ok (.invokestatic 66, 3) := dk_184 0 66 (dk_at dksJ15_vectorizedHashCode_3 5 rfl rfl)
theorem dJ15_vectorizedHashCode_74 : decode cJ15_vectorizedHashCode 74 = .ok (.goto 83, 3) := dk_167 0 83 (dk_at dksJ15_vectorizedHashCode_3 8 rfl rfl)
theorem dJ15_vectorizedHashCode_77 : decode cJ15_vectorizedHashCode 77 = .ok (.iload_n 3, 1) := dk_29 (dk_at dksJ15_vectorizedHashCode_3 11 rfl rfl)
theorem dJ15_vectorizedHashCode_78 : decode cJ15_vectorizedHashCode 78 = .ok (.aload_n 0, 1) := dk_42 (dk_at dksJ15_vectorizedHashCode_3 12 rfl rfl)
theorem dJ15_vectorizedHashCode_79 : decode cJ15_vectorizedHashCode 79 = .ok (.checkcast 69, 3) := dk_192 0 69 (dk_at dksJ15_vectorizedHashCode_3 13 rfl rfl)
theorem dJ15_vectorizedHashCode_82 : decode cJ15_vectorizedHashCode 82 = .ok (.iload_n 1, 1) := dk_27 (dk_at dksJ15_vectorizedHashCode_3 16 rfl rfl)
theorem dJ15_vectorizedHashCode_83 : decode cJ15_vectorizedHashCode 83 = .ok (.iload_n 2, 1) := dk_28 (dk_at dksJ15_vectorizedHashCode_3 17 rfl rfl)
theorem dJ15_vectorizedHashCode_84 : decode cJ15_vectorizedHashCode 84 = .ok (.invokestatic 71, 3) := dk_184 0 71 (dk_at dksJ15_vectorizedHashCode_3 18 rfl rfl)
theorem dJ15_vectorizedHashCode_87 : decode cJ15_vectorizedHashCode 87 = .ok (.goto 70, 3) := dk_167 0 70 (dk_at dksJ15_vectorizedHashCode_3 21 rfl rfl)
theorem dJ15_vectorizedHashCode_90 : decode cJ15_vectorizedHashCode 90 = .ok (.iload_n 3, 1) := dk_29 (dk_at dksJ15_vectorizedHashCode_4 0 rfl rfl)
theorem dJ15_vectorizedHashCode_91 : decode cJ15_vectorizedHashCode 91 = .ok (.aload_n 0, 1) := dk_42 (dk_at dksJ15_vectorizedHashCode_4 1 rfl rfl)
theorem dJ15_vectorizedHashCode_92 : decode cJ15_vectorizedHashCode 92 = .ok (.checkcast 60, 3) := dk_192 0 60 (dk_at dksJ15_vectorizedHashCode_4 2 rfl rfl)
theorem dJ15_vectorizedHashCode_95 : decode cJ15_vectorizedHashCode 95 = .ok (.iload_n 1, 1) := dk_27 (dk_at dksJ15_vectorizedHashCode_4 5 rfl rfl)
theorem dJ15_vectorizedHashCode_96 : decode cJ15_vectorizedHashCode 96 = .ok (.iload_n 2, 1) := dk_28 (dk_at dksJ15_vectorizedHashCode_4 6 rfl rfl)
theorem dJ15_vectorizedHashCode_97 : decode cJ15_vectorizedHashCode 97 = .ok (.invokestatic 75, 3) := dk_184 0 75 (dk_at dksJ15_vectorizedHashCode_4 7 rfl rfl)
theorem dJ15_vectorizedHashCode_100 : decode cJ15_vectorizedHashCode 100 = .ok (.goto 57, 3) := dk_167 0 57 (dk_at dksJ15_vectorizedHashCode_4 10 rfl rfl)
theorem dJ15_vectorizedHashCode_103 : decode cJ15_vectorizedHashCode 103 = .ok (.iload_n 3, 1) := dk_29 (dk_at dksJ15_vectorizedHashCode_4 13 rfl rfl)
theorem dJ15_vectorizedHashCode_104 : decode cJ15_vectorizedHashCode 104 = .ok (.aload_n 0, 1) := dk_42 (dk_at dksJ15_vectorizedHashCode_4 14 rfl rfl)
theorem dJ15_vectorizedHashCode_105 : decode cJ15_vectorizedHashCode 105 = .ok (.checkcast 77, 3) := dk_192 0 77 (dk_at dksJ15_vectorizedHashCode_4 15 rfl rfl)
theorem dJ15_vectorizedHashCode_108 : decode cJ15_vectorizedHashCode 108 = .ok (.iload_n 1, 1) := dk_27 (dk_at dksJ15_vectorizedHashCode_4 18 rfl rfl)
theorem dJ15_vectorizedHashCode_109 : decode cJ15_vectorizedHashCode 109 = .ok (.iload_n 2, 1) := dk_28 (dk_at dksJ15_vectorizedHashCode_4 19 rfl rfl)
theorem dJ15_vectorizedHashCode_110 : decode cJ15_vectorizedHashCode 110 = .ok (.invokestatic 79, 3) := dk_184 0 79 (dk_at dksJ15_vectorizedHashCode_4 20 rfl rfl)
theorem dJ15_vectorizedHashCode_113 : decode cJ15_vectorizedHashCode 113 = .ok (.goto 44, 3) := dk_167 0 44 (dk_at dksJ15_vectorizedHashCode_5 0 rfl rfl)
theorem dJ15_vectorizedHashCode_116 : decode cJ15_vectorizedHashCode 116 = .ok (.iload_n 3, 1) := dk_29 (dk_at dksJ15_vectorizedHashCode_5 3 rfl rfl)
theorem dJ15_vectorizedHashCode_117 : decode cJ15_vectorizedHashCode 117 = .ok (.aload_n 0, 1) := dk_42 (dk_at dksJ15_vectorizedHashCode_5 4 rfl rfl)
theorem dJ15_vectorizedHashCode_118 : decode cJ15_vectorizedHashCode 118 = .ok (.checkcast 82, 3) := dk_192 0 82 (dk_at dksJ15_vectorizedHashCode_5 5 rfl rfl)
theorem dJ15_vectorizedHashCode_121 : decode cJ15_vectorizedHashCode 121 = .ok (.iload_n 1, 1) := dk_27 (dk_at dksJ15_vectorizedHashCode_5 8 rfl rfl)
theorem dJ15_vectorizedHashCode_122 : decode cJ15_vectorizedHashCode 122 = .ok (.iload_n 2, 1) := dk_28 (dk_at dksJ15_vectorizedHashCode_5 9 rfl rfl)
theorem dJ15_vectorizedHashCode_123 : decode cJ15_vectorizedHashCode 123 = .ok (.invokestatic 84, 3) := dk_184 0 84 (dk_at dksJ15_vectorizedHashCode_5 10 rfl rfl)
theorem dJ15_vectorizedHashCode_126 : decode cJ15_vectorizedHashCode 126 = .ok (.goto 31, 3) := dk_167 0 31 (dk_at dksJ15_vectorizedHashCode_5 13 rfl rfl)
theorem dJ15_vectorizedHashCode_129 : decode cJ15_vectorizedHashCode 129 = .ok (.new 87, 3) := dk_187 0 87 (dk_at dksJ15_vectorizedHashCode_5 16 rfl rfl)
theorem dJ15_vectorizedHashCode_132 : decode cJ15_vectorizedHashCode 132 = .ok (.dup, 1) := dk_89 (dk_at dksJ15_vectorizedHashCode_5 19 rfl rfl)
theorem dJ15_vectorizedHashCode_133 : decode cJ15_vectorizedHashCode 133 = .ok (.new 89, 3) := dk_187 0 89 (dk_at dksJ15_vectorizedHashCode_5 20 rfl rfl)
theorem dJ15_vectorizedHashCode_136 : decode cJ15_vectorizedHashCode 136 = .ok (.dup, 1) := dk_89 (dk_at dksJ15_vectorizedHashCode_5 23 rfl rfl)
theorem dJ15_vectorizedHashCode_137 : decode cJ15_vectorizedHashCode 137 = .ok (.invokespecial 91, 3) := dk_183 0 91 (dk_at dksJ15_vectorizedHashCode_6 0 rfl rfl)
theorem dJ15_vectorizedHashCode_140 : decode cJ15_vectorizedHashCode 140 = .ok (.ldc 92, 2) := dk_18 92 (dk_at dksJ15_vectorizedHashCode_6 3 rfl rfl)
theorem dJ15_vectorizedHashCode_142 : decode cJ15_vectorizedHashCode 142 = .ok (.invokevirtual 94, 3) := dk_182 0 94 (dk_at dksJ15_vectorizedHashCode_6 5 rfl rfl)
theorem dJ15_vectorizedHashCode_145 : decode cJ15_vectorizedHashCode 145 = .ok (.iload 4, 2) := dk_21 4 (dk_at dksJ15_vectorizedHashCode_6 8 rfl rfl)
theorem dJ15_vectorizedHashCode_147 : decode cJ15_vectorizedHashCode 147 = .ok (.invokevirtual 98, 3) := dk_182 0 98 (dk_at dksJ15_vectorizedHashCode_6 10 rfl rfl)
theorem dJ15_vectorizedHashCode_150 : decode cJ15_vectorizedHashCode 150 = .ok (.invokevirtual 101, 3) := dk_182 0 101 (dk_at dksJ15_vectorizedHashCode_6 13 rfl rfl)
theorem dJ15_vectorizedHashCode_153 : decode cJ15_vectorizedHashCode 153 = .ok (.invokespecial 105, 3) := dk_183 0 105 (dk_at dksJ15_vectorizedHashCode_6 16 rfl rfl)
theorem dJ15_vectorizedHashCode_156 : decode cJ15_vectorizedHashCode 156 = .ok (.athrow, 1) := dk_191 (dk_at dksJ15_vectorizedHashCode_6 19 rfl rfl)
theorem dJ15_vectorizedHashCode_157 : decode cJ15_vectorizedHashCode 157 = .ok (.ireturn, 1) := dk_172 (dk_at dksJ15_vectorizedHashCode_6 20 rfl rfl)
abbrev cJ15_signedHashCode : ByteArray := prog_70_method_5_code
def yJ15_signedHashCode : MethodName := ⟨RJ15, "signedHashCode", "(I[BII)I"⟩
def dkwJ15_signedHashCode_1 : List UInt8 := [17, 0, 255, 126, 96, 59, 132, 5, 1, 167, 255, 232, 26, 172]
abbrev dktJ15_signedHashCode_1 : List UInt8 := dkwJ15_signedHashCode_1 ++ []
def dkwJ15_signedHashCode_0 : List UInt8 := [28, 29, 96, 54, 4, 28, 54, 5, 21, 5, 21, 4, 162, 0, 23, 16, 31, 26, 104, 43, 21, 5, 51]
abbrev dktJ15_signedHashCode_0 : List UInt8 := dkwJ15_signedHashCode_0 ++ dktJ15_signedHashCode_1
theorem dksJ15_signedHashCode_0 : cJ15_signedHashCode.data.toList.drop 0 = dktJ15_signedHashCode_0 := by decide +kernel
theorem dksJ15_signedHashCode_1 : cJ15_signedHashCode.data.toList.drop 23 = dktJ15_signedHashCode_1 := dk_seg dksJ15_signedHashCode_0 23 rfl rfl
theorem dJ15_signedHashCode_0 : decode cJ15_signedHashCode 0 = .ok (.iload_n 2, 1) := dk_28 (dk_at dksJ15_signedHashCode_0 0 rfl rfl)
theorem dJ15_signedHashCode_1 : decode cJ15_signedHashCode 1 = .ok (.iload_n 3, 1) := dk_29 (dk_at dksJ15_signedHashCode_0 1 rfl rfl)
theorem dJ15_signedHashCode_2 : decode cJ15_signedHashCode 2 = .ok (.iadd, 1) := dk_96 (dk_at dksJ15_signedHashCode_0 2 rfl rfl)
theorem dJ15_signedHashCode_3 : decode cJ15_signedHashCode 3 = .ok (.istore 4, 2) := dk_54 4 (dk_at dksJ15_signedHashCode_0 3 rfl rfl)
theorem dJ15_signedHashCode_5 : decode cJ15_signedHashCode 5 = .ok (.iload_n 2, 1) := dk_28 (dk_at dksJ15_signedHashCode_0 5 rfl rfl)
theorem dJ15_signedHashCode_6 : decode cJ15_signedHashCode 6 = .ok (.istore 5, 2) := dk_54 5 (dk_at dksJ15_signedHashCode_0 6 rfl rfl)
theorem dJ15_signedHashCode_8 : decode cJ15_signedHashCode 8 = .ok (.iload 5, 2) := dk_21 5 (dk_at dksJ15_signedHashCode_0 8 rfl rfl)
theorem dJ15_signedHashCode_10 : decode cJ15_signedHashCode 10 = .ok (.iload 4, 2) := dk_21 4 (dk_at dksJ15_signedHashCode_0 10 rfl rfl)
theorem dJ15_signedHashCode_12 : decode cJ15_signedHashCode 12 = .ok (.if_icmp .ge 23, 3) := dk_162 0 23 (dk_at dksJ15_signedHashCode_0 12 rfl rfl)
theorem dJ15_signedHashCode_15 : decode cJ15_signedHashCode 15 = .ok (.bipush 31, 2) := dk_16 31 (dk_at dksJ15_signedHashCode_0 15 rfl rfl)
theorem dJ15_signedHashCode_17 : decode cJ15_signedHashCode 17 = .ok (.iload_n 0, 1) := dk_26 (dk_at dksJ15_signedHashCode_0 17 rfl rfl)
theorem dJ15_signedHashCode_18 : decode cJ15_signedHashCode 18 = .ok (.imul, 1) := dk_104 (dk_at dksJ15_signedHashCode_0 18 rfl rfl)
theorem dJ15_signedHashCode_19 : decode cJ15_signedHashCode 19 = .ok (.aload_n 1, 1) := dk_43 (dk_at dksJ15_signedHashCode_0 19 rfl rfl)
theorem dJ15_signedHashCode_20 : decode cJ15_signedHashCode 20 = .ok (.iload 5, 2) := dk_21 5 (dk_at dksJ15_signedHashCode_0 20 rfl rfl)
theorem dJ15_signedHashCode_22 : decode cJ15_signedHashCode 22 = .ok (.baload, 1) := dk_51 (dk_at dksJ15_signedHashCode_0 22 rfl rfl)
theorem dJ15_signedHashCode_23 : decode cJ15_signedHashCode 23 = .ok (.sipush 255, 3) := dk_17 0 255 (dk_at dksJ15_signedHashCode_1 0 rfl rfl)
theorem dJ15_signedHashCode_26 : decode cJ15_signedHashCode 26 = .ok (.iand, 1) := dk_126 (dk_at dksJ15_signedHashCode_1 3 rfl rfl)
theorem dJ15_signedHashCode_27 : decode cJ15_signedHashCode 27 = .ok (.iadd, 1) := dk_96 (dk_at dksJ15_signedHashCode_1 4 rfl rfl)
theorem dJ15_signedHashCode_28 : decode cJ15_signedHashCode 28 = .ok (.istore_n 0, 1) := dk_59 (dk_at dksJ15_signedHashCode_1 5 rfl rfl)
theorem dJ15_signedHashCode_29 : decode cJ15_signedHashCode 29 = .ok (.iinc 5 1, 3) := dk_132 5 1 (dk_at dksJ15_signedHashCode_1 6 rfl rfl)
theorem dJ15_signedHashCode_32 : decode cJ15_signedHashCode 32 = .ok (.goto (-24), 3) := dk_167 255 232 (dk_at dksJ15_signedHashCode_1 9 rfl rfl)
theorem dJ15_signedHashCode_35 : decode cJ15_signedHashCode 35 = .ok (.iload_n 0, 1) := dk_26 (dk_at dksJ15_signedHashCode_1 12 rfl rfl)
theorem dJ15_signedHashCode_36 : decode cJ15_signedHashCode 36 = .ok (.ireturn, 1) := dk_172 (dk_at dksJ15_signedHashCode_1 13 rfl rfl)
abbrev cJ15_utf16hashCode : ByteArray := prog_70_method_10_code
def yJ15_utf16hashCode : MethodName := ⟨RJ15, "utf16hashCode", "(I[BII)I"⟩
def dkwJ15_utf16hashCode_1 : List UInt8 := [21, 5, 185, 0, 110, 3, 0, 96, 59, 132, 5, 1, 167, 255, 229, 26, 172]
abbrev dktJ15_utf16hashCode_1 : List UInt8 := dkwJ15_utf16hashCode_1 ++ []
def dkwJ15_utf16hashCode_0 : List UInt8 := [28, 29, 96, 54, 4, 28, 54, 5, 21, 5, 21, 4, 162, 0, 26, 16, 31, 26, 104, 178, 0, 106, 43]
abbrev dktJ15_utf16hashCode_0 : List UInt8 := dkwJ15_utf16hashCode_0 ++ dktJ15_utf16hashCode_1
theorem dksJ15_utf16hashCode_0 : cJ15_utf16hashCode.data.toList.drop 0 = dktJ15_utf16hashCode_0 := by decide +kernel
theorem dksJ15_utf16hashCode_1 : cJ15_utf16hashCode.data.toList.drop 23 = dktJ15_utf16hashCode_1 := dk_seg dksJ15_utf16hashCode_0 23 rfl rfl
theorem dJ15_utf16hashCode_0 : decode cJ15_utf16hashCode 0 = .ok (.iload_n 2, 1) := dk_28 (dk_at dksJ15_utf16hashCode_0 0 rfl rfl)
theorem dJ15_utf16hashCode_1 : decode cJ15_utf16hashCode 1 = .ok (.iload_n 3, 1) := dk_29 (dk_at dksJ15_utf16hashCode_0 1 rfl rfl)
theorem dJ15_utf16hashCode_2 : decode cJ15_utf16hashCode 2 = .ok (.iadd, 1) := dk_96 (dk_at dksJ15_utf16hashCode_0 2 rfl rfl)
theorem dJ15_utf16hashCode_3 : decode cJ15_utf16hashCode 3 = .ok (.istore 4, 2) := dk_54 4 (dk_at dksJ15_utf16hashCode_0 3 rfl rfl)
theorem dJ15_utf16hashCode_5 : decode cJ15_utf16hashCode 5 = .ok (.iload_n 2, 1) := dk_28 (dk_at dksJ15_utf16hashCode_0 5 rfl rfl)
theorem dJ15_utf16hashCode_6 : decode cJ15_utf16hashCode 6 = .ok (.istore 5, 2) := dk_54 5 (dk_at dksJ15_utf16hashCode_0 6 rfl rfl)
theorem dJ15_utf16hashCode_8 : decode cJ15_utf16hashCode 8 = .ok (.iload 5, 2) := dk_21 5 (dk_at dksJ15_utf16hashCode_0 8 rfl rfl)
theorem dJ15_utf16hashCode_10 : decode cJ15_utf16hashCode 10 = .ok (.iload 4, 2) := dk_21 4 (dk_at dksJ15_utf16hashCode_0 10 rfl rfl)
theorem dJ15_utf16hashCode_12 : decode cJ15_utf16hashCode 12 = .ok (.if_icmp .ge 26, 3) := dk_162 0 26 (dk_at dksJ15_utf16hashCode_0 12 rfl rfl)
theorem dJ15_utf16hashCode_15 : decode cJ15_utf16hashCode 15 = .ok (.bipush 31, 2) := dk_16 31 (dk_at dksJ15_utf16hashCode_0 15 rfl rfl)
theorem dJ15_utf16hashCode_17 : decode cJ15_utf16hashCode 17 = .ok (.iload_n 0, 1) := dk_26 (dk_at dksJ15_utf16hashCode_0 17 rfl rfl)
theorem dJ15_utf16hashCode_18 : decode cJ15_utf16hashCode 18 = .ok (.imul, 1) := dk_104 (dk_at dksJ15_utf16hashCode_0 18 rfl rfl)
theorem dJ15_utf16hashCode_19 : decode cJ15_utf16hashCode 19 = .ok (.getstatic 106, 3) := dk_178 0 106 (dk_at dksJ15_utf16hashCode_0 19 rfl rfl)
theorem dJ15_utf16hashCode_22 : decode cJ15_utf16hashCode 22 = .ok (.aload_n 1, 1) := dk_43 (dk_at dksJ15_utf16hashCode_0 22 rfl rfl)
theorem dJ15_utf16hashCode_23 : decode cJ15_utf16hashCode 23 = .ok (.iload 5, 2) := dk_21 5 (dk_at dksJ15_utf16hashCode_1 0 rfl rfl)
theorem dJ15_utf16hashCode_25 : decode cJ15_utf16hashCode 25 = .ok (.invokeinterface 110 3, 5) := by decide +kernel
theorem dJ15_utf16hashCode_30 : decode cJ15_utf16hashCode 30 = .ok (.iadd, 1) := dk_96 (dk_at dksJ15_utf16hashCode_1 7 rfl rfl)
theorem dJ15_utf16hashCode_31 : decode cJ15_utf16hashCode 31 = .ok (.istore_n 0, 1) := dk_59 (dk_at dksJ15_utf16hashCode_1 8 rfl rfl)
theorem dJ15_utf16hashCode_32 : decode cJ15_utf16hashCode 32 = .ok (.iinc 5 1, 3) := dk_132 5 1 (dk_at dksJ15_utf16hashCode_1 9 rfl rfl)
theorem dJ15_utf16hashCode_35 : decode cJ15_utf16hashCode 35 = .ok (.goto (-27), 3) := dk_167 255 229 (dk_at dksJ15_utf16hashCode_1 12 rfl rfl)
theorem dJ15_utf16hashCode_38 : decode cJ15_utf16hashCode 38 = .ok (.iload_n 0, 1) := dk_26 (dk_at dksJ15_utf16hashCode_1 15 rfl rfl)
theorem dJ15_utf16hashCode_39 : decode cJ15_utf16hashCode 39 = .ok (.ireturn, 1) := dk_172 (dk_at dksJ15_utf16hashCode_1 16 rfl rfl)
abbrev cJ15_hashCode : ByteArray := prog_70_method_7_code
def yJ15_hashCode : MethodName := ⟨RJ15, "hashCode", "(I[CII)I"⟩
def dkwJ15_hashCode_1 : List UInt8 := [59, 132, 5, 1, 167, 255, 236, 26, 172]
abbrev dktJ15_hashCode_1 : List UInt8 := dkwJ15_hashCode_1 ++ []
def dkwJ15_hashCode_0 : List UInt8 := [28, 29, 96, 54, 4, 28, 54, 5, 21, 5, 21, 4, 162, 0, 19, 16, 31, 26, 104, 43, 21, 5, 52, 96]
abbrev dktJ15_hashCode_0 : List UInt8 := dkwJ15_hashCode_0 ++ dktJ15_hashCode_1
theorem dksJ15_hashCode_0 : cJ15_hashCode.data.toList.drop 0 = dktJ15_hashCode_0 := by decide +kernel
theorem dksJ15_hashCode_1 : cJ15_hashCode.data.toList.drop 24 = dktJ15_hashCode_1 := dk_seg dksJ15_hashCode_0 24 rfl rfl
theorem dJ15_hashCode_0 : decode cJ15_hashCode 0 = .ok (.iload_n 2, 1) := dk_28 (dk_at dksJ15_hashCode_0 0 rfl rfl)
theorem dJ15_hashCode_1 : decode cJ15_hashCode 1 = .ok (.iload_n 3, 1) := dk_29 (dk_at dksJ15_hashCode_0 1 rfl rfl)
theorem dJ15_hashCode_2 : decode cJ15_hashCode 2 = .ok (.iadd, 1) := dk_96 (dk_at dksJ15_hashCode_0 2 rfl rfl)
theorem dJ15_hashCode_3 : decode cJ15_hashCode 3 = .ok (.istore 4, 2) := dk_54 4 (dk_at dksJ15_hashCode_0 3 rfl rfl)
theorem dJ15_hashCode_5 : decode cJ15_hashCode 5 = .ok (.iload_n 2, 1) := dk_28 (dk_at dksJ15_hashCode_0 5 rfl rfl)
theorem dJ15_hashCode_6 : decode cJ15_hashCode 6 = .ok (.istore 5, 2) := dk_54 5 (dk_at dksJ15_hashCode_0 6 rfl rfl)
theorem dJ15_hashCode_8 : decode cJ15_hashCode 8 = .ok (.iload 5, 2) := dk_21 5 (dk_at dksJ15_hashCode_0 8 rfl rfl)
theorem dJ15_hashCode_10 : decode cJ15_hashCode 10 = .ok (.iload 4, 2) := dk_21 4 (dk_at dksJ15_hashCode_0 10 rfl rfl)
theorem dJ15_hashCode_12 : decode cJ15_hashCode 12 = .ok (.if_icmp .ge 19, 3) := dk_162 0 19 (dk_at dksJ15_hashCode_0 12 rfl rfl)
theorem dJ15_hashCode_15 : decode cJ15_hashCode 15 = .ok (.bipush 31, 2) := dk_16 31 (dk_at dksJ15_hashCode_0 15 rfl rfl)
theorem dJ15_hashCode_17 : decode cJ15_hashCode 17 = .ok (.iload_n 0, 1) := dk_26 (dk_at dksJ15_hashCode_0 17 rfl rfl)
theorem dJ15_hashCode_18 : decode cJ15_hashCode 18 = .ok (.imul, 1) := dk_104 (dk_at dksJ15_hashCode_0 18 rfl rfl)
theorem dJ15_hashCode_19 : decode cJ15_hashCode 19 = .ok (.aload_n 1, 1) := dk_43 (dk_at dksJ15_hashCode_0 19 rfl rfl)
theorem dJ15_hashCode_20 : decode cJ15_hashCode 20 = .ok (.iload 5, 2) := dk_21 5 (dk_at dksJ15_hashCode_0 20 rfl rfl)
theorem dJ15_hashCode_22 : decode cJ15_hashCode 22 = .ok (.caload, 1) := dk_52 (dk_at dksJ15_hashCode_0 22 rfl rfl)
theorem dJ15_hashCode_23 : decode cJ15_hashCode 23 = .ok (.iadd, 1) := dk_96 (dk_at dksJ15_hashCode_0 23 rfl rfl)
theorem dJ15_hashCode_24 : decode cJ15_hashCode 24 = .ok (.istore_n 0, 1) := dk_59 (dk_at dksJ15_hashCode_1 0 rfl rfl)
theorem dJ15_hashCode_25 : decode cJ15_hashCode 25 = .ok (.iinc 5 1, 3) := dk_132 5 1 (dk_at dksJ15_hashCode_1 1 rfl rfl)
theorem dJ15_hashCode_28 : decode cJ15_hashCode 28 = .ok (.goto (-20), 3) := dk_167 255 236 (dk_at dksJ15_hashCode_1 4 rfl rfl)
theorem dJ15_hashCode_31 : decode cJ15_hashCode 31 = .ok (.iload_n 0, 1) := dk_26 (dk_at dksJ15_hashCode_1 7 rfl rfl)
theorem dJ15_hashCode_32 : decode cJ15_hashCode 32 = .ok (.ireturn, 1) := dk_172 (dk_at dksJ15_hashCode_1 8 rfl rfl)
abbrev cJ15_hashCode_2 : ByteArray := prog_70_method_6_code
def yJ15_hashCode_2 : MethodName := ⟨RJ15, "hashCode", "(I[BII)I"⟩
def dkwJ15_hashCode_2_1 : List UInt8 := [59, 132, 5, 1, 167, 255, 236, 26, 172]
abbrev dktJ15_hashCode_2_1 : List UInt8 := dkwJ15_hashCode_2_1 ++ []
def dkwJ15_hashCode_2_0 : List UInt8 := [28, 29, 96, 54, 4, 28, 54, 5, 21, 5, 21, 4, 162, 0, 19, 16, 31, 26, 104, 43, 21, 5, 51, 96]
abbrev dktJ15_hashCode_2_0 : List UInt8 := dkwJ15_hashCode_2_0 ++ dktJ15_hashCode_2_1
theorem dksJ15_hashCode_2_0 : cJ15_hashCode_2.data.toList.drop 0 = dktJ15_hashCode_2_0 := by decide +kernel
theorem dksJ15_hashCode_2_1 : cJ15_hashCode_2.data.toList.drop 24 = dktJ15_hashCode_2_1 := dk_seg dksJ15_hashCode_2_0 24 rfl rfl
theorem dJ15_hashCode_2_0 : decode cJ15_hashCode_2 0 = .ok (.iload_n 2, 1) := dk_28 (dk_at dksJ15_hashCode_2_0 0 rfl rfl)
theorem dJ15_hashCode_2_1 : decode cJ15_hashCode_2 1 = .ok (.iload_n 3, 1) := dk_29 (dk_at dksJ15_hashCode_2_0 1 rfl rfl)
theorem dJ15_hashCode_2_2 : decode cJ15_hashCode_2 2 = .ok (.iadd, 1) := dk_96 (dk_at dksJ15_hashCode_2_0 2 rfl rfl)
theorem dJ15_hashCode_2_3 : decode cJ15_hashCode_2 3 = .ok (.istore 4, 2) := dk_54 4 (dk_at dksJ15_hashCode_2_0 3 rfl rfl)
theorem dJ15_hashCode_2_5 : decode cJ15_hashCode_2 5 = .ok (.iload_n 2, 1) := dk_28 (dk_at dksJ15_hashCode_2_0 5 rfl rfl)
theorem dJ15_hashCode_2_6 : decode cJ15_hashCode_2 6 = .ok (.istore 5, 2) := dk_54 5 (dk_at dksJ15_hashCode_2_0 6 rfl rfl)
theorem dJ15_hashCode_2_8 : decode cJ15_hashCode_2 8 = .ok (.iload 5, 2) := dk_21 5 (dk_at dksJ15_hashCode_2_0 8 rfl rfl)
theorem dJ15_hashCode_2_10 : decode cJ15_hashCode_2 10 = .ok (.iload 4, 2) := dk_21 4 (dk_at dksJ15_hashCode_2_0 10 rfl rfl)
theorem dJ15_hashCode_2_12 : decode cJ15_hashCode_2 12 = .ok (.if_icmp .ge 19, 3) := dk_162 0 19 (dk_at dksJ15_hashCode_2_0 12 rfl rfl)
theorem dJ15_hashCode_2_15 : decode cJ15_hashCode_2 15 = .ok (.bipush 31, 2) := dk_16 31 (dk_at dksJ15_hashCode_2_0 15 rfl rfl)
theorem dJ15_hashCode_2_17 : decode cJ15_hashCode_2 17 = .ok (.iload_n 0, 1) := dk_26 (dk_at dksJ15_hashCode_2_0 17 rfl rfl)
theorem dJ15_hashCode_2_18 : decode cJ15_hashCode_2 18 = .ok (.imul, 1) := dk_104 (dk_at dksJ15_hashCode_2_0 18 rfl rfl)
theorem dJ15_hashCode_2_19 : decode cJ15_hashCode_2 19 = .ok (.aload_n 1, 1) := dk_43 (dk_at dksJ15_hashCode_2_0 19 rfl rfl)
theorem dJ15_hashCode_2_20 : decode cJ15_hashCode_2 20 = .ok (.iload 5, 2) := dk_21 5 (dk_at dksJ15_hashCode_2_0 20 rfl rfl)
theorem dJ15_hashCode_2_22 : decode cJ15_hashCode_2 22 = .ok (.baload, 1) := dk_51 (dk_at dksJ15_hashCode_2_0 22 rfl rfl)
theorem dJ15_hashCode_2_23 : decode cJ15_hashCode_2 23 = .ok (.iadd, 1) := dk_96 (dk_at dksJ15_hashCode_2_0 23 rfl rfl)
theorem dJ15_hashCode_2_24 : decode cJ15_hashCode_2 24 = .ok (.istore_n 0, 1) := dk_59 (dk_at dksJ15_hashCode_2_1 0 rfl rfl)
theorem dJ15_hashCode_2_25 : decode cJ15_hashCode_2 25 = .ok (.iinc 5 1, 3) := dk_132 5 1 (dk_at dksJ15_hashCode_2_1 1 rfl rfl)
theorem dJ15_hashCode_2_28 : decode cJ15_hashCode_2 28 = .ok (.goto (-20), 3) := dk_167 255 236 (dk_at dksJ15_hashCode_2_1 4 rfl rfl)
theorem dJ15_hashCode_2_31 : decode cJ15_hashCode_2 31 = .ok (.iload_n 0, 1) := dk_26 (dk_at dksJ15_hashCode_2_1 7 rfl rfl)
theorem dJ15_hashCode_2_32 : decode cJ15_hashCode_2 32 = .ok (.ireturn, 1) := dk_172 (dk_at dksJ15_hashCode_2_1 8 rfl rfl)
abbrev cJ15_hashCode_3 : ByteArray := prog_70_method_8_code
def yJ15_hashCode_3 : MethodName := ⟨RJ15, "hashCode", "(I[SII)I"⟩
def dkwJ15_hashCode_3_1 : List UInt8 := [59, 132, 5, 1, 167, 255, 236, 26, 172]
abbrev dktJ15_hashCode_3_1 : List UInt8 := dkwJ15_hashCode_3_1 ++ []
def dkwJ15_hashCode_3_0 : List UInt8 := [28, 29, 96, 54, 4, 28, 54, 5, 21, 5, 21, 4, 162, 0, 19, 16, 31, 26, 104, 43, 21, 5, 53, 96]
abbrev dktJ15_hashCode_3_0 : List UInt8 := dkwJ15_hashCode_3_0 ++ dktJ15_hashCode_3_1
theorem dksJ15_hashCode_3_0 : cJ15_hashCode_3.data.toList.drop 0 = dktJ15_hashCode_3_0 := by decide +kernel
theorem dksJ15_hashCode_3_1 : cJ15_hashCode_3.data.toList.drop 24 = dktJ15_hashCode_3_1 := dk_seg dksJ15_hashCode_3_0 24 rfl rfl
theorem dJ15_hashCode_3_0 : decode cJ15_hashCode_3 0 = .ok (.iload_n 2, 1) := dk_28 (dk_at dksJ15_hashCode_3_0 0 rfl rfl)
theorem dJ15_hashCode_3_1 : decode cJ15_hashCode_3 1 = .ok (.iload_n 3, 1) := dk_29 (dk_at dksJ15_hashCode_3_0 1 rfl rfl)
theorem dJ15_hashCode_3_2 : decode cJ15_hashCode_3 2 = .ok (.iadd, 1) := dk_96 (dk_at dksJ15_hashCode_3_0 2 rfl rfl)
theorem dJ15_hashCode_3_3 : decode cJ15_hashCode_3 3 = .ok (.istore 4, 2) := dk_54 4 (dk_at dksJ15_hashCode_3_0 3 rfl rfl)
theorem dJ15_hashCode_3_5 : decode cJ15_hashCode_3 5 = .ok (.iload_n 2, 1) := dk_28 (dk_at dksJ15_hashCode_3_0 5 rfl rfl)
theorem dJ15_hashCode_3_6 : decode cJ15_hashCode_3 6 = .ok (.istore 5, 2) := dk_54 5 (dk_at dksJ15_hashCode_3_0 6 rfl rfl)
theorem dJ15_hashCode_3_8 : decode cJ15_hashCode_3 8 = .ok (.iload 5, 2) := dk_21 5 (dk_at dksJ15_hashCode_3_0 8 rfl rfl)
theorem dJ15_hashCode_3_10 : decode cJ15_hashCode_3 10 = .ok (.iload 4, 2) := dk_21 4 (dk_at dksJ15_hashCode_3_0 10 rfl rfl)
theorem dJ15_hashCode_3_12 : decode cJ15_hashCode_3 12 = .ok (.if_icmp .ge 19, 3) := dk_162 0 19 (dk_at dksJ15_hashCode_3_0 12 rfl rfl)
theorem dJ15_hashCode_3_15 : decode cJ15_hashCode_3 15 = .ok (.bipush 31, 2) := dk_16 31 (dk_at dksJ15_hashCode_3_0 15 rfl rfl)
theorem dJ15_hashCode_3_17 : decode cJ15_hashCode_3 17 = .ok (.iload_n 0, 1) := dk_26 (dk_at dksJ15_hashCode_3_0 17 rfl rfl)
theorem dJ15_hashCode_3_18 : decode cJ15_hashCode_3 18 = .ok (.imul, 1) := dk_104 (dk_at dksJ15_hashCode_3_0 18 rfl rfl)
theorem dJ15_hashCode_3_19 : decode cJ15_hashCode_3 19 = .ok (.aload_n 1, 1) := dk_43 (dk_at dksJ15_hashCode_3_0 19 rfl rfl)
theorem dJ15_hashCode_3_20 : decode cJ15_hashCode_3 20 = .ok (.iload 5, 2) := dk_21 5 (dk_at dksJ15_hashCode_3_0 20 rfl rfl)
theorem dJ15_hashCode_3_22 : decode cJ15_hashCode_3 22 = .ok (.saload, 1) := dk_53 (dk_at dksJ15_hashCode_3_0 22 rfl rfl)
theorem dJ15_hashCode_3_23 : decode cJ15_hashCode_3 23 = .ok (.iadd, 1) := dk_96 (dk_at dksJ15_hashCode_3_0 23 rfl rfl)
theorem dJ15_hashCode_3_24 : decode cJ15_hashCode_3 24 = .ok (.istore_n 0, 1) := dk_59 (dk_at dksJ15_hashCode_3_1 0 rfl rfl)
theorem dJ15_hashCode_3_25 : decode cJ15_hashCode_3 25 = .ok (.iinc 5 1, 3) := dk_132 5 1 (dk_at dksJ15_hashCode_3_1 1 rfl rfl)
theorem dJ15_hashCode_3_28 : decode cJ15_hashCode_3 28 = .ok (.goto (-20), 3) := dk_167 255 236 (dk_at dksJ15_hashCode_3_1 4 rfl rfl)
theorem dJ15_hashCode_3_31 : decode cJ15_hashCode_3 31 = .ok (.iload_n 0, 1) := dk_26 (dk_at dksJ15_hashCode_3_1 7 rfl rfl)
theorem dJ15_hashCode_3_32 : decode cJ15_hashCode_3 32 = .ok (.ireturn, 1) := dk_172 (dk_at dksJ15_hashCode_3_1 8 rfl rfl)
abbrev cJ15_hashCode_4 : ByteArray := prog_70_method_9_code
def yJ15_hashCode_4 : MethodName := ⟨RJ15, "hashCode", "(I[III)I"⟩
def dkwJ15_hashCode_4_1 : List UInt8 := [59, 132, 5, 1, 167, 255, 236, 26, 172]
abbrev dktJ15_hashCode_4_1 : List UInt8 := dkwJ15_hashCode_4_1 ++ []
def dkwJ15_hashCode_4_0 : List UInt8 := [28, 29, 96, 54, 4, 28, 54, 5, 21, 5, 21, 4, 162, 0, 19, 16, 31, 26, 104, 43, 21, 5, 46, 96]
abbrev dktJ15_hashCode_4_0 : List UInt8 := dkwJ15_hashCode_4_0 ++ dktJ15_hashCode_4_1
theorem dksJ15_hashCode_4_0 : cJ15_hashCode_4.data.toList.drop 0 = dktJ15_hashCode_4_0 := by decide +kernel
theorem dksJ15_hashCode_4_1 : cJ15_hashCode_4.data.toList.drop 24 = dktJ15_hashCode_4_1 := dk_seg dksJ15_hashCode_4_0 24 rfl rfl
theorem dJ15_hashCode_4_0 : decode cJ15_hashCode_4 0 = .ok (.iload_n 2, 1) := dk_28 (dk_at dksJ15_hashCode_4_0 0 rfl rfl)
theorem dJ15_hashCode_4_1 : decode cJ15_hashCode_4 1 = .ok (.iload_n 3, 1) := dk_29 (dk_at dksJ15_hashCode_4_0 1 rfl rfl)
theorem dJ15_hashCode_4_2 : decode cJ15_hashCode_4 2 = .ok (.iadd, 1) := dk_96 (dk_at dksJ15_hashCode_4_0 2 rfl rfl)
theorem dJ15_hashCode_4_3 : decode cJ15_hashCode_4 3 = .ok (.istore 4, 2) := dk_54 4 (dk_at dksJ15_hashCode_4_0 3 rfl rfl)
theorem dJ15_hashCode_4_5 : decode cJ15_hashCode_4 5 = .ok (.iload_n 2, 1) := dk_28 (dk_at dksJ15_hashCode_4_0 5 rfl rfl)
theorem dJ15_hashCode_4_6 : decode cJ15_hashCode_4 6 = .ok (.istore 5, 2) := dk_54 5 (dk_at dksJ15_hashCode_4_0 6 rfl rfl)
theorem dJ15_hashCode_4_8 : decode cJ15_hashCode_4 8 = .ok (.iload 5, 2) := dk_21 5 (dk_at dksJ15_hashCode_4_0 8 rfl rfl)
theorem dJ15_hashCode_4_10 : decode cJ15_hashCode_4 10 = .ok (.iload 4, 2) := dk_21 4 (dk_at dksJ15_hashCode_4_0 10 rfl rfl)
theorem dJ15_hashCode_4_12 : decode cJ15_hashCode_4 12 = .ok (.if_icmp .ge 19, 3) := dk_162 0 19 (dk_at dksJ15_hashCode_4_0 12 rfl rfl)
theorem dJ15_hashCode_4_15 : decode cJ15_hashCode_4 15 = .ok (.bipush 31, 2) := dk_16 31 (dk_at dksJ15_hashCode_4_0 15 rfl rfl)
theorem dJ15_hashCode_4_17 : decode cJ15_hashCode_4 17 = .ok (.iload_n 0, 1) := dk_26 (dk_at dksJ15_hashCode_4_0 17 rfl rfl)
theorem dJ15_hashCode_4_18 : decode cJ15_hashCode_4 18 = .ok (.imul, 1) := dk_104 (dk_at dksJ15_hashCode_4_0 18 rfl rfl)
theorem dJ15_hashCode_4_19 : decode cJ15_hashCode_4 19 = .ok (.aload_n 1, 1) := dk_43 (dk_at dksJ15_hashCode_4_0 19 rfl rfl)
theorem dJ15_hashCode_4_20 : decode cJ15_hashCode_4 20 = .ok (.iload 5, 2) := dk_21 5 (dk_at dksJ15_hashCode_4_0 20 rfl rfl)
theorem dJ15_hashCode_4_22 : decode cJ15_hashCode_4 22 = .ok (.iaload, 1) := dk_46 (dk_at dksJ15_hashCode_4_0 22 rfl rfl)
theorem dJ15_hashCode_4_23 : decode cJ15_hashCode_4 23 = .ok (.iadd, 1) := dk_96 (dk_at dksJ15_hashCode_4_0 23 rfl rfl)
theorem dJ15_hashCode_4_24 : decode cJ15_hashCode_4 24 = .ok (.istore_n 0, 1) := dk_59 (dk_at dksJ15_hashCode_4_1 0 rfl rfl)
theorem dJ15_hashCode_4_25 : decode cJ15_hashCode_4 25 = .ok (.iinc 5 1, 3) := dk_132 5 1 (dk_at dksJ15_hashCode_4_1 1 rfl rfl)
theorem dJ15_hashCode_4_28 : decode cJ15_hashCode_4 28 = .ok (.goto (-20), 3) := dk_167 255 236 (dk_at dksJ15_hashCode_4_1 4 rfl rfl)
theorem dJ15_hashCode_4_31 : decode cJ15_hashCode_4 31 = .ok (.iload_n 0, 1) := dk_26 (dk_at dksJ15_hashCode_4_1 7 rfl rfl)
theorem dJ15_hashCode_4_32 : decode cJ15_hashCode_4 32 = .ok (.ireturn, 1) := dk_172 (dk_at dksJ15_hashCode_4_1 8 rfl rfl)
abbrev cJ15_mismatch : ByteArray := prog_70_method_13_code
def yJ15_mismatch : MethodName := ⟨RJ15, "mismatch", "([B[BI)I"⟩
def dkwJ15_mismatch_3 : List UInt8 := [172]
abbrev dktJ15_mismatch_3 : List UInt8 := dkwJ15_mismatch_3 ++ []
def dkwJ15_mismatch_2 : List UInt8 := [62, 29, 28, 162, 0, 20, 42, 29, 51, 43, 29, 51, 159, 0, 5, 29, 172, 132, 3, 1, 167, 255, 237, 2]
abbrev dktJ15_mismatch_2 : List UInt8 := dkwJ15_mismatch_2 ++ dktJ15_mismatch_3
def dkwJ15_mismatch_1 : List UInt8 := [43, 178, 0, 126, 133, 28, 178, 0, 129, 184, 0, 122, 62, 29, 155, 0, 5, 29, 172, 28, 29, 2, 130, 100]
abbrev dktJ15_mismatch_1 : List UInt8 := dkwJ15_mismatch_1 ++ dktJ15_mismatch_2
def dkwJ15_mismatch_0 : List UInt8 := [3, 62, 28, 16, 7, 164, 0, 44, 42, 3, 51, 43, 3, 51, 159, 0, 5, 3, 172, 42, 178, 0, 126, 133]
abbrev dktJ15_mismatch_0 : List UInt8 := dkwJ15_mismatch_0 ++ dktJ15_mismatch_1
theorem dksJ15_mismatch_0 : cJ15_mismatch.data.toList.drop 0 = dktJ15_mismatch_0 := by decide +kernel
theorem dksJ15_mismatch_1 : cJ15_mismatch.data.toList.drop 24 = dktJ15_mismatch_1 := dk_seg dksJ15_mismatch_0 24 rfl rfl
theorem dksJ15_mismatch_2 : cJ15_mismatch.data.toList.drop 48 = dktJ15_mismatch_2 := dk_seg dksJ15_mismatch_1 24 rfl rfl
theorem dksJ15_mismatch_3 : cJ15_mismatch.data.toList.drop 72 = dktJ15_mismatch_3 := dk_seg dksJ15_mismatch_2 24 rfl rfl
theorem dJ15_mismatch_0 : decode cJ15_mismatch 0 = .ok (.iconst 0, 1) := dk_3 (dk_at dksJ15_mismatch_0 0 rfl rfl)
theorem dJ15_mismatch_1 : decode cJ15_mismatch 1 = .ok (.istore_n 3, 1) := dk_62 (dk_at dksJ15_mismatch_0 1 rfl rfl)
theorem dJ15_mismatch_2 : decode cJ15_mismatch 2 = .ok (.iload_n 2, 1) := dk_28 (dk_at dksJ15_mismatch_0 2 rfl rfl)
theorem dJ15_mismatch_3 : decode cJ15_mismatch 3 = .ok (.bipush 7, 2) := dk_16 7 (dk_at dksJ15_mismatch_0 3 rfl rfl)
theorem dJ15_mismatch_5 : decode cJ15_mismatch 5 = .ok (.if_icmp .le 44, 3) := dk_164 0 44 (dk_at dksJ15_mismatch_0 5 rfl rfl)
theorem dJ15_mismatch_8 : decode cJ15_mismatch 8 = .ok (.aload_n 0, 1) := dk_42 (dk_at dksJ15_mismatch_0 8 rfl rfl)
theorem dJ15_mismatch_9 : decode cJ15_mismatch 9 = .ok (.iconst 0, 1) := dk_3 (dk_at dksJ15_mismatch_0 9 rfl rfl)
theorem dJ15_mismatch_10 : decode cJ15_mismatch 10 = .ok (.baload, 1) := dk_51 (dk_at dksJ15_mismatch_0 10 rfl rfl)
theorem dJ15_mismatch_11 : decode cJ15_mismatch 11 = .ok (.aload_n 1, 1) := dk_43 (dk_at dksJ15_mismatch_0 11 rfl rfl)
theorem dJ15_mismatch_12 : decode cJ15_mismatch 12 = .ok (.iconst 0, 1) := dk_3 (dk_at dksJ15_mismatch_0 12 rfl rfl)
theorem dJ15_mismatch_13 : decode cJ15_mismatch 13 = .ok (.baload, 1) := dk_51 (dk_at dksJ15_mismatch_0 13 rfl rfl)
theorem dJ15_mismatch_14 : decode cJ15_mismatch 14 = .ok (.if_icmp .eq 5, 3) := dk_159 0 5 (dk_at dksJ15_mismatch_0 14 rfl rfl)
theorem dJ15_mismatch_17 : decode cJ15_mismatch 17 = .ok (.iconst 0, 1) := dk_3 (dk_at dksJ15_mismatch_0 17 rfl rfl)
theorem dJ15_mismatch_18 : decode cJ15_mismatch 18 = .ok (.ireturn, 1) := dk_172 (dk_at dksJ15_mismatch_0 18 rfl rfl)
theorem dJ15_mismatch_19 : decode cJ15_mismatch 19 = .ok (.aload_n 0, 1) := dk_42 (dk_at dksJ15_mismatch_0 19 rfl rfl)
theorem dJ15_mismatch_20 : decode cJ15_mismatch 20 = .ok (.getstatic 126, 3) := dk_178 0 126 (dk_at dksJ15_mismatch_0 20 rfl rfl)
theorem dJ15_mismatch_23 : decode cJ15_mismatch 23 = .ok (.i2l, 1) := dk_133 (dk_at dksJ15_mismatch_0 23 rfl rfl)
theorem dJ15_mismatch_24 : decode cJ15_mismatch 24 = .ok (.aload_n 1, 1) := dk_43 (dk_at dksJ15_mismatch_1 0 rfl rfl)
theorem dJ15_mismatch_25 : decode cJ15_mismatch 25 = .ok (.getstatic 126, 3) := dk_178 0 126 (dk_at dksJ15_mismatch_1 1 rfl rfl)
theorem dJ15_mismatch_28 : decode cJ15_mismatch 28 = .ok (.i2l, 1) := dk_133 (dk_at dksJ15_mismatch_1 4 rfl rfl)
theorem dJ15_mismatch_29 : decode cJ15_mismatch 29 = .ok (.iload_n 2, 1) := dk_28 (dk_at dksJ15_mismatch_1 5 rfl rfl)
theorem dJ15_mismatch_30 : decode cJ15_mismatch 30 = .ok (.getstatic 129, 3) := dk_178 0 129 (dk_at dksJ15_mismatch_1 6 rfl rfl)
theorem dJ15_mismatch_33 : decode cJ15_mismatch 33 = .ok (.invokestatic 122, 3) := dk_184 0 122 (dk_at dksJ15_mismatch_1 9 rfl rfl)
theorem dJ15_mismatch_36 : decode cJ15_mismatch 36 = .ok (.istore_n 3, 1) := dk_62 (dk_at dksJ15_mismatch_1 12 rfl rfl)
theorem dJ15_mismatch_37 : decode cJ15_mismatch 37 = .ok (.iload_n 3, 1) := dk_29 (dk_at dksJ15_mismatch_1 13 rfl rfl)
theorem dJ15_mismatch_38 : decode cJ15_mismatch 38 = .ok (.ifCond .lt 5, 3) := dk_155 0 5 (dk_at dksJ15_mismatch_1 14 rfl rfl)
theorem dJ15_mismatch_41 : decode cJ15_mismatch 41 = .ok (.iload_n 3, 1) := dk_29 (dk_at dksJ15_mismatch_1 17 rfl rfl)
theorem dJ15_mismatch_42 : decode cJ15_mismatch 42 = .ok (.ireturn, 1) := dk_172 (dk_at dksJ15_mismatch_1 18 rfl rfl)
theorem dJ15_mismatch_43 : decode cJ15_mismatch 43 = .ok (.iload_n 2, 1) := dk_28 (dk_at dksJ15_mismatch_1 19 rfl rfl)
theorem dJ15_mismatch_44 : decode cJ15_mismatch 44 = .ok (.iload_n 3, 1) := dk_29 (dk_at dksJ15_mismatch_1 20 rfl rfl)
theorem dJ15_mismatch_45 : decode cJ15_mismatch 45 = .ok (.iconst (-1), 1) := dk_2 (dk_at dksJ15_mismatch_1 21 rfl rfl)
theorem dJ15_mismatch_46 : decode cJ15_mismatch 46 = .ok (.ixor, 1) := dk_130 (dk_at dksJ15_mismatch_1 22 rfl rfl)
theorem dJ15_mismatch_47 : decode cJ15_mismatch 47 = .ok (.isub, 1) := dk_100 (dk_at dksJ15_mismatch_1 23 rfl rfl)
theorem dJ15_mismatch_48 : decode cJ15_mismatch 48 = .ok (.istore_n 3, 1) := dk_62 (dk_at dksJ15_mismatch_2 0 rfl rfl)
theorem dJ15_mismatch_49 : decode cJ15_mismatch 49 = .ok (.iload_n 3, 1) := dk_29 (dk_at dksJ15_mismatch_2 1 rfl rfl)
theorem dJ15_mismatch_50 : decode cJ15_mismatch 50 = .ok (.iload_n 2, 1) := dk_28 (dk_at dksJ15_mismatch_2 2 rfl rfl)
theorem dJ15_mismatch_51 : decode cJ15_mismatch 51 = .ok (.if_icmp .ge 20, 3) := dk_162 0 20 (dk_at dksJ15_mismatch_2 3 rfl rfl)
theorem dJ15_mismatch_54 : decode cJ15_mismatch 54 = .ok (.aload_n 0, 1) := dk_42 (dk_at dksJ15_mismatch_2 6 rfl rfl)
theorem dJ15_mismatch_55 : decode cJ15_mismatch 55 = .ok (.iload_n 3, 1) := dk_29 (dk_at dksJ15_mismatch_2 7 rfl rfl)
theorem dJ15_mismatch_56 : decode cJ15_mismatch 56 = .ok (.baload, 1) := dk_51 (dk_at dksJ15_mismatch_2 8 rfl rfl)
theorem dJ15_mismatch_57 : decode cJ15_mismatch 57 = .ok (.aload_n 1, 1) := dk_43 (dk_at dksJ15_mismatch_2 9 rfl rfl)
theorem dJ15_mismatch_58 : decode cJ15_mismatch 58 = .ok (.iload_n 3, 1) := dk_29 (dk_at dksJ15_mismatch_2 10 rfl rfl)
theorem dJ15_mismatch_59 : decode cJ15_mismatch 59 = .ok (.baload, 1) := dk_51 (dk_at dksJ15_mismatch_2 11 rfl rfl)
theorem dJ15_mismatch_60 : decode cJ15_mismatch 60 = .ok (.if_icmp .eq 5, 3) := dk_159 0 5 (dk_at dksJ15_mismatch_2 12 rfl rfl)
theorem dJ15_mismatch_63 : decode cJ15_mismatch 63 = .ok (.iload_n 3, 1) := dk_29 (dk_at dksJ15_mismatch_2 15 rfl rfl)
theorem dJ15_mismatch_64 : decode cJ15_mismatch 64 = .ok (.ireturn, 1) := dk_172 (dk_at dksJ15_mismatch_2 16 rfl rfl)
theorem dJ15_mismatch_65 : decode cJ15_mismatch 65 = .ok (.iinc 3 1, 3) := dk_132 3 1 (dk_at dksJ15_mismatch_2 17 rfl rfl)
theorem dJ15_mismatch_68 : decode cJ15_mismatch 68 = .ok (.goto (-19), 3) := dk_167 255 237 (dk_at dksJ15_mismatch_2 20 rfl rfl)
theorem dJ15_mismatch_71 : decode cJ15_mismatch 71 = .ok (.iconst (-1), 1) := dk_2 (dk_at dksJ15_mismatch_2 23 rfl rfl)
theorem dJ15_mismatch_72 : decode cJ15_mismatch 72 = .ok (.ireturn, 1) := dk_172 (dk_at dksJ15_mismatch_3 0 rfl rfl)
abbrev cJ15_vectorizedMismatch : ByteArray := prog_70_method_3_code
def yJ15_vectorizedMismatch : MethodName := ⟨RJ15, "vectorizedMismatch", "(Ljava/lang/Object;JLjava/lang/Object;JII)I"⟩
def dkwJ15_vectorizedMismatch_11 : List UInt8 := [54, 10, 21, 10, 2, 130, 172, 21, 10, 2, 130, 172]
abbrev dktJ15_vectorizedMismatch_11 : List UInt8 := dkwJ15_vectorizedMismatch_11 ++ []
def dkwJ15_vectorizedMismatch_10 : List UInt8 := [178, 0, 46, 21, 7, 96, 122, 54, 17, 21, 9, 21, 8, 120, 21, 17, 96, 172, 21, 10, 21, 11, 100]
abbrev dktJ15_vectorizedMismatch_10 : List UInt8 := dkwJ15_vectorizedMismatch_10 ++ dktJ15_vectorizedMismatch_11
def dkwJ15_vectorizedMismatch_9 : List UInt8 := [153, 0, 18, 21, 16, 184, 0, 58, 178, 0, 46, 21, 7, 96, 122, 167, 0, 15, 21, 16, 184, 0, 11]
abbrev dktJ15_vectorizedMismatch_9 : List UInt8 := dkwJ15_vectorizedMismatch_9 ++ dktJ15_vectorizedMismatch_10
def dkwJ15_vectorizedMismatch_8 : List UInt8 := [182, 0, 54, 54, 15, 21, 14, 21, 15, 159, 0, 54, 21, 14, 21, 15, 130, 54, 16, 178, 0, 36]
abbrev dktJ15_vectorizedMismatch_8 : List UInt8 := dkwJ15_vectorizedMismatch_8 ++ dktJ15_vectorizedMismatch_9
def dkwJ15_vectorizedMismatch_7 : List UInt8 := [55, 12, 178, 0, 26, 42, 31, 22, 12, 97, 182, 0, 54, 54, 14, 178, 0, 26, 45, 22, 4, 22, 12, 97]
abbrev dktJ15_vectorizedMismatch_7 : List UInt8 := dkwJ15_vectorizedMismatch_7 ++ dktJ15_vectorizedMismatch_8
def dkwJ15_vectorizedMismatch_6 : List UInt8 := [4, 178, 0, 51, 21, 7, 100, 120, 54, 11, 21, 10, 21, 11, 161, 0, 104, 21, 9, 133, 178, 0, 20, 121]
abbrev dktJ15_vectorizedMismatch_6 : List UInt8 := dkwJ15_vectorizedMismatch_6 ++ dktJ15_vectorizedMismatch_7
def dkwJ15_vectorizedMismatch_5 : List UInt8 := [132, 9, 1, 167, 255, 148, 21, 6, 21, 9, 21, 8, 120, 100, 54, 10, 21, 7, 178, 0, 51, 162, 0, 126]
abbrev dktJ15_vectorizedMismatch_5 : List UInt8 := dkwJ15_vectorizedMismatch_5 ++ dktJ15_vectorizedMismatch_6
def dkwJ15_vectorizedMismatch_4 : List UInt8 := [22, 16, 184, 0, 49, 178, 0, 46, 21, 7, 96, 122, 54, 18, 21, 9, 21, 8, 120, 21, 18, 96, 172]
abbrev dktJ15_vectorizedMismatch_4 : List UInt8 := dkwJ15_vectorizedMismatch_4 ++ dktJ15_vectorizedMismatch_5
def dkwJ15_vectorizedMismatch_3 : List UInt8 := [55, 16, 178, 0, 36, 153, 0, 18, 22, 16, 184, 0, 40, 178, 0, 46, 21, 7, 96, 122, 167, 0, 15]
abbrev dktJ15_vectorizedMismatch_3 : List UInt8 := dkwJ15_vectorizedMismatch_3 ++ dktJ15_vectorizedMismatch_4
def dkwJ15_vectorizedMismatch_2 : List UInt8 := [22, 4, 22, 10, 97, 182, 0, 30, 55, 14, 22, 12, 22, 14, 148, 153, 0, 54, 22, 12, 22, 14, 131]
abbrev dktJ15_vectorizedMismatch_2 : List UInt8 := dkwJ15_vectorizedMismatch_2 ++ dktJ15_vectorizedMismatch_3
def dkwJ15_vectorizedMismatch_1 : List UInt8 := [178, 0, 20, 121, 55, 10, 178, 0, 26, 42, 31, 22, 10, 97, 182, 0, 30, 55, 12, 178, 0, 26, 45]
abbrev dktJ15_vectorizedMismatch_1 : List UInt8 := dkwJ15_vectorizedMismatch_1 ++ dktJ15_vectorizedMismatch_2
def dkwJ15_vectorizedMismatch_0 : List UInt8 := [178, 0, 20, 21, 7, 100, 54, 8, 3, 54, 9, 21, 9, 21, 6, 21, 8, 122, 162, 0, 104, 21, 9, 133]
abbrev dktJ15_vectorizedMismatch_0 : List UInt8 := dkwJ15_vectorizedMismatch_0 ++ dktJ15_vectorizedMismatch_1
theorem dksJ15_vectorizedMismatch_0 : cJ15_vectorizedMismatch.data.toList.drop 0 = dktJ15_vectorizedMismatch_0 := by decide +kernel
theorem dksJ15_vectorizedMismatch_1 : cJ15_vectorizedMismatch.data.toList.drop 24 = dktJ15_vectorizedMismatch_1 := dk_seg dksJ15_vectorizedMismatch_0 24 rfl rfl
theorem dksJ15_vectorizedMismatch_2 : cJ15_vectorizedMismatch.data.toList.drop 47 = dktJ15_vectorizedMismatch_2 := dk_seg dksJ15_vectorizedMismatch_1 23 rfl rfl
theorem dksJ15_vectorizedMismatch_3 : cJ15_vectorizedMismatch.data.toList.drop 70 = dktJ15_vectorizedMismatch_3 := dk_seg dksJ15_vectorizedMismatch_2 23 rfl rfl
theorem dksJ15_vectorizedMismatch_4 : cJ15_vectorizedMismatch.data.toList.drop 93 = dktJ15_vectorizedMismatch_4 := dk_seg dksJ15_vectorizedMismatch_3 23 rfl rfl
theorem dksJ15_vectorizedMismatch_5 : cJ15_vectorizedMismatch.data.toList.drop 116 = dktJ15_vectorizedMismatch_5 := dk_seg dksJ15_vectorizedMismatch_4 23 rfl rfl
theorem dksJ15_vectorizedMismatch_6 : cJ15_vectorizedMismatch.data.toList.drop 140 = dktJ15_vectorizedMismatch_6 := dk_seg dksJ15_vectorizedMismatch_5 24 rfl rfl
theorem dksJ15_vectorizedMismatch_7 : cJ15_vectorizedMismatch.data.toList.drop 164 = dktJ15_vectorizedMismatch_7 := dk_seg dksJ15_vectorizedMismatch_6 24 rfl rfl
theorem dksJ15_vectorizedMismatch_8 : cJ15_vectorizedMismatch.data.toList.drop 188 = dktJ15_vectorizedMismatch_8 := dk_seg dksJ15_vectorizedMismatch_7 24 rfl rfl
theorem dksJ15_vectorizedMismatch_9 : cJ15_vectorizedMismatch.data.toList.drop 210 = dktJ15_vectorizedMismatch_9 := dk_seg dksJ15_vectorizedMismatch_8 22 rfl rfl
theorem dksJ15_vectorizedMismatch_10 : cJ15_vectorizedMismatch.data.toList.drop 233 = dktJ15_vectorizedMismatch_10 := dk_seg dksJ15_vectorizedMismatch_9 23 rfl rfl
theorem dksJ15_vectorizedMismatch_11 : cJ15_vectorizedMismatch.data.toList.drop 256 = dktJ15_vectorizedMismatch_11 := dk_seg dksJ15_vectorizedMismatch_10 23 rfl rfl
theorem dJ15_vectorizedMismatch_0 : decode cJ15_vectorizedMismatch 0 = .ok (.getstatic 20, 3) := dk_178 0 20 (dk_at dksJ15_vectorizedMismatch_0 0 rfl rfl)
theorem dJ15_vectorizedMismatch_3 : decode cJ15_vectorizedMismatch 3 = .ok (.iload 7, 2) := dk_21 7 (dk_at dksJ15_vectorizedMismatch_0 3 rfl rfl)
theorem dJ15_vectorizedMismatch_5 : decode cJ15_vectorizedMismatch 5 = .ok (.isub, 1) := dk_100 (dk_at dksJ15_vectorizedMismatch_0 5 rfl rfl)
theorem dJ15_vectorizedMismatch_6 : decode cJ15_vectorizedMismatch 6 = .ok (.istore 8, 2) := dk_54 8 (dk_at dksJ15_vectorizedMismatch_0 6 rfl rfl)
theorem dJ15_vectorizedMismatch_8 : decode cJ15_vectorizedMismatch 8 = .ok (.iconst 0, 1) := dk_3 (dk_at dksJ15_vectorizedMismatch_0 8 rfl rfl)
theorem dJ15_vectorizedMismatch_9 : decode cJ15_vectorizedMismatch 9 = .ok (.istore 9, 2) := dk_54 9 (dk_at dksJ15_vectorizedMismatch_0 9 rfl rfl)
theorem dJ15_vectorizedMismatch_11 : decode cJ15_vectorizedMismatch 11 = .ok (.iload 9, 2) := dk_21 9 (dk_at dksJ15_vectorizedMismatch_0 11 rfl rfl)
theorem dJ15_vectorizedMismatch_13 : decode cJ15_vectorizedMismatch 13 = .ok (.iload 6, 2) := dk_21 6 (dk_at dksJ15_vectorizedMismatch_0 13 rfl rfl)
theorem dJ15_vectorizedMismatch_15 : decode cJ15_vectorizedMismatch 15 = .ok (.iload 8, 2) := dk_21 8 (dk_at dksJ15_vectorizedMismatch_0 15 rfl rfl)
theorem dJ15_vectorizedMismatch_17 : decode cJ15_vectorizedMismatch 17 = .ok (.ishr, 1) := dk_122 (dk_at dksJ15_vectorizedMismatch_0 17 rfl rfl)
theorem dJ15_vectorizedMismatch_18 : decode cJ15_vectorizedMismatch 18 = .ok (.if_icmp .ge 104, 3) := dk_162 0 104 (dk_at dksJ15_vectorizedMismatch_0 18 rfl rfl)
theorem dJ15_vectorizedMismatch_21 : decode cJ15_vectorizedMismatch 21 = .ok (.iload 9, 2) := dk_21 9 (dk_at dksJ15_vectorizedMismatch_0 21 rfl rfl)
theorem dJ15_vectorizedMismatch_23 : decode cJ15_vectorizedMismatch 23 = .ok (.i2l, 1) := dk_133 (dk_at dksJ15_vectorizedMismatch_0 23 rfl rfl)
theorem dJ15_vectorizedMismatch_24 : decode cJ15_vectorizedMismatch 24 = .ok (.getstatic 20, 3) := dk_178 0 20 (dk_at dksJ15_vectorizedMismatch_1 0 rfl rfl)
theorem dJ15_vectorizedMismatch_27 : decode cJ15_vectorizedMismatch 27 = .ok (.lshl, 1) := dk_121 (dk_at dksJ15_vectorizedMismatch_1 3 rfl rfl)
theorem dJ15_vectorizedMismatch_28 : decode cJ15_vectorizedMismatch 28 = .ok (.lstore 10, 2) := dk_55 10 (dk_at dksJ15_vectorizedMismatch_1 4 rfl rfl)
theorem dJ15_vectorizedMismatch_30 : decode cJ15_vectorizedMismatch 30 = .ok (.getstatic 26, 3) := dk_178 0 26 (dk_at dksJ15_vectorizedMismatch_1 6 rfl rfl)
theorem dJ15_vectorizedMismatch_33 : decode cJ15_vectorizedMismatch 33 = .ok (.aload_n 0, 1) := dk_42 (dk_at dksJ15_vectorizedMismatch_1 9 rfl rfl)
theorem dJ15_vectorizedMismatch_34 : decode cJ15_vectorizedMismatch 34 = .ok (.lload_n 1, 1) := dk_31 (dk_at dksJ15_vectorizedMismatch_1 10 rfl rfl)
theorem dJ15_vectorizedMismatch_35 : decode cJ15_vectorizedMismatch 35 = .ok (.lload 10, 2) := dk_22 10 (dk_at dksJ15_vectorizedMismatch_1 11 rfl rfl)
theorem dJ15_vectorizedMismatch_37 : decode cJ15_vectorizedMismatch 37 = .ok (.ladd, 1) := dk_97 (dk_at dksJ15_vectorizedMismatch_1 13 rfl rfl)
theorem dJ15_vectorizedMismatch_38 : decode cJ15_vectorizedMismatch 38 = .ok (.invokevirtual 30, 3) := dk_182 0 30 (dk_at dksJ15_vectorizedMismatch_1 14 rfl rfl)
theorem dJ15_vectorizedMismatch_41 : decode cJ15_vectorizedMismatch 41 = .ok (.lstore 12, 2) := dk_55 12 (dk_at dksJ15_vectorizedMismatch_1 17 rfl rfl)
theorem dJ15_vectorizedMismatch_43 : decode cJ15_vectorizedMismatch 43 = .ok (.getstatic 26, 3) := dk_178 0 26 (dk_at dksJ15_vectorizedMismatch_1 19 rfl rfl)
theorem dJ15_vectorizedMismatch_46 : decode cJ15_vectorizedMismatch 46 = .ok (.aload_n 3, 1) := dk_45 (dk_at dksJ15_vectorizedMismatch_1 22 rfl rfl)
theorem dJ15_vectorizedMismatch_47 : decode cJ15_vectorizedMismatch 47 = .ok (.lload 4, 2) := dk_22 4 (dk_at dksJ15_vectorizedMismatch_2 0 rfl rfl)
theorem dJ15_vectorizedMismatch_49 : decode cJ15_vectorizedMismatch 49 = .ok (.lload 10, 2) := dk_22 10 (dk_at dksJ15_vectorizedMismatch_2 2 rfl rfl)
theorem dJ15_vectorizedMismatch_51 : decode cJ15_vectorizedMismatch 51 = .ok (.ladd, 1) := dk_97 (dk_at dksJ15_vectorizedMismatch_2 4 rfl rfl)
theorem dJ15_vectorizedMismatch_52 : decode cJ15_vectorizedMismatch 52 = .ok (.invokevirtual 30, 3) := dk_182 0 30 (dk_at dksJ15_vectorizedMismatch_2 5 rfl rfl)
theorem dJ15_vectorizedMismatch_55 : decode cJ15_vectorizedMismatch 55 = .ok (.lstore 14, 2) := dk_55 14 (dk_at dksJ15_vectorizedMismatch_2 8 rfl rfl)
theorem dJ15_vectorizedMismatch_57 : decode cJ15_vectorizedMismatch 57 = .ok (.lload 12, 2) := dk_22 12 (dk_at dksJ15_vectorizedMismatch_2 10 rfl rfl)
theorem dJ15_vectorizedMismatch_59 : decode cJ15_vectorizedMismatch 59 = .ok (.lload 14, 2) := dk_22 14 (dk_at dksJ15_vectorizedMismatch_2 12 rfl rfl)
theorem dJ15_vectorizedMismatch_61 : decode cJ15_vectorizedMismatch 61 = .ok (.lcmp, 1) := dk_148 (dk_at dksJ15_vectorizedMismatch_2 14 rfl rfl)
theorem dJ15_vectorizedMismatch_62 : decode cJ15_vectorizedMismatch 62 = .ok (.ifCond .eq 54, 3) := dk_153 0 54 (dk_at dksJ15_vectorizedMismatch_2 15 rfl rfl)
theorem dJ15_vectorizedMismatch_65 : decode cJ15_vectorizedMismatch 65 = .ok (.lload 12, 2) := dk_22 12 (dk_at dksJ15_vectorizedMismatch_2 18 rfl rfl)
theorem dJ15_vectorizedMismatch_67 : decode cJ15_vectorizedMismatch 67 = .ok (.lload 14, 2) := dk_22 14 (dk_at dksJ15_vectorizedMismatch_2 20 rfl rfl)
theorem dJ15_vectorizedMismatch_69 : decode cJ15_vectorizedMismatch 69 = .ok (.lxor, 1) := dk_131 (dk_at dksJ15_vectorizedMismatch_2 22 rfl rfl)
theorem dJ15_vectorizedMismatch_70 : decode cJ15_vectorizedMismatch 70 = .ok (.lstore 16, 2) := dk_55 16 (dk_at dksJ15_vectorizedMismatch_3 0 rfl rfl)
theorem dJ15_vectorizedMismatch_72 : decode cJ15_vectorizedMismatch 72 = .ok (.getstatic 36, 3) := dk_178 0 36 (dk_at dksJ15_vectorizedMismatch_3 2 rfl rfl)
theorem dJ15_vectorizedMismatch_75 : decode cJ15_vectorizedMismatch 75 = .ok (.ifCond .eq 18, 3) := dk_153 0 18 (dk_at dksJ15_vectorizedMismatch_3 5 rfl rfl)
theorem dJ15_vectorizedMismatch_78 : decode cJ15_vectorizedMismatch 78 = .ok (.lload 16, 2) := dk_22 16 (dk_at dksJ15_vectorizedMismatch_3 8 rfl rfl)
theorem dJ15_vectorizedMismatch_80 : decode cJ15_vectorizedMismatch 80 = .ok (.invokestatic 40, 3) := dk_184 0 40 (dk_at dksJ15_vectorizedMismatch_3 10 rfl rfl)
theorem dJ15_vectorizedMismatch_83 : decode cJ15_vectorizedMismatch 83 = .ok (.getstatic 46, 3) := dk_178 0 46 (dk_at dksJ15_vectorizedMismatch_3 13 rfl rfl)
theorem dJ15_vectorizedMismatch_86 : decode cJ15_vectorizedMismatch 86 = .ok (.iload 7, 2) := dk_21 7 (dk_at dksJ15_vectorizedMismatch_3 16 rfl rfl)
theorem dJ15_vectorizedMismatch_88 : decode cJ15_vectorizedMismatch 88 = .ok (.iadd, 1) := dk_96 (dk_at dksJ15_vectorizedMismatch_3 18 rfl rfl)
theorem dJ15_vectorizedMismatch_89 : decode cJ15_vectorizedMismatch 89 = .ok (.ishr, 1) := dk_122 (dk_at dksJ15_vectorizedMismatch_3 19 rfl rfl)
theorem dJ15_vectorizedMismatch_90 : decode cJ15_vectorizedMismatch 90 = .ok (.goto 15, 3) := dk_167 0 15 (dk_at dksJ15_vectorizedMismatch_3 20 rfl rfl)
theorem dJ15_vectorizedMismatch_93 : decode cJ15_vectorizedMismatch 93 = .ok (.lload 16, 2) := dk_22 16 (dk_at dksJ15_vectorizedMismatch_4 0 rfl rfl)
theorem dJ15_vectorizedMismatch_95 : decode cJ15_vectorizedMismatch 95 = .ok (.invokestatic 49, 3) := dk_184 0 49 (dk_at dksJ15_vectorizedMismatch_4 2 rfl rfl)
theorem dJ15_vectorizedMismatch_98 : decode cJ15_vectorizedMismatch 98 = .ok (.getstatic 46, 3) := dk_178 0 46 (dk_at dksJ15_vectorizedMismatch_4 5 rfl rfl)
theorem dJ15_vectorizedMismatch_101 : decode cJ15_vectorizedMismatch 101 = .ok (.iload 7, 2) := dk_21 7 (dk_at dksJ15_vectorizedMismatch_4 8 rfl rfl)
theorem dJ15_vectorizedMismatch_103 : decode cJ15_vectorizedMismatch 103 = .ok (.iadd, 1) := dk_96 (dk_at dksJ15_vectorizedMismatch_4 10 rfl rfl)
theorem dJ15_vectorizedMismatch_104 : decode cJ15_vectorizedMismatch 104 = .ok (.ishr, 1) := dk_122 (dk_at dksJ15_vectorizedMismatch_4 11 rfl rfl)
theorem dJ15_vectorizedMismatch_105 : decode cJ15_vectorizedMismatch 105 = .ok (.istore 18, 2) := dk_54 18 (dk_at dksJ15_vectorizedMismatch_4 12 rfl rfl)
theorem dJ15_vectorizedMismatch_107 : decode cJ15_vectorizedMismatch 107 = .ok (.iload 9, 2) := dk_21 9 (dk_at dksJ15_vectorizedMismatch_4 14 rfl rfl)
theorem dJ15_vectorizedMismatch_109 : decode cJ15_vectorizedMismatch 109 = .ok (.iload 8, 2) := dk_21 8 (dk_at dksJ15_vectorizedMismatch_4 16 rfl rfl)
theorem dJ15_vectorizedMismatch_111 : decode cJ15_vectorizedMismatch 111 = .ok (.ishl, 1) := dk_120 (dk_at dksJ15_vectorizedMismatch_4 18 rfl rfl)
theorem dJ15_vectorizedMismatch_112 : decode cJ15_vectorizedMismatch 112 = .ok (.iload 18, 2) := dk_21 18 (dk_at dksJ15_vectorizedMismatch_4 19 rfl rfl)
theorem dJ15_vectorizedMismatch_114 : decode cJ15_vectorizedMismatch 114 = .ok (.iadd, 1) := dk_96 (dk_at dksJ15_vectorizedMismatch_4 21 rfl rfl)
theorem dJ15_vectorizedMismatch_115 : decode cJ15_vectorizedMismatch 115 = .ok (.ireturn, 1) := dk_172 (dk_at dksJ15_vectorizedMismatch_4 22 rfl rfl)
theorem dJ15_vectorizedMismatch_116 : decode cJ15_vectorizedMismatch 116 = .ok (.iinc 9 1, 3) := dk_132 9 1 (dk_at dksJ15_vectorizedMismatch_5 0 rfl rfl)
theorem dJ15_vectorizedMismatch_119 : decode cJ15_vectorizedMismatch 119 = .ok (.goto (-108), 3) := dk_167 255 148 (dk_at dksJ15_vectorizedMismatch_5 3 rfl rfl)
theorem dJ15_vectorizedMismatch_122 : decode cJ15_vectorizedMismatch 122 = .ok (.iload 6, 2) := dk_21 6 (dk_at dksJ15_vectorizedMismatch_5 6 rfl rfl)
theorem dJ15_vectorizedMismatch_124 : decode cJ15_vectorizedMismatch 124 = .ok (.iload 9, 2) := dk_21 9 (dk_at dksJ15_vectorizedMismatch_5 8 rfl rfl)
theorem dJ15_vectorizedMismatch_126 : decode cJ15_vectorizedMismatch 126 = .ok (.iload 8, 2) := dk_21 8 (dk_at dksJ15_vectorizedMismatch_5 10 rfl rfl)
theorem dJ15_vectorizedMismatch_128 : decode cJ15_vectorizedMismatch 128 = .ok (.ishl, 1) := dk_120 (dk_at dksJ15_vectorizedMismatch_5 12 rfl rfl)
theorem dJ15_vectorizedMismatch_129 : decode cJ15_vectorizedMismatch 129 = .ok (.isub, 1) := dk_100 (dk_at dksJ15_vectorizedMismatch_5 13 rfl rfl)
theorem dJ15_vectorizedMismatch_130 : decode cJ15_vectorizedMismatch 130 = .ok (.istore 10, 2) := dk_54 10 (dk_at dksJ15_vectorizedMismatch_5 14 rfl rfl)
theorem dJ15_vectorizedMismatch_132 : decode cJ15_vectorizedMismatch 132 = .ok (.iload 7, 2) := dk_21 7 (dk_at dksJ15_vectorizedMismatch_5 16 rfl rfl)
theorem dJ15_vectorizedMismatch_134 : decode cJ15_vectorizedMismatch 134 = .ok (.getstatic 51, 3) := dk_178 0 51 (dk_at dksJ15_vectorizedMismatch_5 18 rfl rfl)
theorem dJ15_vectorizedMismatch_137 : decode cJ15_vectorizedMismatch 137 = .ok (.if_icmp .ge 126, 3) := dk_162 0 126 (dk_at dksJ15_vectorizedMismatch_5 21 rfl rfl)
theorem dJ15_vectorizedMismatch_140 : decode cJ15_vectorizedMismatch 140 = .ok (.iconst 1, 1) := dk_4 (dk_at dksJ15_vectorizedMismatch_6 0 rfl rfl)
theorem dJ15_vectorizedMismatch_141 : decode cJ15_vectorizedMismatch 141 = .ok (.getstatic 51, 3) := dk_178 0 51 (dk_at dksJ15_vectorizedMismatch_6 1 rfl rfl)
theorem dJ15_vectorizedMismatch_144 : decode cJ15_vectorizedMismatch 144 = .ok (.iload 7, 2) := dk_21 7 (dk_at dksJ15_vectorizedMismatch_6 4 rfl rfl)
theorem dJ15_vectorizedMismatch_146 : decode cJ15_vectorizedMismatch 146 = .ok (.isub, 1) := dk_100 (dk_at dksJ15_vectorizedMismatch_6 6 rfl rfl)
theorem dJ15_vectorizedMismatch_147 : decode cJ15_vectorizedMismatch 147 = .ok (.ishl, 1) := dk_120 (dk_at dksJ15_vectorizedMismatch_6 7 rfl rfl)
theorem dJ15_vectorizedMismatch_148 : decode cJ15_vectorizedMismatch 148 = .ok (.istore 11, 2) := dk_54 11 (dk_at dksJ15_vectorizedMismatch_6 8 rfl rfl)
theorem dJ15_vectorizedMismatch_150 : decode cJ15_vectorizedMismatch 150 = .ok (.iload 10, 2) := dk_21 10 (dk_at dksJ15_vectorizedMismatch_6 10 rfl rfl)
theorem dJ15_vectorizedMismatch_152 : decode cJ15_vectorizedMismatch 152 = .ok (.iload 11, 2) := dk_21 11 (dk_at dksJ15_vectorizedMismatch_6 12 rfl rfl)
theorem dJ15_vectorizedMismatch_154 : decode cJ15_vectorizedMismatch 154 = .ok (.if_icmp .lt 104, 3) := dk_161 0 104 (dk_at dksJ15_vectorizedMismatch_6 14 rfl rfl)
theorem dJ15_vectorizedMismatch_157 : decode cJ15_vectorizedMismatch 157 = .ok (.iload 9, 2) := dk_21 9 (dk_at dksJ15_vectorizedMismatch_6 17 rfl rfl)
theorem dJ15_vectorizedMismatch_159 : decode cJ15_vectorizedMismatch 159 = .ok (.i2l, 1) := dk_133 (dk_at dksJ15_vectorizedMismatch_6 19 rfl rfl)
theorem dJ15_vectorizedMismatch_160 : decode cJ15_vectorizedMismatch 160 = .ok (.getstatic 20, 3) := dk_178 0 20 (dk_at dksJ15_vectorizedMismatch_6 20 rfl rfl)
theorem dJ15_vectorizedMismatch_163 : decode cJ15_vectorizedMismatch 163 = .ok (.lshl, 1) := dk_121 (dk_at dksJ15_vectorizedMismatch_6 23 rfl rfl)
theorem dJ15_vectorizedMismatch_164 : decode cJ15_vectorizedMismatch 164 = .ok (.lstore 12, 2) := dk_55 12 (dk_at dksJ15_vectorizedMismatch_7 0 rfl rfl)
theorem dJ15_vectorizedMismatch_166 : decode cJ15_vectorizedMismatch 166 = .ok (.getstatic 26, 3) := dk_178 0 26 (dk_at dksJ15_vectorizedMismatch_7 2 rfl rfl)
theorem dJ15_vectorizedMismatch_169 : decode cJ15_vectorizedMismatch 169 = .ok (.aload_n 0, 1) := dk_42 (dk_at dksJ15_vectorizedMismatch_7 5 rfl rfl)
theorem dJ15_vectorizedMismatch_170 : decode cJ15_vectorizedMismatch 170 = .ok (.lload_n 1, 1) := dk_31 (dk_at dksJ15_vectorizedMismatch_7 6 rfl rfl)
theorem dJ15_vectorizedMismatch_171 : decode cJ15_vectorizedMismatch 171 = .ok (.lload 12, 2) := dk_22 12 (dk_at dksJ15_vectorizedMismatch_7 7 rfl rfl)
theorem dJ15_vectorizedMismatch_173 : decode cJ15_vectorizedMismatch 173 = .ok (.ladd, 1) := dk_97 (dk_at dksJ15_vectorizedMismatch_7 9 rfl rfl)
theorem dJ15_vectorizedMismatch_174 : decode cJ15_vectorizedMismatch 174 = .ok (.invokevirtual 54, 3) := dk_182 0 54 (dk_at dksJ15_vectorizedMismatch_7 10 rfl rfl)
theorem dJ15_vectorizedMismatch_177 : decode cJ15_vectorizedMismatch 177 = .ok (.istore 14, 2) := dk_54 14 (dk_at dksJ15_vectorizedMismatch_7 13 rfl rfl)
theorem dJ15_vectorizedMismatch_179 : decode cJ15_vectorizedMismatch 179 = .ok (.getstatic 26, 3) := dk_178 0 26 (dk_at dksJ15_vectorizedMismatch_7 15 rfl rfl)
theorem dJ15_vectorizedMismatch_182 : decode cJ15_vectorizedMismatch 182 = .ok (.aload_n 3, 1) := dk_45 (dk_at dksJ15_vectorizedMismatch_7 18 rfl rfl)
theorem dJ15_vectorizedMismatch_183 : decode cJ15_vectorizedMismatch 183 = .ok (.lload 4, 2) := dk_22 4 (dk_at dksJ15_vectorizedMismatch_7 19 rfl rfl)
theorem dJ15_vectorizedMismatch_185 : decode cJ15_vectorizedMismatch 185 = .ok (.lload 12, 2) := dk_22 12 (dk_at dksJ15_vectorizedMismatch_7 21 rfl rfl)
theorem dJ15_vectorizedMismatch_187 : decode cJ15_vectorizedMismatch 187 = .ok (.ladd, 1) := dk_97 (dk_at dksJ15_vectorizedMismatch_7 23 rfl rfl)
theorem dJ15_vectorizedMismatch_188 : decode cJ15_vectorizedMismatch 188 = .ok (.invokevirtual 54, 3) := dk_182 0 54 (dk_at dksJ15_vectorizedMismatch_8 0 rfl rfl)
theorem dJ15_vectorizedMismatch_191 : decode cJ15_vectorizedMismatch 191 = .ok (.istore 15, 2) := dk_54 15 (dk_at dksJ15_vectorizedMismatch_8 3 rfl rfl)
theorem dJ15_vectorizedMismatch_193 : decode cJ15_vectorizedMismatch 193 = .ok (.iload 14, 2) := dk_21 14 (dk_at dksJ15_vectorizedMismatch_8 5 rfl rfl)
theorem dJ15_vectorizedMismatch_195 : decode cJ15_vectorizedMismatch 195 = .ok (.iload 15, 2) := dk_21 15 (dk_at dksJ15_vectorizedMismatch_8 7 rfl rfl)
theorem dJ15_vectorizedMismatch_197 : decode cJ15_vectorizedMismatch 197 = .ok (.if_icmp .eq 54, 3) := dk_159 0 54 (dk_at dksJ15_vectorizedMismatch_8 9 rfl rfl)
theorem dJ15_vectorizedMismatch_200 : decode cJ15_vectorizedMismatch 200 = .ok (.iload 14, 2) := dk_21 14 (dk_at dksJ15_vectorizedMismatch_8 12 rfl rfl)
theorem dJ15_vectorizedMismatch_202 : decode cJ15_vectorizedMismatch 202 = .ok (.iload 15, 2) := dk_21 15 (dk_at dksJ15_vectorizedMismatch_8 14 rfl rfl)
theorem dJ15_vectorizedMismatch_204 : decode cJ15_vectorizedMismatch 204 = .ok (.ixor, 1) := dk_130 (dk_at dksJ15_vectorizedMismatch_8 16 rfl rfl)
theorem dJ15_vectorizedMismatch_205 : decode cJ15_vectorizedMismatch 205 = .ok (.istore 16, 2) := dk_54 16 (dk_at dksJ15_vectorizedMismatch_8 17 rfl rfl)
theorem dJ15_vectorizedMismatch_207 : decode cJ15_vectorizedMismatch 207 = .ok (.getstatic 36, 3) := dk_178 0 36 (dk_at dksJ15_vectorizedMismatch_8 19 rfl rfl)
theorem dJ15_vectorizedMismatch_210 : decode cJ15_vectorizedMismatch 210 = .ok (.ifCond .eq 18, 3) := dk_153 0 18 (dk_at dksJ15_vectorizedMismatch_9 0 rfl rfl)
theorem dJ15_vectorizedMismatch_213 : decode cJ15_vectorizedMismatch 213 = .ok (.iload 16, 2) := dk_21 16 (dk_at dksJ15_vectorizedMismatch_9 3 rfl rfl)
theorem dJ15_vectorizedMismatch_215 : decode cJ15_vectorizedMismatch 215 = .ok (.invokestatic 58, 3) := dk_184 0 58 (dk_at dksJ15_vectorizedMismatch_9 5 rfl rfl)
theorem dJ15_vectorizedMismatch_218 : decode cJ15_vectorizedMismatch 218 = .ok (.getstatic 46, 3) := dk_178 0 46 (dk_at dksJ15_vectorizedMismatch_9 8 rfl rfl)
theorem dJ15_vectorizedMismatch_221 : decode cJ15_vectorizedMismatch 221 = .ok (.iload 7, 2) := dk_21 7 (dk_at dksJ15_vectorizedMismatch_9 11 rfl rfl)
theorem dJ15_vectorizedMismatch_223 : decode cJ15_vectorizedMismatch 223 = .ok (.iadd, 1) := dk_96 (dk_at dksJ15_vectorizedMismatch_9 13 rfl rfl)
theorem dJ15_vectorizedMismatch_224 : decode cJ15_vectorizedMismatch 224 = .ok (.ishr, 1) := dk_122 (dk_at dksJ15_vectorizedMismatch_9 14 rfl rfl)
theorem dJ15_vectorizedMismatch_225 : decode cJ15_vectorizedMismatch 225 = .ok (.goto 15, 3) := dk_167 0 15 (dk_at dksJ15_vectorizedMismatch_9 15 rfl rfl)
theorem dJ15_vectorizedMismatch_228 : decode cJ15_vectorizedMismatch 228 = .ok (.iload 16, 2) := dk_21 16 (dk_at dksJ15_vectorizedMismatch_9 18 rfl rfl)
theorem dJ15_vectorizedMismatch_230 : decode cJ15_vectorizedMismatch 230 = .ok (.invokestatic 11, 3) := dk_184 0 11 (dk_at dksJ15_vectorizedMismatch_9 20 rfl rfl)
theorem dJ15_vectorizedMismatch_233 : decode cJ15_vectorizedMismatch 233 = .ok (.getstatic 46, 3) := dk_178 0 46 (dk_at dksJ15_vectorizedMismatch_10 0 rfl rfl)
theorem dJ15_vectorizedMismatch_236 : decode cJ15_vectorizedMismatch 236 = .ok (.iload 7, 2) := dk_21 7 (dk_at dksJ15_vectorizedMismatch_10 3 rfl rfl)
theorem dJ15_vectorizedMismatch_238 : decode cJ15_vectorizedMismatch 238 = .ok (.iadd, 1) := dk_96 (dk_at dksJ15_vectorizedMismatch_10 5 rfl rfl)
theorem dJ15_vectorizedMismatch_239 : decode cJ15_vectorizedMismatch 239 = .ok (.ishr, 1) := dk_122 (dk_at dksJ15_vectorizedMismatch_10 6 rfl rfl)
theorem dJ15_vectorizedMismatch_240 : decode cJ15_vectorizedMismatch 240 = .ok (.istore 17, 2) := dk_54 17 (dk_at dksJ15_vectorizedMismatch_10 7 rfl rfl)
theorem dJ15_vectorizedMismatch_242 : decode cJ15_vectorizedMismatch 242 = .ok (.iload 9, 2) := dk_21 9 (dk_at dksJ15_vectorizedMismatch_10 9 rfl rfl)
theorem dJ15_vectorizedMismatch_244 : decode cJ15_vectorizedMismatch 244 = .ok (.iload 8, 2) := dk_21 8 (dk_at dksJ15_vectorizedMismatch_10 11 rfl rfl)
theorem dJ15_vectorizedMismatch_246 : decode cJ15_vectorizedMismatch 246 = .ok (.ishl, 1) := dk_120 (dk_at dksJ15_vectorizedMismatch_10 13 rfl rfl)
theorem dJ15_vectorizedMismatch_247 : decode cJ15_vectorizedMismatch 247 = .ok (.iload 17, 2) := dk_21 17 (dk_at dksJ15_vectorizedMismatch_10 14 rfl rfl)
theorem dJ15_vectorizedMismatch_249 : decode cJ15_vectorizedMismatch 249 = .ok (.iadd, 1) := dk_96 (dk_at dksJ15_vectorizedMismatch_10 16 rfl rfl)
theorem dJ15_vectorizedMismatch_250 : decode cJ15_vectorizedMismatch 250 = .ok (.ireturn, 1) := dk_172 (dk_at dksJ15_vectorizedMismatch_10 17 rfl rfl)
theorem dJ15_vectorizedMismatch_251 : decode cJ15_vectorizedMismatch 251 = .ok (.iload 10, 2) := dk_21 10 (dk_at dksJ15_vectorizedMismatch_10 18 rfl rfl)
theorem dJ15_vectorizedMismatch_253 : decode cJ15_vectorizedMismatch 253 = .ok (.iload 11, 2) := dk_21 11 (dk_at dksJ15_vectorizedMismatch_10 20 rfl rfl)
theorem dJ15_vectorizedMismatch_255 : decode cJ15_vectorizedMismatch 255 = .ok (.isub, 1) := dk_100 (dk_at dksJ15_vectorizedMismatch_10 22 rfl rfl)
theorem dJ15_vectorizedMismatch_256 : decode cJ15_vectorizedMismatch 256 = .ok (.istore 10, 2) := dk_54 10 (dk_at dksJ15_vectorizedMismatch_11 0 rfl rfl)
theorem dJ15_vectorizedMismatch_258 : decode cJ15_vectorizedMismatch 258 = .ok (.iload 10, 2) := dk_21 10 (dk_at dksJ15_vectorizedMismatch_11 2 rfl rfl)
theorem dJ15_vectorizedMismatch_260 : decode cJ15_vectorizedMismatch 260 = .ok (.iconst (-1), 1) := dk_2 (dk_at dksJ15_vectorizedMismatch_11 4 rfl rfl)
theorem dJ15_vectorizedMismatch_261 : decode cJ15_vectorizedMismatch 261 = .ok (.ixor, 1) := dk_130 (dk_at dksJ15_vectorizedMismatch_11 5 rfl rfl)
theorem dJ15_vectorizedMismatch_262 : decode cJ15_vectorizedMismatch 262 = .ok (.ireturn, 1) := dk_172 (dk_at dksJ15_vectorizedMismatch_11 6 rfl rfl)
theorem dJ15_vectorizedMismatch_263 : decode cJ15_vectorizedMismatch 263 = .ok (.iload 10, 2) := dk_21 10 (dk_at dksJ15_vectorizedMismatch_11 7 rfl rfl)
theorem dJ15_vectorizedMismatch_265 : decode cJ15_vectorizedMismatch 265 = .ok (.iconst (-1), 1) := dk_2 (dk_at dksJ15_vectorizedMismatch_11 9 rfl rfl)
theorem dJ15_vectorizedMismatch_266 : decode cJ15_vectorizedMismatch 266 = .ok (.ixor, 1) := dk_130 (dk_at dksJ15_vectorizedMismatch_11 10 rfl rfl)
theorem dJ15_vectorizedMismatch_267 : decode cJ15_vectorizedMismatch 267 = .ok (.ireturn, 1) := dk_172 (dk_at dksJ15_vectorizedMismatch_11 11 rfl rfl)
theorem q136 : (Jvm.Cond.initialized "jdk/internal/util/ArraysSupport") ∈ lw_all := lw_g (lw_at lw_m1 21 rfl) rfl
theorem q536 : (Jvm.Cond.static ({ cls := "jdk/internal/util/ArraysSupport", name := "newLength", desc := "(III)I" } : Jvm.MethodName)) ∈ lw_all := lw_g (lw_at lw_m2 181 rfl) rfl
theorem q537 : (Jvm.Cond.code ({ cls := "jdk/internal/util/ArraysSupport", name := "newLength", desc := "(III)I" } : Jvm.MethodName) prog_70_method_27_code (4 : Nat) (Option.some Jvm.ClassFile.FieldType.int)) ∈ lw_all := lw_g (lw_at lw_m2 182 rfl) rfl
theorem q538 : (Jvm.Cond.methodLink "jdk/internal/util/ArraysSupport" (194 : Nat) ({ cls := "java/lang/Math", name := "max", desc := "(II)I" } : Jvm.MethodName)) ∈ lw_all := lw_g (lw_at lw_m2 183 rfl) rfl
theorem q541 : (Jvm.Cond.constant "jdk/internal/util/ArraysSupport" (200 : Nat) (2147483639 : Int32)) ∈ lw_all := lw_g (lw_at lw_m2 186 rfl) rfl
theorem q542 : (Jvm.Cond.methodLink "jdk/internal/util/ArraysSupport" (201 : Nat) ({ cls := "jdk/internal/util/ArraysSupport", name := "hugeLength", desc := "(II)I" } : Jvm.MethodName)) ∈ lw_all := lw_g (lw_at lw_m2 187 rfl) rfl
theorem q543 : (Jvm.Cond.static ({ cls := "jdk/internal/util/ArraysSupport", name := "hugeLength", desc := "(II)I" } : Jvm.MethodName)) ∈ lw_all := lw_g (lw_at lw_m2 188 rfl) rfl
theorem q544 : (Jvm.Cond.code ({ cls := "jdk/internal/util/ArraysSupport", name := "hugeLength", desc := "(II)I" } : Jvm.MethodName) prog_70_method_28_code (3 : Nat) (Option.some Jvm.ClassFile.FieldType.int)) ∈ lw_all := lw_g (lw_at lw_m2 189 rfl) rfl
theorem q1164 : (Jvm.Cond.static ({ cls := "jdk/internal/util/ArraysSupport", name := "vectorizedHashCode", desc := "(Ljava/lang/Object;IIII)I" } : Jvm.MethodName)) ∈ lw_all := lw_g (lw_at lw_m5 89 rfl) rfl
theorem q1165 : (Jvm.Cond.code ({ cls := "jdk/internal/util/ArraysSupport", name := "vectorizedHashCode", desc := "(Ljava/lang/Object;IIII)I" } : Jvm.MethodName) prog_70_method_4_code (5 : Nat) (Option.some Jvm.ClassFile.FieldType.int)) ∈ lw_all := lw_g (lw_at lw_m5 90 rfl) rfl
theorem q1166 : (Jvm.Cond.classLink "jdk/internal/util/ArraysSupport" (60 : Nat) "[B") ∈ lw_all := lw_g (lw_at lw_m5 91 rfl) rfl
theorem q1167 : (Jvm.Cond.methodLink "jdk/internal/util/ArraysSupport" (62 : Nat) ({ cls := "jdk/internal/util/ArraysSupport", name := "signedHashCode", desc := "(I[BII)I" } : Jvm.MethodName)) ∈ lw_all := lw_g (lw_at lw_m5 92 rfl) rfl
theorem q1168 : (Jvm.Cond.static ({ cls := "jdk/internal/util/ArraysSupport", name := "signedHashCode", desc := "(I[BII)I" } : Jvm.MethodName)) ∈ lw_all := lw_g (lw_at lw_m5 93 rfl) rfl
theorem q1169 : (Jvm.Cond.code ({ cls := "jdk/internal/util/ArraysSupport", name := "signedHashCode", desc := "(I[BII)I" } : Jvm.MethodName) prog_70_method_5_code (6 : Nat) (Option.some Jvm.ClassFile.FieldType.int)) ∈ lw_all := lw_g (lw_at lw_m5 94 rfl) rfl
theorem q1170 : (Jvm.Cond.methodLink "jdk/internal/util/ArraysSupport" (66 : Nat) ({ cls := "jdk/internal/util/ArraysSupport", name := "utf16hashCode", desc := "(I[BII)I" } : Jvm.MethodName)) ∈ lw_all := lw_g (lw_at lw_m5 95 rfl) rfl
theorem q1171 : (Jvm.Cond.static ({ cls := "jdk/internal/util/ArraysSupport", name := "utf16hashCode", desc := "(I[BII)I" } : Jvm.MethodName)) ∈ lw_all := lw_g (lw_at lw_m5 96 rfl) rfl
theorem q1172 : (Jvm.Cond.code ({ cls := "jdk/internal/util/ArraysSupport", name := "utf16hashCode", desc := "(I[BII)I" } : Jvm.MethodName) prog_70_method_10_code (6 : Nat) (Option.some Jvm.ClassFile.FieldType.int)) ∈ lw_all := lw_g (lw_at lw_m5 97 rfl) rfl
theorem q1173 : (Jvm.Cond.fieldLink "jdk/internal/util/ArraysSupport" (106 : Nat) "jdk/internal/util/ArraysSupport" "JLA" "Ljdk/internal/access/JavaLangAccess;") ∈ lw_all := lw_g (lw_at lw_m5 98 rfl) rfl
theorem q1174 : (Jvm.Cond.laysStatic "jdk/internal/util/ArraysSupport" "JLA" "Ljdk/internal/access/JavaLangAccess;") ∈ lw_tbl := lw_at lw_m5 99 rfl
theorem q1175 : (Jvm.Cond.interfaceEntry "jdk/internal/util/ArraysSupport" (110 : Nat)) ∈ lw_tbl := lw_at lw_m5 100 rfl
theorem q1176 : (Jvm.Cond.methodLink "jdk/internal/util/ArraysSupport" (110 : Nat) ({ cls := "jdk/internal/access/JavaLangAccess", name := "getUTF16Char", desc := "([BI)C" } : Jvm.MethodName)) ∈ lw_all := lw_g (lw_at lw_m5 101 rfl) rfl
theorem q1186 : (Jvm.Cond.classLink "jdk/internal/util/ArraysSupport" (69 : Nat) "[C") ∈ lw_all := lw_g (lw_at lw_m5 111 rfl) rfl
theorem q1187 : (Jvm.Cond.methodLink "jdk/internal/util/ArraysSupport" (71 : Nat) ({ cls := "jdk/internal/util/ArraysSupport", name := "hashCode", desc := "(I[CII)I" } : Jvm.MethodName)) ∈ lw_all := lw_g (lw_at lw_m5 112 rfl) rfl
theorem q1188 : (Jvm.Cond.static ({ cls := "jdk/internal/util/ArraysSupport", name := "hashCode", desc := "(I[CII)I" } : Jvm.MethodName)) ∈ lw_all := lw_g (lw_at lw_m5 113 rfl) rfl
theorem q1189 : (Jvm.Cond.code ({ cls := "jdk/internal/util/ArraysSupport", name := "hashCode", desc := "(I[CII)I" } : Jvm.MethodName) prog_70_method_7_code (6 : Nat) (Option.some Jvm.ClassFile.FieldType.int)) ∈ lw_all := lw_g (lw_at lw_m5 114 rfl) rfl
theorem q1190 : (Jvm.Cond.methodLink "jdk/internal/util/ArraysSupport" (75 : Nat) ({ cls := "jdk/internal/util/ArraysSupport", name := "hashCode", desc := "(I[BII)I" } : Jvm.MethodName)) ∈ lw_all := lw_g (lw_at lw_m5 115 rfl) rfl
theorem q1191 : (Jvm.Cond.static ({ cls := "jdk/internal/util/ArraysSupport", name := "hashCode", desc := "(I[BII)I" } : Jvm.MethodName)) ∈ lw_all := lw_g (lw_at lw_m5 116 rfl) rfl
theorem q1192 : (Jvm.Cond.code ({ cls := "jdk/internal/util/ArraysSupport", name := "hashCode", desc := "(I[BII)I" } : Jvm.MethodName) prog_70_method_6_code (6 : Nat) (Option.some Jvm.ClassFile.FieldType.int)) ∈ lw_all := lw_g (lw_at lw_m5 117 rfl) rfl
theorem q1193 : (Jvm.Cond.classLink "jdk/internal/util/ArraysSupport" (77 : Nat) "[S") ∈ lw_all := lw_g (lw_at lw_m5 118 rfl) rfl
theorem q1194 : (Jvm.Cond.methodLink "jdk/internal/util/ArraysSupport" (79 : Nat) ({ cls := "jdk/internal/util/ArraysSupport", name := "hashCode", desc := "(I[SII)I" } : Jvm.MethodName)) ∈ lw_all := lw_g (lw_at lw_m5 119 rfl) rfl
theorem q1195 : (Jvm.Cond.static ({ cls := "jdk/internal/util/ArraysSupport", name := "hashCode", desc := "(I[SII)I" } : Jvm.MethodName)) ∈ lw_all := lw_g (lw_at lw_m5 120 rfl) rfl
theorem q1196 : (Jvm.Cond.code ({ cls := "jdk/internal/util/ArraysSupport", name := "hashCode", desc := "(I[SII)I" } : Jvm.MethodName) prog_70_method_8_code (6 : Nat) (Option.some Jvm.ClassFile.FieldType.int)) ∈ lw_all := lw_g (lw_at lw_m5 121 rfl) rfl
theorem q1197 : (Jvm.Cond.classLink "jdk/internal/util/ArraysSupport" (82 : Nat) "[I") ∈ lw_all := lw_g (lw_at lw_m5 122 rfl) rfl
theorem q1198 : (Jvm.Cond.methodLink "jdk/internal/util/ArraysSupport" (84 : Nat) ({ cls := "jdk/internal/util/ArraysSupport", name := "hashCode", desc := "(I[III)I" } : Jvm.MethodName)) ∈ lw_all := lw_g (lw_at lw_m5 123 rfl) rfl
theorem q1199 : (Jvm.Cond.static ({ cls := "jdk/internal/util/ArraysSupport", name := "hashCode", desc := "(I[III)I" } : Jvm.MethodName)) ∈ lw_all := lw_g (lw_at lw_m5 124 rfl) rfl
theorem q1200 : (Jvm.Cond.code ({ cls := "jdk/internal/util/ArraysSupport", name := "hashCode", desc := "(I[III)I" } : Jvm.MethodName) prog_70_method_9_code (6 : Nat) (Option.some Jvm.ClassFile.FieldType.int)) ∈ lw_all := lw_g (lw_at lw_m5 125 rfl) rfl
theorem q1201 : (Jvm.Cond.classLink "jdk/internal/util/ArraysSupport" (87 : Nat) "java/lang/IllegalArgumentException") ∈ lw_all := lw_g (lw_at lw_m5 126 rfl) rfl
theorem q1202 : (Jvm.Cond.classLink "jdk/internal/util/ArraysSupport" (89 : Nat) "java/lang/StringBuilder") ∈ lw_all := lw_g (lw_at lw_m5 127 rfl) rfl
theorem q1203 : (Jvm.Cond.methodLink "jdk/internal/util/ArraysSupport" (91 : Nat) ({ cls := "java/lang/StringBuilder", name := "<init>", desc := "()V" } : Jvm.MethodName)) ∈ lw_all := lw_g (lw_at lw_m5 128 rfl) rfl
theorem q1204 : (Jvm.Cond.stringRef "jdk/internal/util/ArraysSupport" (92 : Nat) "unrecognized basic type: ") ∈ lw_tbl := lw_at lw_m5 129 rfl
theorem q1205 : (Jvm.Cond.methodLink "jdk/internal/util/ArraysSupport" (94 : Nat) ({ cls := "java/lang/StringBuilder", name := "append", desc := "(Ljava/lang/String;)Ljava/lang/StringBuilder;" } : Jvm.MethodName)) ∈ lw_all := lw_g (lw_at lw_m5 130 rfl) rfl
theorem q1206 : (Jvm.Cond.methodLink "jdk/internal/util/ArraysSupport" (98 : Nat) ({ cls := "java/lang/StringBuilder", name := "append", desc := "(I)Ljava/lang/StringBuilder;" } : Jvm.MethodName)) ∈ lw_all := lw_g (lw_at lw_m5 131 rfl) rfl
theorem q1207 : (Jvm.Cond.methodLink "jdk/internal/util/ArraysSupport" (101 : Nat) ({ cls := "java/lang/StringBuilder", name := "toString", desc := "()Ljava/lang/String;" } : Jvm.MethodName)) ∈ lw_all := lw_g (lw_at lw_m5 132 rfl) rfl
theorem q1208 : (Jvm.Cond.methodLink "jdk/internal/util/ArraysSupport" (105 : Nat) ({ cls := "java/lang/IllegalArgumentException", name := "<init>", desc := "(Ljava/lang/String;)V" } : Jvm.MethodName)) ∈ lw_all := lw_g (lw_at lw_m5 133 rfl) rfl
theorem q1336 : (Jvm.Cond.static ({ cls := "jdk/internal/util/ArraysSupport", name := "mismatch", desc := "([B[BI)I" } : Jvm.MethodName)) ∈ lw_all := lw_g (lw_at lw_m6 21 rfl) rfl
theorem q1337 : (Jvm.Cond.code ({ cls := "jdk/internal/util/ArraysSupport", name := "mismatch", desc := "([B[BI)I" } : Jvm.MethodName) prog_70_method_13_code (4 : Nat) (Option.some Jvm.ClassFile.FieldType.int)) ∈ lw_all := lw_g (lw_at lw_m6 22 rfl) rfl
theorem q1338 : (Jvm.Cond.fieldLink "jdk/internal/util/ArraysSupport" (126 : Nat) "jdk/internal/misc/Unsafe" "ARRAY_BYTE_BASE_OFFSET" "I") ∈ lw_all := lw_g (lw_at lw_m6 23 rfl) rfl
theorem q1340 : (Jvm.Cond.fieldLink "jdk/internal/util/ArraysSupport" (129 : Nat) "jdk/internal/util/ArraysSupport" "LOG2_ARRAY_BYTE_INDEX_SCALE" "I") ∈ lw_all := lw_g (lw_at lw_m6 25 rfl) rfl
theorem q1341 : (Jvm.Cond.laysStatic "jdk/internal/util/ArraysSupport" "LOG2_ARRAY_BYTE_INDEX_SCALE" "I") ∈ lw_tbl := lw_at lw_m6 26 rfl
theorem q1342 : (Jvm.Cond.methodLink "jdk/internal/util/ArraysSupport" (122 : Nat) ({ cls := "jdk/internal/util/ArraysSupport", name := "vectorizedMismatch", desc := "(Ljava/lang/Object;JLjava/lang/Object;JII)I" } : Jvm.MethodName)) ∈ lw_all := lw_g (lw_at lw_m6 27 rfl) rfl
theorem q1343 : (Jvm.Cond.static ({ cls := "jdk/internal/util/ArraysSupport", name := "vectorizedMismatch", desc := "(Ljava/lang/Object;JLjava/lang/Object;JII)I" } : Jvm.MethodName)) ∈ lw_all := lw_g (lw_at lw_m6 28 rfl) rfl
theorem q1344 : (Jvm.Cond.code ({ cls := "jdk/internal/util/ArraysSupport", name := "vectorizedMismatch", desc := "(Ljava/lang/Object;JLjava/lang/Object;JII)I" } : Jvm.MethodName) prog_70_method_3_code (19 : Nat) (Option.some Jvm.ClassFile.FieldType.int)) ∈ lw_all := lw_g (lw_at lw_m6 29 rfl) rfl
theorem q1345 : (Jvm.Cond.fieldLink "jdk/internal/util/ArraysSupport" (20 : Nat) "jdk/internal/util/ArraysSupport" "LOG2_ARRAY_LONG_INDEX_SCALE" "I") ∈ lw_all := lw_g (lw_at lw_m6 30 rfl) rfl
theorem q1346 : (Jvm.Cond.laysStatic "jdk/internal/util/ArraysSupport" "LOG2_ARRAY_LONG_INDEX_SCALE" "I") ∈ lw_tbl := lw_at lw_m6 31 rfl
theorem q1347 : (Jvm.Cond.fieldLink "jdk/internal/util/ArraysSupport" (26 : Nat) "jdk/internal/util/ArraysSupport" "U" "Ljdk/internal/misc/Unsafe;") ∈ lw_all := lw_g (lw_at lw_m6 32 rfl) rfl
theorem q1348 : (Jvm.Cond.laysStatic "jdk/internal/util/ArraysSupport" "U" "Ljdk/internal/misc/Unsafe;") ∈ lw_tbl := lw_at lw_m6 33 rfl
theorem q1349 : (Jvm.Cond.methodLink "jdk/internal/util/ArraysSupport" (30 : Nat) ({ cls := "jdk/internal/misc/Unsafe", name := "getLongUnaligned", desc := "(Ljava/lang/Object;J)J" } : Jvm.MethodName)) ∈ lw_all := lw_g (lw_at lw_m6 34 rfl) rfl
theorem q1401 : (Jvm.Cond.fieldLink "jdk/internal/util/ArraysSupport" (36 : Nat) "jdk/internal/util/ArraysSupport" "BIG_ENDIAN" "Z") ∈ lw_all := lw_g (lw_at lw_m6 86 rfl) rfl
theorem q1402 : (Jvm.Cond.laysStatic "jdk/internal/util/ArraysSupport" "BIG_ENDIAN" "Z") ∈ lw_tbl := lw_at lw_m6 87 rfl
theorem q1403 : (Jvm.Cond.methodLink "jdk/internal/util/ArraysSupport" (40 : Nat) ({ cls := "java/lang/Long", name := "numberOfLeadingZeros", desc := "(J)I" } : Jvm.MethodName)) ∈ lw_all := lw_g (lw_at lw_m6 88 rfl) rfl
theorem q1410 : (Jvm.Cond.fieldLink "jdk/internal/util/ArraysSupport" (46 : Nat) "jdk/internal/util/ArraysSupport" "LOG2_BYTE_BIT_SIZE" "I") ∈ lw_all := lw_g (lw_at lw_m6 95 rfl) rfl
theorem q1411 : (Jvm.Cond.laysStatic "jdk/internal/util/ArraysSupport" "LOG2_BYTE_BIT_SIZE" "I") ∈ lw_tbl := lw_at lw_m6 96 rfl
theorem q1412 : (Jvm.Cond.methodLink "jdk/internal/util/ArraysSupport" (49 : Nat) ({ cls := "java/lang/Long", name := "numberOfTrailingZeros", desc := "(J)I" } : Jvm.MethodName)) ∈ lw_all := lw_g (lw_at lw_m6 97 rfl) rfl
theorem q1418 : (Jvm.Cond.fieldLink "jdk/internal/util/ArraysSupport" (51 : Nat) "jdk/internal/util/ArraysSupport" "LOG2_ARRAY_INT_INDEX_SCALE" "I") ∈ lw_all := lw_g (lw_at lw_m6 103 rfl) rfl
theorem q1419 : (Jvm.Cond.laysStatic "jdk/internal/util/ArraysSupport" "LOG2_ARRAY_INT_INDEX_SCALE" "I") ∈ lw_tbl := lw_at lw_m6 104 rfl
theorem q1420 : (Jvm.Cond.methodLink "jdk/internal/util/ArraysSupport" (54 : Nat) ({ cls := "jdk/internal/misc/Unsafe", name := "getIntUnaligned", desc := "(Ljava/lang/Object;J)I" } : Jvm.MethodName)) ∈ lw_all := lw_g (lw_at lw_m6 105 rfl) rfl
theorem q1437 : (Jvm.Cond.methodLink "jdk/internal/util/ArraysSupport" (58 : Nat) ({ cls := "java/lang/Integer", name := "numberOfLeadingZeros", desc := "(I)I" } : Jvm.MethodName)) ∈ lw_all := lw_g (lw_at lw_m6 122 rfl) rfl
theorem q1438 : (Jvm.Cond.methodLink "jdk/internal/util/ArraysSupport" (11 : Nat) ({ cls := "java/lang/Integer", name := "numberOfTrailingZeros", desc := "(I)I" } : Jvm.MethodName)) ∈ lw_all := lw_g (lw_at lw_m6 123 rfl) rfl
/-! java/lang/Math -/
set_option maxRecDepth 100000
def RJ16 : String := "java/lang/Math"
abbrev cJ16_max : ByteArray := prog_31_method_65_code
def yJ16_max : MethodName := ⟨RJ16, "max", "(II)I"⟩
def dkwJ16_max_0 : List UInt8 := [26, 27, 161, 0, 7, 26, 167, 0, 4, 27, 172]
abbrev dktJ16_max_0 : List UInt8 := dkwJ16_max_0 ++ []
theorem dksJ16_max_0 : cJ16_max.data.toList.drop 0 = dktJ16_max_0 := by decide +kernel
theorem dJ16_max_0 : decode cJ16_max 0 = .ok (.iload_n 0, 1) := dk_26 (dk_at dksJ16_max_0 0 rfl rfl)
theorem dJ16_max_1 : decode cJ16_max 1 = .ok (.iload_n 1, 1) := dk_27 (dk_at dksJ16_max_0 1 rfl rfl)
theorem dJ16_max_2 : decode cJ16_max 2 = .ok (.if_icmp .lt 7, 3) := dk_161 0 7 (dk_at dksJ16_max_0 2 rfl rfl)
theorem dJ16_max_5 : decode cJ16_max 5 = .ok (.iload_n 0, 1) := dk_26 (dk_at dksJ16_max_0 5 rfl rfl)
theorem dJ16_max_6 : decode cJ16_max 6 = .ok (.goto 4, 3) := dk_167 0 4 (dk_at dksJ16_max_0 6 rfl rfl)
theorem dJ16_max_9 : decode cJ16_max 9 = .ok (.iload_n 1, 1) := dk_27 (dk_at dksJ16_max_0 9 rfl rfl)
theorem dJ16_max_10 : decode cJ16_max 10 = .ok (.ireturn, 1) := dk_172 (dk_at dksJ16_max_0 10 rfl rfl)
abbrev cJ16_min : ByteArray := prog_31_method_69_code
def yJ16_min : MethodName := ⟨RJ16, "min", "(II)I"⟩
def dkwJ16_min_0 : List UInt8 := [26, 27, 163, 0, 7, 26, 167, 0, 4, 27, 172]
abbrev dktJ16_min_0 : List UInt8 := dkwJ16_min_0 ++ []
theorem dksJ16_min_0 : cJ16_min.data.toList.drop 0 = dktJ16_min_0 := by decide +kernel
theorem dJ16_min_0 : decode cJ16_min 0 = .ok (.iload_n 0, 1) := dk_26 (dk_at dksJ16_min_0 0 rfl rfl)
theorem dJ16_min_1 : decode cJ16_min 1 = .ok (.iload_n 1, 1) := dk_27 (dk_at dksJ16_min_0 1 rfl rfl)
theorem dJ16_min_2 : decode cJ16_min 2 = .ok (.if_icmp .gt 7, 3) := dk_163 0 7 (dk_at dksJ16_min_0 2 rfl rfl)
theorem dJ16_min_5 : decode cJ16_min 5 = .ok (.iload_n 0, 1) := dk_26 (dk_at dksJ16_min_0 5 rfl rfl)
theorem dJ16_min_6 : decode cJ16_min 6 = .ok (.goto 4, 3) := dk_167 0 4 (dk_at dksJ16_min_0 6 rfl rfl)
theorem dJ16_min_9 : decode cJ16_min 9 = .ok (.iload_n 1, 1) := dk_27 (dk_at dksJ16_min_0 9 rfl rfl)
theorem dJ16_min_10 : decode cJ16_min 10 = .ok (.ireturn, 1) := dk_172 (dk_at dksJ16_min_0 10 rfl rfl)
abbrev cJ16_min_2 : ByteArray := prog_31_method_70_code
def yJ16_min_2 : MethodName := ⟨RJ16, "min", "(JJ)J"⟩
def dkwJ16_min_2_0 : List UInt8 := [30, 32, 148, 157, 0, 7, 30, 167, 0, 4, 32, 173]
abbrev dktJ16_min_2_0 : List UInt8 := dkwJ16_min_2_0 ++ []
theorem dksJ16_min_2_0 : cJ16_min_2.data.toList.drop 0 = dktJ16_min_2_0 := by decide +kernel
theorem dJ16_min_2_0 : decode cJ16_min_2 0 = .ok (.lload_n 0, 1) := dk_30 (dk_at dksJ16_min_2_0 0 rfl rfl)
theorem dJ16_min_2_1 : decode cJ16_min_2 1 = .ok (.lload_n 2, 1) := dk_32 (dk_at dksJ16_min_2_0 1 rfl rfl)
theorem dJ16_min_2_2 : decode cJ16_min_2 2 = .ok (.lcmp, 1) := dk_148 (dk_at dksJ16_min_2_0 2 rfl rfl)
theorem dJ16_min_2_3 : decode cJ16_min_2 3 = .ok (.ifCond .gt 7, 3) := dk_157 0 7 (dk_at dksJ16_min_2_0 3 rfl rfl)
theorem dJ16_min_2_6 : decode cJ16_min_2 6 = .ok (.lload_n 0, 1) := dk_30 (dk_at dksJ16_min_2_0 6 rfl rfl)
theorem dJ16_min_2_7 : decode cJ16_min_2 7 = .ok (.goto 4, 3) := dk_167 0 4 (dk_at dksJ16_min_2_0 7 rfl rfl)
theorem dJ16_min_2_10 : decode cJ16_min_2 10 = .ok (.lload_n 2, 1) := dk_32 (dk_at dksJ16_min_2_0 10 rfl rfl)
theorem dJ16_min_2_11 : decode cJ16_min_2 11 = .ok (.lreturn, 1) := dk_173 (dk_at dksJ16_min_2_0 11 rfl rfl)
theorem q137 : (Jvm.Cond.initialized "java/lang/Math") ∈ lw_all := lw_g (lw_at lw_m1 22 rfl) rfl
theorem q539 : (Jvm.Cond.static ({ cls := "java/lang/Math", name := "max", desc := "(II)I" } : Jvm.MethodName)) ∈ lw_all := lw_g (lw_at lw_m2 184 rfl) rfl
theorem q540 : (Jvm.Cond.code ({ cls := "java/lang/Math", name := "max", desc := "(II)I" } : Jvm.MethodName) prog_31_method_65_code (2 : Nat) (Option.some Jvm.ClassFile.FieldType.int)) ∈ lw_all := lw_g (lw_at lw_m2 185 rfl) rfl
theorem q557 : (Jvm.Cond.static ({ cls := "java/lang/Math", name := "min", desc := "(II)I" } : Jvm.MethodName)) ∈ lw_all := lw_g (lw_at lw_m2 202 rfl) rfl
theorem q558 : (Jvm.Cond.code ({ cls := "java/lang/Math", name := "min", desc := "(II)I" } : Jvm.MethodName) prog_31_method_69_code (2 : Nat) (Option.some Jvm.ClassFile.FieldType.int)) ∈ lw_all := lw_g (lw_at lw_m2 203 rfl) rfl
theorem q871 : (Jvm.Cond.static ({ cls := "java/lang/Math", name := "min", desc := "(JJ)J" } : Jvm.MethodName)) ∈ lw_all := lw_g (lw_at lw_m4 36 rfl) rfl
theorem q872 : (Jvm.Cond.code ({ cls := "java/lang/Math", name := "min", desc := "(JJ)J" } : Jvm.MethodName) prog_31_method_70_code (4 : Nat) (Option.some Jvm.ClassFile.FieldType.long)) ∈ lw_all := lw_g (lw_at lw_m4 37 rfl) rfl
/-! java/util/Arrays -/
set_option maxRecDepth 100000
def RJ17 : String := "java/util/Arrays"
abbrev cJ17_copyOf : ByteArray := prog_49_method_121_code
def yJ17_copyOf : MethodName := ⟨RJ17, "copyOf", "([BI)[B"⟩
def dkwJ17_copyOf_1 : List UInt8 := [27, 184, 1, 48, 184, 0, 150, 44, 176]
abbrev dktJ17_copyOf_1 : List UInt8 := dkwJ17_copyOf_1 ++ []
def dkwJ17_copyOf_0 : List UInt8 := [27, 42, 190, 160, 0, 11, 42, 182, 1, 54, 192, 1, 55, 176, 27, 188, 8, 77, 42, 3, 44, 3, 42, 190]
abbrev dktJ17_copyOf_0 : List UInt8 := dkwJ17_copyOf_0 ++ dktJ17_copyOf_1
theorem dksJ17_copyOf_0 : cJ17_copyOf.data.toList.drop 0 = dktJ17_copyOf_0 := by decide +kernel
theorem dksJ17_copyOf_1 : cJ17_copyOf.data.toList.drop 24 = dktJ17_copyOf_1 := dk_seg dksJ17_copyOf_0 24 rfl rfl
theorem dJ17_copyOf_0 : decode cJ17_copyOf 0 = .ok (.iload_n 1, 1) := dk_27 (dk_at dksJ17_copyOf_0 0 rfl rfl)
theorem dJ17_copyOf_1 : decode cJ17_copyOf 1 = .ok (.aload_n 0, 1) := dk_42 (dk_at dksJ17_copyOf_0 1 rfl rfl)
theorem dJ17_copyOf_2 : decode cJ17_copyOf 2 = .ok (.arraylength, 1) := dk_190 (dk_at dksJ17_copyOf_0 2 rfl rfl)
theorem dJ17_copyOf_3 : decode cJ17_copyOf 3 = .ok (.if_icmp .ne 11, 3) := dk_160 0 11 (dk_at dksJ17_copyOf_0 3 rfl rfl)
theorem dJ17_copyOf_6 : decode cJ17_copyOf 6 = .ok (.aload_n 0, 1) := dk_42 (dk_at dksJ17_copyOf_0 6 rfl rfl)
theorem dJ17_copyOf_7 : decode cJ17_copyOf 7 = .ok (.invokevirtual 310, 3) := dk_182 1 54 (dk_at dksJ17_copyOf_0 7 rfl rfl)
theorem dJ17_copyOf_10 : decode cJ17_copyOf 10 = .ok (.checkcast 311, 3) := dk_192 1 55 (dk_at dksJ17_copyOf_0 10 rfl rfl)
theorem dJ17_copyOf_13 : decode cJ17_copyOf 13 = .ok (.areturn, 1) := dk_176 (dk_at dksJ17_copyOf_0 13 rfl rfl)
theorem dJ17_copyOf_14 : decode cJ17_copyOf 14 = .ok (.iload_n 1, 1) := dk_27 (dk_at dksJ17_copyOf_0 14 rfl rfl)
theorem dJ17_copyOf_15 : decode cJ17_copyOf 15 = .ok (.newarray .byte, 2) := dk_188_8 (dk_at dksJ17_copyOf_0 15 rfl rfl)
theorem dJ17_copyOf_17 : decode cJ17_copyOf 17 = .ok (.astore_n 2, 1) := dk_77 (dk_at dksJ17_copyOf_0 17 rfl rfl)
theorem dJ17_copyOf_18 : decode cJ17_copyOf 18 = .ok (.aload_n 0, 1) := dk_42 (dk_at dksJ17_copyOf_0 18 rfl rfl)
theorem dJ17_copyOf_19 : decode cJ17_copyOf 19 = .ok (.iconst 0, 1) := dk_3 (dk_at dksJ17_copyOf_0 19 rfl rfl)
theorem dJ17_copyOf_20 : decode cJ17_copyOf 20 = .ok (.aload_n 2, 1) := dk_44 (dk_at dksJ17_copyOf_0 20 rfl rfl)
theorem dJ17_copyOf_21 : decode cJ17_copyOf 21 = .ok (.iconst 0, 1) := dk_3 (dk_at dksJ17_copyOf_0 21 rfl rfl)
theorem dJ17_copyOf_22 : decode cJ17_copyOf 22 = .ok (.aload_n 0, 1) := dk_42 (dk_at dksJ17_copyOf_0 22 rfl rfl)
theorem dJ17_copyOf_23 : decode cJ17_copyOf 23 = .ok (.arraylength, 1) := dk_190 (dk_at dksJ17_copyOf_0 23 rfl rfl)
theorem dJ17_copyOf_24 : decode cJ17_copyOf 24 = .ok (.iload_n 1, 1) := dk_27 (dk_at dksJ17_copyOf_1 0 rfl rfl)
theorem dJ17_copyOf_25 : decode cJ17_copyOf 25 = .ok (.invokestatic 304, 3) := dk_184 1 48 (dk_at dksJ17_copyOf_1 1 rfl rfl)
theorem dJ17_copyOf_28 : decode cJ17_copyOf 28 = .ok (.invokestatic 150, 3) := dk_184 0 150 (dk_at dksJ17_copyOf_1 4 rfl rfl)
theorem dJ17_copyOf_31 : decode cJ17_copyOf 31 = .ok (.aload_n 2, 1) := dk_44 (dk_at dksJ17_copyOf_1 7 rfl rfl)
theorem dJ17_copyOf_32 : decode cJ17_copyOf 32 = .ok (.areturn, 1) := dk_176 (dk_at dksJ17_copyOf_1 8 rfl rfl)
abbrev cJ17_copyOfRange : ByteArray := prog_49_method_132_code
def yJ17_copyOfRange : MethodName := ⟨RJ17, "copyOfRange", "([BII)[B"⟩
def dkwJ17_copyOfRange_1 : List UInt8 := [176]
abbrev dktJ17_copyOfRange_1 : List UInt8 := dkwJ17_copyOfRange_1 ++ []
def dkwJ17_copyOfRange_0 : List UInt8 := [27, 154, 0, 9, 28, 42, 190, 159, 0, 10, 42, 27, 28, 184, 1, 83, 176, 42, 182, 1, 54, 192, 1, 55]
abbrev dktJ17_copyOfRange_0 : List UInt8 := dkwJ17_copyOfRange_0 ++ dktJ17_copyOfRange_1
theorem dksJ17_copyOfRange_0 : cJ17_copyOfRange.data.toList.drop 0 = dktJ17_copyOfRange_0 := by decide +kernel
theorem dksJ17_copyOfRange_1 : cJ17_copyOfRange.data.toList.drop 24 = dktJ17_copyOfRange_1 := dk_seg dksJ17_copyOfRange_0 24 rfl rfl
theorem dJ17_copyOfRange_0 : decode cJ17_copyOfRange 0 = .ok (.iload_n 1, 1) := dk_27 (dk_at dksJ17_copyOfRange_0 0 rfl rfl)
theorem dJ17_copyOfRange_1 : decode cJ17_copyOfRange 1 = .ok (.ifCond .ne 9, 3) := dk_154 0 9 (dk_at dksJ17_copyOfRange_0 1 rfl rfl)
theorem dJ17_copyOfRange_4 : decode cJ17_copyOfRange 4 = .ok (.iload_n 2, 1) := dk_28 (dk_at dksJ17_copyOfRange_0 4 rfl rfl)
theorem dJ17_copyOfRange_5 : decode cJ17_copyOfRange 5 = .ok (.aload_n 0, 1) := dk_42 (dk_at dksJ17_copyOfRange_0 5 rfl rfl)
theorem dJ17_copyOfRange_6 : decode cJ17_copyOfRange 6 = .ok (.arraylength, 1) := dk_190 (dk_at dksJ17_copyOfRange_0 6 rfl rfl)
theorem dJ17_copyOfRange_7 : decode cJ17_copyOfRange 7 = .ok (.if_icmp .eq 10, 3) := dk_159 0 10 (dk_at dksJ17_copyOfRange_0 7 rfl rfl)
theorem dJ17_copyOfRange_10 : decode cJ17_copyOfRange 10 = .ok (.aload_n 0, 1) := dk_42 (dk_at dksJ17_copyOfRange_0 10 rfl rfl)
theorem dJ17_copyOfRange_11 : decode cJ17_copyOfRange 11 = .ok (.iload_n 1, 1) := dk_27 (dk_at dksJ17_copyOfRange_0 11 rfl rfl)
theorem dJ17_copyOfRange_12 : decode cJ17_copyOfRange 12 = .ok (.iload_n 2, 1) := dk_28 (dk_at dksJ17_copyOfRange_0 12 rfl rfl)
theorem dJ17_copyOfRange_13 : decode cJ17_copyOfRange 13 = .ok (.invokestatic 339, 3) := dk_184 1 83 (dk_at dksJ17_copyOfRange_0 13 rfl rfl)
theorem dJ17_copyOfRange_16 : decode cJ17_copyOfRange 16 = .ok (.areturn, 1) := dk_176 (dk_at dksJ17_copyOfRange_0 16 rfl rfl)
theorem dJ17_copyOfRange_17 : decode cJ17_copyOfRange 17 = .ok (.aload_n 0, 1) := dk_42 (dk_at dksJ17_copyOfRange_0 17 rfl rfl)
theorem dJ17_copyOfRange_18 : decode cJ17_copyOfRange 18 = .ok (.invokevirtual 310, 3) := dk_182 1 54 (dk_at dksJ17_copyOfRange_0 18 rfl rfl)
theorem dJ17_copyOfRange_21 : decode cJ17_copyOfRange 21 = .ok (.checkcast 311, 3) := dk_192 1 55 (dk_at dksJ17_copyOfRange_0 21 rfl rfl)
theorem dJ17_copyOfRange_24 : decode cJ17_copyOfRange 24 = .ok (.areturn, 1) := dk_176 (dk_at dksJ17_copyOfRange_1 0 rfl rfl)
abbrev cJ17_copyOfRangeByte : ByteArray := prog_49_method_133_code
def yJ17_copyOfRangeByte : MethodName := ⟨RJ17, "copyOfRangeByte", "([BII)[B"⟩
def dkwJ17_copyOfRangeByte_1 : List UInt8 := [184, 1, 48, 184, 0, 150, 25, 4, 176]
abbrev dktJ17_copyOfRangeByte_1 : List UInt8 := dkwJ17_copyOfRangeByte_1 ++ []
def dkwJ17_copyOfRangeByte_0 : List UInt8 := [27, 28, 184, 1, 87, 28, 27, 100, 62, 29, 188, 8, 58, 4, 42, 27, 25, 4, 3, 42, 190, 27, 100, 29]
abbrev dktJ17_copyOfRangeByte_0 : List UInt8 := dkwJ17_copyOfRangeByte_0 ++ dktJ17_copyOfRangeByte_1
theorem dksJ17_copyOfRangeByte_0 : cJ17_copyOfRangeByte.data.toList.drop 0 = dktJ17_copyOfRangeByte_0 := by decide +kernel
theorem dksJ17_copyOfRangeByte_1 : cJ17_copyOfRangeByte.data.toList.drop 24 = dktJ17_copyOfRangeByte_1 := dk_seg dksJ17_copyOfRangeByte_0 24 rfl rfl
theorem dJ17_copyOfRangeByte_0 : decode cJ17_copyOfRangeByte 0 = .ok (.iload_n 1, 1) := dk_27 (dk_at dksJ17_copyOfRangeByte_0 0 rfl rfl)
theorem dJ17_copyOfRangeByte_1 : decode cJ17_copyOfRangeByte 1 = .ok (.iload_n 2, 1) := dk_28 (dk_at dksJ17_copyOfRangeByte_0 1 rfl rfl)
theorem dJ17_copyOfRangeByte_2 : decode cJ17_copyOfRangeByte 2 = .ok (.invokestatic 343, 3) := dk_184 1 87 (dk_at dksJ17_copyOfRangeByte_0 2 rfl rfl)
theorem dJ17_copyOfRangeByte_5 : decode cJ17_copyOfRangeByte 5 = .ok (.iload_n 2, 1) := dk_28 (dk_at dksJ17_copyOfRangeByte_0 5 rfl rfl)
theorem dJ17_copyOfRangeByte_6 : decode cJ17_copyOfRangeByte 6 = .ok (.iload_n 1, 1) := dk_27 (dk_at dksJ17_copyOfRangeByte_0 6 rfl rfl)
theorem dJ17_copyOfRangeByte_7 : decode cJ17_copyOfRangeByte 7 = .ok (.isub, 1) := dk_100 (dk_at dksJ17_copyOfRangeByte_0 7 rfl rfl)
theorem dJ17_copyOfRangeByte_8 : decode cJ17_copyOfRangeByte 8 = .ok (.istore_n 3, 1) := dk_62 (dk_at dksJ17_copyOfRangeByte_0 8 rfl rfl)
theorem dJ17_copyOfRangeByte_9 : decode cJ17_copyOfRangeByte 9 = .ok (.iload_n 3, 1) := dk_29 (dk_at dksJ17_copyOfRangeByte_0 9 rfl rfl)
theorem dJ17_copyOfRangeByte_10 : decode cJ17_copyOfRangeByte 10 = .ok (.newarray .byte, 2) := dk_188_8 (dk_at dksJ17_copyOfRangeByte_0 10 rfl rfl)
theorem dJ17_copyOfRangeByte_12 : decode cJ17_copyOfRangeByte 12 = .ok (.astore 4, 2) := dk_58 4 (dk_at dksJ17_copyOfRangeByte_0 12 rfl rfl)
theorem dJ17_copyOfRangeByte_14 : decode cJ17_copyOfRangeByte 14 = .ok (.aload_n 0, 1) := dk_42 (dk_at dksJ17_copyOfRangeByte_0 14 rfl rfl)
theorem dJ17_copyOfRangeByte_15 : decode cJ17_copyOfRangeByte 15 = .ok (.iload_n 1, 1) := dk_27 (dk_at dksJ17_copyOfRangeByte_0 15 rfl rfl)
theorem dJ17_copyOfRangeByte_16 : decode cJ17_copyOfRangeByte 16 = .ok (.aload 4, 2) := dk_25 4 (dk_at dksJ17_copyOfRangeByte_0 16 rfl rfl)
theorem dJ17_copyOfRangeByte_18 : decode cJ17_copyOfRangeByte 18 = .ok (.iconst 0, 1) := dk_3 (dk_at dksJ17_copyOfRangeByte_0 18 rfl rfl)
theorem dJ17_copyOfRangeByte_19 : decode cJ17_copyOfRangeByte 19 = .ok (.aload_n 0, 1) := dk_42 (dk_at dksJ17_copyOfRangeByte_0 19 rfl rfl)
theorem dJ17_copyOfRangeByte_20 : decode cJ17_copyOfRangeByte 20 = .ok (.arraylength, 1) := dk_190 (dk_at dksJ17_copyOfRangeByte_0 20 rfl rfl)
theorem dJ17_copyOfRangeByte_21 : decode cJ17_copyOfRangeByte 21 = .ok (.iload_n 1, 1) := dk_27 (dk_at dksJ17_copyOfRangeByte_0 21 rfl rfl)
theorem dJ17_copyOfRangeByte_22 : decode cJ17_copyOfRangeByte 22 = .ok (.isub, 1) := dk_100 (dk_at dksJ17_copyOfRangeByte_0 22 rfl rfl)
theorem dJ17_copyOfRangeByte_23 : decode cJ17_copyOfRangeByte 23 = .ok (.iload_n 3, 1) := dk_29 (dk_at dksJ17_copyOfRangeByte_0 23 rfl rfl)
theorem dJ17_copyOfRangeByte_24 : decode cJ17_copyOfRangeByte 24 = .ok (.invokestatic 304, 3) := dk_184 1 48 (dk_at dksJ17_copyOfRangeByte_1 0 rfl rfl)
theorem dJ17_copyOfRangeByte_27 : decode cJ17_copyOfRangeByte 27 = .ok (.invokestatic 150, 3) := dk_184 0 150 (dk_at dksJ17_copyOfRangeByte_1 3 rfl rfl)
theorem dJ17_copyOfRangeByte_30 : decode cJ17_copyOfRangeByte 30 = .ok (.aload 4, 2) := dk_25 4 (dk_at dksJ17_copyOfRangeByte_1 6 rfl rfl)
theorem dJ17_copyOfRangeByte_32 : decode cJ17_copyOfRangeByte 32 = .ok (.areturn, 1) := dk_176 (dk_at dksJ17_copyOfRangeByte_1 8 rfl rfl)
abbrev cJ17_checkLength : ByteArray := prog_49_method_131_code
def yJ17_checkLength : MethodName := ⟨RJ17, "checkLength", "(II)V"⟩
def dkwJ17_checkLength_1 : List UInt8 := [182, 0, 50, 27, 182, 0, 54, 182, 0, 61, 183, 0, 65, 191, 177]
abbrev dktJ17_checkLength_1 : List UInt8 := dkwJ17_checkLength_1 ++ []
def dkwJ17_checkLength_0 : List UInt8 := [27, 26, 162, 0, 35, 187, 0, 43, 89, 187, 0, 45, 89, 183, 0, 47, 26, 182, 0, 54, 19, 1, 81]
abbrev dktJ17_checkLength_0 : List UInt8 := dkwJ17_checkLength_0 ++ dktJ17_checkLength_1
theorem dksJ17_checkLength_0 : cJ17_checkLength.data.toList.drop 0 = dktJ17_checkLength_0 := by decide +kernel
theorem dksJ17_checkLength_1 : cJ17_checkLength.data.toList.drop 23 = dktJ17_checkLength_1 := dk_seg dksJ17_checkLength_0 23 rfl rfl
theorem dJ17_checkLength_0 : decode cJ17_checkLength 0 = .ok (.iload_n 1, 1) := dk_27 (dk_at dksJ17_checkLength_0 0 rfl rfl)
theorem dJ17_checkLength_1 : decode cJ17_checkLength 1 = .ok (.iload_n 0, 1) := dk_26 (dk_at dksJ17_checkLength_0 1 rfl rfl)
theorem dJ17_checkLength_2 : decode cJ17_checkLength 2 = .ok (.if_icmp .ge 35, 3) := dk_162 0 35 (dk_at dksJ17_checkLength_0 2 rfl rfl)
theorem dJ17_checkLength_5 : decode cJ17_checkLength 5 = .ok (.new 43, 3) := dk_187 0 43 (dk_at dksJ17_checkLength_0 5 rfl rfl)
theorem dJ17_checkLength_8 : decode cJ17_checkLength 8 = .ok (.dup, 1) := dk_89 (dk_at dksJ17_checkLength_0 8 rfl rfl)
theorem dJ17_checkLength_9 : decode cJ17_checkLength 9 = .ok (.new 45, 3) := dk_187 0 45 (dk_at dksJ17_checkLength_0 9 rfl rfl)
theorem dJ17_checkLength_12 : decode cJ17_checkLength 12 = .ok (.dup, 1) := dk_89 (dk_at dksJ17_checkLength_0 12 rfl rfl)
theorem dJ17_checkLength_13 : decode cJ17_checkLength 13 = .ok (.invokespecial 47, 3) := dk_183 0 47 (dk_at dksJ17_checkLength_0 13 rfl rfl)
theorem dJ17_checkLength_16 : decode cJ17_checkLength 16 = .ok (.iload_n 0, 1) := dk_26 (dk_at dksJ17_checkLength_0 16 rfl rfl)
theorem dJ17_checkLength_17 : decode cJ17_checkLength 17 = .ok (.invokevirtual 54, 3) := dk_182 0 54 (dk_at dksJ17_checkLength_0 17 rfl rfl)
theorem dJ17_checkLength_20 : decode cJ17_checkLength 20 = .ok (.ldc_w 337, 3) := dk_19 1 81 (dk_at dksJ17_checkLength_0 20 rfl rfl)
theorem dJ17_checkLength_23 : decode cJ17_checkLength 23 = .ok (.invokevirtual 50, 3) := dk_182 0 50 (dk_at dksJ17_checkLength_1 0 rfl rfl)
theorem dJ17_checkLength_26 : decode cJ17_checkLength 26 = .ok (.iload_n 1, 1) := dk_27 (dk_at dksJ17_checkLength_1 3 rfl rfl)
theorem dJ17_checkLength_27 : decode cJ17_checkLength 27 = .ok (.invokevirtual 54, 3) := dk_182 0 54 (dk_at dksJ17_checkLength_1 4 rfl rfl)
theorem dJ17_checkLength_30 : decode cJ17_checkLength 30 = .ok (.invokevirtual 61, 3) := dk_182 0 61 (dk_at dksJ17_checkLength_1 7 rfl rfl)
theorem dJ17_checkLength_33 : decode cJ17_checkLength 33 = .ok (.invokespecial 65, 3) := dk_183 0 65 (dk_at dksJ17_checkLength_1 10 rfl rfl)
theorem dJ17_checkLength_36 : decode cJ17_checkLength 36 = .ok (.athrow, 1) := dk_191 (dk_at dksJ17_checkLength_1 13 rfl rfl)
theorem dJ17_checkLength_37 : decode cJ17_checkLength 37 = .ok (.return_, 1) := dk_177 (dk_at dksJ17_checkLength_1 14 rfl rfl)
abbrev cJ17_copyOf_2 : ByteArray := prog_49_method_119_code
def yJ17_copyOf_2 : MethodName := ⟨RJ17, "copyOf", "([Ljava/lang/Object;I)[Ljava/lang/Object;"⟩
def dkwJ17_copyOf_2_0 : List UInt8 := [42, 27, 42, 182, 0, 86, 184, 1, 44, 176]
abbrev dktJ17_copyOf_2_0 : List UInt8 := dkwJ17_copyOf_2_0 ++ []
theorem dksJ17_copyOf_2_0 : cJ17_copyOf_2.data.toList.drop 0 = dktJ17_copyOf_2_0 := by decide +kernel
theorem dJ17_copyOf_2_0 : decode cJ17_copyOf_2 0 = .ok (.aload_n 0, 1) := dk_42 (dk_at dksJ17_copyOf_2_0 0 rfl rfl)
theorem dJ17_copyOf_2_1 : decode cJ17_copyOf_2 1 = .ok (.iload_n 1, 1) := dk_27 (dk_at dksJ17_copyOf_2_0 1 rfl rfl)
theorem dJ17_copyOf_2_2 : decode cJ17_copyOf_2 2 = .ok (.aload_n 0, 1) := dk_42 (dk_at dksJ17_copyOf_2_0 2 rfl rfl)
theorem dJ17_copyOf_2_3 : decode cJ17_copyOf_2 3 = .ok (.invokevirtual 86, 3) := dk_182 0 86 (dk_at dksJ17_copyOf_2_0 3 rfl rfl)
theorem dJ17_copyOf_2_6 : decode cJ17_copyOf_2 6 = .ok (.invokestatic 300, 3) := dk_184 1 44 (dk_at dksJ17_copyOf_2_0 6 rfl rfl)
theorem dJ17_copyOf_2_9 : decode cJ17_copyOf_2 9 = .ok (.areturn, 1) := dk_176 (dk_at dksJ17_copyOf_2_0 9 rfl rfl)
abbrev cJ17_copyOf_3 : ByteArray := prog_49_method_120_code
def yJ17_copyOf_3 : MethodName := ⟨RJ17, "copyOf", "([Ljava/lang/Object;ILjava/lang/Class;)[Ljava/lang/Object;"⟩
def dkwJ17_copyOf_3_1 : List UInt8 := [78, 42, 3, 45, 3, 42, 190, 27, 184, 1, 48, 184, 0, 150, 45, 176]
abbrev dktJ17_copyOf_3_1 : List UInt8 := dkwJ17_copyOf_3_1 ++ []
def dkwJ17_copyOf_3_0 : List UInt8 := [44, 18, 110, 166, 0, 10, 27, 189, 0, 2, 167, 0, 14, 44, 182, 0, 90, 27, 184, 0, 95, 192, 0, 110]
abbrev dktJ17_copyOf_3_0 : List UInt8 := dkwJ17_copyOf_3_0 ++ dktJ17_copyOf_3_1
theorem dksJ17_copyOf_3_0 : cJ17_copyOf_3.data.toList.drop 0 = dktJ17_copyOf_3_0 := by decide +kernel
theorem dksJ17_copyOf_3_1 : cJ17_copyOf_3.data.toList.drop 24 = dktJ17_copyOf_3_1 := dk_seg dksJ17_copyOf_3_0 24 rfl rfl
theorem dJ17_copyOf_3_0 : decode cJ17_copyOf_3 0 = .ok (.aload_n 2, 1) := dk_44 (dk_at dksJ17_copyOf_3_0 0 rfl rfl)
theorem dJ17_copyOf_3_1 : decode cJ17_copyOf_3 1 = .ok (.ldc 110, 2) := dk_18 110 (dk_at dksJ17_copyOf_3_0 1 rfl rfl)
theorem dJ17_copyOf_3_3 : decode cJ17_copyOf_3 3 = .ok (.if_acmp .ne 10, 3) := dk_166 0 10 (dk_at dksJ17_copyOf_3_0 3 rfl rfl)
theorem dJ17_copyOf_3_6 : decode cJ17_copyOf_3 6 = .ok (.iload_n 1, 1) := dk_27 (dk_at dksJ17_copyOf_3_0 6 rfl rfl)
theorem dJ17_copyOf_3_7 : decode cJ17_copyOf_3 7 = .ok (.anewarray 2, 3) := dk_189 0 2 (dk_at dksJ17_copyOf_3_0 7 rfl rfl)
theorem dJ17_copyOf_3_10 : decode cJ17_copyOf_3 10 = .ok (.goto 14, 3) := dk_167 0 14 (dk_at dksJ17_copyOf_3_0 10 rfl rfl)
theorem dJ17_copyOf_3_13 : decode cJ17_copyOf_3 13 = .ok (.aload_n 2, 1) := dk_44 (dk_at dksJ17_copyOf_3_0 13 rfl rfl)
theorem dJ17_copyOf_3_14 : decode cJ17_copyOf_3 14 = .ok (.invokevirtual 90, 3) := dk_182 0 90 (dk_at dksJ17_copyOf_3_0 14 rfl rfl)
theorem dJ17_copyOf_3_17 : decode cJ17_copyOf_3 17 = .ok (.iload_n 1, 1) := dk_27 (dk_at dksJ17_copyOf_3_0 17 rfl rfl)
theorem dJ17_copyOf_3_18 : decode cJ17_copyOf_3 18 = .ok (.invokestatic 95, 3) := dk_184 0 95 (dk_at dksJ17_copyOf_3_0 18 rfl rfl)
theorem dJ17_copyOf_3_21 : decode cJ17_copyOf_3 21 = .ok (.checkcast 110, 3) := dk_192 0 110 (dk_at dksJ17_copyOf_3_0 21 rfl rfl)
theorem dJ17_copyOf_3_24 : decode cJ17_copyOf_3 24 = .ok (.astore_n 3, 1) := dk_78 (dk_at dksJ17_copyOf_3_1 0 rfl rfl)
theorem dJ17_copyOf_3_25 : decode cJ17_copyOf_3 25 = .ok (.aload_n 0, 1) := dk_42 (dk_at dksJ17_copyOf_3_1 1 rfl rfl)
theorem dJ17_copyOf_3_26 : decode cJ17_copyOf_3 26 = .ok (.iconst 0, 1) := dk_3 (dk_at dksJ17_copyOf_3_1 2 rfl rfl)
theorem dJ17_copyOf_3_27 : decode cJ17_copyOf_3 27 = .ok (.aload_n 3, 1) := dk_45 (dk_at dksJ17_copyOf_3_1 3 rfl rfl)
theorem dJ17_copyOf_3_28 : decode cJ17_copyOf_3 28 = .ok (.iconst 0, 1) := dk_3 (dk_at dksJ17_copyOf_3_1 4 rfl rfl)
theorem dJ17_copyOf_3_29 : decode cJ17_copyOf_3 29 = .ok (.aload_n 0, 1) := dk_42 (dk_at dksJ17_copyOf_3_1 5 rfl rfl)
theorem dJ17_copyOf_3_30 : decode cJ17_copyOf_3 30 = .ok (.arraylength, 1) := dk_190 (dk_at dksJ17_copyOf_3_1 6 rfl rfl)
theorem dJ17_copyOf_3_31 : decode cJ17_copyOf_3 31 = .ok (.iload_n 1, 1) := dk_27 (dk_at dksJ17_copyOf_3_1 7 rfl rfl)
theorem dJ17_copyOf_3_32 : decode cJ17_copyOf_3 32 = .ok (.invokestatic 304, 3) := dk_184 1 48 (dk_at dksJ17_copyOf_3_1 8 rfl rfl)
theorem dJ17_copyOf_3_35 : decode cJ17_copyOf_3 35 = .ok (.invokestatic 150, 3) := dk_184 0 150 (dk_at dksJ17_copyOf_3_1 11 rfl rfl)
theorem dJ17_copyOf_3_38 : decode cJ17_copyOf_3 38 = .ok (.aload_n 3, 1) := dk_45 (dk_at dksJ17_copyOf_3_1 14 rfl rfl)
theorem dJ17_copyOf_3_39 : decode cJ17_copyOf_3 39 = .ok (.areturn, 1) := dk_176 (dk_at dksJ17_copyOf_3_1 15 rfl rfl)
theorem q138 : (Jvm.Cond.initialized "java/util/Arrays") ∈ lw_all := lw_g (lw_at lw_m1 23 rfl) rfl
theorem q547 : (Jvm.Cond.static ({ cls := "java/util/Arrays", name := "copyOf", desc := "([BI)[B" } : Jvm.MethodName)) ∈ lw_all := lw_g (lw_at lw_m2 192 rfl) rfl
theorem q548 : (Jvm.Cond.code ({ cls := "java/util/Arrays", name := "copyOf", desc := "([BI)[B" } : Jvm.MethodName) prog_49_method_121_code (3 : Nat) (Option.some (Jvm.ClassFile.FieldType.array Jvm.ClassFile.FieldType.byte))) ∈ lw_all := lw_g (lw_at lw_m2 193 rfl) rfl
theorem q549 : (Jvm.Cond.methodLink "java/util/Arrays" (310 : Nat) ({ cls := "[B", name := "clone", desc := "()Ljava/lang/Object;" } : Jvm.MethodName)) ∈ lw_all := lw_g (lw_at lw_m2 194 rfl) rfl
theorem q555 : (Jvm.Cond.classLink "java/util/Arrays" (311 : Nat) "[B") ∈ lw_all := lw_g (lw_at lw_m2 200 rfl) rfl
theorem q556 : (Jvm.Cond.methodLink "java/util/Arrays" (304 : Nat) ({ cls := "java/lang/Math", name := "min", desc := "(II)I" } : Jvm.MethodName)) ∈ lw_all := lw_g (lw_at lw_m2 201 rfl) rfl
theorem q559 : (Jvm.Cond.methodLink "java/util/Arrays" (150 : Nat) ({ cls := "java/lang/System", name := "arraycopy", desc := "(Ljava/lang/Object;ILjava/lang/Object;II)V" } : Jvm.MethodName)) ∈ lw_all := lw_g (lw_at lw_m2 204 rfl) rfl
theorem q636 : (Jvm.Cond.static ({ cls := "java/util/Arrays", name := "copyOfRange", desc := "([BII)[B" } : Jvm.MethodName)) ∈ lw_all := lw_g (lw_at lw_m3 41 rfl) rfl
theorem q637 : (Jvm.Cond.code ({ cls := "java/util/Arrays", name := "copyOfRange", desc := "([BII)[B" } : Jvm.MethodName) prog_49_method_132_code (3 : Nat) (Option.some (Jvm.ClassFile.FieldType.array Jvm.ClassFile.FieldType.byte))) ∈ lw_all := lw_g (lw_at lw_m3 42 rfl) rfl
theorem q638 : (Jvm.Cond.methodLink "java/util/Arrays" (339 : Nat) ({ cls := "java/util/Arrays", name := "copyOfRangeByte", desc := "([BII)[B" } : Jvm.MethodName)) ∈ lw_all := lw_g (lw_at lw_m3 43 rfl) rfl
theorem q639 : (Jvm.Cond.static ({ cls := "java/util/Arrays", name := "copyOfRangeByte", desc := "([BII)[B" } : Jvm.MethodName)) ∈ lw_all := lw_g (lw_at lw_m3 44 rfl) rfl
theorem q640 : (Jvm.Cond.code ({ cls := "java/util/Arrays", name := "copyOfRangeByte", desc := "([BII)[B" } : Jvm.MethodName) prog_49_method_133_code (5 : Nat) (Option.some (Jvm.ClassFile.FieldType.array Jvm.ClassFile.FieldType.byte))) ∈ lw_all := lw_g (lw_at lw_m3 45 rfl) rfl
theorem q641 : (Jvm.Cond.methodLink "java/util/Arrays" (343 : Nat) ({ cls := "java/util/Arrays", name := "checkLength", desc := "(II)V" } : Jvm.MethodName)) ∈ lw_all := lw_g (lw_at lw_m3 46 rfl) rfl
theorem q642 : (Jvm.Cond.static ({ cls := "java/util/Arrays", name := "checkLength", desc := "(II)V" } : Jvm.MethodName)) ∈ lw_all := lw_g (lw_at lw_m3 47 rfl) rfl
theorem q643 : (Jvm.Cond.code ({ cls := "java/util/Arrays", name := "checkLength", desc := "(II)V" } : Jvm.MethodName) prog_49_method_131_code (2 : Nat) (Option.none : Option Jvm.ClassFile.FieldType)) ∈ lw_all := lw_g (lw_at lw_m3 48 rfl) rfl
theorem q644 : (Jvm.Cond.classLink "java/util/Arrays" (43 : Nat) "java/lang/IllegalArgumentException") ∈ lw_all := lw_g (lw_at lw_m3 49 rfl) rfl
theorem q653 : (Jvm.Cond.classLink "java/util/Arrays" (45 : Nat) "java/lang/StringBuilder") ∈ lw_all := lw_g (lw_at lw_m3 58 rfl) rfl
theorem q654 : (Jvm.Cond.methodLink "java/util/Arrays" (47 : Nat) ({ cls := "java/lang/StringBuilder", name := "<init>", desc := "()V" } : Jvm.MethodName)) ∈ lw_all := lw_g (lw_at lw_m3 59 rfl) rfl
theorem q655 : (Jvm.Cond.methodLink "java/util/Arrays" (54 : Nat) ({ cls := "java/lang/StringBuilder", name := "append", desc := "(I)Ljava/lang/StringBuilder;" } : Jvm.MethodName)) ∈ lw_all := lw_g (lw_at lw_m3 60 rfl) rfl
theorem q689 : (Jvm.Cond.stringRef "java/util/Arrays" (337 : Nat) " > ") ∈ lw_tbl := lw_at lw_m3 94 rfl
theorem q690 : (Jvm.Cond.methodLink "java/util/Arrays" (50 : Nat) ({ cls := "java/lang/StringBuilder", name := "append", desc := "(Ljava/lang/String;)Ljava/lang/StringBuilder;" } : Jvm.MethodName)) ∈ lw_all := lw_g (lw_at lw_m3 95 rfl) rfl
theorem q728 : (Jvm.Cond.methodLink "java/util/Arrays" (61 : Nat) ({ cls := "java/lang/StringBuilder", name := "toString", desc := "()Ljava/lang/String;" } : Jvm.MethodName)) ∈ lw_all := lw_g (lw_at lw_m3 133 rfl) rfl
theorem q729 : (Jvm.Cond.methodLink "java/util/Arrays" (65 : Nat) ({ cls := "java/lang/IllegalArgumentException", name := "<init>", desc := "(Ljava/lang/String;)V" } : Jvm.MethodName)) ∈ lw_all := lw_g (lw_at lw_m3 134 rfl) rfl
theorem q993 : (Jvm.Cond.static ({ cls := "java/util/Arrays", name := "copyOf", desc := "([Ljava/lang/Object;I)[Ljava/lang/Object;" } : Jvm.MethodName)) ∈ lw_all := lw_g (lw_at lw_m4 158 rfl) rfl
theorem q994 : (Jvm.Cond.code ({ cls := "java/util/Arrays", name := "copyOf", desc := "([Ljava/lang/Object;I)[Ljava/lang/Object;" } : Jvm.MethodName) prog_49_method_119_code (2 : Nat) (Option.some (Jvm.ClassFile.FieldType.array (Jvm.ClassFile.FieldType.object "java/lang/Object")))) ∈ lw_all := lw_g (lw_at lw_m4 159 rfl) rfl
theorem q995 : (Jvm.Cond.methodLink "java/util/Arrays" (86 : Nat) ({ cls := "java/lang/Object", name := "getClass", desc := "()Ljava/lang/Class;" } : Jvm.MethodName)) ∈ lw_all := lw_g (lw_at lw_m4 160 rfl) rfl
theorem q1025 : (Jvm.Cond.methodLink "java/util/Arrays" (300 : Nat) ({ cls := "java/util/Arrays", name := "copyOf", desc := "([Ljava/lang/Object;ILjava/lang/Class;)[Ljava/lang/Object;" } : Jvm.MethodName)) ∈ lw_all := lw_g (lw_at lw_m4 190 rfl) rfl
theorem q1026 : (Jvm.Cond.static ({ cls := "java/util/Arrays", name := "copyOf", desc := "([Ljava/lang/Object;ILjava/lang/Class;)[Ljava/lang/Object;" } : Jvm.MethodName)) ∈ lw_all := lw_g (lw_at lw_m4 191 rfl) rfl
theorem q1027 : (Jvm.Cond.code ({ cls := "java/util/Arrays", name := "copyOf", desc := "([Ljava/lang/Object;ILjava/lang/Class;)[Ljava/lang/Object;" } : Jvm.MethodName) prog_49_method_120_code (4 : Nat) (Option.some (Jvm.ClassFile.FieldType.array (Jvm.ClassFile.FieldType.object "java/lang/Object")))) ∈ lw_all := lw_g (lw_at lw_m4 192 rfl) rfl
theorem q1028 : (Jvm.Cond.classLink "java/util/Arrays" (110 : Nat) "[Ljava/lang/Object;") ∈ lw_all := lw_g (lw_at lw_m4 193 rfl) rfl
theorem q1029 : (Jvm.Cond.classLink "java/util/Arrays" (2 : Nat) "java/lang/Object") ∈ lw_all := lw_g (lw_at lw_m4 194 rfl) rfl
/-! java/lang/StringLatin1 -/
set_option maxRecDepth 100000
def RJ18 : String := "java/lang/StringLatin1"
abbrev cJ18_canEncode : ByteArray := prog_37_method_3_code
def yJ18_canEncode : MethodName := ⟨RJ18, "canEncode", "(C)Z"⟩
def dkwJ18_canEncode_0 : List UInt8 := [26, 17, 0, 255, 163, 0, 7, 4, 167, 0, 4, 3, 172]
abbrev dktJ18_canEncode_0 : List UInt8 := dkwJ18_canEncode_0 ++ []
theorem dksJ18_canEncode_0 : cJ18_canEncode.data.toList.drop 0 = dktJ18_canEncode_0 := by decide +kernel
theorem dJ18_canEncode_0 : decode cJ18_canEncode 0 = .ok (.iload_n 0, 1) := dk_26 (dk_at dksJ18_canEncode_0 0 rfl rfl)
theorem dJ18_canEncode_1 : decode cJ18_canEncode 1 = .ok (.sipush 255, 3) := dk_17 0 255 (dk_at dksJ18_canEncode_0 1 rfl rfl)
theorem dJ18_canEncode_4 : decode cJ18_canEncode 4 = .ok (.if_icmp .gt 7, 3) := dk_163 0 7 (dk_at dksJ18_canEncode_0 4 rfl rfl)
theorem dJ18_canEncode_7 : decode cJ18_canEncode 7 = .ok (.iconst 1, 1) := dk_4 (dk_at dksJ18_canEncode_0 7 rfl rfl)
theorem dJ18_canEncode_8 : decode cJ18_canEncode 8 = .ok (.goto 4, 3) := dk_167 0 4 (dk_at dksJ18_canEncode_0 8 rfl rfl)
theorem dJ18_canEncode_11 : decode cJ18_canEncode 11 = .ok (.iconst 0, 1) := dk_3 (dk_at dksJ18_canEncode_0 11 rfl rfl)
theorem dJ18_canEncode_12 : decode cJ18_canEncode 12 = .ok (.ireturn, 1) := dk_172 (dk_at dksJ18_canEncode_0 12 rfl rfl)
abbrev cJ18_inflate : ByteArray := prog_37_method_50_code
def yJ18_inflate : MethodName := ⟨RJ18, "inflate", "([BI[BII)V"⟩
def dkwJ18_inflate_0 : List UInt8 := [42, 27, 44, 29, 21, 4, 184, 0, 240, 177]
abbrev dktJ18_inflate_0 : List UInt8 := dkwJ18_inflate_0 ++ []
theorem dksJ18_inflate_0 : cJ18_inflate.data.toList.drop 0 = dktJ18_inflate_0 := by decide +kernel
theorem dJ18_inflate_0 : decode cJ18_inflate 0 = .ok (.aload_n 0, 1) := dk_42 (dk_at dksJ18_inflate_0 0 rfl rfl)
theorem dJ18_inflate_1 : decode cJ18_inflate 1 = .ok (.iload_n 1, 1) := dk_27 (dk_at dksJ18_inflate_0 1 rfl rfl)
theorem dJ18_inflate_2 : decode cJ18_inflate 2 = .ok (.aload_n 2, 1) := dk_44 (dk_at dksJ18_inflate_0 2 rfl rfl)
theorem dJ18_inflate_3 : decode cJ18_inflate 3 = .ok (.iload_n 3, 1) := dk_29 (dk_at dksJ18_inflate_0 3 rfl rfl)
theorem dJ18_inflate_4 : decode cJ18_inflate 4 = .ok (.iload 4, 2) := dk_21 4 (dk_at dksJ18_inflate_0 4 rfl rfl)
theorem dJ18_inflate_6 : decode cJ18_inflate 6 = .ok (.invokestatic 240, 3) := dk_184 0 240 (dk_at dksJ18_inflate_0 6 rfl rfl)
theorem dJ18_inflate_9 : decode cJ18_inflate 9 = .ok (.return_, 1) := dk_177 (dk_at dksJ18_inflate_0 9 rfl rfl)
abbrev cJ18_charAt : ByteArray := prog_37_method_2_code
def yJ18_charAt : MethodName := ⟨RJ18, "charAt", "([BI)C"⟩
def dkwJ18_charAt_0 : List UInt8 := [27, 42, 190, 184, 0, 9, 42, 27, 51, 17, 0, 255, 126, 146, 172]
abbrev dktJ18_charAt_0 : List UInt8 := dkwJ18_charAt_0 ++ []
theorem dksJ18_charAt_0 : cJ18_charAt.data.toList.drop 0 = dktJ18_charAt_0 := by decide +kernel
theorem dJ18_charAt_0 : decode cJ18_charAt 0 = .ok (.iload_n 1, 1) := dk_27 (dk_at dksJ18_charAt_0 0 rfl rfl)
theorem dJ18_charAt_1 : decode cJ18_charAt 1 = .ok (.aload_n 0, 1) := dk_42 (dk_at dksJ18_charAt_0 1 rfl rfl)
theorem dJ18_charAt_2 : decode cJ18_charAt 2 = .ok (.arraylength, 1) := dk_190 (dk_at dksJ18_charAt_0 2 rfl rfl)
theorem dJ18_charAt_3 : decode cJ18_charAt 3 = .ok (.invokestatic 9, 3) := dk_184 0 9 (dk_at dksJ18_charAt_0 3 rfl rfl)
theorem dJ18_charAt_6 : decode cJ18_charAt 6 = .ok (.aload_n 0, 1) := dk_42 (dk_at dksJ18_charAt_0 6 rfl rfl)
theorem dJ18_charAt_7 : decode cJ18_charAt 7 = .ok (.iload_n 1, 1) := dk_27 (dk_at dksJ18_charAt_0 7 rfl rfl)
theorem dJ18_charAt_8 : decode cJ18_charAt 8 = .ok (.baload, 1) := dk_51 (dk_at dksJ18_charAt_0 8 rfl rfl)
theorem dJ18_charAt_9 : decode cJ18_charAt 9 = .ok (.sipush 255, 3) := dk_17 0 255 (dk_at dksJ18_charAt_0 9 rfl rfl)
theorem dJ18_charAt_12 : decode cJ18_charAt 12 = .ok (.iand, 1) := dk_126 (dk_at dksJ18_charAt_0 12 rfl rfl)
theorem dJ18_charAt_13 : decode cJ18_charAt 13 = .ok (.i2c, 1) := dk_146 (dk_at dksJ18_charAt_0 13 rfl rfl)
theorem dJ18_charAt_14 : decode cJ18_charAt 14 = .ok (.ireturn, 1) := dk_172 (dk_at dksJ18_charAt_0 14 rfl rfl)
abbrev cJ18_newString : ByteArray := prog_37_method_47_code
def yJ18_newString : MethodName := ⟨RJ18, "newString", "([BII)Ljava/lang/String;"⟩
def dkwJ18_newString_0 : List UInt8 := [28, 154, 0, 6, 18, 151, 176, 187, 0, 1, 89, 42, 27, 27, 28, 96, 184, 0, 232, 3, 183, 0, 112, 176]
abbrev dktJ18_newString_0 : List UInt8 := dkwJ18_newString_0 ++ []
theorem dksJ18_newString_0 : cJ18_newString.data.toList.drop 0 = dktJ18_newString_0 := by decide +kernel
theorem dJ18_newString_0 : decode cJ18_newString 0 = .ok (.iload_n 2, 1) := dk_28 (dk_at dksJ18_newString_0 0 rfl rfl)
theorem dJ18_newString_1 : decode cJ18_newString 1 = .ok (.ifCond .ne 6, 3) := dk_154 0 6 (dk_at dksJ18_newString_0 1 rfl rfl)
theorem dJ18_newString_4 : decode cJ18_newString 4 = .ok (.ldc 151, 2) := dk_18 151 (dk_at dksJ18_newString_0 4 rfl rfl)
theorem dJ18_newString_6 : decode cJ18_newString 6 = .ok (.areturn, 1) := dk_176 (dk_at dksJ18_newString_0 6 rfl rfl)
theorem dJ18_newString_7 : decode cJ18_newString 7 = .ok (.new 1, 3) := dk_187 0 1 (dk_at dksJ18_newString_0 7 rfl rfl)
theorem dJ18_newString_10 : decode cJ18_newString 10 = .ok (.dup, 1) := dk_89 (dk_at dksJ18_newString_0 10 rfl rfl)
theorem dJ18_newString_11 : decode cJ18_newString 11 = .ok (.aload_n 0, 1) := dk_42 (dk_at dksJ18_newString_0 11 rfl rfl)
theorem dJ18_newString_12 : decode cJ18_newString 12 = .ok (.iload_n 1, 1) := dk_27 (dk_at dksJ18_newString_0 12 rfl rfl)
theorem dJ18_newString_13 : decode cJ18_newString 13 = .ok (.iload_n 1, 1) := dk_27 (dk_at dksJ18_newString_0 13 rfl rfl)
theorem dJ18_newString_14 : decode cJ18_newString 14 = .ok (.iload_n 2, 1) := dk_28 (dk_at dksJ18_newString_0 14 rfl rfl)
theorem dJ18_newString_15 : decode cJ18_newString 15 = .ok (.iadd, 1) := dk_96 (dk_at dksJ18_newString_0 15 rfl rfl)
theorem dJ18_newString_16 : decode cJ18_newString 16 = .ok (.invokestatic 232, 3) := dk_184 0 232 (dk_at dksJ18_newString_0 16 rfl rfl)
theorem dJ18_newString_19 : decode cJ18_newString 19 = .ok (.iconst 0, 1) := dk_3 (dk_at dksJ18_newString_0 19 rfl rfl)
theorem dJ18_newString_20 : decode cJ18_newString 20 = .ok (.invokespecial 112, 3) := dk_183 0 112 (dk_at dksJ18_newString_0 20 rfl rfl)
theorem dJ18_newString_23 : decode cJ18_newString 23 = .ok (.areturn, 1) := dk_176 (dk_at dksJ18_newString_0 23 rfl rfl)
abbrev cJ18_indexOf : ByteArray := prog_37_method_22_code
def yJ18_indexOf : MethodName := ⟨RJ18, "indexOf", "([BIII)I"⟩
def dkwJ18_indexOf_1 : List UInt8 := [161, 0, 5, 2, 172, 42, 27, 28, 29, 184, 0, 95, 172]
abbrev dktJ18_indexOf_1 : List UInt8 := dkwJ18_indexOf_1 ++ []
def dkwJ18_indexOf_0 : List UInt8 := [27, 184, 0, 88, 154, 0, 5, 2, 172, 28, 3, 184, 0, 92, 61, 29, 42, 190, 184, 0, 38, 62, 28, 29]
abbrev dktJ18_indexOf_0 : List UInt8 := dkwJ18_indexOf_0 ++ dktJ18_indexOf_1
theorem dksJ18_indexOf_0 : cJ18_indexOf.data.toList.drop 0 = dktJ18_indexOf_0 := by decide +kernel
theorem dksJ18_indexOf_1 : cJ18_indexOf.data.toList.drop 24 = dktJ18_indexOf_1 := dk_seg dksJ18_indexOf_0 24 rfl rfl
theorem dJ18_indexOf_0 : decode cJ18_indexOf 0 = .ok (.iload_n 1, 1) := dk_27 (dk_at dksJ18_indexOf_0 0 rfl rfl)
theorem dJ18_indexOf_1 : decode cJ18_indexOf 1 = .ok (.invokestatic 88, 3) := dk_184 0 88 (dk_at dksJ18_indexOf_0 1 rfl rfl)
theorem dJ18_indexOf_4 : decode cJ18_indexOf 4 = .ok (.ifCond .ne 5, 3) := dk_154 0 5 (dk_at dksJ18_indexOf_0 4 rfl rfl)
theorem dJ18_indexOf_7 : decode cJ18_indexOf 7 = .ok (.iconst (-1), 1) := dk_2 (dk_at dksJ18_indexOf_0 7 rfl rfl)
theorem dJ18_indexOf_8 : decode cJ18_indexOf 8 = .ok (.ireturn, 1) := dk_172 (dk_at dksJ18_indexOf_0 8 rfl rfl)
theorem dJ18_indexOf_9 : decode cJ18_indexOf 9 = .ok (.iload_n 2, 1) := dk_28 (dk_at dksJ18_indexOf_0 9 rfl rfl)
theorem dJ18_indexOf_10 : decode cJ18_indexOf 10 = .ok (.iconst 0, 1) := dk_3 (dk_at dksJ18_indexOf_0 10 rfl rfl)
theorem dJ18_indexOf_11 : decode cJ18_indexOf 11 = .ok (.invokestatic 92, 3) := dk_184 0 92 (dk_at dksJ18_indexOf_0 11 rfl rfl)
theorem dJ18_indexOf_14 : decode cJ18_indexOf 14 = .ok (.istore_n 2, 1) := dk_61 (dk_at dksJ18_indexOf_0 14 rfl rfl)
theorem dJ18_indexOf_15 : decode cJ18_indexOf 15 = .ok (.iload_n 3, 1) := dk_29 (dk_at dksJ18_indexOf_0 15 rfl rfl)
theorem dJ18_indexOf_16 : decode cJ18_indexOf 16 = .ok (.aload_n 0, 1) := dk_42 (dk_at dksJ18_indexOf_0 16 rfl rfl)
theorem dJ18_indexOf_17 : decode cJ18_indexOf 17 = .ok (.arraylength, 1) := dk_190 (dk_at dksJ18_indexOf_0 17 rfl rfl)
theorem dJ18_indexOf_18 : decode cJ18_indexOf 18 = .ok (.invokestatic 38, 3) := dk_184 0 38 (dk_at dksJ18_indexOf_0 18 rfl rfl)
theorem dJ18_indexOf_21 : decode cJ18_indexOf 21 = .ok (.istore_n 3, 1) := dk_62 (dk_at dksJ18_indexOf_0 21 rfl rfl)
theorem dJ18_indexOf_22 : decode cJ18_indexOf 22 = .ok (.iload_n 2, 1) := dk_28 (dk_at dksJ18_indexOf_0 22 rfl rfl)
theorem dJ18_indexOf_23 : decode cJ18_indexOf 23 = .ok (.iload_n 3, 1) := dk_29 (dk_at dksJ18_indexOf_0 23 rfl rfl)
theorem dJ18_indexOf_24 : decode cJ18_indexOf 24 = .ok (.if_icmp .lt 5, 3) := dk_161 0 5 (dk_at dksJ18_indexOf_1 0 rfl rfl)
theorem dJ18_indexOf_27 : decode cJ18_indexOf 27 = .ok (.iconst (-1), 1) := dk_2 (dk_at dksJ18_indexOf_1 3 rfl rfl)
theorem dJ18_indexOf_28 : decode cJ18_indexOf 28 = .ok (.ireturn, 1) := dk_172 (dk_at dksJ18_indexOf_1 4 rfl rfl)
theorem dJ18_indexOf_29 : decode cJ18_indexOf 29 = .ok (.aload_n 0, 1) := dk_42 (dk_at dksJ18_indexOf_1 5 rfl rfl)
theorem dJ18_indexOf_30 : decode cJ18_indexOf 30 = .ok (.iload_n 1, 1) := dk_27 (dk_at dksJ18_indexOf_1 6 rfl rfl)
theorem dJ18_indexOf_31 : decode cJ18_indexOf 31 = .ok (.iload_n 2, 1) := dk_28 (dk_at dksJ18_indexOf_1 7 rfl rfl)
theorem dJ18_indexOf_32 : decode cJ18_indexOf 32 = .ok (.iload_n 3, 1) := dk_29 (dk_at dksJ18_indexOf_1 8 rfl rfl)
theorem dJ18_indexOf_33 : decode cJ18_indexOf 33 = .ok (.invokestatic 95, 3) := dk_184 0 95 (dk_at dksJ18_indexOf_1 9 rfl rfl)
theorem dJ18_indexOf_36 : decode cJ18_indexOf 36 = .ok (.ireturn, 1) := dk_172 (dk_at dksJ18_indexOf_1 12 rfl rfl)
abbrev cJ18_canEncode_2 : ByteArray := prog_37_method_4_code
def yJ18_canEncode_2 : MethodName := ⟨RJ18, "canEncode", "(I)Z"⟩
def dkwJ18_canEncode_2_0 : List UInt8 := [26, 155, 0, 14, 26, 17, 0, 255, 163, 0, 7, 4, 167, 0, 4, 3, 172]
abbrev dktJ18_canEncode_2_0 : List UInt8 := dkwJ18_canEncode_2_0 ++ []
theorem dksJ18_canEncode_2_0 : cJ18_canEncode_2.data.toList.drop 0 = dktJ18_canEncode_2_0 := by decide +kernel
theorem dJ18_canEncode_2_0 : decode cJ18_canEncode_2 0 = .ok (.iload_n 0, 1) := dk_26 (dk_at dksJ18_canEncode_2_0 0 rfl rfl)
theorem dJ18_canEncode_2_1 : decode cJ18_canEncode_2 1 = .ok (.ifCond .lt 14, 3) := dk_155 0 14 (dk_at dksJ18_canEncode_2_0 1 rfl rfl)
theorem dJ18_canEncode_2_4 : decode cJ18_canEncode_2 4 = .ok (.iload_n 0, 1) := dk_26 (dk_at dksJ18_canEncode_2_0 4 rfl rfl)
theorem dJ18_canEncode_2_5 : decode cJ18_canEncode_2 5 = .ok (.sipush 255, 3) := dk_17 0 255 (dk_at dksJ18_canEncode_2_0 5 rfl rfl)
theorem dJ18_canEncode_2_8 : decode cJ18_canEncode_2 8 = .ok (.if_icmp .gt 7, 3) := dk_163 0 7 (dk_at dksJ18_canEncode_2_0 8 rfl rfl)
theorem dJ18_canEncode_2_11 : decode cJ18_canEncode_2 11 = .ok (.iconst 1, 1) := dk_4 (dk_at dksJ18_canEncode_2_0 11 rfl rfl)
theorem dJ18_canEncode_2_12 : decode cJ18_canEncode_2 12 = .ok (.goto 4, 3) := dk_167 0 4 (dk_at dksJ18_canEncode_2_0 12 rfl rfl)
theorem dJ18_canEncode_2_15 : decode cJ18_canEncode_2 15 = .ok (.iconst 0, 1) := dk_3 (dk_at dksJ18_canEncode_2_0 15 rfl rfl)
theorem dJ18_canEncode_2_16 : decode cJ18_canEncode_2 16 = .ok (.ireturn, 1) := dk_172 (dk_at dksJ18_canEncode_2_0 16 rfl rfl)
abbrev cJ18_indexOfChar : ByteArray := prog_37_method_23_code
def yJ18_indexOfChar : MethodName := ⟨RJ18, "indexOfChar", "([BIII)I"⟩
def dkwJ18_indexOfChar_1 : List UInt8 := [172, 132, 5, 1, 167, 255, 235, 2, 172]
abbrev dktJ18_indexOfChar_1 : List UInt8 := dkwJ18_indexOfChar_1 ++ []
def dkwJ18_indexOfChar_0 : List UInt8 := [27, 145, 54, 4, 28, 54, 5, 21, 5, 29, 162, 0, 21, 42, 21, 5, 51, 21, 4, 160, 0, 6, 21, 5]
abbrev dktJ18_indexOfChar_0 : List UInt8 := dkwJ18_indexOfChar_0 ++ dktJ18_indexOfChar_1
theorem dksJ18_indexOfChar_0 : cJ18_indexOfChar.data.toList.drop 0 = dktJ18_indexOfChar_0 := by decide +kernel
theorem dksJ18_indexOfChar_1 : cJ18_indexOfChar.data.toList.drop 24 = dktJ18_indexOfChar_1 := dk_seg dksJ18_indexOfChar_0 24 rfl rfl
theorem dJ18_indexOfChar_0 : decode cJ18_indexOfChar 0 = .ok (.iload_n 1, 1) := dk_27 (dk_at dksJ18_indexOfChar_0 0 rfl rfl)
theorem dJ18_indexOfChar_1 : decode cJ18_indexOfChar 1 = .ok (.i2b, 1) := dk_145 (dk_at dksJ18_indexOfChar_0 1 rfl rfl)
theorem dJ18_indexOfChar_2 : decode cJ18_indexOfChar 2 = .ok (.istore 4, 2) := dk_54 4 (dk_at dksJ18_indexOfChar_0 2 rfl rfl)
theorem dJ18_indexOfChar_4 : decode cJ18_indexOfChar 4 = .ok (.iload_n 2, 1) := dk_28 (dk_at dksJ18_indexOfChar_0 4 rfl rfl)
theorem dJ18_indexOfChar_5 : decode cJ18_indexOfChar 5 = .ok (.istore 5, 2) := dk_54 5 (dk_at dksJ18_indexOfChar_0 5 rfl rfl)
theorem dJ18_indexOfChar_7 : decode cJ18_indexOfChar 7 = .ok (.iload 5, 2) := dk_21 5 (dk_at dksJ18_indexOfChar_0 7 rfl rfl)
theorem dJ18_indexOfChar_9 : decode cJ18_indexOfChar 9 = .ok (.iload_n 3, 1) := dk_29 (dk_at dksJ18_indexOfChar_0 9 rfl rfl)
theorem dJ18_indexOfChar_10 : decode cJ18_indexOfChar 10 = .ok (.if_icmp .ge 21, 3) := dk_162 0 21 (dk_at dksJ18_indexOfChar_0 10 rfl rfl)
theorem dJ18_indexOfChar_13 : decode cJ18_indexOfChar 13 = .ok (.aload_n 0, 1) := dk_42 (dk_at dksJ18_indexOfChar_0 13 rfl rfl)
theorem dJ18_indexOfChar_14 : decode cJ18_indexOfChar 14 = .ok (.iload 5, 2) := dk_21 5 (dk_at dksJ18_indexOfChar_0 14 rfl rfl)
theorem dJ18_indexOfChar_16 : decode cJ18_indexOfChar 16 = .ok (.baload, 1) := dk_51 (dk_at dksJ18_indexOfChar_0 16 rfl rfl)
theorem dJ18_indexOfChar_17 : decode cJ18_indexOfChar 17 = .ok (.iload 4, 2) := dk_21 4 (dk_at dksJ18_indexOfChar_0 17 rfl rfl)
theorem dJ18_indexOfChar_19 : decode cJ18_indexOfChar 19 = .ok (.if_icmp .ne 6, 3) := dk_160 0 6 (dk_at dksJ18_indexOfChar_0 19 rfl rfl)
theorem dJ18_indexOfChar_22 : decode cJ18_indexOfChar 22 = .ok (.iload 5, 2) := dk_21 5 (dk_at dksJ18_indexOfChar_0 22 rfl rfl)
theorem dJ18_indexOfChar_24 : decode cJ18_indexOfChar 24 = .ok (.ireturn, 1) := dk_172 (dk_at dksJ18_indexOfChar_1 0 rfl rfl)
theorem dJ18_indexOfChar_25 : decode cJ18_indexOfChar 25 = .ok (.iinc 5 1, 3) := dk_132 5 1 (dk_at dksJ18_indexOfChar_1 1 rfl rfl)
theorem dJ18_indexOfChar_28 : decode cJ18_indexOfChar 28 = .ok (.goto (-21), 3) := dk_167 255 235 (dk_at dksJ18_indexOfChar_1 4 rfl rfl)
theorem dJ18_indexOfChar_31 : decode cJ18_indexOfChar 31 = .ok (.iconst (-1), 1) := dk_2 (dk_at dksJ18_indexOfChar_1 7 rfl rfl)
theorem dJ18_indexOfChar_32 : decode cJ18_indexOfChar 32 = .ok (.ireturn, 1) := dk_172 (dk_at dksJ18_indexOfChar_1 8 rfl rfl)
abbrev cJ18_hashCode : ByteArray := prog_37_method_21_code
def yJ18_hashCode : MethodName := ⟨RJ18, "hashCode", "([B)I"⟩
def dkwJ18_hashCode_2 : List UInt8 := [3, 167, 0, 22, 42, 3, 51, 17, 0, 255, 126, 167, 0, 12, 42, 3, 42, 190, 3, 7, 184, 0, 84, 172]
abbrev dktJ18_hashCode_2 : List UInt8 := dkwJ18_hashCode_2 ++ []
def dkwJ18_hashCode_1 : List UInt8 := [171, 0, 0, 0, 0, 40, 0, 0, 0, 2, 0, 0, 0, 0, 0, 0, 0, 26, 0, 0, 0, 1, 0, 0, 0, 30]
abbrev dktJ18_hashCode_1 : List UInt8 := dkwJ18_hashCode_1 ++ dktJ18_hashCode_2
def dkwJ18_hashCode_0 : List UInt8 := [42, 190]
abbrev dktJ18_hashCode_0 : List UInt8 := dkwJ18_hashCode_0 ++ dktJ18_hashCode_1
theorem dksJ18_hashCode_0 : cJ18_hashCode.data.toList.drop 0 = dktJ18_hashCode_0 := by decide +kernel
theorem dksJ18_hashCode_1 : cJ18_hashCode.data.toList.drop 2 = dktJ18_hashCode_1 := dk_seg dksJ18_hashCode_0 2 rfl rfl
theorem dksJ18_hashCode_2 : cJ18_hashCode.data.toList.drop 28 = dktJ18_hashCode_2 := dk_seg dksJ18_hashCode_1 26 rfl rfl
theorem dJ18_hashCode_0 : decode cJ18_hashCode 0 = .ok (.aload_n 0, 1) := dk_42 (dk_at dksJ18_hashCode_0 0 rfl rfl)
theorem dJ18_hashCode_1 : decode cJ18_hashCode 1 = .ok (.arraylength, 1) := dk_190 (dk_at dksJ18_hashCode_0 1 rfl rfl)
theorem dJ18_hashCode_2 : decode cJ18_hashCode 2 = .ok (.lookupswitch 40 #[(0, 26), (1, 30)], 26) := by decide +kernel
theorem dJ18_hashCode_28 : decode cJ18_hashCode 28 = .ok (.iconst 0, 1) := dk_3 (dk_at dksJ18_hashCode_2 0 rfl rfl)
theorem dJ18_hashCode_29 : decode cJ18_hashCode 29 = .ok (.goto 22, 3) := dk_167 0 22 (dk_at dksJ18_hashCode_2 1 rfl rfl)
theorem dJ18_hashCode_32 : decode cJ18_hashCode 32 = .ok (.aload_n 0, 1) := dk_42 (dk_at dksJ18_hashCode_2 4 rfl rfl)
theorem dJ18_hashCode_33 : decode cJ18_hashCode 33 = .ok (.iconst 0, 1) := dk_3 (dk_at dksJ18_hashCode_2 5 rfl rfl)
theorem dJ18_hashCode_34 : decode cJ18_hashCode 34 = .ok (.baload, 1) := dk_51 (dk_at dksJ18_hashCode_2 6 rfl rfl)
theorem dJ18_hashCode_35 : decode cJ18_hashCode 35 = .ok (.sipush 255, 3) := dk_17 0 255 (dk_at dksJ18_hashCode_2 7 rfl rfl)
theorem dJ18_hashCode_38 : decode cJ18_hashCode 38 = .ok (.iand, 1) := dk_126 (dk_at dksJ18_hashCode_2 10 rfl rfl)
theorem dJ18_hashCode_39 : decode cJ18_hashCode 39 = .ok (.goto 12, 3) := dk_167 0 12 (dk_at dksJ18_hashCode_2 11 rfl rfl)
theorem dJ18_hashCode_42 : decode cJ18_hashCode 42 = .ok (.aload_n 0, 1) := dk_42 (dk_at dksJ18_hashCode_2 14 rfl rfl)
theorem dJ18_hashCode_43 : decode cJ18_hashCode 43 = .ok (.iconst 0, 1) := dk_3 (dk_at dksJ18_hashCode_2 15 rfl rfl)
theorem dJ18_hashCode_44 : decode cJ18_hashCode 44 = .ok (.aload_n 0, 1) := dk_42 (dk_at dksJ18_hashCode_2 16 rfl rfl)
theorem dJ18_hashCode_45 : decode cJ18_hashCode 45 = .ok (.arraylength, 1) := dk_190 (dk_at dksJ18_hashCode_2 17 rfl rfl)
theorem dJ18_hashCode_46 : decode cJ18_hashCode 46 = .ok (.iconst 0, 1) := dk_3 (dk_at dksJ18_hashCode_2 18 rfl rfl)
theorem dJ18_hashCode_47 : decode cJ18_hashCode 47 = .ok (.iconst 4, 1) := dk_7 (dk_at dksJ18_hashCode_2 19 rfl rfl)
theorem dJ18_hashCode_48 : decode cJ18_hashCode 48 = .ok (.invokestatic 84, 3) := dk_184 0 84 (dk_at dksJ18_hashCode_2 20 rfl rfl)
theorem dJ18_hashCode_51 : decode cJ18_hashCode 51 = .ok (.ireturn, 1) := dk_172 (dk_at dksJ18_hashCode_2 23 rfl rfl)
abbrev cJ18_equals : ByteArray := prog_37_method_13_code
def yJ18_equals : MethodName := ⟨RJ18, "equals", "([B[B)Z"⟩
def dkwJ18_equals_1 : List UInt8 := [3, 172, 132, 2, 1, 167, 255, 236, 4, 172, 3, 172]
abbrev dktJ18_equals_1 : List UInt8 := dkwJ18_equals_1 ++ []
def dkwJ18_equals_0 : List UInt8 := [42, 190, 43, 190, 160, 0, 30, 3, 61, 28, 42, 190, 162, 0, 20, 42, 28, 51, 43, 28, 51, 159, 0, 5]
abbrev dktJ18_equals_0 : List UInt8 := dkwJ18_equals_0 ++ dktJ18_equals_1
theorem dksJ18_equals_0 : cJ18_equals.data.toList.drop 0 = dktJ18_equals_0 := by decide +kernel
theorem dksJ18_equals_1 : cJ18_equals.data.toList.drop 24 = dktJ18_equals_1 := dk_seg dksJ18_equals_0 24 rfl rfl
theorem dJ18_equals_0 : decode cJ18_equals 0 = .ok (.aload_n 0, 1) := dk_42 (dk_at dksJ18_equals_0 0 rfl rfl)
theorem dJ18_equals_1 : decode cJ18_equals 1 = .ok (.arraylength, 1) := dk_190 (dk_at dksJ18_equals_0 1 rfl rfl)
theorem dJ18_equals_2 : decode cJ18_equals 2 = .ok (.aload_n 1, 1) := dk_43 (dk_at dksJ18_equals_0 2 rfl rfl)
theorem dJ18_equals_3 : decode cJ18_equals 3 = .ok (.arraylength, 1) := dk_190 (dk_at dksJ18_equals_0 3 rfl rfl)
theorem dJ18_equals_4 : decode cJ18_equals 4 = .ok (.if_icmp .ne 30, 3) := dk_160 0 30 (dk_at dksJ18_equals_0 4 rfl rfl)
theorem dJ18_equals_7 : decode cJ18_equals 7 = .ok (.iconst 0, 1) := dk_3 (dk_at dksJ18_equals_0 7 rfl rfl)
theorem dJ18_equals_8 : decode cJ18_equals 8 = .ok (.istore_n 2, 1) := dk_61 (dk_at dksJ18_equals_0 8 rfl rfl)
theorem dJ18_equals_9 : decode cJ18_equals 9 = .ok (.iload_n 2, 1) := dk_28 (dk_at dksJ18_equals_0 9 rfl rfl)
theorem dJ18_equals_10 : decode cJ18_equals 10 = .ok (.aload_n 0, 1) := dk_42 (dk_at dksJ18_equals_0 10 rfl rfl)
theorem dJ18_equals_11 : decode cJ18_equals 11 = .ok (.arraylength, 1) := dk_190 (dk_at dksJ18_equals_0 11 rfl rfl)
theorem dJ18_equals_12 : decode cJ18_equals 12 = .ok (.if_icmp .ge 20, 3) := dk_162 0 20 (dk_at dksJ18_equals_0 12 rfl rfl)
theorem dJ18_equals_15 : decode cJ18_equals 15 = .ok (.aload_n 0, 1) := dk_42 (dk_at dksJ18_equals_0 15 rfl rfl)
theorem dJ18_equals_16 : decode cJ18_equals 16 = .ok (.iload_n 2, 1) := dk_28 (dk_at dksJ18_equals_0 16 rfl rfl)
theorem dJ18_equals_17 : decode cJ18_equals 17 = .ok (.baload, 1) := dk_51 (dk_at dksJ18_equals_0 17 rfl rfl)
theorem dJ18_equals_18 : decode cJ18_equals 18 = .ok (.aload_n 1, 1) := dk_43 (dk_at dksJ18_equals_0 18 rfl rfl)
theorem dJ18_equals_19 : decode cJ18_equals 19 = .ok (.iload_n 2, 1) := dk_28 (dk_at dksJ18_equals_0 19 rfl rfl)
theorem dJ18_equals_20 : decode cJ18_equals 20 = .ok (.baload, 1) := dk_51 (dk_at dksJ18_equals_0 20 rfl rfl)
theorem dJ18_equals_21 : decode cJ18_equals 21 = .ok (.if_icmp .eq 5, 3) := dk_159 0 5 (dk_at dksJ18_equals_0 21 rfl rfl)
theorem dJ18_equals_24 : decode cJ18_equals 24 = .ok (.iconst 0, 1) := dk_3 (dk_at dksJ18_equals_1 0 rfl rfl)
theorem dJ18_equals_25 : decode cJ18_equals 25 = .ok (.ireturn, 1) := dk_172 (dk_at dksJ18_equals_1 1 rfl rfl)
theorem dJ18_equals_26 : decode cJ18_equals 26 = .ok (.iinc 2 1, 3) := dk_132 2 1 (dk_at dksJ18_equals_1 2 rfl rfl)
theorem dJ18_equals_29 : decode cJ18_equals 29 = .ok (.goto (-20), 3) := dk_167 255 236 (dk_at dksJ18_equals_1 5 rfl rfl)
theorem dJ18_equals_32 : decode cJ18_equals 32 = .ok (.iconst 1, 1) := dk_4 (dk_at dksJ18_equals_1 8 rfl rfl)
theorem dJ18_equals_33 : decode cJ18_equals 33 = .ok (.ireturn, 1) := dk_172 (dk_at dksJ18_equals_1 9 rfl rfl)
theorem dJ18_equals_34 : decode cJ18_equals 34 = .ok (.iconst 0, 1) := dk_3 (dk_at dksJ18_equals_1 10 rfl rfl)
theorem dJ18_equals_35 : decode cJ18_equals 35 = .ok (.ireturn, 1) := dk_172 (dk_at dksJ18_equals_1 11 rfl rfl)
abbrev cJ18_compareTo : ByteArray := prog_37_method_14_code
def yJ18_compareTo : MethodName := ⟨RJ18, "compareTo", "([B[B)I"⟩
def dkwJ18_compareTo_0 : List UInt8 := [42, 190, 61, 43, 190, 62, 42, 43, 28, 29, 184, 0, 34, 172]
abbrev dktJ18_compareTo_0 : List UInt8 := dkwJ18_compareTo_0 ++ []
theorem dksJ18_compareTo_0 : cJ18_compareTo.data.toList.drop 0 = dktJ18_compareTo_0 := by decide +kernel
theorem dJ18_compareTo_0 : decode cJ18_compareTo 0 = .ok (.aload_n 0, 1) := dk_42 (dk_at dksJ18_compareTo_0 0 rfl rfl)
theorem dJ18_compareTo_1 : decode cJ18_compareTo 1 = .ok (.arraylength, 1) := dk_190 (dk_at dksJ18_compareTo_0 1 rfl rfl)
theorem dJ18_compareTo_2 : decode cJ18_compareTo 2 = .ok (.istore_n 2, 1) := dk_61 (dk_at dksJ18_compareTo_0 2 rfl rfl)
theorem dJ18_compareTo_3 : decode cJ18_compareTo 3 = .ok (.aload_n 1, 1) := dk_43 (dk_at dksJ18_compareTo_0 3 rfl rfl)
theorem dJ18_compareTo_4 : decode cJ18_compareTo 4 = .ok (.arraylength, 1) := dk_190 (dk_at dksJ18_compareTo_0 4 rfl rfl)
theorem dJ18_compareTo_5 : decode cJ18_compareTo 5 = .ok (.istore_n 3, 1) := dk_62 (dk_at dksJ18_compareTo_0 5 rfl rfl)
theorem dJ18_compareTo_6 : decode cJ18_compareTo 6 = .ok (.aload_n 0, 1) := dk_42 (dk_at dksJ18_compareTo_0 6 rfl rfl)
theorem dJ18_compareTo_7 : decode cJ18_compareTo 7 = .ok (.aload_n 1, 1) := dk_43 (dk_at dksJ18_compareTo_0 7 rfl rfl)
theorem dJ18_compareTo_8 : decode cJ18_compareTo 8 = .ok (.iload_n 2, 1) := dk_28 (dk_at dksJ18_compareTo_0 8 rfl rfl)
theorem dJ18_compareTo_9 : decode cJ18_compareTo 9 = .ok (.iload_n 3, 1) := dk_29 (dk_at dksJ18_compareTo_0 9 rfl rfl)
theorem dJ18_compareTo_10 : decode cJ18_compareTo 10 = .ok (.invokestatic 34, 3) := dk_184 0 34 (dk_at dksJ18_compareTo_0 10 rfl rfl)
theorem dJ18_compareTo_13 : decode cJ18_compareTo 13 = .ok (.ireturn, 1) := dk_172 (dk_at dksJ18_compareTo_0 13 rfl rfl)
abbrev cJ18_compareTo_2 : ByteArray := prog_37_method_15_code
def yJ18_compareTo_2 : MethodName := ⟨RJ18, "compareTo", "([B[BII)I"⟩
def dkwJ18_compareTo_2_1 : List UInt8 := [167, 0, 16, 42, 21, 5, 184, 0, 50, 43, 21, 5, 184, 0, 50, 100, 172]
abbrev dktJ18_compareTo_2_1 : List UInt8 := dkwJ18_compareTo_2_1 ++ []
def dkwJ18_compareTo_2_0 : List UInt8 := [28, 29, 184, 0, 38, 54, 4, 42, 43, 21, 4, 184, 0, 44, 54, 5, 21, 5, 156, 0, 9, 28, 29, 100]
abbrev dktJ18_compareTo_2_0 : List UInt8 := dkwJ18_compareTo_2_0 ++ dktJ18_compareTo_2_1
theorem dksJ18_compareTo_2_0 : cJ18_compareTo_2.data.toList.drop 0 = dktJ18_compareTo_2_0 := by decide +kernel
theorem dksJ18_compareTo_2_1 : cJ18_compareTo_2.data.toList.drop 24 = dktJ18_compareTo_2_1 := dk_seg dksJ18_compareTo_2_0 24 rfl rfl
theorem dJ18_compareTo_2_0 : decode cJ18_compareTo_2 0 = .ok (.iload_n 2, 1) := dk_28 (dk_at dksJ18_compareTo_2_0 0 rfl rfl)
theorem dJ18_compareTo_2_1 : decode cJ18_compareTo_2 1 = .ok (.iload_n 3, 1) := dk_29 (dk_at dksJ18_compareTo_2_0 1 rfl rfl)
theorem dJ18_compareTo_2_2 : decode cJ18_compareTo_2 2 = .ok (.invokestatic 38, 3) := dk_184 0 38 (dk_at dksJ18_compareTo_2_0 2 rfl rfl)
theorem dJ18_compareTo_2_5 : decode cJ18_compareTo_2 5 = .ok (.istore 4, 2) := dk_54 4 (dk_at dksJ18_compareTo_2_0 5 rfl rfl)
theorem dJ18_compareTo_2_7 : decode cJ18_compareTo_2 7 = .ok (.aload_n 0, 1) := dk_42 (dk_at dksJ18_compareTo_2_0 7 rfl rfl)
theorem dJ18_compareTo_2_8 : decode cJ18_compareTo_2 8 = .ok (.aload_n 1, 1) := dk_43 (dk_at dksJ18_compareTo_2_0 8 rfl rfl)
theorem dJ18_compareTo_2_9 : decode cJ18_compareTo_2 9 = .ok (.iload 4, 2) := dk_21 4 (dk_at dksJ18_compareTo_2_0 9 rfl rfl)
theorem dJ18_compareTo_2_11 : decode cJ18_compareTo_2 11 = .ok (.invokestatic 44, 3) := dk_184 0 44 (dk_at dksJ18_compareTo_2_0 11 rfl rfl)
theorem dJ18_compareTo_2_14 : decode cJ18_compareTo_2 14 = .ok (.istore 5, 2) := dk_54 5 (dk_at dksJ18_compareTo_2_0 14 rfl rfl)
theorem dJ18_compareTo_2_16 : decode cJ18_compareTo_2 16 = .ok (.iload 5, 2) := dk_21 5 (dk_at dksJ18_compareTo_2_0 16 rfl rfl)
theorem dJ18_compareTo_2_18 : decode cJ18_compareTo_2 18 = .ok (.ifCond .ge 9, 3) := dk_156 0 9 (dk_at dksJ18_compareTo_2_0 18 rfl rfl)
theorem dJ18_compareTo_2_21 : decode cJ18_compareTo_2 21 = .ok (.iload_n 2, 1) := dk_28 (dk_at dksJ18_compareTo_2_0 21 rfl rfl)
theorem dJ18_compareTo_2_22 : decode cJ18_compareTo_2 22 = .ok (.iload_n 3, 1) := dk_29 (dk_at dksJ18_compareTo_2_0 22 rfl rfl)
theorem dJ18_compareTo_2_23 : decode cJ18_compareTo_2 23 = .ok (.isub, 1) := dk_100 (dk_at dksJ18_compareTo_2_0 23 rfl rfl)
theorem dJ18_compareTo_2_24 : decode cJ18_compareTo_2 24 = .ok (.goto 16, 3) := dk_167 0 16 (dk_at dksJ18_compareTo_2_1 0 rfl rfl)
theorem dJ18_compareTo_2_27 : decode cJ18_compareTo_2 27 = .ok (.aload_n 0, 1) := dk_42 (dk_at dksJ18_compareTo_2_1 3 rfl rfl)
theorem dJ18_compareTo_2_28 : decode cJ18_compareTo_2 28 = .ok (.iload 5, 2) := dk_21 5 (dk_at dksJ18_compareTo_2_1 4 rfl rfl)
theorem dJ18_compareTo_2_30 : decode cJ18_compareTo_2 30 = .ok (.invokestatic 50, 3) := dk_184 0 50 (dk_at dksJ18_compareTo_2_1 6 rfl rfl)
theorem dJ18_compareTo_2_33 : decode cJ18_compareTo_2 33 = .ok (.aload_n 1, 1) := dk_43 (dk_at dksJ18_compareTo_2_1 9 rfl rfl)
theorem dJ18_compareTo_2_34 : decode cJ18_compareTo_2 34 = .ok (.iload 5, 2) := dk_21 5 (dk_at dksJ18_compareTo_2_1 10 rfl rfl)
theorem dJ18_compareTo_2_36 : decode cJ18_compareTo_2 36 = .ok (.invokestatic 50, 3) := dk_184 0 50 (dk_at dksJ18_compareTo_2_1 12 rfl rfl)
theorem dJ18_compareTo_2_39 : decode cJ18_compareTo_2 39 = .ok (.isub, 1) := dk_100 (dk_at dksJ18_compareTo_2_1 15 rfl rfl)
theorem dJ18_compareTo_2_40 : decode cJ18_compareTo_2 40 = .ok (.ireturn, 1) := dk_172 (dk_at dksJ18_compareTo_2_1 16 rfl rfl)
abbrev cJ18_getChar : ByteArray := prog_37_method_44_code
def yJ18_getChar : MethodName := ⟨RJ18, "getChar", "([BI)C"⟩
def dkwJ18_getChar_0 : List UInt8 := [42, 27, 51, 17, 0, 255, 126, 146, 172]
abbrev dktJ18_getChar_0 : List UInt8 := dkwJ18_getChar_0 ++ []
theorem dksJ18_getChar_0 : cJ18_getChar.data.toList.drop 0 = dktJ18_getChar_0 := by decide +kernel
theorem dJ18_getChar_0 : decode cJ18_getChar 0 = .ok (.aload_n 0, 1) := dk_42 (dk_at dksJ18_getChar_0 0 rfl rfl)
theorem dJ18_getChar_1 : decode cJ18_getChar 1 = .ok (.iload_n 1, 1) := dk_27 (dk_at dksJ18_getChar_0 1 rfl rfl)
theorem dJ18_getChar_2 : decode cJ18_getChar 2 = .ok (.baload, 1) := dk_51 (dk_at dksJ18_getChar_0 2 rfl rfl)
theorem dJ18_getChar_3 : decode cJ18_getChar 3 = .ok (.sipush 255, 3) := dk_17 0 255 (dk_at dksJ18_getChar_0 3 rfl rfl)
theorem dJ18_getChar_6 : decode cJ18_getChar 6 = .ok (.iand, 1) := dk_126 (dk_at dksJ18_getChar_0 6 rfl rfl)
theorem dJ18_getChar_7 : decode cJ18_getChar 7 = .ok (.i2c, 1) := dk_146 (dk_at dksJ18_getChar_0 7 rfl rfl)
theorem dJ18_getChar_8 : decode cJ18_getChar 8 = .ok (.ireturn, 1) := dk_172 (dk_at dksJ18_getChar_0 8 rfl rfl)
abbrev cJ18_compareToUTF16 : ByteArray := prog_37_method_16_code
def yJ18_compareToUTF16 : MethodName := ⟨RJ18, "compareToUTF16", "([B[B)I"⟩
def dkwJ18_compareToUTF16_0 : List UInt8 := [42, 184, 0, 54, 61, 43, 184, 0, 58, 62, 42, 43, 28, 29, 184, 0, 59, 172]
abbrev dktJ18_compareToUTF16_0 : List UInt8 := dkwJ18_compareToUTF16_0 ++ []
theorem dksJ18_compareToUTF16_0 : cJ18_compareToUTF16.data.toList.drop 0 = dktJ18_compareToUTF16_0 := by decide +kernel
theorem dJ18_compareToUTF16_0 : decode cJ18_compareToUTF16 0 = .ok (.aload_n 0, 1) := dk_42 (dk_at dksJ18_compareToUTF16_0 0 rfl rfl)
theorem dJ18_compareToUTF16_1 : decode cJ18_compareToUTF16 1 = .ok (.invokestatic 54, 3) := dk_184 0 54 (dk_at dksJ18_compareToUTF16_0 1 rfl rfl)
theorem dJ18_compareToUTF16_4 : decode cJ18_compareToUTF16 4 = .ok (.istore_n 2, 1) := dk_61 (dk_at dksJ18_compareToUTF16_0 4 rfl rfl)
theorem dJ18_compareToUTF16_5 : decode cJ18_compareToUTF16 5 = .ok (.aload_n 1, 1) := dk_43 (dk_at dksJ18_compareToUTF16_0 5 rfl rfl)
theorem dJ18_compareToUTF16_6 : decode cJ18_compareToUTF16 6 = .ok (.invokestatic 58, 3) := dk_184 0 58 (dk_at dksJ18_compareToUTF16_0 6 rfl rfl)
theorem dJ18_compareToUTF16_9 : decode cJ18_compareToUTF16 9 = .ok (.istore_n 3, 1) := dk_62 (dk_at dksJ18_compareToUTF16_0 9 rfl rfl)
theorem dJ18_compareToUTF16_10 : decode cJ18_compareToUTF16 10 = .ok (.aload_n 0, 1) := dk_42 (dk_at dksJ18_compareToUTF16_0 10 rfl rfl)
theorem dJ18_compareToUTF16_11 : decode cJ18_compareToUTF16 11 = .ok (.aload_n 1, 1) := dk_43 (dk_at dksJ18_compareToUTF16_0 11 rfl rfl)
theorem dJ18_compareToUTF16_12 : decode cJ18_compareToUTF16 12 = .ok (.iload_n 2, 1) := dk_28 (dk_at dksJ18_compareToUTF16_0 12 rfl rfl)
theorem dJ18_compareToUTF16_13 : decode cJ18_compareToUTF16 13 = .ok (.iload_n 3, 1) := dk_29 (dk_at dksJ18_compareToUTF16_0 13 rfl rfl)
theorem dJ18_compareToUTF16_14 : decode cJ18_compareToUTF16 14 = .ok (.invokestatic 59, 3) := dk_184 0 59 (dk_at dksJ18_compareToUTF16_0 14 rfl rfl)
theorem dJ18_compareToUTF16_17 : decode cJ18_compareToUTF16 17 = .ok (.ireturn, 1) := dk_172 (dk_at dksJ18_compareToUTF16_0 17 rfl rfl)
abbrev cJ18_length : ByteArray := prog_37_method_5_code
def yJ18_length : MethodName := ⟨RJ18, "length", "([B)I"⟩
theorem dJ18_length_0 : decode cJ18_length 0 = .ok (.aload_n 0, 1) := by decide +kernel
theorem dJ18_length_1 : decode cJ18_length 1 = .ok (.arraylength, 1) := by decide +kernel
theorem dJ18_length_2 : decode cJ18_length 2 = .ok (.ireturn, 1) := by decide +kernel
abbrev cJ18_compareToUTF16Values : ByteArray := prog_37_method_18_code
def yJ18_compareToUTF16Values : MethodName := ⟨RJ18, "compareToUTF16Values", "([B[BII)I"⟩
def dkwJ18_compareToUTF16Values_2 : List UInt8 := [132, 5, 1, 167, 255, 217, 28, 29, 100, 172]
abbrev dktJ18_compareToUTF16Values_2 : List UInt8 := dkwJ18_compareToUTF16Values_2 ++ []
def dkwJ18_compareToUTF16Values_1 : List UInt8 := [54, 6, 43, 21, 5, 184, 0, 65, 54, 7, 21, 6, 21, 7, 159, 0, 9, 21, 6, 21, 7, 100, 172]
abbrev dktJ18_compareToUTF16Values_1 : List UInt8 := dkwJ18_compareToUTF16Values_1 ++ dktJ18_compareToUTF16Values_2
def dkwJ18_compareToUTF16Values_0 : List UInt8 := [28, 29, 184, 0, 38, 54, 4, 3, 54, 5, 21, 5, 21, 4, 162, 0, 38, 42, 21, 5, 184, 0, 50]
abbrev dktJ18_compareToUTF16Values_0 : List UInt8 := dkwJ18_compareToUTF16Values_0 ++ dktJ18_compareToUTF16Values_1
theorem dksJ18_compareToUTF16Values_0 : cJ18_compareToUTF16Values.data.toList.drop 0 = dktJ18_compareToUTF16Values_0 := by decide +kernel
theorem dksJ18_compareToUTF16Values_1 : cJ18_compareToUTF16Values.data.toList.drop 23 = dktJ18_compareToUTF16Values_1 := dk_seg dksJ18_compareToUTF16Values_0 23 rfl rfl
theorem dksJ18_compareToUTF16Values_2 : cJ18_compareToUTF16Values.data.toList.drop 46 = dktJ18_compareToUTF16Values_2 := dk_seg dksJ18_compareToUTF16Values_1 23 rfl rfl
theorem dJ18_compareToUTF16Values_0 : decode cJ18_compareToUTF16Values 0 = .ok (.iload_n 2, 1) := dk_28 (dk_at dksJ18_compareToUTF16Values_0 0 rfl rfl)
theorem dJ18_compareToUTF16Values_1 : decode cJ18_compareToUTF16Values 1 = .ok (.iload_n 3, 1) := dk_29 (dk_at dksJ18_compareToUTF16Values_0 1 rfl rfl)
theorem dJ18_compareToUTF16Values_2 : decode cJ18_compareToUTF16Values 2 = .ok (.invokestatic 38, 3) := dk_184 0 38 (dk_at dksJ18_compareToUTF16Values_0 2 rfl rfl)
theorem dJ18_compareToUTF16Values_5 : decode cJ18_compareToUTF16Values 5 = .ok (.istore 4, 2) := dk_54 4 (dk_at dksJ18_compareToUTF16Values_0 5 rfl rfl)
theorem dJ18_compareToUTF16Values_7 : decode cJ18_compareToUTF16Values 7 = .ok (.iconst 0, 1) := dk_3 (dk_at dksJ18_compareToUTF16Values_0 7 rfl rfl)
theorem dJ18_compareToUTF16Values_8 : decode cJ18_compareToUTF16Values 8 = .ok (.istore 5, 2) := dk_54 5 (dk_at dksJ18_compareToUTF16Values_0 8 rfl rfl)
theorem dJ18_compareToUTF16Values_10 : decode cJ18_compareToUTF16Values 10 = .ok (.iload 5, 2) := dk_21 5 (dk_at dksJ18_compareToUTF16Values_0 10 rfl rfl)
theorem dJ18_compareToUTF16Values_12 : decode cJ18_compareToUTF16Values 12 = .ok (.iload 4, 2) := dk_21 4 (dk_at dksJ18_compareToUTF16Values_0 12 rfl rfl)
theorem dJ18_compareToUTF16Values_14 : decode cJ18_compareToUTF16Values 14 = .ok (.if_icmp .ge 38, 3) := dk_162 0 38 (dk_at dksJ18_compareToUTF16Values_0 14 rfl rfl)
theorem dJ18_compareToUTF16Values_17 : decode cJ18_compareToUTF16Values 17 = .ok (.aload_n 0, 1) := dk_42 (dk_at dksJ18_compareToUTF16Values_0 17 rfl rfl)
theorem dJ18_compareToUTF16Values_18 : decode cJ18_compareToUTF16Values 18 = .ok (.iload 5, 2) := dk_21 5 (dk_at dksJ18_compareToUTF16Values_0 18 rfl rfl)
theorem dJ18_compareToUTF16Values_20 : decode cJ18_compareToUTF16Values 20 = .ok (.invokestatic 50, 3) := dk_184 0 50 (dk_at dksJ18_compareToUTF16Values_0 20 rfl rfl)
theorem dJ18_compareToUTF16Values_23 : decode cJ18_compareToUTF16Values 23 = .ok (.istore 6, 2) := dk_54 6 (dk_at dksJ18_compareToUTF16Values_1 0 rfl rfl)
theorem dJ18_compareToUTF16Values_25 : decode cJ18_compareToUTF16Values 25 = .ok (.aload_n 1, 1) := dk_43 (dk_at dksJ18_compareToUTF16Values_1 2 rfl rfl)
theorem dJ18_compareToUTF16Values_26 : decode cJ18_compareToUTF16Values 26 = .ok (.iload 5, 2) := dk_21 5 (dk_at dksJ18_compareToUTF16Values_1 3 rfl rfl)
theorem dJ18_compareToUTF16Values_28 : decode cJ18_compareToUTF16Values 28 = .ok (.invokestatic 65, 3) := dk_184 0 65 (dk_at dksJ18_compareToUTF16Values_1 5 rfl rfl)
theorem dJ18_compareToUTF16Values_31 : decode cJ18_compareToUTF16Values 31 = .ok (.istore 7, 2) := dk_54 7 (dk_at dksJ18_compareToUTF16Values_1 8 rfl rfl)
theorem dJ18_compareToUTF16Values_33 : decode cJ18_compareToUTF16Values 33 = .ok (.iload 6, 2) := dk_21 6 (dk_at dksJ18_compareToUTF16Values_1 10 rfl rfl)
theorem dJ18_compareToUTF16Values_35 : decode cJ18_compareToUTF16Values 35 = .ok (.iload 7, 2) := dk_21 7 (dk_at dksJ18_compareToUTF16Values_1 12 rfl rfl)
theorem dJ18_compareToUTF16Values_37 : decode cJ18_compareToUTF16Values 37 = .ok (.if_icmp .eq 9, 3) := dk_159 0 9 (dk_at dksJ18_compareToUTF16Values_1 14 rfl rfl)
theorem dJ18_compareToUTF16Values_40 : decode cJ18_compareToUTF16Values 40 = .ok (.iload 6, 2) := dk_21 6 (dk_at dksJ18_compareToUTF16Values_1 17 rfl rfl)
theorem dJ18_compareToUTF16Values_42 : decode cJ18_compareToUTF16Values 42 = .ok (.iload 7, 2) := dk_21 7 (dk_at dksJ18_compareToUTF16Values_1 19 rfl rfl)
theorem dJ18_compareToUTF16Values_44 : decode cJ18_compareToUTF16Values 44 = .ok (.isub, 1) := dk_100 (dk_at dksJ18_compareToUTF16Values_1 21 rfl rfl)
theorem dJ18_compareToUTF16Values_45 : decode cJ18_compareToUTF16Values 45 = .ok (.ireturn, 1) := dk_172 (dk_at dksJ18_compareToUTF16Values_1 22 rfl rfl)
theorem dJ18_compareToUTF16Values_46 : decode cJ18_compareToUTF16Values 46 = .ok (.iinc 5 1, 3) := dk_132 5 1 (dk_at dksJ18_compareToUTF16Values_2 0 rfl rfl)
theorem dJ18_compareToUTF16Values_49 : decode cJ18_compareToUTF16Values 49 = .ok (.goto (-39), 3) := dk_167 255 217 (dk_at dksJ18_compareToUTF16Values_2 3 rfl rfl)
theorem dJ18_compareToUTF16Values_52 : decode cJ18_compareToUTF16Values 52 = .ok (.iload_n 2, 1) := dk_28 (dk_at dksJ18_compareToUTF16Values_2 6 rfl rfl)
theorem dJ18_compareToUTF16Values_53 : decode cJ18_compareToUTF16Values 53 = .ok (.iload_n 3, 1) := dk_29 (dk_at dksJ18_compareToUTF16Values_2 7 rfl rfl)
theorem dJ18_compareToUTF16Values_54 : decode cJ18_compareToUTF16Values 54 = .ok (.isub, 1) := dk_100 (dk_at dksJ18_compareToUTF16Values_2 8 rfl rfl)
theorem dJ18_compareToUTF16Values_55 : decode cJ18_compareToUTF16Values 55 = .ok (.ireturn, 1) := dk_172 (dk_at dksJ18_compareToUTF16Values_2 9 rfl rfl)
abbrev cJ18_compareToUTF16_2 : ByteArray := prog_37_method_17_code
def yJ18_compareToUTF16_2 : MethodName := ⟨RJ18, "compareToUTF16", "([B[BII)I"⟩
def dkwJ18_compareToUTF16_2_0 : List UInt8 := [28, 42, 184, 0, 54, 184, 0, 62, 29, 43, 184, 0, 58, 184, 0, 62, 42, 43, 28, 29, 184, 0, 59, 172]
abbrev dktJ18_compareToUTF16_2_0 : List UInt8 := dkwJ18_compareToUTF16_2_0 ++ []
theorem dksJ18_compareToUTF16_2_0 : cJ18_compareToUTF16_2.data.toList.drop 0 = dktJ18_compareToUTF16_2_0 := by decide +kernel
theorem dJ18_compareToUTF16_2_0 : decode cJ18_compareToUTF16_2 0 = .ok (.iload_n 2, 1) := dk_28 (dk_at dksJ18_compareToUTF16_2_0 0 rfl rfl)
theorem dJ18_compareToUTF16_2_1 : decode cJ18_compareToUTF16_2 1 = .ok (.aload_n 0, 1) := dk_42 (dk_at dksJ18_compareToUTF16_2_0 1 rfl rfl)
theorem dJ18_compareToUTF16_2_2 : decode cJ18_compareToUTF16_2 2 = .ok (.invokestatic 54, 3) := dk_184 0 54 (dk_at dksJ18_compareToUTF16_2_0 2 rfl rfl)
theorem dJ18_compareToUTF16_2_5 : decode cJ18_compareToUTF16_2 5 = .ok (.invokestatic 62, 3) := dk_184 0 62 (dk_at dksJ18_compareToUTF16_2_0 5 rfl rfl)
theorem dJ18_compareToUTF16_2_8 : decode cJ18_compareToUTF16_2 8 = .ok (.iload_n 3, 1) := dk_29 (dk_at dksJ18_compareToUTF16_2_0 8 rfl rfl)
theorem dJ18_compareToUTF16_2_9 : decode cJ18_compareToUTF16_2 9 = .ok (.aload_n 1, 1) := dk_43 (dk_at dksJ18_compareToUTF16_2_0 9 rfl rfl)
theorem dJ18_compareToUTF16_2_10 : decode cJ18_compareToUTF16_2 10 = .ok (.invokestatic 58, 3) := dk_184 0 58 (dk_at dksJ18_compareToUTF16_2_0 10 rfl rfl)
theorem dJ18_compareToUTF16_2_13 : decode cJ18_compareToUTF16_2 13 = .ok (.invokestatic 62, 3) := dk_184 0 62 (dk_at dksJ18_compareToUTF16_2_0 13 rfl rfl)
theorem dJ18_compareToUTF16_2_16 : decode cJ18_compareToUTF16_2 16 = .ok (.aload_n 0, 1) := dk_42 (dk_at dksJ18_compareToUTF16_2_0 16 rfl rfl)
theorem dJ18_compareToUTF16_2_17 : decode cJ18_compareToUTF16_2 17 = .ok (.aload_n 1, 1) := dk_43 (dk_at dksJ18_compareToUTF16_2_0 17 rfl rfl)
theorem dJ18_compareToUTF16_2_18 : decode cJ18_compareToUTF16_2 18 = .ok (.iload_n 2, 1) := dk_28 (dk_at dksJ18_compareToUTF16_2_0 18 rfl rfl)
theorem dJ18_compareToUTF16_2_19 : decode cJ18_compareToUTF16_2 19 = .ok (.iload_n 3, 1) := dk_29 (dk_at dksJ18_compareToUTF16_2_0 19 rfl rfl)
theorem dJ18_compareToUTF16_2_20 : decode cJ18_compareToUTF16_2 20 = .ok (.invokestatic 59, 3) := dk_184 0 59 (dk_at dksJ18_compareToUTF16_2_0 20 rfl rfl)
theorem dJ18_compareToUTF16_2_23 : decode cJ18_compareToUTF16_2 23 = .ok (.ireturn, 1) := dk_172 (dk_at dksJ18_compareToUTF16_2_0 23 rfl rfl)
theorem q140 : (Jvm.Cond.initialized "java/lang/StringLatin1") ∈ lw_all := lw_g (lw_at lw_m1 25 rfl) rfl
theorem q568 : (Jvm.Cond.static ({ cls := "java/lang/StringLatin1", name := "canEncode", desc := "(C)Z" } : Jvm.MethodName)) ∈ lw_all := lw_g (lw_at lw_m2 213 rfl) rfl
theorem q569 : (Jvm.Cond.code ({ cls := "java/lang/StringLatin1", name := "canEncode", desc := "(C)Z" } : Jvm.MethodName) prog_37_method_3_code (1 : Nat) (Option.some Jvm.ClassFile.FieldType.boolean)) ∈ lw_all := lw_g (lw_at lw_m2 214 rfl) rfl
theorem q575 : (Jvm.Cond.static ({ cls := "java/lang/StringLatin1", name := "inflate", desc := "([BI[BII)V" } : Jvm.MethodName)) ∈ lw_all := lw_g (lw_at lw_m2 220 rfl) rfl
theorem q576 : (Jvm.Cond.code ({ cls := "java/lang/StringLatin1", name := "inflate", desc := "([BI[BII)V" } : Jvm.MethodName) prog_37_method_50_code (5 : Nat) (Option.none : Option Jvm.ClassFile.FieldType)) ∈ lw_all := lw_g (lw_at lw_m2 221 rfl) rfl
theorem q577 : (Jvm.Cond.methodLink "java/lang/StringLatin1" (240 : Nat) ({ cls := "java/lang/StringUTF16", name := "inflate", desc := "([BI[BII)V" } : Jvm.MethodName)) ∈ lw_all := lw_g (lw_at lw_m2 222 rfl) rfl
theorem q775 : (Jvm.Cond.static ({ cls := "java/lang/StringLatin1", name := "charAt", desc := "([BI)C" } : Jvm.MethodName)) ∈ lw_all := lw_g (lw_at lw_m3 180 rfl) rfl
theorem q776 : (Jvm.Cond.code ({ cls := "java/lang/StringLatin1", name := "charAt", desc := "([BI)C" } : Jvm.MethodName) prog_37_method_2_code (2 : Nat) (Option.some Jvm.ClassFile.FieldType.char)) ∈ lw_all := lw_g (lw_at lw_m3 181 rfl) rfl
theorem q777 : (Jvm.Cond.methodLink "java/lang/StringLatin1" (9 : Nat) ({ cls := "java/lang/String", name := "checkIndex", desc := "(II)V" } : Jvm.MethodName)) ∈ lw_all := lw_g (lw_at lw_m3 182 rfl) rfl
theorem q793 : (Jvm.Cond.static ({ cls := "java/lang/StringLatin1", name := "newString", desc := "([BII)Ljava/lang/String;" } : Jvm.MethodName)) ∈ lw_all := lw_g (lw_at lw_m3 198 rfl) rfl
theorem q794 : (Jvm.Cond.code ({ cls := "java/lang/StringLatin1", name := "newString", desc := "([BII)Ljava/lang/String;" } : Jvm.MethodName) prog_37_method_47_code (3 : Nat) (Option.some (Jvm.ClassFile.FieldType.object "java/lang/String"))) ∈ lw_all := lw_g (lw_at lw_m3 199 rfl) rfl
theorem q795 : (Jvm.Cond.stringRef "java/lang/StringLatin1" (151 : Nat) "") ∈ lw_tbl := lw_at lw_m3 200 rfl
theorem q796 : (Jvm.Cond.classLink "java/lang/StringLatin1" (1 : Nat) "java/lang/String") ∈ lw_all := lw_g (lw_at lw_m3 201 rfl) rfl
theorem q797 : (Jvm.Cond.methodLink "java/lang/StringLatin1" (232 : Nat) ({ cls := "java/util/Arrays", name := "copyOfRange", desc := "([BII)[B" } : Jvm.MethodName)) ∈ lw_all := lw_g (lw_at lw_m3 202 rfl) rfl
theorem q798 : (Jvm.Cond.methodLink "java/lang/StringLatin1" (112 : Nat) ({ cls := "java/lang/String", name := "<init>", desc := "([BB)V" } : Jvm.MethodName)) ∈ lw_all := lw_g (lw_at lw_m3 203 rfl) rfl
theorem q924 : (Jvm.Cond.static ({ cls := "java/lang/StringLatin1", name := "indexOf", desc := "([BIII)I" } : Jvm.MethodName)) ∈ lw_all := lw_g (lw_at lw_m4 89 rfl) rfl
theorem q925 : (Jvm.Cond.code ({ cls := "java/lang/StringLatin1", name := "indexOf", desc := "([BIII)I" } : Jvm.MethodName) prog_37_method_22_code (4 : Nat) (Option.some Jvm.ClassFile.FieldType.int)) ∈ lw_all := lw_g (lw_at lw_m4 90 rfl) rfl
theorem q926 : (Jvm.Cond.methodLink "java/lang/StringLatin1" (88 : Nat) ({ cls := "java/lang/StringLatin1", name := "canEncode", desc := "(I)Z" } : Jvm.MethodName)) ∈ lw_all := lw_g (lw_at lw_m4 91 rfl) rfl
theorem q927 : (Jvm.Cond.static ({ cls := "java/lang/StringLatin1", name := "canEncode", desc := "(I)Z" } : Jvm.MethodName)) ∈ lw_all := lw_g (lw_at lw_m4 92 rfl) rfl
theorem q928 : (Jvm.Cond.code ({ cls := "java/lang/StringLatin1", name := "canEncode", desc := "(I)Z" } : Jvm.MethodName) prog_37_method_4_code (1 : Nat) (Option.some Jvm.ClassFile.FieldType.boolean)) ∈ lw_all := lw_g (lw_at lw_m4 93 rfl) rfl
theorem q929 : (Jvm.Cond.methodLink "java/lang/StringLatin1" (92 : Nat) ({ cls := "java/lang/Math", name := "max", desc := "(II)I" } : Jvm.MethodName)) ∈ lw_all := lw_g (lw_at lw_m4 94 rfl) rfl
theorem q930 : (Jvm.Cond.methodLink "java/lang/StringLatin1" (38 : Nat) ({ cls := "java/lang/Math", name := "min", desc := "(II)I" } : Jvm.MethodName)) ∈ lw_all := lw_g (lw_at lw_m4 95 rfl) rfl
theorem q931 : (Jvm.Cond.methodLink "java/lang/StringLatin1" (95 : Nat) ({ cls := "java/lang/StringLatin1", name := "indexOfChar", desc := "([BIII)I" } : Jvm.MethodName)) ∈ lw_all := lw_g (lw_at lw_m4 96 rfl) rfl
theorem q932 : (Jvm.Cond.static ({ cls := "java/lang/StringLatin1", name := "indexOfChar", desc := "([BIII)I" } : Jvm.MethodName)) ∈ lw_all := lw_g (lw_at lw_m4 97 rfl) rfl
theorem q933 : (Jvm.Cond.code ({ cls := "java/lang/StringLatin1", name := "indexOfChar", desc := "([BIII)I" } : Jvm.MethodName) prog_37_method_23_code (6 : Nat) (Option.some Jvm.ClassFile.FieldType.int)) ∈ lw_all := lw_g (lw_at lw_m4 98 rfl) rfl
theorem q1161 : (Jvm.Cond.static ({ cls := "java/lang/StringLatin1", name := "hashCode", desc := "([B)I" } : Jvm.MethodName)) ∈ lw_all := lw_g (lw_at lw_m5 86 rfl) rfl
theorem q1162 : (Jvm.Cond.code ({ cls := "java/lang/StringLatin1", name := "hashCode", desc := "([B)I" } : Jvm.MethodName) prog_37_method_21_code (1 : Nat) (Option.some Jvm.ClassFile.FieldType.int)) ∈ lw_all := lw_g (lw_at lw_m5 87 rfl) rfl
theorem q1163 : (Jvm.Cond.methodLink "java/lang/StringLatin1" (84 : Nat) ({ cls := "jdk/internal/util/ArraysSupport", name := "vectorizedHashCode", desc := "(Ljava/lang/Object;IIII)I" } : Jvm.MethodName)) ∈ lw_all := lw_g (lw_at lw_m5 88 rfl) rfl
theorem q1255 : (Jvm.Cond.static ({ cls := "java/lang/StringLatin1", name := "equals", desc := "([B[B)Z" } : Jvm.MethodName)) ∈ lw_all := lw_g (lw_at lw_m5 180 rfl) rfl
theorem q1256 : (Jvm.Cond.code ({ cls := "java/lang/StringLatin1", name := "equals", desc := "([B[B)Z" } : Jvm.MethodName) prog_37_method_13_code (3 : Nat) (Option.some Jvm.ClassFile.FieldType.boolean)) ∈ lw_all := lw_g (lw_at lw_m5 181 rfl) rfl
theorem q1330 : (Jvm.Cond.static ({ cls := "java/lang/StringLatin1", name := "compareTo", desc := "([B[B)I" } : Jvm.MethodName)) ∈ lw_all := lw_g (lw_at lw_m6 15 rfl) rfl
theorem q1331 : (Jvm.Cond.code ({ cls := "java/lang/StringLatin1", name := "compareTo", desc := "([B[B)I" } : Jvm.MethodName) prog_37_method_14_code (4 : Nat) (Option.some Jvm.ClassFile.FieldType.int)) ∈ lw_all := lw_g (lw_at lw_m6 16 rfl) rfl
theorem q1332 : (Jvm.Cond.methodLink "java/lang/StringLatin1" (34 : Nat) ({ cls := "java/lang/StringLatin1", name := "compareTo", desc := "([B[BII)I" } : Jvm.MethodName)) ∈ lw_all := lw_g (lw_at lw_m6 17 rfl) rfl
theorem q1333 : (Jvm.Cond.static ({ cls := "java/lang/StringLatin1", name := "compareTo", desc := "([B[BII)I" } : Jvm.MethodName)) ∈ lw_all := lw_g (lw_at lw_m6 18 rfl) rfl
theorem q1334 : (Jvm.Cond.code ({ cls := "java/lang/StringLatin1", name := "compareTo", desc := "([B[BII)I" } : Jvm.MethodName) prog_37_method_15_code (6 : Nat) (Option.some Jvm.ClassFile.FieldType.int)) ∈ lw_all := lw_g (lw_at lw_m6 19 rfl) rfl
theorem q1335 : (Jvm.Cond.methodLink "java/lang/StringLatin1" (44 : Nat) ({ cls := "jdk/internal/util/ArraysSupport", name := "mismatch", desc := "([B[BI)I" } : Jvm.MethodName)) ∈ lw_all := lw_g (lw_at lw_m6 20 rfl) rfl
theorem q1439 : (Jvm.Cond.methodLink "java/lang/StringLatin1" (50 : Nat) ({ cls := "java/lang/StringLatin1", name := "getChar", desc := "([BI)C" } : Jvm.MethodName)) ∈ lw_all := lw_g (lw_at lw_m6 124 rfl) rfl
theorem q1440 : (Jvm.Cond.static ({ cls := "java/lang/StringLatin1", name := "getChar", desc := "([BI)C" } : Jvm.MethodName)) ∈ lw_all := lw_g (lw_at lw_m6 125 rfl) rfl
theorem q1441 : (Jvm.Cond.code ({ cls := "java/lang/StringLatin1", name := "getChar", desc := "([BI)C" } : Jvm.MethodName) prog_37_method_44_code (2 : Nat) (Option.some Jvm.ClassFile.FieldType.char)) ∈ lw_all := lw_g (lw_at lw_m6 126 rfl) rfl
theorem q1449 : (Jvm.Cond.static ({ cls := "java/lang/StringLatin1", name := "compareToUTF16", desc := "([B[B)I" } : Jvm.MethodName)) ∈ lw_all := lw_g (lw_at lw_m6 134 rfl) rfl
theorem q1450 : (Jvm.Cond.code ({ cls := "java/lang/StringLatin1", name := "compareToUTF16", desc := "([B[B)I" } : Jvm.MethodName) prog_37_method_16_code (4 : Nat) (Option.some Jvm.ClassFile.FieldType.int)) ∈ lw_all := lw_g (lw_at lw_m6 135 rfl) rfl
theorem q1451 : (Jvm.Cond.methodLink "java/lang/StringLatin1" (54 : Nat) ({ cls := "java/lang/StringLatin1", name := "length", desc := "([B)I" } : Jvm.MethodName)) ∈ lw_all := lw_g (lw_at lw_m6 136 rfl) rfl
theorem q1452 : (Jvm.Cond.static ({ cls := "java/lang/StringLatin1", name := "length", desc := "([B)I" } : Jvm.MethodName)) ∈ lw_all := lw_g (lw_at lw_m6 137 rfl) rfl
theorem q1453 : (Jvm.Cond.code ({ cls := "java/lang/StringLatin1", name := "length", desc := "([B)I" } : Jvm.MethodName) prog_37_method_5_code (1 : Nat) (Option.some Jvm.ClassFile.FieldType.int)) ∈ lw_all := lw_g (lw_at lw_m6 138 rfl) rfl
theorem q1454 : (Jvm.Cond.methodLink "java/lang/StringLatin1" (58 : Nat) ({ cls := "java/lang/StringUTF16", name := "length", desc := "([B)I" } : Jvm.MethodName)) ∈ lw_all := lw_g (lw_at lw_m6 139 rfl) rfl
theorem q1455 : (Jvm.Cond.methodLink "java/lang/StringLatin1" (59 : Nat) ({ cls := "java/lang/StringLatin1", name := "compareToUTF16Values", desc := "([B[BII)I" } : Jvm.MethodName)) ∈ lw_all := lw_g (lw_at lw_m6 140 rfl) rfl
theorem q1456 : (Jvm.Cond.static ({ cls := "java/lang/StringLatin1", name := "compareToUTF16Values", desc := "([B[BII)I" } : Jvm.MethodName)) ∈ lw_all := lw_g (lw_at lw_m6 141 rfl) rfl
theorem q1457 : (Jvm.Cond.code ({ cls := "java/lang/StringLatin1", name := "compareToUTF16Values", desc := "([B[BII)I" } : Jvm.MethodName) prog_37_method_18_code (8 : Nat) (Option.some Jvm.ClassFile.FieldType.int)) ∈ lw_all := lw_g (lw_at lw_m6 142 rfl) rfl
theorem q1458 : (Jvm.Cond.methodLink "java/lang/StringLatin1" (65 : Nat) ({ cls := "java/lang/StringUTF16", name := "getChar", desc := "([BI)C" } : Jvm.MethodName)) ∈ lw_all := lw_g (lw_at lw_m6 143 rfl) rfl
theorem q1488 : (Jvm.Cond.static ({ cls := "java/lang/StringLatin1", name := "compareToUTF16", desc := "([B[BII)I" } : Jvm.MethodName)) ∈ lw_all := lw_g (lw_at lw_m6 173 rfl) rfl
theorem q1489 : (Jvm.Cond.code ({ cls := "java/lang/StringLatin1", name := "compareToUTF16", desc := "([B[BII)I" } : Jvm.MethodName) prog_37_method_17_code (4 : Nat) (Option.some Jvm.ClassFile.FieldType.int)) ∈ lw_all := lw_g (lw_at lw_m6 174 rfl) rfl
theorem q1490 : (Jvm.Cond.methodLink "java/lang/StringLatin1" (62 : Nat) ({ cls := "java/lang/String", name := "checkOffset", desc := "(II)V" } : Jvm.MethodName)) ∈ lw_all := lw_g (lw_at lw_m6 175 rfl) rfl
/-! jdk/internal/util/Preconditions -/
set_option maxRecDepth 100000
def RJ19 : String := "jdk/internal/util/Preconditions"
abbrev cJ19_checkFromIndexSize : ByteArray := prog_71_method_13_code
def yJ19_checkFromIndexSize : MethodName := ⟨RJ19, "checkFromIndexSize", "(IIILjava/util/function/BiFunction;)I"⟩
def dkwJ19_checkFromIndexSize_1 : List UInt8 := [172]
abbrev dktJ19_checkFromIndexSize_1 : List UInt8 := dkwJ19_checkFromIndexSize_1 ++ []
def dkwJ19_checkFromIndexSize_0 : List UInt8 := [28, 26, 128, 27, 128, 155, 0, 10, 27, 28, 26, 100, 164, 0, 11, 45, 26, 27, 28, 184, 0, 103, 191, 26]
abbrev dktJ19_checkFromIndexSize_0 : List UInt8 := dkwJ19_checkFromIndexSize_0 ++ dktJ19_checkFromIndexSize_1
theorem dksJ19_checkFromIndexSize_0 : cJ19_checkFromIndexSize.data.toList.drop 0 = dktJ19_checkFromIndexSize_0 := by decide +kernel
theorem dksJ19_checkFromIndexSize_1 : cJ19_checkFromIndexSize.data.toList.drop 24 = dktJ19_checkFromIndexSize_1 := dk_seg dksJ19_checkFromIndexSize_0 24 rfl rfl
theorem dJ19_checkFromIndexSize_0 : decode cJ19_checkFromIndexSize 0 = .ok (.iload_n 2, 1) := dk_28 (dk_at dksJ19_checkFromIndexSize_0 0 rfl rfl)
theorem dJ19_checkFromIndexSize_1 : decode cJ19_checkFromIndexSize 1 = .ok (.iload_n 0, 1) := dk_26 (dk_at dksJ19_checkFromIndexSize_0 1 rfl rfl)
theorem dJ19_checkFromIndexSize_2 : decode cJ19_checkFromIndexSize 2 = .ok (.ior, 1) := dk_128 (dk_at dksJ19_checkFromIndexSize_0 2 rfl rfl)
theorem dJ19_checkFromIndexSize_3 : decode cJ19_checkFromIndexSize 3 = .ok (.iload_n 1, 1) := dk_27 (dk_at dksJ19_checkFromIndexSize_0 3 rfl rfl)
theorem dJ19_checkFromIndexSize_4 : decode cJ19_checkFromIndexSize 4 = .ok (.ior, 1) := dk_128 (dk_at dksJ19_checkFromIndexSize_0 4 rfl rfl)
theorem dJ19_checkFromIndexSize_5 : decode cJ19_checkFromIndexSize 5 = .ok (.ifCond .lt 10, 3) := dk_155 0 10 (dk_at dksJ19_checkFromIndexSize_0 5 rfl rfl)
theorem dJ19_checkFromIndexSize_8 : decode cJ19_checkFromIndexSize 8 = .ok (.iload_n 1, 1) := dk_27 (dk_at dksJ19_checkFromIndexSize_0 8 rfl rfl)
theorem dJ19_checkFromIndexSize_9 : decode cJ19_checkFromIndexSize 9 = .ok (.iload_n 2, 1) := dk_28 (dk_at dksJ19_checkFromIndexSize_0 9 rfl rfl)
theorem dJ19_checkFromIndexSize_10 : decode cJ19_checkFromIndexSize 10 = .ok (.iload_n 0, 1) := dk_26 (dk_at dksJ19_checkFromIndexSize_0 10 rfl rfl)
theorem dJ19_checkFromIndexSize_11 : decode cJ19_checkFromIndexSize 11 = .ok (.isub, 1) := dk_100 (dk_at dksJ19_checkFromIndexSize_0 11 rfl rfl)
theorem dJ19_checkFromIndexSize_12 : decode cJ19_checkFromIndexSize 12 = .ok (.if_icmp .le 11, 3) := dk_164 0 11 (dk_at dksJ19_checkFromIndexSize_0 12 rfl rfl)
theorem dJ19_checkFromIndexSize_15 : decode cJ19_checkFromIndexSize 15 = .ok (.aload_n 3, 1) := dk_45 (dk_at dksJ19_checkFromIndexSize_0 15 rfl rfl)
theorem dJ19_checkFromIndexSize_16 : decode cJ19_checkFromIndexSize 16 = .ok (.iload_n 0, 1) := dk_26 (dk_at dksJ19_checkFromIndexSize_0 16 rfl rfl)
theorem dJ19_checkFromIndexSize_17 : decode cJ19_checkFromIndexSize 17 = .ok (.iload_n 1, 1) := dk_27 (dk_at dksJ19_checkFromIndexSize_0 17 rfl rfl)
theorem dJ19_checkFromIndexSize_18 : decode cJ19_checkFromIndexSize 18 = .ok (.iload_n 2, 1) := dk_28 (dk_at dksJ19_checkFromIndexSize_0 18 rfl rfl)
theorem dJ19_checkFromIndexSize_19 : decode cJ19_checkFromIndexSize 19 = .ok (.invokestatic 103, 3) := dk_184 0 103 (dk_at dksJ19_checkFromIndexSize_0 19 rfl rfl)
theorem dJ19_checkFromIndexSize_22 : decode cJ19_checkFromIndexSize 22 = .ok (.athrow, 1) := dk_191 (dk_at dksJ19_checkFromIndexSize_0 22 rfl rfl)
theorem dJ19_checkFromIndexSize_23 : decode cJ19_checkFromIndexSize 23 = .ok (.iload_n 0, 1) := dk_26 (dk_at dksJ19_checkFromIndexSize_0 23 rfl rfl)
theorem dJ19_checkFromIndexSize_24 : decode cJ19_checkFromIndexSize 24 = .ok (.ireturn, 1) := dk_172 (dk_at dksJ19_checkFromIndexSize_1 0 rfl rfl)
abbrev cJ19_checkIndex : ByteArray := prog_71_method_11_code
def yJ19_checkIndex : MethodName := ⟨RJ19, "checkIndex", "(IILjava/util/function/BiFunction;)I"⟩
def dkwJ19_checkIndex_0 : List UInt8 := [26, 155, 0, 8, 26, 27, 161, 0, 10, 44, 26, 27, 184, 0, 95, 191, 26, 172]
abbrev dktJ19_checkIndex_0 : List UInt8 := dkwJ19_checkIndex_0 ++ []
theorem dksJ19_checkIndex_0 : cJ19_checkIndex.data.toList.drop 0 = dktJ19_checkIndex_0 := by decide +kernel
theorem dJ19_checkIndex_0 : decode cJ19_checkIndex 0 = .ok (.iload_n 0, 1) := dk_26 (dk_at dksJ19_checkIndex_0 0 rfl rfl)
theorem dJ19_checkIndex_1 : decode cJ19_checkIndex 1 = .ok (.ifCond .lt 8, 3) := dk_155 0 8 (dk_at dksJ19_checkIndex_0 1 rfl rfl)
theorem dJ19_checkIndex_4 : decode cJ19_checkIndex 4 = .ok (.iload_n 0, 1) := dk_26 (dk_at dksJ19_checkIndex_0 4 rfl rfl)
theorem dJ19_checkIndex_5 : decode cJ19_checkIndex 5 = .ok (.iload_n 1, 1) := dk_27 (dk_at dksJ19_checkIndex_0 5 rfl rfl)
theorem dJ19_checkIndex_6 : decode cJ19_checkIndex 6 = .ok (.if_icmp .lt 10, 3) := dk_161 0 10 (dk_at dksJ19_checkIndex_0 6 rfl rfl)
theorem dJ19_checkIndex_9 : decode cJ19_checkIndex 9 = .ok (.aload_n 2, 1) := dk_44 (dk_at dksJ19_checkIndex_0 9 rfl rfl)
theorem dJ19_checkIndex_10 : decode cJ19_checkIndex 10 = .ok (.iload_n 0, 1) := dk_26 (dk_at dksJ19_checkIndex_0 10 rfl rfl)
theorem dJ19_checkIndex_11 : decode cJ19_checkIndex 11 = .ok (.iload_n 1, 1) := dk_27 (dk_at dksJ19_checkIndex_0 11 rfl rfl)
theorem dJ19_checkIndex_12 : decode cJ19_checkIndex 12 = .ok (.invokestatic 95, 3) := dk_184 0 95 (dk_at dksJ19_checkIndex_0 12 rfl rfl)
theorem dJ19_checkIndex_15 : decode cJ19_checkIndex 15 = .ok (.athrow, 1) := dk_191 (dk_at dksJ19_checkIndex_0 15 rfl rfl)
theorem dJ19_checkIndex_16 : decode cJ19_checkIndex 16 = .ok (.iload_n 0, 1) := dk_26 (dk_at dksJ19_checkIndex_0 16 rfl rfl)
theorem dJ19_checkIndex_17 : decode cJ19_checkIndex 17 = .ok (.ireturn, 1) := dk_172 (dk_at dksJ19_checkIndex_0 17 rfl rfl)
abbrev cJ19_checkFromToIndex : ByteArray := prog_71_method_12_code
def yJ19_checkFromToIndex : MethodName := ⟨RJ19, "checkFromToIndex", "(IIILjava/util/function/BiFunction;)I"⟩
def dkwJ19_checkFromToIndex_0 : List UInt8 := [26, 155, 0, 13, 26, 27, 163, 0, 8, 27, 28, 164, 0, 11, 45, 26, 27, 28, 184, 0, 99, 191, 26, 172]
abbrev dktJ19_checkFromToIndex_0 : List UInt8 := dkwJ19_checkFromToIndex_0 ++ []
theorem dksJ19_checkFromToIndex_0 : cJ19_checkFromToIndex.data.toList.drop 0 = dktJ19_checkFromToIndex_0 := by decide +kernel
theorem dJ19_checkFromToIndex_0 : decode cJ19_checkFromToIndex 0 = .ok (.iload_n 0, 1) := dk_26 (dk_at dksJ19_checkFromToIndex_0 0 rfl rfl)
theorem dJ19_checkFromToIndex_1 : decode cJ19_checkFromToIndex 1 = .ok (.ifCond .lt 13, 3) := dk_155 0 13 (dk_at dksJ19_checkFromToIndex_0 1 rfl rfl)
theorem dJ19_checkFromToIndex_4 : decode cJ19_checkFromToIndex 4 = .ok (.iload_n 0, 1) := dk_26 (dk_at dksJ19_checkFromToIndex_0 4 rfl rfl)
theorem dJ19_checkFromToIndex_5 : decode cJ19_checkFromToIndex 5 = .ok (.iload_n 1, 1) := dk_27 (dk_at dksJ19_checkFromToIndex_0 5 rfl rfl)
theorem dJ19_checkFromToIndex_6 : decode cJ19_checkFromToIndex 6 = .ok (.if_icmp .gt 8, 3) := dk_163 0 8 (dk_at dksJ19_checkFromToIndex_0 6 rfl rfl)
theorem dJ19_checkFromToIndex_9 : decode cJ19_checkFromToIndex 9 = .ok (.iload_n 1, 1) := dk_27 (dk_at dksJ19_checkFromToIndex_0 9 rfl rfl)
theorem dJ19_checkFromToIndex_10 : decode cJ19_checkFromToIndex 10 = .ok (.iload_n 2, 1) := dk_28 (dk_at dksJ19_checkFromToIndex_0 10 rfl rfl)
theorem dJ19_checkFromToIndex_11 : decode cJ19_checkFromToIndex 11 = .ok (.if_icmp .le 11, 3) := dk_164 0 11 (dk_at dksJ19_checkFromToIndex_0 11 rfl rfl)
theorem dJ19_checkFromToIndex_14 : decode cJ19_checkFromToIndex 14 = .ok (.aload_n 3, 1) := dk_45 (dk_at dksJ19_checkFromToIndex_0 14 rfl rfl)
theorem dJ19_checkFromToIndex_15 : decode cJ19_checkFromToIndex 15 = .ok (.iload_n 0, 1) := dk_26 (dk_at dksJ19_checkFromToIndex_0 15 rfl rfl)
theorem dJ19_checkFromToIndex_16 : decode cJ19_checkFromToIndex 16 = .ok (.iload_n 1, 1) := dk_27 (dk_at dksJ19_checkFromToIndex_0 16 rfl rfl)
theorem dJ19_checkFromToIndex_17 : decode cJ19_checkFromToIndex 17 = .ok (.iload_n 2, 1) := dk_28 (dk_at dksJ19_checkFromToIndex_0 17 rfl rfl)
theorem dJ19_checkFromToIndex_18 : decode cJ19_checkFromToIndex 18 = .ok (.invokestatic 99, 3) := dk_184 0 99 (dk_at dksJ19_checkFromToIndex_0 18 rfl rfl)
theorem dJ19_checkFromToIndex_21 : decode cJ19_checkFromToIndex 21 = .ok (.athrow, 1) := dk_191 (dk_at dksJ19_checkFromToIndex_0 21 rfl rfl)
theorem dJ19_checkFromToIndex_22 : decode cJ19_checkFromToIndex 22 = .ok (.iload_n 0, 1) := dk_26 (dk_at dksJ19_checkFromToIndex_0 22 rfl rfl)
theorem dJ19_checkFromToIndex_23 : decode cJ19_checkFromToIndex 23 = .ok (.ireturn, 1) := dk_172 (dk_at dksJ19_checkFromToIndex_0 23 rfl rfl)
theorem q141 : (Jvm.Cond.initialized "jdk/internal/util/Preconditions") ∈ lw_all := lw_g (lw_at lw_m1 26 rfl) rfl
theorem q590 : (Jvm.Cond.laysStatic "jdk/internal/util/Preconditions" "SIOOBE_FORMATTER" "Ljava/util/function/BiFunction;") ∈ lw_tbl := lw_at lw_m2 235 rfl
theorem q592 : (Jvm.Cond.static ({ cls := "jdk/internal/util/Preconditions", name := "checkFromIndexSize", desc := "(IIILjava/util/function/BiFunction;)I" } : Jvm.MethodName)) ∈ lw_all := lw_g (lw_at lw_m2 237 rfl) rfl
theorem q593 : (Jvm.Cond.code ({ cls := "jdk/internal/util/Preconditions", name := "checkFromIndexSize", desc := "(IIILjava/util/function/BiFunction;)I" } : Jvm.MethodName) prog_71_method_13_code (4 : Nat) (Option.some Jvm.ClassFile.FieldType.int)) ∈ lw_all := lw_g (lw_at lw_m2 238 rfl) rfl
theorem q613 : (Jvm.Cond.static ({ cls := "jdk/internal/util/Preconditions", name := "checkIndex", desc := "(IILjava/util/function/BiFunction;)I" } : Jvm.MethodName)) ∈ lw_all := lw_g (lw_at lw_m3 18 rfl) rfl
theorem q614 : (Jvm.Cond.code ({ cls := "jdk/internal/util/Preconditions", name := "checkIndex", desc := "(IILjava/util/function/BiFunction;)I" } : Jvm.MethodName) prog_71_method_11_code (3 : Nat) (Option.some Jvm.ClassFile.FieldType.int)) ∈ lw_all := lw_g (lw_at lw_m3 19 rfl) rfl
theorem q682 : (Jvm.Cond.static ({ cls := "jdk/internal/util/Preconditions", name := "checkFromToIndex", desc := "(IIILjava/util/function/BiFunction;)I" } : Jvm.MethodName)) ∈ lw_all := lw_g (lw_at lw_m3 87 rfl) rfl
theorem q683 : (Jvm.Cond.code ({ cls := "jdk/internal/util/Preconditions", name := "checkFromToIndex", desc := "(IIILjava/util/function/BiFunction;)I" } : Jvm.MethodName) prog_71_method_12_code (4 : Nat) (Option.some Jvm.ClassFile.FieldType.int)) ∈ lw_all := lw_g (lw_at lw_m3 88 rfl) rfl
/-! java/lang/Number -/
set_option maxRecDepth 100000
def RJ20 : String := "java/lang/Number"
abbrev cJ20_init : ByteArray := prog_32_method_1_code
def yJ20_init : MethodName := ⟨RJ20, "<init>", "()V"⟩
theorem dJ20_init_0 : decode cJ20_init 0 = .ok (.aload_n 0, 1) := by decide +kernel
theorem dJ20_init_1 : decode cJ20_init 1 = .ok (.invokespecial 1, 3) := by decide +kernel
theorem dJ20_init_4 : decode cJ20_init 4 = .ok (.return_, 1) := by decide +kernel
theorem q142 : (Jvm.Cond.initialized "java/lang/Number") ∈ lw_all := lw_g (lw_at lw_m1 27 rfl) rfl
theorem q1801 : (Jvm.Cond.instanceMethod ({ cls := "java/lang/Number", name := "<init>", desc := "()V" } : Jvm.MethodName)) ∈ lw_all := lw_g (lw_at lw_m8 6 rfl) rfl
theorem q1802 : (Jvm.Cond.code ({ cls := "java/lang/Number", name := "<init>", desc := "()V" } : Jvm.MethodName) prog_32_method_1_code (1 : Nat) (Option.none : Option Jvm.ClassFile.FieldType)) ∈ lw_all := lw_g (lw_at lw_m8 7 rfl) rfl
theorem q1803 : (Jvm.Cond.methodLink "java/lang/Number" (1 : Nat) ({ cls := "java/lang/Object", name := "<init>", desc := "()V" } : Jvm.MethodName)) ∈ lw_all := lw_g (lw_at lw_m8 8 rfl) rfl
/-! java/lang/Integer -/
set_option maxRecDepth 100000
def RJ21 : String := "java/lang/Integer"
def TJ21 : u_T := fun k => match k with
  | _ => ("java/lang/Integer", "value", "I", true)
def tyJ21 : Nat → FieldType := fun k => match k with
  | _ => .int
abbrev wsJ210 : List Cond := u_ws RJ21 TJ21 1
theorem nmJ21 : ∀ a, a < 1 → ∀ b, b < 1 → a ≠ b → (TJ21 a).2.1 ≠ (TJ21 b).2.1 := by decide +kernel
theorem tyJ21_ok : ∀ k, k < 1 → parseFieldDescriptor (TJ21 k).2.2.1 = some (tyJ21 k) := by decide +kernel
abbrev cJ21_stringSize : ByteArray := prog_27_method_13_code
def yJ21_stringSize : MethodName := ⟨RJ21, "stringSize", "(I)I"⟩
def dkwJ21_stringSize_1 : List UInt8 := [164, 0, 7, 29, 27, 96, 172, 16, 10, 28, 104, 61, 132, 3, 1, 167, 255, 233, 16, 10, 27, 96, 172]
abbrev dktJ21_stringSize_1 : List UInt8 := dkwJ21_stringSize_1 ++ []
def dkwJ21_stringSize_0 : List UInt8 := [4, 60, 26, 155, 0, 8, 3, 60, 26, 116, 59, 16, 246, 61, 4, 62, 29, 16, 10, 162, 0, 23, 26, 28]
abbrev dktJ21_stringSize_0 : List UInt8 := dkwJ21_stringSize_0 ++ dktJ21_stringSize_1
theorem dksJ21_stringSize_0 : cJ21_stringSize.data.toList.drop 0 = dktJ21_stringSize_0 := by decide +kernel
theorem dksJ21_stringSize_1 : cJ21_stringSize.data.toList.drop 24 = dktJ21_stringSize_1 := dk_seg dksJ21_stringSize_0 24 rfl rfl
theorem dJ21_stringSize_0 : decode cJ21_stringSize 0 = .ok (.iconst 1, 1) := dk_4 (dk_at dksJ21_stringSize_0 0 rfl rfl)
theorem dJ21_stringSize_1 : decode cJ21_stringSize 1 = .ok (.istore_n 1, 1) := dk_60 (dk_at dksJ21_stringSize_0 1 rfl rfl)
theorem dJ21_stringSize_2 : decode cJ21_stringSize 2 = .ok (.iload_n 0, 1) := dk_26 (dk_at dksJ21_stringSize_0 2 rfl rfl)
theorem dJ21_stringSize_3 : decode cJ21_stringSize 3 = .ok (.ifCond .lt 8, 3) := dk_155 0 8 (dk_at dksJ21_stringSize_0 3 rfl rfl)
theorem dJ21_stringSize_6 : decode cJ21_stringSize 6 = .ok (.iconst 0, 1) := dk_3 (dk_at dksJ21_stringSize_0 6 rfl rfl)
theorem dJ21_stringSize_7 : decode cJ21_stringSize 7 = .ok (.istore_n 1, 1) := dk_60 (dk_at dksJ21_stringSize_0 7 rfl rfl)
theorem dJ21_stringSize_8 : decode cJ21_stringSize 8 = .ok (.iload_n 0, 1) := dk_26 (dk_at dksJ21_stringSize_0 8 rfl rfl)
theorem dJ21_stringSize_9 : decode cJ21_stringSize 9 = .ok (.ineg, 1) := dk_116 (dk_at dksJ21_stringSize_0 9 rfl rfl)
theorem dJ21_stringSize_10 : decode cJ21_stringSize 10 = .ok (.istore_n 0, 1) := dk_59 (dk_at dksJ21_stringSize_0 10 rfl rfl)
theorem dJ21_stringSize_11 : decode cJ21_stringSize 11 = .ok (.bipush (-10), 2) := dk_16 246 (dk_at dksJ21_stringSize_0 11 rfl rfl)
theorem dJ21_stringSize_13 : decode cJ21_stringSize 13 = .ok (.istore_n 2, 1) := dk_61 (dk_at dksJ21_stringSize_0 13 rfl rfl)
theorem dJ21_stringSize_14 : decode cJ21_stringSize 14 = .ok (.iconst 1, 1) := dk_4 (dk_at dksJ21_stringSize_0 14 rfl rfl)
theorem dJ21_stringSize_15 : decode cJ21_stringSize 15 = .ok (.istore_n 3, 1) := dk_62 (dk_at dksJ21_stringSize_0 15 rfl rfl)
theorem dJ21_stringSize_16 : decode cJ21_stringSize 16 = .ok (.iload_n 3, 1) := dk_29 (dk_at dksJ21_stringSize_0 16 rfl rfl)
theorem dJ21_stringSize_17 : decode cJ21_stringSize 17 = .ok (.bipush 10, 2) := dk_16 10 (dk_at dksJ21_stringSize_0 17 rfl rfl)
theorem dJ21_stringSize_19 : decode cJ21_stringSize 19 = .ok (.if_icmp .ge 23, 3) := dk_162 0 23 (dk_at dksJ21_stringSize_0 19 rfl rfl)
theorem dJ21_stringSize_22 : decode cJ21_stringSize 22 = .ok (.iload_n 0, 1) := dk_26 (dk_at dksJ21_stringSize_0 22 rfl rfl)
theorem dJ21_stringSize_23 : decode cJ21_stringSize 23 = .ok (.iload_n 2, 1) := dk_28 (dk_at dksJ21_stringSize_0 23 rfl rfl)
theorem dJ21_stringSize_24 : decode cJ21_stringSize 24 = .ok (.if_icmp .le 7, 3) := dk_164 0 7 (dk_at dksJ21_stringSize_1 0 rfl rfl)
theorem dJ21_stringSize_27 : decode cJ21_stringSize 27 = .ok (.iload_n 3, 1) := dk_29 (dk_at dksJ21_stringSize_1 3 rfl rfl)
theorem dJ21_stringSize_28 : decode cJ21_stringSize 28 = .ok (.iload_n 1, 1) := dk_27 (dk_at dksJ21_stringSize_1 4 rfl rfl)
theorem dJ21_stringSize_29 : decode cJ21_stringSize 29 = .ok (.iadd, 1) := dk_96 (dk_at dksJ21_stringSize_1 5 rfl rfl)
theorem dJ21_stringSize_30 : decode cJ21_stringSize 30 = .ok (.ireturn, 1) := dk_172 (dk_at dksJ21_stringSize_1 6 rfl rfl)
theorem dJ21_stringSize_31 : decode cJ21_stringSize 31 = .ok (.bipush 10, 2) := dk_16 10 (dk_at dksJ21_stringSize_1 7 rfl rfl)
theorem dJ21_stringSize_33 : decode cJ21_stringSize 33 = .ok (.iload_n 2, 1) := dk_28 (dk_at dksJ21_stringSize_1 9 rfl rfl)
theorem dJ21_stringSize_34 : decode cJ21_stringSize 34 = .ok (.imul, 1) := dk_104 (dk_at dksJ21_stringSize_1 10 rfl rfl)
theorem dJ21_stringSize_35 : decode cJ21_stringSize 35 = .ok (.istore_n 2, 1) := dk_61 (dk_at dksJ21_stringSize_1 11 rfl rfl)
theorem dJ21_stringSize_36 : decode cJ21_stringSize 36 = .ok (.iinc 3 1, 3) := dk_132 3 1 (dk_at dksJ21_stringSize_1 12 rfl rfl)
theorem dJ21_stringSize_39 : decode cJ21_stringSize 39 = .ok (.goto (-23), 3) := dk_167 255 233 (dk_at dksJ21_stringSize_1 15 rfl rfl)
theorem dJ21_stringSize_42 : decode cJ21_stringSize 42 = .ok (.bipush 10, 2) := dk_16 10 (dk_at dksJ21_stringSize_1 18 rfl rfl)
theorem dJ21_stringSize_44 : decode cJ21_stringSize 44 = .ok (.iload_n 1, 1) := dk_27 (dk_at dksJ21_stringSize_1 20 rfl rfl)
theorem dJ21_stringSize_45 : decode cJ21_stringSize 45 = .ok (.iadd, 1) := dk_96 (dk_at dksJ21_stringSize_1 21 rfl rfl)
theorem dJ21_stringSize_46 : decode cJ21_stringSize 46 = .ok (.ireturn, 1) := dk_172 (dk_at dksJ21_stringSize_1 22 rfl rfl)
abbrev cJ21_getChars : ByteArray := prog_27_method_12_code
def yJ21_getChars : MethodName := ⟨RJ21, "getChars", "(II[B)I"⟩
def dkwJ21_getChars_5 : List UInt8 := [16, 45, 84, 21, 5, 172]
abbrev dktJ21_getChars_5 : List UInt8 := dkwJ21_getChars_5 ++ []
def dkwJ21_getChars_4 : List UInt8 := [132, 5, 255, 21, 5, 178, 0, 87, 26, 116, 51, 84, 21, 6, 153, 0, 12, 44, 132, 5, 255, 21, 5]
abbrev dktJ21_getChars_4 : List UInt8 := dkwJ21_getChars_4 ++ dktJ21_getChars_5
def dkwJ21_getChars_3 : List UInt8 := [167, 255, 209, 44, 132, 5, 255, 21, 5, 178, 0, 83, 26, 116, 51, 84, 26, 16, 247, 162, 0, 16, 44]
abbrev dktJ21_getChars_3 : List UInt8 := dkwJ21_getChars_3 ++ dktJ21_getChars_4
def dkwJ21_getChars_2 : List UInt8 := [21, 5, 178, 0, 83, 21, 4, 51, 84, 44, 132, 5, 255, 21, 5, 178, 0, 87, 21, 4, 51, 84]
abbrev dktJ21_getChars_2 : List UInt8 := dkwJ21_getChars_2 ++ dktJ21_getChars_3
def dkwJ21_getChars_1 : List UInt8 := [16, 156, 163, 0, 47, 26, 16, 100, 108, 62, 29, 16, 100, 104, 26, 100, 54, 4, 29, 59, 44, 132, 5, 255]
abbrev dktJ21_getChars_1 : List UInt8 := dkwJ21_getChars_1 ++ dktJ21_getChars_2
def dkwJ21_getChars_0 : List UInt8 := [27, 54, 5, 26, 156, 0, 7, 4, 167, 0, 4, 3, 54, 6, 21, 6, 154, 0, 6, 26, 116, 59, 26]
abbrev dktJ21_getChars_0 : List UInt8 := dkwJ21_getChars_0 ++ dktJ21_getChars_1
theorem dksJ21_getChars_0 : cJ21_getChars.data.toList.drop 0 = dktJ21_getChars_0 := by decide +kernel
theorem dksJ21_getChars_1 : cJ21_getChars.data.toList.drop 23 = dktJ21_getChars_1 := dk_seg dksJ21_getChars_0 23 rfl rfl
theorem dksJ21_getChars_2 : cJ21_getChars.data.toList.drop 47 = dktJ21_getChars_2 := dk_seg dksJ21_getChars_1 24 rfl rfl
theorem dksJ21_getChars_3 : cJ21_getChars.data.toList.drop 69 = dktJ21_getChars_3 := dk_seg dksJ21_getChars_2 22 rfl rfl
theorem dksJ21_getChars_4 : cJ21_getChars.data.toList.drop 92 = dktJ21_getChars_4 := dk_seg dksJ21_getChars_3 23 rfl rfl
theorem dksJ21_getChars_5 : cJ21_getChars.data.toList.drop 115 = dktJ21_getChars_5 := dk_seg dksJ21_getChars_4 23 rfl rfl
theorem dJ21_getChars_0 : decode cJ21_getChars 0 = .ok (.iload_n 1, 1) := dk_27 (dk_at dksJ21_getChars_0 0 rfl rfl)
theorem dJ21_getChars_1 : decode cJ21_getChars 1 = .ok (.istore 5, 2) := dk_54 5 (dk_at dksJ21_getChars_0 1 rfl rfl)
theorem dJ21_getChars_3 : decode cJ21_getChars 3 = .ok (.iload_n 0, 1) := dk_26 (dk_at dksJ21_getChars_0 3 rfl rfl)
theorem dJ21_getChars_4 : decode cJ21_getChars 4 = .ok (.ifCond .ge 7, 3) := dk_156 0 7 (dk_at dksJ21_getChars_0 4 rfl rfl)
theorem dJ21_getChars_7 : decode cJ21_getChars 7 = .ok (.iconst 1, 1) := dk_4 (dk_at dksJ21_getChars_0 7 rfl rfl)
theorem dJ21_getChars_8 : decode cJ21_getChars 8 = .ok (.goto 4, 3) := dk_167 0 4 (dk_at dksJ21_getChars_0 8 rfl rfl)
theorem dJ21_getChars_11 : decode cJ21_getChars 11 = .ok (.iconst 0, 1) := dk_3 (dk_at dksJ21_getChars_0 11 rfl rfl)
theorem dJ21_getChars_12 : decode cJ21_getChars 12 = .ok (.istore 6, 2) := dk_54 6 (dk_at dksJ21_getChars_0 12 rfl rfl)
theorem dJ21_getChars_14 : decode cJ21_getChars 14 = .ok (.iload 6, 2) := dk_21 6 (dk_at dksJ21_getChars_0 14 rfl rfl)
theorem dJ21_getChars_16 : decode cJ21_getChars 16 = .ok (.ifCond .ne 6, 3) := dk_154 0 6 (dk_at dksJ21_getChars_0 16 rfl rfl)
theorem dJ21_getChars_19 : decode cJ21_getChars 19 = .ok (.iload_n 0, 1) := dk_26 (dk_at dksJ21_getChars_0 19 rfl rfl)
theorem dJ21_getChars_20 : decode cJ21_getChars 20 = .ok (.ineg, 1) := dk_116 (dk_at dksJ21_getChars_0 20 rfl rfl)
theorem dJ21_getChars_21 : decode cJ21_getChars 21 = .ok (.istore_n 0, 1) := dk_59 (dk_at dksJ21_getChars_0 21 rfl rfl)
theorem dJ21_getChars_22 : decode cJ21_getChars 22 = .ok (.iload_n 0, 1) := dk_26 (dk_at dksJ21_getChars_0 22 rfl rfl)
theorem dJ21_getChars_23 : decode cJ21_getChars 23 = .ok (.bipush (-100), 2) := dk_16 156 (dk_at dksJ21_getChars_1 0 rfl rfl)
theorem dJ21_getChars_25 : decode cJ21_getChars 25 = .ok (.if_icmp .gt 47, 3) := dk_163 0 47 (dk_at dksJ21_getChars_1 2 rfl rfl)
theorem dJ21_getChars_28 : decode cJ21_getChars 28 = .ok (.iload_n 0, 1) := dk_26 (dk_at dksJ21_getChars_1 5 rfl rfl)
theorem dJ21_getChars_29 : decode cJ21_getChars 29 = .ok (.bipush 100, 2) := dk_16 100 (dk_at dksJ21_getChars_1 6 rfl rfl)
theorem dJ21_getChars_31 : decode cJ21_getChars 31 = .ok (.idiv, 1) := dk_108 (dk_at dksJ21_getChars_1 8 rfl rfl)
theorem dJ21_getChars_32 : decode cJ21_getChars 32 = .ok (.istore_n 3, 1) := dk_62 (dk_at dksJ21_getChars_1 9 rfl rfl)
theorem dJ21_getChars_33 : decode cJ21_getChars 33 = .ok (.iload_n 3, 1) := dk_29 (dk_at dksJ21_getChars_1 10 rfl rfl)
theorem dJ21_getChars_34 : decode cJ21_getChars 34 = .ok (.bipush 100, 2) := dk_16 100 (dk_at dksJ21_getChars_1 11 rfl rfl)
theorem dJ21_getChars_36 : decode cJ21_getChars 36 = .ok (.imul, 1) := dk_104 (dk_at dksJ21_getChars_1 13 rfl rfl)
theorem dJ21_getChars_37 : decode cJ21_getChars 37 = .ok (.iload_n 0, 1) := dk_26 (dk_at dksJ21_getChars_1 14 rfl rfl)
theorem dJ21_getChars_38 : decode cJ21_getChars 38 = .ok (.isub, 1) := dk_100 (dk_at dksJ21_getChars_1 15 rfl rfl)
theorem dJ21_getChars_39 : decode cJ21_getChars 39 = .ok (.istore 4, 2) := dk_54 4 (dk_at dksJ21_getChars_1 16 rfl rfl)
theorem dJ21_getChars_41 : decode cJ21_getChars 41 = .ok (.iload_n 3, 1) := dk_29 (dk_at dksJ21_getChars_1 18 rfl rfl)
theorem dJ21_getChars_42 : decode cJ21_getChars 42 = .ok (.istore_n 0, 1) := dk_59 (dk_at dksJ21_getChars_1 19 rfl rfl)
theorem dJ21_getChars_43 : decode cJ21_getChars 43 = .ok (.aload_n 2, 1) := dk_44 (dk_at dksJ21_getChars_1 20 rfl rfl)
theorem dJ21_getChars_44 : decode cJ21_getChars 44 = .ok (.iinc 5 (-1), 3) := dk_132 5 255 (dk_at dksJ21_getChars_1 21 rfl rfl)
theorem dJ21_getChars_47 : decode cJ21_getChars 47 = .ok (.iload 5, 2) := dk_21 5 (dk_at dksJ21_getChars_2 0 rfl rfl)
theorem dJ21_getChars_49 : decode cJ21_getChars 49 = .ok (.getstatic 83, 3) := dk_178 0 83 (dk_at dksJ21_getChars_2 2 rfl rfl)
theorem dJ21_getChars_52 : decode cJ21_getChars 52 = .ok (.iload 4, 2) := dk_21 4 (dk_at dksJ21_getChars_2 5 rfl rfl)
theorem dJ21_getChars_54 : decode cJ21_getChars 54 = .ok (.baload, 1) := dk_51 (dk_at dksJ21_getChars_2 7 rfl rfl)
theorem dJ21_getChars_55 : decode cJ21_getChars 55 = .ok (.bastore, 1) := dk_84 (dk_at dksJ21_getChars_2 8 rfl rfl)
theorem dJ21_getChars_56 : decode cJ21_getChars 56 = .ok (.aload_n 2, 1) := dk_44 (dk_at dksJ21_getChars_2 9 rfl rfl)
theorem dJ21_getChars_57 : decode cJ21_getChars 57 = .ok (.iinc 5 (-1), 3) := dk_132 5 255 (dk_at dksJ21_getChars_2 10 rfl rfl)
theorem dJ21_getChars_60 : decode cJ21_getChars 60 = .ok (.iload 5, 2) := dk_21 5 (dk_at dksJ21_getChars_2 13 rfl rfl)
theorem dJ21_getChars_62 : decode cJ21_getChars 62 = .ok (.getstatic 87, 3) := dk_178 0 87 (dk_at dksJ21_getChars_2 15 rfl rfl)
theorem dJ21_getChars_65 : decode cJ21_getChars 65 = .ok (.iload 4, 2) := dk_21 4 (dk_at dksJ21_getChars_2 18 rfl rfl)
theorem dJ21_getChars_67 : decode cJ21_getChars 67 = .ok (.baload, 1) := dk_51 (dk_at dksJ21_getChars_2 20 rfl rfl)
theorem dJ21_getChars_68 : decode cJ21_getChars 68 = .ok (.bastore, 1) := dk_84 (dk_at dksJ21_getChars_2 21 rfl rfl)
theorem dJ21_getChars_69 : decode cJ21_getChars 69 = .ok (.goto (-47), 3) := dk_167 255 209 (dk_at dksJ21_getChars_3 0 rfl rfl)
theorem dJ21_getChars_72 : decode cJ21_getChars 72 = .ok (.aload_n 2, 1) := dk_44 (dk_at dksJ21_getChars_3 3 rfl rfl)
theorem dJ21_getChars_73 : decode cJ21_getChars 73 = .ok (.iinc 5 (-1), 3) := dk_132 5 255 (dk_at dksJ21_getChars_3 4 rfl rfl)
theorem dJ21_getChars_76 : decode cJ21_getChars 76 = .ok (.iload 5, 2) := dk_21 5 (dk_at dksJ21_getChars_3 7 rfl rfl)
theorem dJ21_getChars_78 : decode cJ21_getChars 78 = .ok (.getstatic 83, 3) := dk_178 0 83 (dk_at dksJ21_getChars_3 9 rfl rfl)
theorem dJ21_getChars_81 : decode cJ21_getChars 81 = .ok (.iload_n 0, 1) := dk_26 (dk_at dksJ21_getChars_3 12 rfl rfl)
theorem dJ21_getChars_82 : decode cJ21_getChars 82 = .ok (.ineg, 1) := dk_116 (dk_at dksJ21_getChars_3 13 rfl rfl)
theorem dJ21_getChars_83 : decode cJ21_getChars 83 = .ok (.baload, 1) := dk_51 (dk_at dksJ21_getChars_3 14 rfl rfl)
theorem dJ21_getChars_84 : decode cJ21_getChars 84 = .ok (.bastore, 1) := dk_84 (dk_at dksJ21_getChars_3 15 rfl rfl)
theorem dJ21_getChars_85 : decode cJ21_getChars 85 = .ok (.iload_n 0, 1) := dk_26 (dk_at dksJ21_getChars_3 16 rfl rfl)
theorem dJ21_getChars_86 : decode cJ21_getChars 86 = .ok (.bipush (-9), 2) := dk_16 247 (dk_at dksJ21_getChars_3 17 rfl rfl)
theorem dJ21_getChars_88 : decode cJ21_getChars 88 = .ok (.if_icmp .ge 16, 3) := dk_162 0 16 (dk_at dksJ21_getChars_3 19 rfl rfl)
theorem dJ21_getChars_91 : decode cJ21_getChars 91 = .ok (.aload_n 2, 1) := dk_44 (dk_at dksJ21_getChars_3 22 rfl rfl)
theorem dJ21_getChars_92 : decode cJ21_getChars 92 = .ok (.iinc 5 (-1), 3) := dk_132 5 255 (dk_at dksJ21_getChars_4 0 rfl rfl)
theorem dJ21_getChars_95 : decode cJ21_getChars 95 = .ok (.iload 5, 2) := dk_21 5 (dk_at dksJ21_getChars_4 3 rfl rfl)
theorem dJ21_getChars_97 : decode cJ21_getChars 97 = .ok (.getstatic 87, 3) := dk_178 0 87 (dk_at dksJ21_getChars_4 5 rfl rfl)
theorem dJ21_getChars_100 : decode cJ21_getChars 100 = .ok (.iload_n 0, 1) := dk_26 (dk_at dksJ21_getChars_4 8 rfl rfl)
theorem dJ21_getChars_101 : decode cJ21_getChars 101 = .ok (.ineg, 1) := dk_116 (dk_at dksJ21_getChars_4 9 rfl rfl)
theorem dJ21_getChars_102 : decode cJ21_getChars 102 = .ok (.baload, 1) := dk_51 (dk_at dksJ21_getChars_4 10 rfl rfl)
theorem dJ21_getChars_103 : decode cJ21_getChars 103 = .ok (.bastore, 1) := dk_84 (dk_at dksJ21_getChars_4 11 rfl rfl)
theorem dJ21_getChars_104 : decode cJ21_getChars 104 = .ok (.iload 6, 2) := dk_21 6 (dk_at dksJ21_getChars_4 12 rfl rfl)
theorem dJ21_getChars_106 : decode cJ21_getChars 106 = .ok (.ifCond .eq 12, 3) := dk_153 0 12 (dk_at dksJ21_getChars_4 14 rfl rfl)
theorem dJ21_getChars_109 : decode cJ21_getChars 109 = .ok (.aload_n 2, 1) := dk_44 (dk_at dksJ21_getChars_4 17 rfl rfl)
theorem dJ21_getChars_110 : decode cJ21_getChars 110 = .ok (.iinc 5 (-1), 3) := dk_132 5 255 (dk_at dksJ21_getChars_4 18 rfl rfl)
theorem dJ21_getChars_113 : decode cJ21_getChars 113 = .ok (.iload 5, 2) := dk_21 5 (dk_at dksJ21_getChars_4 21 rfl rfl)
theorem dJ21_getChars_115 : decode cJ21_getChars 115 = .ok (.bipush 45, 2) := dk_16 45 (dk_at dksJ21_getChars_5 0 rfl rfl)
theorem dJ21_getChars_117 : decode cJ21_getChars 117 = .ok (.bastore, 1) := dk_84 (dk_at dksJ21_getChars_5 2 rfl rfl)
theorem dJ21_getChars_118 : decode cJ21_getChars 118 = .ok (.iload 5, 2) := dk_21 5 (dk_at dksJ21_getChars_5 3 rfl rfl)
theorem dJ21_getChars_120 : decode cJ21_getChars 120 = .ok (.ireturn, 1) := dk_172 (dk_at dksJ21_getChars_5 5 rfl rfl)
abbrev cJ21_hashCode : ByteArray := prog_27_method_32_code
def yJ21_hashCode : MethodName := ⟨RJ21, "hashCode", "()I"⟩
def dkwJ21_hashCode_0 : List UInt8 := [42, 180, 0, 205, 184, 0, 208, 172]
abbrev dktJ21_hashCode_0 : List UInt8 := dkwJ21_hashCode_0 ++ []
theorem dksJ21_hashCode_0 : cJ21_hashCode.data.toList.drop 0 = dktJ21_hashCode_0 := by decide +kernel
theorem dJ21_hashCode_0 : decode cJ21_hashCode 0 = .ok (.aload_n 0, 1) := dk_42 (dk_at dksJ21_hashCode_0 0 rfl rfl)
theorem dJ21_hashCode_1 : decode cJ21_hashCode 1 = .ok (.getfield 205, 3) := dk_180 0 205 (dk_at dksJ21_hashCode_0 1 rfl rfl)
theorem dJ21_hashCode_4 : decode cJ21_hashCode 4 = .ok (.invokestatic 208, 3) := dk_184 0 208 (dk_at dksJ21_hashCode_0 4 rfl rfl)
theorem dJ21_hashCode_7 : decode cJ21_hashCode 7 = .ok (.ireturn, 1) := dk_172 (dk_at dksJ21_hashCode_0 7 rfl rfl)
abbrev cJ21_hashCode_2 : ByteArray := prog_27_method_33_code
def yJ21_hashCode_2 : MethodName := ⟨RJ21, "hashCode", "(I)I"⟩
theorem dJ21_hashCode_2_0 : decode cJ21_hashCode_2 0 = .ok (.iload_n 0, 1) := by decide +kernel
theorem dJ21_hashCode_2_1 : decode cJ21_hashCode_2 1 = .ok (.ireturn, 1) := by decide +kernel
abbrev cJ21_equals : ByteArray := prog_27_method_34_code
def yJ21_equals : MethodName := ⟨RJ21, "equals", "(Ljava/lang/Object;)Z"⟩
def dkwJ21_equals_1 : List UInt8 := [167, 0, 4, 3, 172, 3, 172]
abbrev dktJ21_equals_1 : List UInt8 := dkwJ21_equals_1 ++ []
def dkwJ21_equals_0 : List UInt8 := [43, 193, 0, 1, 153, 0, 23, 42, 180, 0, 205, 43, 192, 0, 1, 182, 0, 211, 160, 0, 7, 4]
abbrev dktJ21_equals_0 : List UInt8 := dkwJ21_equals_0 ++ dktJ21_equals_1
theorem dksJ21_equals_0 : cJ21_equals.data.toList.drop 0 = dktJ21_equals_0 := by decide +kernel
theorem dksJ21_equals_1 : cJ21_equals.data.toList.drop 22 = dktJ21_equals_1 := dk_seg dksJ21_equals_0 22 rfl rfl
theorem dJ21_equals_0 : decode cJ21_equals 0 = .ok (.aload_n 1, 1) := dk_43 (dk_at dksJ21_equals_0 0 rfl rfl)
theorem dJ21_equals_1 : decode cJ21_equals 1 = .ok (.instanceof 1, 3) := dk_193 0 1 (dk_at dksJ21_equals_0 1 rfl rfl)
theorem dJ21_equals_4 : decode cJ21_equals 4 = .ok (.ifCond .eq 23, 3) := dk_153 0 23 (dk_at dksJ21_equals_0 4 rfl rfl)
theorem dJ21_equals_7 : decode cJ21_equals 7 = .ok (.aload_n 0, 1) := dk_42 (dk_at dksJ21_equals_0 7 rfl rfl)
theorem dJ21_equals_8 : decode cJ21_equals 8 = .ok (.getfield 205, 3) := dk_180 0 205 (dk_at dksJ21_equals_0 8 rfl rfl)
theorem dJ21_equals_11 : decode cJ21_equals 11 = .ok (.aload_n 1, 1) := dk_43 (dk_at dksJ21_equals_0 11 rfl rfl)
theorem dJ21_equals_12 : decode cJ21_equals 12 = .ok (.checkcast 1, 3) := dk_192 0 1 (dk_at dksJ21_equals_0 12 rfl rfl)
theorem dJ21_equals_15 : decode cJ21_equals 15 = .ok (.invokevirtual 211, 3) := dk_182 0 211 (dk_at dksJ21_equals_0 15 rfl rfl)
theorem dJ21_equals_18 : decode cJ21_equals 18 = .ok (.if_icmp .ne 7, 3) := dk_160 0 7 (dk_at dksJ21_equals_0 18 rfl rfl)
theorem dJ21_equals_21 : decode cJ21_equals 21 = .ok (.iconst 1, 1) := dk_4 (dk_at dksJ21_equals_0 21 rfl rfl)
theorem dJ21_equals_22 : decode cJ21_equals 22 = .ok (.goto 4, 3) := dk_167 0 4 (dk_at dksJ21_equals_1 0 rfl rfl)
theorem dJ21_equals_25 : decode cJ21_equals 25 = .ok (.iconst 0, 1) := dk_3 (dk_at dksJ21_equals_1 3 rfl rfl)
theorem dJ21_equals_26 : decode cJ21_equals 26 = .ok (.ireturn, 1) := dk_172 (dk_at dksJ21_equals_1 4 rfl rfl)
theorem dJ21_equals_27 : decode cJ21_equals 27 = .ok (.iconst 0, 1) := dk_3 (dk_at dksJ21_equals_1 5 rfl rfl)
theorem dJ21_equals_28 : decode cJ21_equals 28 = .ok (.ireturn, 1) := dk_172 (dk_at dksJ21_equals_1 6 rfl rfl)
abbrev cJ21_intValue : ByteArray := prog_27_method_27_code
def yJ21_intValue : MethodName := ⟨RJ21, "intValue", "()I"⟩
theorem dJ21_intValue_0 : decode cJ21_intValue 0 = .ok (.aload_n 0, 1) := by decide +kernel
theorem dJ21_intValue_1 : decode cJ21_intValue 1 = .ok (.getfield 205, 3) := by decide +kernel
theorem dJ21_intValue_4 : decode cJ21_intValue 4 = .ok (.ireturn, 1) := by decide +kernel
abbrev cJ21_compareTo : ByteArray := prog_27_method_63_code
def yJ21_compareTo : MethodName := ⟨RJ21, "compareTo", "(Ljava/lang/Object;)I"⟩
def dkwJ21_compareTo_0 : List UInt8 := [42, 43, 192, 0, 1, 182, 1, 28, 172]
abbrev dktJ21_compareTo_0 : List UInt8 := dkwJ21_compareTo_0 ++ []
theorem dksJ21_compareTo_0 : cJ21_compareTo.data.toList.drop 0 = dktJ21_compareTo_0 := by decide +kernel
theorem dJ21_compareTo_0 : decode cJ21_compareTo 0 = .ok (.aload_n 0, 1) := dk_42 (dk_at dksJ21_compareTo_0 0 rfl rfl)
theorem dJ21_compareTo_1 : decode cJ21_compareTo 1 = .ok (.aload_n 1, 1) := dk_43 (dk_at dksJ21_compareTo_0 1 rfl rfl)
theorem dJ21_compareTo_2 : decode cJ21_compareTo 2 = .ok (.checkcast 1, 3) := dk_192 0 1 (dk_at dksJ21_compareTo_0 2 rfl rfl)
theorem dJ21_compareTo_5 : decode cJ21_compareTo 5 = .ok (.invokevirtual 284, 3) := dk_182 1 28 (dk_at dksJ21_compareTo_0 5 rfl rfl)
theorem dJ21_compareTo_8 : decode cJ21_compareTo 8 = .ok (.ireturn, 1) := dk_172 (dk_at dksJ21_compareTo_0 8 rfl rfl)
abbrev cJ21_compareTo_2 : ByteArray := prog_27_method_39_code
def yJ21_compareTo_2 : MethodName := ⟨RJ21, "compareTo", "(Ljava/lang/Integer;)I"⟩
def dkwJ21_compareTo_2_0 : List UInt8 := [42, 180, 0, 205, 43, 180, 0, 205, 184, 1, 3, 172]
abbrev dktJ21_compareTo_2_0 : List UInt8 := dkwJ21_compareTo_2_0 ++ []
theorem dksJ21_compareTo_2_0 : cJ21_compareTo_2.data.toList.drop 0 = dktJ21_compareTo_2_0 := by decide +kernel
theorem dJ21_compareTo_2_0 : decode cJ21_compareTo_2 0 = .ok (.aload_n 0, 1) := dk_42 (dk_at dksJ21_compareTo_2_0 0 rfl rfl)
theorem dJ21_compareTo_2_1 : decode cJ21_compareTo_2 1 = .ok (.getfield 205, 3) := dk_180 0 205 (dk_at dksJ21_compareTo_2_0 1 rfl rfl)
theorem dJ21_compareTo_2_4 : decode cJ21_compareTo_2 4 = .ok (.aload_n 1, 1) := dk_43 (dk_at dksJ21_compareTo_2_0 4 rfl rfl)
theorem dJ21_compareTo_2_5 : decode cJ21_compareTo_2 5 = .ok (.getfield 205, 3) := dk_180 0 205 (dk_at dksJ21_compareTo_2_0 5 rfl rfl)
theorem dJ21_compareTo_2_8 : decode cJ21_compareTo_2 8 = .ok (.invokestatic 259, 3) := dk_184 1 3 (dk_at dksJ21_compareTo_2_0 8 rfl rfl)
theorem dJ21_compareTo_2_11 : decode cJ21_compareTo_2 11 = .ok (.ireturn, 1) := dk_172 (dk_at dksJ21_compareTo_2_0 11 rfl rfl)
abbrev cJ21_compare : ByteArray := prog_27_method_40_code
def yJ21_compare : MethodName := ⟨RJ21, "compare", "(II)I"⟩
def dkwJ21_compare_0 : List UInt8 := [26, 27, 162, 0, 7, 2, 167, 0, 13, 26, 27, 160, 0, 7, 3, 167, 0, 4, 4, 172]
abbrev dktJ21_compare_0 : List UInt8 := dkwJ21_compare_0 ++ []
theorem dksJ21_compare_0 : cJ21_compare.data.toList.drop 0 = dktJ21_compare_0 := by decide +kernel
theorem dJ21_compare_0 : decode cJ21_compare 0 = .ok (.iload_n 0, 1) := dk_26 (dk_at dksJ21_compare_0 0 rfl rfl)
theorem dJ21_compare_1 : decode cJ21_compare 1 = .ok (.iload_n 1, 1) := dk_27 (dk_at dksJ21_compare_0 1 rfl rfl)
theorem dJ21_compare_2 : decode cJ21_compare 2 = .ok (.if_icmp .ge 7, 3) := dk_162 0 7 (dk_at dksJ21_compare_0 2 rfl rfl)
theorem dJ21_compare_5 : decode cJ21_compare 5 = .ok (.iconst (-1), 1) := dk_2 (dk_at dksJ21_compare_0 5 rfl rfl)
theorem dJ21_compare_6 : decode cJ21_compare 6 = .ok (.goto 13, 3) := dk_167 0 13 (dk_at dksJ21_compare_0 6 rfl rfl)
theorem dJ21_compare_9 : decode cJ21_compare 9 = .ok (.iload_n 0, 1) := dk_26 (dk_at dksJ21_compare_0 9 rfl rfl)
theorem dJ21_compare_10 : decode cJ21_compare 10 = .ok (.iload_n 1, 1) := dk_27 (dk_at dksJ21_compare_0 10 rfl rfl)
theorem dJ21_compare_11 : decode cJ21_compare 11 = .ok (.if_icmp .ne 7, 3) := dk_160 0 7 (dk_at dksJ21_compare_0 11 rfl rfl)
theorem dJ21_compare_14 : decode cJ21_compare 14 = .ok (.iconst 0, 1) := dk_3 (dk_at dksJ21_compare_0 14 rfl rfl)
theorem dJ21_compare_15 : decode cJ21_compare 15 = .ok (.goto 4, 3) := dk_167 0 4 (dk_at dksJ21_compare_0 15 rfl rfl)
theorem dJ21_compare_18 : decode cJ21_compare 18 = .ok (.iconst 1, 1) := dk_4 (dk_at dksJ21_compare_0 18 rfl rfl)
theorem dJ21_compare_19 : decode cJ21_compare 19 = .ok (.ireturn, 1) := dk_172 (dk_at dksJ21_compare_0 19 rfl rfl)
abbrev cJ21_numberOfLeadingZeros : ByteArray := prog_27_method_47_code
def yJ21_numberOfLeadingZeros : MethodName := ⟨RJ21, "numberOfLeadingZeros", "(I)I"⟩
def dkwJ21_numberOfLeadingZeros_3 : List UInt8 := [5, 124, 59, 27, 26, 4, 124, 100, 172]
abbrev dktJ21_numberOfLeadingZeros_3 : List UInt8 := dkwJ21_numberOfLeadingZeros_3 ++ []
def dkwJ21_numberOfLeadingZeros_2 : List UInt8 := [124, 59, 26, 16, 16, 161, 0, 10, 132, 1, 252, 26, 7, 124, 59, 26, 7, 161, 0, 10, 132, 1, 254, 26]
abbrev dktJ21_numberOfLeadingZeros_2 : List UInt8 := dkwJ21_numberOfLeadingZeros_2 ++ dktJ21_numberOfLeadingZeros_3
def dkwJ21_numberOfLeadingZeros_1 : List UInt8 := [161, 0, 11, 132, 1, 240, 26, 16, 16, 124, 59, 26, 17, 1, 0, 161, 0, 11, 132, 1, 248, 26, 16, 8]
abbrev dktJ21_numberOfLeadingZeros_1 : List UInt8 := dkwJ21_numberOfLeadingZeros_1 ++ dktJ21_numberOfLeadingZeros_2
def dkwJ21_numberOfLeadingZeros_0 : List UInt8 := [26, 157, 0, 14, 26, 154, 0, 8, 16, 32, 167, 0, 4, 3, 172, 16, 31, 60, 26, 19, 1, 8]
abbrev dktJ21_numberOfLeadingZeros_0 : List UInt8 := dkwJ21_numberOfLeadingZeros_0 ++ dktJ21_numberOfLeadingZeros_1
theorem dksJ21_numberOfLeadingZeros_0 : cJ21_numberOfLeadingZeros.data.toList.drop 0 = dktJ21_numberOfLeadingZeros_0 := by decide +kernel
theorem dksJ21_numberOfLeadingZeros_1 : cJ21_numberOfLeadingZeros.data.toList.drop 22 = dktJ21_numberOfLeadingZeros_1 := dk_seg dksJ21_numberOfLeadingZeros_0 22 rfl rfl
theorem dksJ21_numberOfLeadingZeros_2 : cJ21_numberOfLeadingZeros.data.toList.drop 46 = dktJ21_numberOfLeadingZeros_2 := dk_seg dksJ21_numberOfLeadingZeros_1 24 rfl rfl
theorem dksJ21_numberOfLeadingZeros_3 : cJ21_numberOfLeadingZeros.data.toList.drop 70 = dktJ21_numberOfLeadingZeros_3 := dk_seg dksJ21_numberOfLeadingZeros_2 24 rfl rfl
theorem dJ21_numberOfLeadingZeros_0 : decode cJ21_numberOfLeadingZeros 0 = .ok (.iload_n 0, 1) := dk_26 (dk_at dksJ21_numberOfLeadingZeros_0 0 rfl rfl)
theorem dJ21_numberOfLeadingZeros_1 : decode cJ21_numberOfLeadingZeros 1 = .ok (.ifCond .gt 14, 3) := dk_157 0 14 (dk_at dksJ21_numberOfLeadingZeros_0 1 rfl rfl)
theorem dJ21_numberOfLeadingZeros_4 : decode cJ21_numberOfLeadingZeros 4 = .ok (.iload_n 0, 1) := dk_26 (dk_at dksJ21_numberOfLeadingZeros_0 4 rfl rfl)
theorem dJ21_numberOfLeadingZeros_5 : decode cJ21_numberOfLeadingZeros 5 = .ok (.ifCond .ne 8, 3) := dk_154 0 8 (dk_at dksJ21_numberOfLeadingZeros_0 5 rfl rfl)
theorem dJ21_numberOfLeadingZeros_8 : decode cJ21_numberOfLeadingZeros 8 = .ok (.bipush 32, 2) := dk_16 32 (dk_at dksJ21_numberOfLeadingZeros_0 8 rfl rfl)
theorem dJ21_numberOfLeadingZeros_10 : decode cJ21_numberOfLeadingZeros 10 = .ok (.goto 4, 3) := dk_167 0 4 (dk_at dksJ21_numberOfLeadingZeros_0 10 rfl rfl)
theorem dJ21_numberOfLeadingZeros_13 : decode cJ21_numberOfLeadingZeros 13 = .ok (.iconst 0, 1) := dk_3 (dk_at dksJ21_numberOfLeadingZeros_0 13 rfl rfl)
theorem dJ21_numberOfLeadingZeros_14 : decode cJ21_numberOfLeadingZeros 14 = .ok (.ireturn, 1) := dk_172 (dk_at dksJ21_numberOfLeadingZeros_0 14 rfl rfl)
theorem dJ21_numberOfLeadingZeros_15 : decode cJ21_numberOfLeadingZeros 15 = .ok (.bipush 31, 2) := dk_16 31 (dk_at dksJ21_numberOfLeadingZeros_0 15 rfl rfl)
theorem dJ21_numberOfLeadingZeros_17 : decode cJ21_numberOfLeadingZeros 17 = .ok (.istore_n 1, 1) := dk_60 (dk_at dksJ21_numberOfLeadingZeros_0 17 rfl rfl)
theorem dJ21_numberOfLeadingZeros_18 : decode cJ21_numberOfLeadingZeros 18 = .ok (.iload_n 0, 1) := dk_26 (dk_at dksJ21_numberOfLeadingZeros_0 18 rfl rfl)
theorem dJ21_numberOfLeadingZeros_19 : decode cJ21_numberOfLeadingZeros 19 = .ok (.ldc_w 264, 3) := dk_19 1 8 (dk_at dksJ21_numberOfLeadingZeros_0 19 rfl rfl)
theorem dJ21_numberOfLeadingZeros_22 : decode cJ21_numberOfLeadingZeros 22 = .ok (.if_icmp .lt 11, 3) := dk_161 0 11 (dk_at dksJ21_numberOfLeadingZeros_1 0 rfl rfl)
theorem dJ21_numberOfLeadingZeros_25 : decode cJ21_numberOfLeadingZeros 25 = .ok (.iinc 1 (-16), 3) := dk_132 1 240 (dk_at dksJ21_numberOfLeadingZeros_1 3 rfl rfl)
theorem dJ21_numberOfLeadingZeros_28 : decode cJ21_numberOfLeadingZeros 28 = .ok (.iload_n 0, 1) := dk_26 (dk_at dksJ21_numberOfLeadingZeros_1 6 rfl rfl)
theorem dJ21_numberOfLeadingZeros_29 : decode cJ21_numberOfLeadingZeros 29 = .ok (.bipush 16, 2) := dk_16 16 (dk_at dksJ21_numberOfLeadingZeros_1 7 rfl rfl)
theorem dJ21_numberOfLeadingZeros_31 : decode cJ21_numberOfLeadingZeros 31 = .ok (.iushr, 1) := dk_124 (dk_at dksJ21_numberOfLeadingZeros_1 9 rfl rfl)
theorem dJ21_numberOfLeadingZeros_32 : decode cJ21_numberOfLeadingZeros 32 = .ok (.istore_n 0, 1) := dk_59 (dk_at dksJ21_numberOfLeadingZeros_1 10 rfl rfl)
theorem dJ21_numberOfLeadingZeros_33 : decode cJ21_numberOfLeadingZeros 33 = .ok (.iload_n 0, 1) := dk_26 (dk_at dksJ21_numberOfLeadingZeros_1 11 rfl rfl)
theorem dJ21_numberOfLeadingZeros_34 : decode cJ21_numberOfLeadingZeros 34 = .ok (.sipush 256, 3) := dk_17 1 0 (dk_at dksJ21_numberOfLeadingZeros_1 12 rfl rfl)
theorem dJ21_numberOfLeadingZeros_37 : decode cJ21_numberOfLeadingZeros 37 = .ok (.if_icmp .lt 11, 3) := dk_161 0 11 (dk_at dksJ21_numberOfLeadingZeros_1 15 rfl rfl)
theorem dJ21_numberOfLeadingZeros_40 : decode cJ21_numberOfLeadingZeros 40 = .ok (.iinc 1 (-8), 3) := dk_132 1 248 (dk_at dksJ21_numberOfLeadingZeros_1 18 rfl rfl)
theorem dJ21_numberOfLeadingZeros_43 : decode cJ21_numberOfLeadingZeros 43 = .ok (.iload_n 0, 1) := dk_26 (dk_at dksJ21_numberOfLeadingZeros_1 21 rfl rfl)
theorem dJ21_numberOfLeadingZeros_44 : decode cJ21_numberOfLeadingZeros 44 = .ok (.bipush 8, 2) := dk_16 8 (dk_at dksJ21_numberOfLeadingZeros_1 22 rfl rfl)
theorem dJ21_numberOfLeadingZeros_46 : decode cJ21_numberOfLeadingZeros 46 = .ok (.iushr, 1) := dk_124 (dk_at dksJ21_numberOfLeadingZeros_2 0 rfl rfl)
theorem dJ21_numberOfLeadingZeros_47 : decode cJ21_numberOfLeadingZeros 47 = .ok (.istore_n 0, 1) := dk_59 (dk_at dksJ21_numberOfLeadingZeros_2 1 rfl rfl)
theorem dJ21_numberOfLeadingZeros_48 : decode cJ21_numberOfLeadingZeros 48 = .ok (.iload_n 0, 1) := dk_26 (dk_at dksJ21_numberOfLeadingZeros_2 2 rfl rfl)
theorem dJ21_numberOfLeadingZeros_49 : decode cJ21_numberOfLeadingZeros 49 = .ok (.bipush 16, 2) := dk_16 16 (dk_at dksJ21_numberOfLeadingZeros_2 3 rfl rfl)
theorem dJ21_numberOfLeadingZeros_51 : decode cJ21_numberOfLeadingZeros 51 = .ok (.if_icmp .lt 10, 3) := dk_161 0 10 (dk_at dksJ21_numberOfLeadingZeros_2 5 rfl rfl)
theorem dJ21_numberOfLeadingZeros_54 : decode cJ21_numberOfLeadingZeros 54 = .ok (.iinc 1 (-4), 3) := dk_132 1 252 (dk_at dksJ21_numberOfLeadingZeros_2 8 rfl rfl)
theorem dJ21_numberOfLeadingZeros_57 : decode cJ21_numberOfLeadingZeros 57 = .ok (.iload_n 0, 1) := dk_26 (dk_at dksJ21_numberOfLeadingZeros_2 11 rfl rfl)
theorem dJ21_numberOfLeadingZeros_58 : decode cJ21_numberOfLeadingZeros 58 = .ok (.iconst 4, 1) := dk_7 (dk_at dksJ21_numberOfLeadingZeros_2 12 rfl rfl)
theorem dJ21_numberOfLeadingZeros_59 : decode cJ21_numberOfLeadingZeros 59 = .ok (.iushr, 1) := dk_124 (dk_at dksJ21_numberOfLeadingZeros_2 13 rfl rfl)
theorem dJ21_numberOfLeadingZeros_60 : decode cJ21_numberOfLeadingZeros 60 = .ok (.istore_n 0, 1) := dk_59 (dk_at dksJ21_numberOfLeadingZeros_2 14 rfl rfl)
theorem dJ21_numberOfLeadingZeros_61 : decode cJ21_numberOfLeadingZeros 61 = .ok (.iload_n 0, 1) := dk_26 (dk_at dksJ21_numberOfLeadingZeros_2 15 rfl rfl)
theorem dJ21_numberOfLeadingZeros_62 : decode cJ21_numberOfLeadingZeros 62 = .ok (.iconst 4, 1) := dk_7 (dk_at dksJ21_numberOfLeadingZeros_2 16 rfl rfl)
theorem dJ21_numberOfLeadingZeros_63 : decode cJ21_numberOfLeadingZeros 63 = .ok (.if_icmp .lt 10, 3) := dk_161 0 10 (dk_at dksJ21_numberOfLeadingZeros_2 17 rfl rfl)
theorem dJ21_numberOfLeadingZeros_66 : decode cJ21_numberOfLeadingZeros 66 = .ok (.iinc 1 (-2), 3) := dk_132 1 254 (dk_at dksJ21_numberOfLeadingZeros_2 20 rfl rfl)
theorem dJ21_numberOfLeadingZeros_69 : decode cJ21_numberOfLeadingZeros 69 = .ok (.iload_n 0, 1) := dk_26 (dk_at dksJ21_numberOfLeadingZeros_2 23 rfl rfl)
theorem dJ21_numberOfLeadingZeros_70 : decode cJ21_numberOfLeadingZeros 70 = .ok (.iconst 2, 1) := dk_5 (dk_at dksJ21_numberOfLeadingZeros_3 0 rfl rfl)
theorem dJ21_numberOfLeadingZeros_71 : decode cJ21_numberOfLeadingZeros 71 = .ok (.iushr, 1) := dk_124 (dk_at dksJ21_numberOfLeadingZeros_3 1 rfl rfl)
theorem dJ21_numberOfLeadingZeros_72 : decode cJ21_numberOfLeadingZeros 72 = .ok (.istore_n 0, 1) := dk_59 (dk_at dksJ21_numberOfLeadingZeros_3 2 rfl rfl)
theorem dJ21_numberOfLeadingZeros_73 : decode cJ21_numberOfLeadingZeros 73 = .ok (.iload_n 1, 1) := dk_27 (dk_at dksJ21_numberOfLeadingZeros_3 3 rfl rfl)
theorem dJ21_numberOfLeadingZeros_74 : decode cJ21_numberOfLeadingZeros 74 = .ok (.iload_n 0, 1) := dk_26 (dk_at dksJ21_numberOfLeadingZeros_3 4 rfl rfl)
theorem dJ21_numberOfLeadingZeros_75 : decode cJ21_numberOfLeadingZeros 75 = .ok (.iconst 1, 1) := dk_4 (dk_at dksJ21_numberOfLeadingZeros_3 5 rfl rfl)
theorem dJ21_numberOfLeadingZeros_76 : decode cJ21_numberOfLeadingZeros 76 = .ok (.iushr, 1) := dk_124 (dk_at dksJ21_numberOfLeadingZeros_3 6 rfl rfl)
theorem dJ21_numberOfLeadingZeros_77 : decode cJ21_numberOfLeadingZeros 77 = .ok (.isub, 1) := dk_100 (dk_at dksJ21_numberOfLeadingZeros_3 7 rfl rfl)
theorem dJ21_numberOfLeadingZeros_78 : decode cJ21_numberOfLeadingZeros 78 = .ok (.ireturn, 1) := dk_172 (dk_at dksJ21_numberOfLeadingZeros_3 8 rfl rfl)
abbrev cJ21_numberOfTrailingZeros : ByteArray := prog_27_method_48_code
def yJ21_numberOfTrailingZeros : MethodName := ⟨RJ21, "numberOfTrailingZeros", "(I)I"⟩
def dkwJ21_numberOfTrailingZeros_3 : List UInt8 := [5, 124, 59, 27, 26, 4, 124, 96, 172]
abbrev dktJ21_numberOfTrailingZeros_3 : List UInt8 := dkwJ21_numberOfTrailingZeros_3 ++ []
def dkwJ21_numberOfTrailingZeros_2 : List UInt8 := [124, 59, 26, 16, 16, 164, 0, 10, 132, 1, 4, 26, 7, 124, 59, 26, 7, 164, 0, 10, 132, 1, 2, 26]
abbrev dktJ21_numberOfTrailingZeros_2 : List UInt8 := dkwJ21_numberOfTrailingZeros_2 ++ dktJ21_numberOfTrailingZeros_3
def dkwJ21_numberOfTrailingZeros_1 : List UInt8 := [164, 0, 11, 132, 1, 16, 26, 16, 16, 124, 59, 26, 17, 1, 0, 164, 0, 11, 132, 1, 8, 26, 16, 8]
abbrev dktJ21_numberOfTrailingZeros_1 : List UInt8 := dkwJ21_numberOfTrailingZeros_1 ++ dktJ21_numberOfTrailingZeros_2
def dkwJ21_numberOfTrailingZeros_0 : List UInt8 := [26, 2, 130, 26, 4, 100, 126, 59, 26, 157, 0, 8, 26, 16, 32, 126, 172, 4, 60, 26, 19, 1, 8]
abbrev dktJ21_numberOfTrailingZeros_0 : List UInt8 := dkwJ21_numberOfTrailingZeros_0 ++ dktJ21_numberOfTrailingZeros_1
theorem dksJ21_numberOfTrailingZeros_0 : cJ21_numberOfTrailingZeros.data.toList.drop 0 = dktJ21_numberOfTrailingZeros_0 := by decide +kernel
theorem dksJ21_numberOfTrailingZeros_1 : cJ21_numberOfTrailingZeros.data.toList.drop 23 = dktJ21_numberOfTrailingZeros_1 := dk_seg dksJ21_numberOfTrailingZeros_0 23 rfl rfl
theorem dksJ21_numberOfTrailingZeros_2 : cJ21_numberOfTrailingZeros.data.toList.drop 47 = dktJ21_numberOfTrailingZeros_2 := dk_seg dksJ21_numberOfTrailingZeros_1 24 rfl rfl
theorem dksJ21_numberOfTrailingZeros_3 : cJ21_numberOfTrailingZeros.data.toList.drop 71 = dktJ21_numberOfTrailingZeros_3 := dk_seg dksJ21_numberOfTrailingZeros_2 24 rfl rfl
theorem dJ21_numberOfTrailingZeros_0 : decode cJ21_numberOfTrailingZeros 0 = .ok (.iload_n 0, 1) := dk_26 (dk_at dksJ21_numberOfTrailingZeros_0 0 rfl rfl)
theorem dJ21_numberOfTrailingZeros_1 : decode cJ21_numberOfTrailingZeros 1 = .ok (.iconst (-1), 1) := dk_2 (dk_at dksJ21_numberOfTrailingZeros_0 1 rfl rfl)
theorem dJ21_numberOfTrailingZeros_2 : decode cJ21_numberOfTrailingZeros 2 = .ok (.ixor, 1) := dk_130 (dk_at dksJ21_numberOfTrailingZeros_0 2 rfl rfl)
theorem dJ21_numberOfTrailingZeros_3 : decode cJ21_numberOfTrailingZeros 3 = .ok (.iload_n 0, 1) := dk_26 (dk_at dksJ21_numberOfTrailingZeros_0 3 rfl rfl)
theorem dJ21_numberOfTrailingZeros_4 : decode cJ21_numberOfTrailingZeros 4 = .ok (.iconst 1, 1) := dk_4 (dk_at dksJ21_numberOfTrailingZeros_0 4 rfl rfl)
theorem dJ21_numberOfTrailingZeros_5 : decode cJ21_numberOfTrailingZeros 5 = .ok (.isub, 1) := dk_100 (dk_at dksJ21_numberOfTrailingZeros_0 5 rfl rfl)
theorem dJ21_numberOfTrailingZeros_6 : decode cJ21_numberOfTrailingZeros 6 = .ok (.iand, 1) := dk_126 (dk_at dksJ21_numberOfTrailingZeros_0 6 rfl rfl)
theorem dJ21_numberOfTrailingZeros_7 : decode cJ21_numberOfTrailingZeros 7 = .ok (.istore_n 0, 1) := dk_59 (dk_at dksJ21_numberOfTrailingZeros_0 7 rfl rfl)
theorem dJ21_numberOfTrailingZeros_8 : decode cJ21_numberOfTrailingZeros 8 = .ok (.iload_n 0, 1) := dk_26 (dk_at dksJ21_numberOfTrailingZeros_0 8 rfl rfl)
theorem dJ21_numberOfTrailingZeros_9 : decode cJ21_numberOfTrailingZeros 9 = .ok (.ifCond .gt 8, 3) := dk_157 0 8 (dk_at dksJ21_numberOfTrailingZeros_0 9 rfl rfl)
theorem dJ21_numberOfTrailingZeros_12 : decode cJ21_numberOfTrailingZeros 12 = .ok (.iload_n 0, 1) := dk_26 (dk_at dksJ21_numberOfTrailingZeros_0 12 rfl rfl)
theorem dJ21_numberOfTrailingZeros_13 : decode cJ21_numberOfTrailingZeros 13 = .ok (.bipush 32, 2) := dk_16 32 (dk_at dksJ21_numberOfTrailingZeros_0 13 rfl rfl)
theorem dJ21_numberOfTrailingZeros_15 : decode cJ21_numberOfTrailingZeros 15 = .ok (.iand, 1) := dk_126 (dk_at dksJ21_numberOfTrailingZeros_0 15 rfl rfl)
theorem dJ21_numberOfTrailingZeros_16 : decode cJ21_numberOfTrailingZeros 16 = .ok (.ireturn, 1) := dk_172 (dk_at dksJ21_numberOfTrailingZeros_0 16 rfl rfl)
theorem dJ21_numberOfTrailingZeros_17 : decode cJ21_numberOfTrailingZeros 17 = .ok (.iconst 1, 1) := dk_4 (dk_at dksJ21_numberOfTrailingZeros_0 17 rfl rfl)
theorem dJ21_numberOfTrailingZeros_18 : decode cJ21_numberOfTrailingZeros 18 = .ok (.istore_n 1, 1) := dk_60 (dk_at dksJ21_numberOfTrailingZeros_0 18 rfl rfl)
theorem dJ21_numberOfTrailingZeros_19 : decode cJ21_numberOfTrailingZeros 19 = .ok (.iload_n 0, 1) := dk_26 (dk_at dksJ21_numberOfTrailingZeros_0 19 rfl rfl)
theorem dJ21_numberOfTrailingZeros_20 : decode cJ21_numberOfTrailingZeros 20 = .ok (.ldc_w 264, 3) := dk_19 1 8 (dk_at dksJ21_numberOfTrailingZeros_0 20 rfl rfl)
theorem dJ21_numberOfTrailingZeros_23 : decode cJ21_numberOfTrailingZeros 23 = .ok (.if_icmp .le 11, 3) := dk_164 0 11 (dk_at dksJ21_numberOfTrailingZeros_1 0 rfl rfl)
theorem dJ21_numberOfTrailingZeros_26 : decode cJ21_numberOfTrailingZeros 26 = .ok (.iinc 1 16, 3) := dk_132 1 16 (dk_at dksJ21_numberOfTrailingZeros_1 3 rfl rfl)
theorem dJ21_numberOfTrailingZeros_29 : decode cJ21_numberOfTrailingZeros 29 = .ok (.iload_n 0, 1) := dk_26 (dk_at dksJ21_numberOfTrailingZeros_1 6 rfl rfl)
theorem dJ21_numberOfTrailingZeros_30 : decode cJ21_numberOfTrailingZeros 30 = .ok (.bipush 16, 2) := dk_16 16 (dk_at dksJ21_numberOfTrailingZeros_1 7 rfl rfl)
theorem dJ21_numberOfTrailingZeros_32 : decode cJ21_numberOfTrailingZeros 32 = .ok (.iushr, 1) := dk_124 (dk_at dksJ21_numberOfTrailingZeros_1 9 rfl rfl)
theorem dJ21_numberOfTrailingZeros_33 : decode cJ21_numberOfTrailingZeros 33 = .ok (.istore_n 0, 1) := dk_59 (dk_at dksJ21_numberOfTrailingZeros_1 10 rfl rfl)
theorem dJ21_numberOfTrailingZeros_34 : decode cJ21_numberOfTrailingZeros 34 = .ok (.iload_n 0, 1) := dk_26 (dk_at dksJ21_numberOfTrailingZeros_1 11 rfl rfl)
theorem dJ21_numberOfTrailingZeros_35 : decode cJ21_numberOfTrailingZeros 35 = .ok (.sipush 256, 3) := dk_17 1 0 (dk_at dksJ21_numberOfTrailingZeros_1 12 rfl rfl)
theorem dJ21_numberOfTrailingZeros_38 : decode cJ21_numberOfTrailingZeros 38 = .ok (.if_icmp .le 11, 3) := dk_164 0 11 (dk_at dksJ21_numberOfTrailingZeros_1 15 rfl rfl)
theorem dJ21_numberOfTrailingZeros_41 : decode cJ21_numberOfTrailingZeros 41 = .ok (.iinc 1 8, 3) := dk_132 1 8 (dk_at dksJ21_numberOfTrailingZeros_1 18 rfl rfl)
theorem dJ21_numberOfTrailingZeros_44 : decode cJ21_numberOfTrailingZeros 44 = .ok (.iload_n 0, 1) := dk_26 (dk_at dksJ21_numberOfTrailingZeros_1 21 rfl rfl)
theorem dJ21_numberOfTrailingZeros_45 : decode cJ21_numberOfTrailingZeros 45 = .ok (.bipush 8, 2) := dk_16 8 (dk_at dksJ21_numberOfTrailingZeros_1 22 rfl rfl)
theorem dJ21_numberOfTrailingZeros_47 : decode cJ21_numberOfTrailingZeros 47 = .ok (.iushr, 1) := dk_124 (dk_at dksJ21_numberOfTrailingZeros_2 0 rfl rfl)
theorem dJ21_numberOfTrailingZeros_48 : decode cJ21_numberOfTrailingZeros 48 = .ok (.istore_n 0, 1) := dk_59 (dk_at dksJ21_numberOfTrailingZeros_2 1 rfl rfl)
theorem dJ21_numberOfTrailingZeros_49 : decode cJ21_numberOfTrailingZeros 49 = .ok (.iload_n 0, 1) := dk_26 (dk_at dksJ21_numberOfTrailingZeros_2 2 rfl rfl)
theorem dJ21_numberOfTrailingZeros_50 : decode cJ21_numberOfTrailingZeros 50 = .ok (.bipush 16, 2) := dk_16 16 (dk_at dksJ21_numberOfTrailingZeros_2 3 rfl rfl)
theorem dJ21_numberOfTrailingZeros_52 : decode cJ21_numberOfTrailingZeros 52 = .ok (.if_icmp .le 10, 3) := dk_164 0 10 (dk_at dksJ21_numberOfTrailingZeros_2 5 rfl rfl)
theorem dJ21_numberOfTrailingZeros_55 : decode cJ21_numberOfTrailingZeros 55 = .ok (.iinc 1 4, 3) := dk_132 1 4 (dk_at dksJ21_numberOfTrailingZeros_2 8 rfl rfl)
theorem dJ21_numberOfTrailingZeros_58 : decode cJ21_numberOfTrailingZeros 58 = .ok (.iload_n 0, 1) := dk_26 (dk_at dksJ21_numberOfTrailingZeros_2 11 rfl rfl)
theorem dJ21_numberOfTrailingZeros_59 : decode cJ21_numberOfTrailingZeros 59 = .ok (.iconst 4, 1) := dk_7 (dk_at dksJ21_numberOfTrailingZeros_2 12 rfl rfl)
theorem dJ21_numberOfTrailingZeros_60 : decode cJ21_numberOfTrailingZeros 60 = .ok (.iushr, 1) := dk_124 (dk_at dksJ21_numberOfTrailingZeros_2 13 rfl rfl)
theorem dJ21_numberOfTrailingZeros_61 : decode cJ21_numberOfTrailingZeros 61 = .ok (.istore_n 0, 1) := dk_59 (dk_at dksJ21_numberOfTrailingZeros_2 14 rfl rfl)
theorem dJ21_numberOfTrailingZeros_62 : decode cJ21_numberOfTrailingZeros 62 = .ok (.iload_n 0, 1) := dk_26 (dk_at dksJ21_numberOfTrailingZeros_2 15 rfl rfl)
theorem dJ21_numberOfTrailingZeros_63 : decode cJ21_numberOfTrailingZeros 63 = .ok (.iconst 4, 1) := dk_7 (dk_at dksJ21_numberOfTrailingZeros_2 16 rfl rfl)
theorem dJ21_numberOfTrailingZeros_64 : decode cJ21_numberOfTrailingZeros 64 = .ok (.if_icmp .le 10, 3) := dk_164 0 10 (dk_at dksJ21_numberOfTrailingZeros_2 17 rfl rfl)
theorem dJ21_numberOfTrailingZeros_67 : decode cJ21_numberOfTrailingZeros 67 = .ok (.iinc 1 2, 3) := dk_132 1 2 (dk_at dksJ21_numberOfTrailingZeros_2 20 rfl rfl)
theorem dJ21_numberOfTrailingZeros_70 : decode cJ21_numberOfTrailingZeros 70 = .ok (.iload_n 0, 1) := dk_26 (dk_at dksJ21_numberOfTrailingZeros_2 23 rfl rfl)
theorem dJ21_numberOfTrailingZeros_71 : decode cJ21_numberOfTrailingZeros 71 = .ok (.iconst 2, 1) := dk_5 (dk_at dksJ21_numberOfTrailingZeros_3 0 rfl rfl)
theorem dJ21_numberOfTrailingZeros_72 : decode cJ21_numberOfTrailingZeros 72 = .ok (.iushr, 1) := dk_124 (dk_at dksJ21_numberOfTrailingZeros_3 1 rfl rfl)
theorem dJ21_numberOfTrailingZeros_73 : decode cJ21_numberOfTrailingZeros 73 = .ok (.istore_n 0, 1) := dk_59 (dk_at dksJ21_numberOfTrailingZeros_3 2 rfl rfl)
theorem dJ21_numberOfTrailingZeros_74 : decode cJ21_numberOfTrailingZeros 74 = .ok (.iload_n 1, 1) := dk_27 (dk_at dksJ21_numberOfTrailingZeros_3 3 rfl rfl)
theorem dJ21_numberOfTrailingZeros_75 : decode cJ21_numberOfTrailingZeros 75 = .ok (.iload_n 0, 1) := dk_26 (dk_at dksJ21_numberOfTrailingZeros_3 4 rfl rfl)
theorem dJ21_numberOfTrailingZeros_76 : decode cJ21_numberOfTrailingZeros 76 = .ok (.iconst 1, 1) := dk_4 (dk_at dksJ21_numberOfTrailingZeros_3 5 rfl rfl)
theorem dJ21_numberOfTrailingZeros_77 : decode cJ21_numberOfTrailingZeros 77 = .ok (.iushr, 1) := dk_124 (dk_at dksJ21_numberOfTrailingZeros_3 6 rfl rfl)
theorem dJ21_numberOfTrailingZeros_78 : decode cJ21_numberOfTrailingZeros 78 = .ok (.iadd, 1) := dk_96 (dk_at dksJ21_numberOfTrailingZeros_3 7 rfl rfl)
theorem dJ21_numberOfTrailingZeros_79 : decode cJ21_numberOfTrailingZeros 79 = .ok (.ireturn, 1) := dk_172 (dk_at dksJ21_numberOfTrailingZeros_3 8 rfl rfl)
abbrev cJ21_valueOf : ByteArray := prog_27_method_22_code
def yJ21_valueOf : MethodName := ⟨RJ21, "valueOf", "(I)Ljava/lang/Integer;"⟩
def dkwJ21_valueOf_1 : List UInt8 := [187, 0, 1, 89, 26, 183, 0, 199, 176]
abbrev dktJ21_valueOf_1 : List UInt8 := dkwJ21_valueOf_1 ++ []
def dkwJ21_valueOf_0 : List UInt8 := [26, 16, 128, 161, 0, 20, 26, 178, 0, 191, 163, 0, 13, 178, 0, 195, 26, 17, 0, 128, 96, 50, 176]
abbrev dktJ21_valueOf_0 : List UInt8 := dkwJ21_valueOf_0 ++ dktJ21_valueOf_1
theorem dksJ21_valueOf_0 : cJ21_valueOf.data.toList.drop 0 = dktJ21_valueOf_0 := by decide +kernel
theorem dksJ21_valueOf_1 : cJ21_valueOf.data.toList.drop 23 = dktJ21_valueOf_1 := dk_seg dksJ21_valueOf_0 23 rfl rfl
theorem dJ21_valueOf_0 : decode cJ21_valueOf 0 = .ok (.iload_n 0, 1) := dk_26 (dk_at dksJ21_valueOf_0 0 rfl rfl)
theorem dJ21_valueOf_1 : decode cJ21_valueOf 1 = .ok (.bipush (-128), 2) := dk_16 128 (dk_at dksJ21_valueOf_0 1 rfl rfl)
theorem dJ21_valueOf_3 : decode cJ21_valueOf 3 = .ok (.if_icmp .lt 20, 3) := dk_161 0 20 (dk_at dksJ21_valueOf_0 3 rfl rfl)
theorem dJ21_valueOf_6 : decode cJ21_valueOf 6 = .ok (.iload_n 0, 1) := dk_26 (dk_at dksJ21_valueOf_0 6 rfl rfl)
theorem dJ21_valueOf_7 : decode cJ21_valueOf 7 = .ok (.getstatic 191, 3) := dk_178 0 191 (dk_at dksJ21_valueOf_0 7 rfl rfl)
theorem dJ21_valueOf_10 : decode cJ21_valueOf 10 = .ok (.if_icmp .gt 13, 3) := dk_163 0 13 (dk_at dksJ21_valueOf_0 10 rfl rfl)
theorem dJ21_valueOf_13 : decode cJ21_valueOf 13 = .ok (.getstatic 195, 3) := dk_178 0 195 (dk_at dksJ21_valueOf_0 13 rfl rfl)
theorem dJ21_valueOf_16 : decode cJ21_valueOf 16 = .ok (.iload_n 0, 1) := dk_26 (dk_at dksJ21_valueOf_0 16 rfl rfl)
theorem dJ21_valueOf_17 : decode cJ21_valueOf 17 = .ok (.sipush 128, 3) := dk_17 0 128 (dk_at dksJ21_valueOf_0 17 rfl rfl)
theorem dJ21_valueOf_20 : decode cJ21_valueOf 20 = .ok (.iadd, 1) := dk_96 (dk_at dksJ21_valueOf_0 20 rfl rfl)
theorem dJ21_valueOf_21 : decode cJ21_valueOf 21 = .ok (.aaload, 1) := dk_50 (dk_at dksJ21_valueOf_0 21 rfl rfl)
theorem dJ21_valueOf_22 : decode cJ21_valueOf 22 = .ok (.areturn, 1) := dk_176 (dk_at dksJ21_valueOf_0 22 rfl rfl)
theorem dJ21_valueOf_23 : decode cJ21_valueOf 23 = .ok (.new 1, 3) := dk_187 0 1 (dk_at dksJ21_valueOf_1 0 rfl rfl)
theorem dJ21_valueOf_26 : decode cJ21_valueOf 26 = .ok (.dup, 1) := dk_89 (dk_at dksJ21_valueOf_1 3 rfl rfl)
theorem dJ21_valueOf_27 : decode cJ21_valueOf 27 = .ok (.iload_n 0, 1) := dk_26 (dk_at dksJ21_valueOf_1 4 rfl rfl)
theorem dJ21_valueOf_28 : decode cJ21_valueOf 28 = .ok (.invokespecial 199, 3) := dk_183 0 199 (dk_at dksJ21_valueOf_1 5 rfl rfl)
theorem dJ21_valueOf_31 : decode cJ21_valueOf 31 = .ok (.areturn, 1) := dk_176 (dk_at dksJ21_valueOf_1 8 rfl rfl)
abbrev cJ21_init : ByteArray := prog_27_method_23_code
def yJ21_init : MethodName := ⟨RJ21, "<init>", "(I)V"⟩
def dkwJ21_init_0 : List UInt8 := [42, 183, 0, 202, 42, 27, 181, 0, 205, 177]
abbrev dktJ21_init_0 : List UInt8 := dkwJ21_init_0 ++ []
theorem dksJ21_init_0 : cJ21_init.data.toList.drop 0 = dktJ21_init_0 := by decide +kernel
theorem dJ21_init_0 : decode cJ21_init 0 = .ok (.aload_n 0, 1) := dk_42 (dk_at dksJ21_init_0 0 rfl rfl)
theorem dJ21_init_1 : decode cJ21_init 1 = .ok (.invokespecial 202, 3) := dk_183 0 202 (dk_at dksJ21_init_0 1 rfl rfl)
theorem dJ21_init_4 : decode cJ21_init 4 = .ok (.aload_n 0, 1) := dk_42 (dk_at dksJ21_init_0 4 rfl rfl)
theorem dJ21_init_5 : decode cJ21_init 5 = .ok (.iload_n 1, 1) := dk_27 (dk_at dksJ21_init_0 5 rfl rfl)
theorem dJ21_init_6 : decode cJ21_init 6 = .ok (.putfield 205, 3) := dk_181 0 205 (dk_at dksJ21_init_0 6 rfl rfl)
theorem dJ21_init_9 : decode cJ21_init 9 = .ok (.return_, 1) := dk_177 (dk_at dksJ21_init_0 9 rfl rfl)
theorem q143 : (Jvm.Cond.initialized "java/lang/Integer") ∈ lw_all := lw_g (lw_at lw_m1 28 rfl) rfl
theorem q663 : (Jvm.Cond.static ({ cls := "java/lang/Integer", name := "stringSize", desc := "(I)I" } : Jvm.MethodName)) ∈ lw_all := lw_g (lw_at lw_m3 68 rfl) rfl
theorem q664 : (Jvm.Cond.code ({ cls := "java/lang/Integer", name := "stringSize", desc := "(I)I" } : Jvm.MethodName) prog_27_method_13_code (4 : Nat) (Option.some Jvm.ClassFile.FieldType.int)) ∈ lw_all := lw_g (lw_at lw_m3 69 rfl) rfl
theorem q666 : (Jvm.Cond.static ({ cls := "java/lang/Integer", name := "getChars", desc := "(II[B)I" } : Jvm.MethodName)) ∈ lw_all := lw_g (lw_at lw_m3 71 rfl) rfl
theorem q667 : (Jvm.Cond.code ({ cls := "java/lang/Integer", name := "getChars", desc := "(II[B)I" } : Jvm.MethodName) prog_27_method_12_code (7 : Nat) (Option.some Jvm.ClassFile.FieldType.int)) ∈ lw_all := lw_g (lw_at lw_m3 72 rfl) rfl
theorem q668 : (Jvm.Cond.fieldLink "java/lang/Integer" (83 : Nat) "java/lang/Integer" "DigitOnes" "[B") ∈ lw_all := lw_g (lw_at lw_m3 73 rfl) rfl
theorem q669 : (Jvm.Cond.laysStatic "java/lang/Integer" "DigitOnes" "[B") ∈ lw_tbl := lw_at lw_m3 74 rfl
theorem q670 : (Jvm.Cond.fieldLink "java/lang/Integer" (87 : Nat) "java/lang/Integer" "DigitTens" "[B") ∈ lw_all := lw_g (lw_at lw_m3 75 rfl) rfl
theorem q671 : (Jvm.Cond.laysStatic "java/lang/Integer" "DigitTens" "[B") ∈ lw_tbl := lw_at lw_m3 76 rfl
theorem q1013 : (Jvm.Cond.selects "java/lang/Integer" ({ cls := "java/lang/Object", name := "getClass", desc := "()Ljava/lang/Class;" } : Jvm.MethodName) ({ cls := "java/lang/Object", name := "getClass", desc := "()Ljava/lang/Class;" } : Jvm.MethodName)) ∈ lw_all := lw_g (lw_at lw_m4 178 rfl) rfl
theorem q1151 : (Jvm.Cond.selects "java/lang/Integer" ({ cls := "java/lang/Object", name := "hashCode", desc := "()I" } : Jvm.MethodName) ({ cls := "java/lang/Integer", name := "hashCode", desc := "()I" } : Jvm.MethodName)) ∈ lw_all := lw_g (lw_at lw_m5 76 rfl) rfl
theorem q1152 : (Jvm.Cond.instanceMethod ({ cls := "java/lang/Integer", name := "hashCode", desc := "()I" } : Jvm.MethodName)) ∈ lw_all := lw_g (lw_at lw_m5 77 rfl) rfl
theorem q1153 : (Jvm.Cond.code ({ cls := "java/lang/Integer", name := "hashCode", desc := "()I" } : Jvm.MethodName) prog_27_method_32_code (1 : Nat) (Option.some Jvm.ClassFile.FieldType.int)) ∈ lw_all := lw_g (lw_at lw_m5 78 rfl) rfl
theorem q1154 : (Jvm.Cond.methodLink "java/lang/Integer" (208 : Nat) ({ cls := "java/lang/Integer", name := "hashCode", desc := "(I)I" } : Jvm.MethodName)) ∈ lw_all := lw_g (lw_at lw_m5 79 rfl) rfl
theorem q1155 : (Jvm.Cond.static ({ cls := "java/lang/Integer", name := "hashCode", desc := "(I)I" } : Jvm.MethodName)) ∈ lw_all := lw_g (lw_at lw_m5 80 rfl) rfl
theorem q1156 : (Jvm.Cond.code ({ cls := "java/lang/Integer", name := "hashCode", desc := "(I)I" } : Jvm.MethodName) prog_27_method_33_code (1 : Nat) (Option.some Jvm.ClassFile.FieldType.int)) ∈ lw_all := lw_g (lw_at lw_m5 81 rfl) rfl
theorem q1242 : (Jvm.Cond.selects "java/lang/Integer" ({ cls := "java/lang/Object", name := "equals", desc := "(Ljava/lang/Object;)Z" } : Jvm.MethodName) ({ cls := "java/lang/Integer", name := "equals", desc := "(Ljava/lang/Object;)Z" } : Jvm.MethodName)) ∈ lw_all := lw_g (lw_at lw_m5 167 rfl) rfl
theorem q1243 : (Jvm.Cond.instanceMethod ({ cls := "java/lang/Integer", name := "equals", desc := "(Ljava/lang/Object;)Z" } : Jvm.MethodName)) ∈ lw_all := lw_g (lw_at lw_m5 168 rfl) rfl
theorem q1244 : (Jvm.Cond.code ({ cls := "java/lang/Integer", name := "equals", desc := "(Ljava/lang/Object;)Z" } : Jvm.MethodName) prog_27_method_34_code (2 : Nat) (Option.some Jvm.ClassFile.FieldType.boolean)) ∈ lw_all := lw_g (lw_at lw_m5 169 rfl) rfl
theorem q1245 : (Jvm.Cond.classLink "java/lang/Integer" (1 : Nat) "java/lang/Integer") ∈ lw_all := lw_g (lw_at lw_m5 170 rfl) rfl
theorem q1246 : (Jvm.Cond.methodLink "java/lang/Integer" (211 : Nat) ({ cls := "java/lang/Integer", name := "intValue", desc := "()I" } : Jvm.MethodName)) ∈ lw_all := lw_g (lw_at lw_m5 171 rfl) rfl
theorem q1247 : (Jvm.Cond.instanceMethod ({ cls := "java/lang/Integer", name := "intValue", desc := "()I" } : Jvm.MethodName)) ∈ lw_all := lw_g (lw_at lw_m5 172 rfl) rfl
theorem q1248 : (Jvm.Cond.selects "java/lang/Integer" ({ cls := "java/lang/Integer", name := "intValue", desc := "()I" } : Jvm.MethodName) ({ cls := "java/lang/Integer", name := "intValue", desc := "()I" } : Jvm.MethodName)) ∈ lw_all := lw_g (lw_at lw_m5 173 rfl) rfl
theorem q1249 : (Jvm.Cond.code ({ cls := "java/lang/Integer", name := "intValue", desc := "()I" } : Jvm.MethodName) prog_27_method_27_code (1 : Nat) (Option.some Jvm.ClassFile.FieldType.int)) ∈ lw_all := lw_g (lw_at lw_m5 174 rfl) rfl
theorem q1306 : (Jvm.Cond.castable "java/lang/Integer" "java/lang/Comparable") ∈ lw_tbl := lw_at lw_m5 231 rfl
theorem q1307 : (Jvm.Cond.selects "java/lang/Integer" ({ cls := "java/lang/Comparable", name := "compareTo", desc := "(Ljava/lang/Object;)I" } : Jvm.MethodName) ({ cls := "java/lang/Integer", name := "compareTo", desc := "(Ljava/lang/Object;)I" } : Jvm.MethodName)) ∈ lw_all := lw_g (lw_at lw_m5 232 rfl) rfl
theorem q1308 : (Jvm.Cond.unhidden "java/lang/Integer" "compareTo" "(Ljava/lang/Object;)I") ∈ lw_tbl := lw_at lw_m5 233 rfl
theorem q1309 : (Jvm.Cond.instanceMethod ({ cls := "java/lang/Integer", name := "compareTo", desc := "(Ljava/lang/Object;)I" } : Jvm.MethodName)) ∈ lw_all := lw_g (lw_at lw_m5 234 rfl) rfl
theorem q1310 : (Jvm.Cond.publicMethod ({ cls := "java/lang/Integer", name := "compareTo", desc := "(Ljava/lang/Object;)I" } : Jvm.MethodName)) ∈ lw_tbl := lw_at lw_m5 235 rfl
theorem q1311 : (Jvm.Cond.code ({ cls := "java/lang/Integer", name := "compareTo", desc := "(Ljava/lang/Object;)I" } : Jvm.MethodName) prog_27_method_63_code (2 : Nat) (Option.some Jvm.ClassFile.FieldType.int)) ∈ lw_all := lw_g (lw_at lw_m5 236 rfl) rfl
theorem q1312 : (Jvm.Cond.methodLink "java/lang/Integer" (284 : Nat) ({ cls := "java/lang/Integer", name := "compareTo", desc := "(Ljava/lang/Integer;)I" } : Jvm.MethodName)) ∈ lw_all := lw_g (lw_at lw_m5 237 rfl) rfl
theorem q1313 : (Jvm.Cond.instanceMethod ({ cls := "java/lang/Integer", name := "compareTo", desc := "(Ljava/lang/Integer;)I" } : Jvm.MethodName)) ∈ lw_all := lw_g (lw_at lw_m5 238 rfl) rfl
theorem q1314 : (Jvm.Cond.selects "java/lang/Integer" ({ cls := "java/lang/Integer", name := "compareTo", desc := "(Ljava/lang/Integer;)I" } : Jvm.MethodName) ({ cls := "java/lang/Integer", name := "compareTo", desc := "(Ljava/lang/Integer;)I" } : Jvm.MethodName)) ∈ lw_all := lw_g (lw_at lw_m5 239 rfl) rfl
theorem q1315 : (Jvm.Cond.code ({ cls := "java/lang/Integer", name := "compareTo", desc := "(Ljava/lang/Integer;)I" } : Jvm.MethodName) prog_27_method_39_code (2 : Nat) (Option.some Jvm.ClassFile.FieldType.int)) ∈ lw_all := lw_g (lw_at lw_m6 0 rfl) rfl
theorem q1316 : (Jvm.Cond.methodLink "java/lang/Integer" (259 : Nat) ({ cls := "java/lang/Integer", name := "compare", desc := "(II)I" } : Jvm.MethodName)) ∈ lw_all := lw_g (lw_at lw_m6 1 rfl) rfl
theorem q1317 : (Jvm.Cond.static ({ cls := "java/lang/Integer", name := "compare", desc := "(II)I" } : Jvm.MethodName)) ∈ lw_all := lw_g (lw_at lw_m6 2 rfl) rfl
theorem q1318 : (Jvm.Cond.code ({ cls := "java/lang/Integer", name := "compare", desc := "(II)I" } : Jvm.MethodName) prog_27_method_40_code (2 : Nat) (Option.some Jvm.ClassFile.FieldType.int)) ∈ lw_all := lw_g (lw_at lw_m6 3 rfl) rfl
theorem q1407 : (Jvm.Cond.static ({ cls := "java/lang/Integer", name := "numberOfLeadingZeros", desc := "(I)I" } : Jvm.MethodName)) ∈ lw_all := lw_g (lw_at lw_m6 92 rfl) rfl
theorem q1408 : (Jvm.Cond.code ({ cls := "java/lang/Integer", name := "numberOfLeadingZeros", desc := "(I)I" } : Jvm.MethodName) prog_27_method_47_code (2 : Nat) (Option.some Jvm.ClassFile.FieldType.int)) ∈ lw_all := lw_g (lw_at lw_m6 93 rfl) rfl
theorem q1409 : (Jvm.Cond.constant "java/lang/Integer" (264 : Nat) (65536 : Int32)) ∈ lw_all := lw_g (lw_at lw_m6 94 rfl) rfl
theorem q1416 : (Jvm.Cond.static ({ cls := "java/lang/Integer", name := "numberOfTrailingZeros", desc := "(I)I" } : Jvm.MethodName)) ∈ lw_all := lw_g (lw_at lw_m6 101 rfl) rfl
theorem q1417 : (Jvm.Cond.code ({ cls := "java/lang/Integer", name := "numberOfTrailingZeros", desc := "(I)I" } : Jvm.MethodName) prog_27_method_48_code (2 : Nat) (Option.some Jvm.ClassFile.FieldType.int)) ∈ lw_all := lw_g (lw_at lw_m6 102 rfl) rfl
theorem q1790 : (Jvm.Cond.static ({ cls := "java/lang/Integer", name := "valueOf", desc := "(I)Ljava/lang/Integer;" } : Jvm.MethodName)) ∈ lw_all := lw_g (lw_at lw_m7 235 rfl) rfl
theorem q1791 : (Jvm.Cond.code ({ cls := "java/lang/Integer", name := "valueOf", desc := "(I)Ljava/lang/Integer;" } : Jvm.MethodName) prog_27_method_22_code (1 : Nat) (Option.some (Jvm.ClassFile.FieldType.object "java/lang/Integer"))) ∈ lw_all := lw_g (lw_at lw_m7 236 rfl) rfl
theorem q1792 : (Jvm.Cond.fieldLink "java/lang/Integer" (191 : Nat) "java/lang/Integer$IntegerCache" "high" "I") ∈ lw_all := lw_g (lw_at lw_m7 237 rfl) rfl
theorem q1794 : (Jvm.Cond.fieldLink "java/lang/Integer" (195 : Nat) "java/lang/Integer$IntegerCache" "cache" "[Ljava/lang/Integer;") ∈ lw_all := lw_g (lw_at lw_m7 239 rfl) rfl
theorem q1796 : (Jvm.Cond.instantiable "java/lang/Integer" (1 : Nat)) ∈ lw_all := lw_g (lw_at lw_m8 1 rfl) rfl
theorem q1797 : (Jvm.Cond.methodLink "java/lang/Integer" (199 : Nat) ({ cls := "java/lang/Integer", name := "<init>", desc := "(I)V" } : Jvm.MethodName)) ∈ lw_all := lw_g (lw_at lw_m8 2 rfl) rfl
theorem q1798 : (Jvm.Cond.instanceMethod ({ cls := "java/lang/Integer", name := "<init>", desc := "(I)V" } : Jvm.MethodName)) ∈ lw_all := lw_g (lw_at lw_m8 3 rfl) rfl
theorem q1799 : (Jvm.Cond.code ({ cls := "java/lang/Integer", name := "<init>", desc := "(I)V" } : Jvm.MethodName) prog_27_method_23_code (2 : Nat) (Option.none : Option Jvm.ClassFile.FieldType)) ∈ lw_all := lw_g (lw_at lw_m8 4 rfl) rfl
theorem q1800 : (Jvm.Cond.methodLink "java/lang/Integer" (202 : Nat) ({ cls := "java/lang/Number", name := "<init>", desc := "()V" } : Jvm.MethodName)) ∈ lw_all := lw_g (lw_at lw_m8 5 rfl) rfl
theorem q1804 : (Jvm.Cond.fieldLink "java/lang/Integer" (205 : Nat) "java/lang/Integer" "value" "I") ∈ lw_all := lw_g (lw_at lw_m8 9 rfl) rfl
theorem q1805 : (Jvm.Cond.laysFinal "java/lang/Integer" "java/lang/Integer" "value" "I") ∈ lw_all := lw_g (lw_at lw_m8 10 rfl) rfl
theorem q1806 : (Jvm.Cond.soleField "java/lang/Integer" "value") ∈ lw_all := lw_g (lw_at lw_m8 11 rfl) rfl
theorem q1807 : (Jvm.Cond.superclass "java/lang/Integer" "java/lang/Number") ∈ lw_all := lw_g (lw_at lw_m8 12 rfl) rfl
theorem q2808 : (Jvm.Cond.castable "java/lang/Integer" "java/lang/Object") ∈ lw_tbl := lw_at lw_m12 53 rfl
theorem in_J21 : ∀ w ∈ wsJ210, w ∈ lw_all := lw_in wsJ210 [1805] (by decide +kernel) (by decide +kernel)
/-! java/lang/Enum -/
set_option maxRecDepth 100000
def RJ22 : String := "java/lang/Enum"
abbrev cJ22_ordinal : ByteArray := prog_22_method_2_code
def yJ22_ordinal : MethodName := ⟨RJ22, "ordinal", "()I"⟩
theorem dJ22_ordinal_0 : decode cJ22_ordinal 0 = .ok (.aload_n 0, 1) := by decide +kernel
theorem dJ22_ordinal_1 : decode cJ22_ordinal 1 = .ok (.getfield 7, 3) := by decide +kernel
theorem dJ22_ordinal_4 : decode cJ22_ordinal 4 = .ok (.ireturn, 1) := by decide +kernel
abbrev cJ22_hashCode : ByteArray := prog_22_method_6_code
def yJ22_hashCode : MethodName := ⟨RJ22, "hashCode", "()I"⟩
def dkwJ22_hashCode_0 : List UInt8 := [42, 180, 0, 17, 60, 27, 154, 0, 13, 42, 42, 184, 0, 20, 90, 181, 0, 17, 60, 27, 172]
abbrev dktJ22_hashCode_0 : List UInt8 := dkwJ22_hashCode_0 ++ []
theorem dksJ22_hashCode_0 : cJ22_hashCode.data.toList.drop 0 = dktJ22_hashCode_0 := by decide +kernel
theorem dJ22_hashCode_0 : decode cJ22_hashCode 0 = .ok (.aload_n 0, 1) := dk_42 (dk_at dksJ22_hashCode_0 0 rfl rfl)
theorem dJ22_hashCode_1 : decode cJ22_hashCode 1 = .ok (.getfield 17, 3) := dk_180 0 17 (dk_at dksJ22_hashCode_0 1 rfl rfl)
theorem dJ22_hashCode_4 : decode cJ22_hashCode 4 = .ok (.istore_n 1, 1) := dk_60 (dk_at dksJ22_hashCode_0 4 rfl rfl)
theorem dJ22_hashCode_5 : decode cJ22_hashCode 5 = .ok (.iload_n 1, 1) := dk_27 (dk_at dksJ22_hashCode_0 5 rfl rfl)
theorem dJ22_hashCode_6 : decode cJ22_hashCode 6 = .ok (.ifCond .ne 13, 3) := dk_154 0 13 (dk_at dksJ22_hashCode_0 6 rfl rfl)
theorem dJ22_hashCode_9 : decode cJ22_hashCode 9 = .ok (.aload_n 0, 1) := dk_42 (dk_at dksJ22_hashCode_0 9 rfl rfl)
theorem dJ22_hashCode_10 : decode cJ22_hashCode 10 = .ok (.aload_n 0, 1) := dk_42 (dk_at dksJ22_hashCode_0 10 rfl rfl)
theorem dJ22_hashCode_11 : decode cJ22_hashCode 11 = .ok (.invokestatic 20, 3) := dk_184 0 20 (dk_at dksJ22_hashCode_0 11 rfl rfl)
theorem dJ22_hashCode_14 : decode cJ22_hashCode 14 = .ok (.dup_x1, 1) := dk_90 (dk_at dksJ22_hashCode_0 14 rfl rfl)
theorem dJ22_hashCode_15 : decode cJ22_hashCode 15 = .ok (.putfield 17, 3) := dk_181 0 17 (dk_at dksJ22_hashCode_0 15 rfl rfl)
theorem dJ22_hashCode_18 : decode cJ22_hashCode 18 = .ok (.istore_n 1, 1) := dk_60 (dk_at dksJ22_hashCode_0 18 rfl rfl)
theorem dJ22_hashCode_19 : decode cJ22_hashCode 19 = .ok (.iload_n 1, 1) := dk_27 (dk_at dksJ22_hashCode_0 19 rfl rfl)
theorem dJ22_hashCode_20 : decode cJ22_hashCode 20 = .ok (.ireturn, 1) := dk_172 (dk_at dksJ22_hashCode_0 20 rfl rfl)
abbrev cJ22_equals : ByteArray := prog_22_method_5_code
def yJ22_equals : MethodName := ⟨RJ22, "equals", "(Ljava/lang/Object;)Z"⟩
def dkwJ22_equals_0 : List UInt8 := [42, 43, 166, 0, 7, 4, 167, 0, 4, 3, 172]
abbrev dktJ22_equals_0 : List UInt8 := dkwJ22_equals_0 ++ []
theorem dksJ22_equals_0 : cJ22_equals.data.toList.drop 0 = dktJ22_equals_0 := by decide +kernel
theorem dJ22_equals_0 : decode cJ22_equals 0 = .ok (.aload_n 0, 1) := dk_42 (dk_at dksJ22_equals_0 0 rfl rfl)
theorem dJ22_equals_1 : decode cJ22_equals 1 = .ok (.aload_n 1, 1) := dk_43 (dk_at dksJ22_equals_0 1 rfl rfl)
theorem dJ22_equals_2 : decode cJ22_equals 2 = .ok (.if_acmp .ne 7, 3) := dk_166 0 7 (dk_at dksJ22_equals_0 2 rfl rfl)
theorem dJ22_equals_5 : decode cJ22_equals 5 = .ok (.iconst 1, 1) := dk_4 (dk_at dksJ22_equals_0 5 rfl rfl)
theorem dJ22_equals_6 : decode cJ22_equals 6 = .ok (.goto 4, 3) := dk_167 0 4 (dk_at dksJ22_equals_0 6 rfl rfl)
theorem dJ22_equals_9 : decode cJ22_equals 9 = .ok (.iconst 0, 1) := dk_3 (dk_at dksJ22_equals_0 9 rfl rfl)
theorem dJ22_equals_10 : decode cJ22_equals 10 = .ok (.ireturn, 1) := dk_172 (dk_at dksJ22_equals_0 10 rfl rfl)
abbrev cJ22_compareTo : ByteArray := prog_22_method_15_code
def yJ22_compareTo : MethodName := ⟨RJ22, "compareTo", "(Ljava/lang/Object;)I"⟩
def dkwJ22_compareTo_0 : List UInt8 := [42, 43, 192, 0, 2, 182, 0, 101, 172]
abbrev dktJ22_compareTo_0 : List UInt8 := dkwJ22_compareTo_0 ++ []
theorem dksJ22_compareTo_0 : cJ22_compareTo.data.toList.drop 0 = dktJ22_compareTo_0 := by decide +kernel
theorem dJ22_compareTo_0 : decode cJ22_compareTo 0 = .ok (.aload_n 0, 1) := dk_42 (dk_at dksJ22_compareTo_0 0 rfl rfl)
theorem dJ22_compareTo_1 : decode cJ22_compareTo 1 = .ok (.aload_n 1, 1) := dk_43 (dk_at dksJ22_compareTo_0 1 rfl rfl)
theorem dJ22_compareTo_2 : decode cJ22_compareTo 2 = .ok (.checkcast 2, 3) := dk_192 0 2 (dk_at dksJ22_compareTo_0 2 rfl rfl)
theorem dJ22_compareTo_5 : decode cJ22_compareTo 5 = .ok (.invokevirtual 101, 3) := dk_182 0 101 (dk_at dksJ22_compareTo_0 5 rfl rfl)
theorem dJ22_compareTo_8 : decode cJ22_compareTo 8 = .ok (.ireturn, 1) := dk_172 (dk_at dksJ22_compareTo_0 8 rfl rfl)
abbrev cJ22_compareTo_2 : ByteArray := prog_22_method_8_code
def yJ22_compareTo_2 : MethodName := ⟨RJ22, "compareTo", "(Ljava/lang/Enum;)I"⟩
def dkwJ22_compareTo_2_1 : List UInt8 := [165, 0, 11, 187, 0, 36, 89, 183, 0, 38, 191, 45, 180, 0, 7, 44, 180, 0, 7, 100, 172]
abbrev dktJ22_compareTo_2_1 : List UInt8 := dkwJ22_compareTo_2_1 ++ []
def dkwJ22_compareTo_2_0 : List UInt8 := [43, 77, 42, 78, 45, 182, 0, 29, 44, 182, 0, 29, 165, 0, 22, 45, 182, 0, 33, 44, 182, 0, 33]
abbrev dktJ22_compareTo_2_0 : List UInt8 := dkwJ22_compareTo_2_0 ++ dktJ22_compareTo_2_1
theorem dksJ22_compareTo_2_0 : cJ22_compareTo_2.data.toList.drop 0 = dktJ22_compareTo_2_0 := by decide +kernel
theorem dksJ22_compareTo_2_1 : cJ22_compareTo_2.data.toList.drop 23 = dktJ22_compareTo_2_1 := dk_seg dksJ22_compareTo_2_0 23 rfl rfl
theorem dJ22_compareTo_2_0 : decode cJ22_compareTo_2 0 = .ok (.aload_n 1, 1) := dk_43 (dk_at dksJ22_compareTo_2_0 0 rfl rfl)
theorem dJ22_compareTo_2_1 : decode cJ22_compareTo_2 1 = .ok (.astore_n 2, 1) := dk_77 (dk_at dksJ22_compareTo_2_0 1 rfl rfl)
theorem dJ22_compareTo_2_2 : decode cJ22_compareTo_2 2 = .ok (.aload_n 0, 1) := dk_42 (dk_at dksJ22_compareTo_2_0 2 rfl rfl)
theorem dJ22_compareTo_2_3 : decode cJ22_compareTo_2 3 = .ok (.astore_n 3, 1) := dk_78 (dk_at dksJ22_compareTo_2_0 3 rfl rfl)
theorem dJ22_compareTo_2_4 : decode cJ22_compareTo_2 4 = .ok (.aload_n 3, 1) := dk_45 (dk_at dksJ22_compareTo_2_0 4 rfl rfl)
theorem dJ22_compareTo_2_5 : decode cJ22_compareTo_2 5 = .ok (.invokevirtual 29, 3) := dk_182 0 29 (dk_at dksJ22_compareTo_2_0 5 rfl rfl)
theorem dJ22_compareTo_2_8 : decode cJ22_compareTo_2 8 = .ok (.aload_n 2, 1) := dk_44 (dk_at dksJ22_compareTo_2_0 8 rfl rfl)
theorem dJ22_compareTo_2_9 : decode cJ22_compareTo_2 9 = .ok (.invokevirtual 29, 3) := dk_182 0 29 (dk_at dksJ22_compareTo_2_0 9 rfl rfl)
theorem dJ22_compareTo_2_12 : decode cJ22_compareTo_2 12 = .ok (.if_acmp .eq 22, 3) := dk_165 0 22 (dk_at dksJ22_compareTo_2_0 12 rfl rfl)
theorem dJ22_compareTo_2_15 : decode cJ22_compareTo_2 15 = .ok (.aload_n 3, 1) := dk_45 (dk_at dksJ22_compareTo_2_0 15 rfl rfl)
theorem dJ22_compareTo_2_16 : decode cJ22_compareTo_2 16 = .ok (.invokevirtual 33, 3) := dk_182 0 33 (dk_at dksJ22_compareTo_2_0 16 rfl rfl)
theorem dJ22_compareTo_2_19 : decode cJ22_compareTo_2 19 = .ok (.aload_n 2, 1) := dk_44 (dk_at dksJ22_compareTo_2_0 19 rfl rfl)
theorem dJ22_compareTo_2_20 : decode cJ22_compareTo_2 20 = .ok (.invokevirtual 33, 3) := dk_182 0 33 (dk_at dksJ22_compareTo_2_0 20 rfl rfl)
theorem dJ22_compareTo_2_23 : decode cJ22_compareTo_2 23 = .ok (.if_acmp .eq 11, 3) := dk_165 0 11 (dk_at dksJ22_compareTo_2_1 0 rfl rfl)
theorem dJ22_compareTo_2_26 : decode cJ22_compareTo_2 26 = .ok (.new 36, 3) := dk_187 0 36 (dk_at dksJ22_compareTo_2_1 3 rfl rfl)
theorem dJ22_compareTo_2_29 : decode cJ22_compareTo_2 29 = .ok (.dup, 1) := dk_89 (dk_at dksJ22_compareTo_2_1 6 rfl rfl)
theorem dJ22_compareTo_2_30 : decode cJ22_compareTo_2 30 = .ok (.invokespecial 38, 3) := dk_183 0 38 (dk_at dksJ22_compareTo_2_1 7 rfl rfl)
theorem dJ22_compareTo_2_33 : decode cJ22_compareTo_2 33 = .ok (.athrow, 1) := dk_191 (dk_at dksJ22_compareTo_2_1 10 rfl rfl)
theorem dJ22_compareTo_2_34 : decode cJ22_compareTo_2 34 = .ok (.aload_n 3, 1) := dk_45 (dk_at dksJ22_compareTo_2_1 11 rfl rfl)
theorem dJ22_compareTo_2_35 : decode cJ22_compareTo_2 35 = .ok (.getfield 7, 3) := dk_180 0 7 (dk_at dksJ22_compareTo_2_1 12 rfl rfl)
theorem dJ22_compareTo_2_38 : decode cJ22_compareTo_2 38 = .ok (.aload_n 2, 1) := dk_44 (dk_at dksJ22_compareTo_2_1 15 rfl rfl)
theorem dJ22_compareTo_2_39 : decode cJ22_compareTo_2 39 = .ok (.getfield 7, 3) := dk_180 0 7 (dk_at dksJ22_compareTo_2_1 16 rfl rfl)
theorem dJ22_compareTo_2_42 : decode cJ22_compareTo_2 42 = .ok (.isub, 1) := dk_100 (dk_at dksJ22_compareTo_2_1 19 rfl rfl)
theorem dJ22_compareTo_2_43 : decode cJ22_compareTo_2 43 = .ok (.ireturn, 1) := dk_172 (dk_at dksJ22_compareTo_2_1 20 rfl rfl)
abbrev cJ22_getDeclaringClass : ByteArray := prog_22_method_9_code
def yJ22_getDeclaringClass : MethodName := ⟨RJ22, "getDeclaringClass", "()Ljava/lang/Class;"⟩
def dkwJ22_getDeclaringClass_0 : List UInt8 := [42, 182, 0, 29, 76, 43, 182, 0, 39, 77, 44, 18, 2, 166, 0, 7, 43, 167, 0, 4, 44, 176]
abbrev dktJ22_getDeclaringClass_0 : List UInt8 := dkwJ22_getDeclaringClass_0 ++ []
theorem dksJ22_getDeclaringClass_0 : cJ22_getDeclaringClass.data.toList.drop 0 = dktJ22_getDeclaringClass_0 := by decide +kernel
theorem dJ22_getDeclaringClass_0 : decode cJ22_getDeclaringClass 0 = .ok (.aload_n 0, 1) := dk_42 (dk_at dksJ22_getDeclaringClass_0 0 rfl rfl)
theorem dJ22_getDeclaringClass_1 : decode cJ22_getDeclaringClass 1 = .ok (.invokevirtual 29, 3) := dk_182 0 29 (dk_at dksJ22_getDeclaringClass_0 1 rfl rfl)
theorem dJ22_getDeclaringClass_4 : decode cJ22_getDeclaringClass 4 = .ok (.astore_n 1, 1) := dk_76 (dk_at dksJ22_getDeclaringClass_0 4 rfl rfl)
theorem dJ22_getDeclaringClass_5 : decode cJ22_getDeclaringClass 5 = .ok (.aload_n 1, 1) := dk_43 (dk_at dksJ22_getDeclaringClass_0 5 rfl rfl)
theorem dJ22_getDeclaringClass_6 : decode cJ22_getDeclaringClass 6 = .ok (.invokevirtual 39, 3) := dk_182 0 39 (dk_at dksJ22_getDeclaringClass_0 6 rfl rfl)
theorem dJ22_getDeclaringClass_9 : decode cJ22_getDeclaringClass 9 = .ok (.astore_n 2, 1) := dk_77 (dk_at dksJ22_getDeclaringClass_0 9 rfl rfl)
theorem dJ22_getDeclaringClass_10 : decode cJ22_getDeclaringClass 10 = .ok (.aload_n 2, 1) := dk_44 (dk_at dksJ22_getDeclaringClass_0 10 rfl rfl)
theorem dJ22_getDeclaringClass_11 : decode cJ22_getDeclaringClass 11 = .ok (.ldc 2, 2) := dk_18 2 (dk_at dksJ22_getDeclaringClass_0 11 rfl rfl)
theorem dJ22_getDeclaringClass_13 : decode cJ22_getDeclaringClass 13 = .ok (.if_acmp .ne 7, 3) := dk_166 0 7 (dk_at dksJ22_getDeclaringClass_0 13 rfl rfl)
theorem dJ22_getDeclaringClass_16 : decode cJ22_getDeclaringClass 16 = .ok (.aload_n 1, 1) := dk_43 (dk_at dksJ22_getDeclaringClass_0 16 rfl rfl)
theorem dJ22_getDeclaringClass_17 : decode cJ22_getDeclaringClass 17 = .ok (.goto 4, 3) := dk_167 0 4 (dk_at dksJ22_getDeclaringClass_0 17 rfl rfl)
theorem dJ22_getDeclaringClass_20 : decode cJ22_getDeclaringClass 20 = .ok (.aload_n 2, 1) := dk_44 (dk_at dksJ22_getDeclaringClass_0 20 rfl rfl)
theorem dJ22_getDeclaringClass_21 : decode cJ22_getDeclaringClass 21 = .ok (.areturn, 1) := dk_176 (dk_at dksJ22_getDeclaringClass_0 21 rfl rfl)
theorem q145 : (Jvm.Cond.initialized "java/lang/Enum") ∈ lw_all := lw_g (lw_at lw_m1 30 rfl) rfl
theorem q1059 : (Jvm.Cond.declares ({ cls := "java/lang/Enum", name := "ordinal", desc := "()I" } : Jvm.MethodName)) ∈ lw_tbl := lw_at lw_m4 224 rfl
theorem q1061 : (Jvm.Cond.instanceMethod ({ cls := "java/lang/Enum", name := "ordinal", desc := "()I" } : Jvm.MethodName)) ∈ lw_all := lw_g (lw_at lw_m4 226 rfl) rfl
theorem q1062 : (Jvm.Cond.code ({ cls := "java/lang/Enum", name := "ordinal", desc := "()I" } : Jvm.MethodName) prog_22_method_2_code (1 : Nat) (Option.some Jvm.ClassFile.FieldType.int)) ∈ lw_all := lw_g (lw_at lw_m4 227 rfl) rfl
theorem q1134 : (Jvm.Cond.instanceMethod ({ cls := "java/lang/Enum", name := "hashCode", desc := "()I" } : Jvm.MethodName)) ∈ lw_all := lw_g (lw_at lw_m5 59 rfl) rfl
theorem q1135 : (Jvm.Cond.code ({ cls := "java/lang/Enum", name := "hashCode", desc := "()I" } : Jvm.MethodName) prog_22_method_6_code (2 : Nat) (Option.some Jvm.ClassFile.FieldType.int)) ∈ lw_all := lw_g (lw_at lw_m5 60 rfl) rfl
theorem q1136 : (Jvm.Cond.methodLink "java/lang/Enum" (20 : Nat) ({ cls := "java/lang/System", name := "identityHashCode", desc := "(Ljava/lang/Object;)I" } : Jvm.MethodName)) ∈ lw_all := lw_g (lw_at lw_m5 61 rfl) rfl
theorem q1228 : (Jvm.Cond.instanceMethod ({ cls := "java/lang/Enum", name := "equals", desc := "(Ljava/lang/Object;)Z" } : Jvm.MethodName)) ∈ lw_all := lw_g (lw_at lw_m5 153 rfl) rfl
theorem q1229 : (Jvm.Cond.code ({ cls := "java/lang/Enum", name := "equals", desc := "(Ljava/lang/Object;)Z" } : Jvm.MethodName) prog_22_method_5_code (2 : Nat) (Option.some Jvm.ClassFile.FieldType.boolean)) ∈ lw_all := lw_g (lw_at lw_m5 154 rfl) rfl
theorem q1291 : (Jvm.Cond.instanceMethod ({ cls := "java/lang/Enum", name := "compareTo", desc := "(Ljava/lang/Object;)I" } : Jvm.MethodName)) ∈ lw_all := lw_g (lw_at lw_m5 216 rfl) rfl
theorem q1292 : (Jvm.Cond.publicMethod ({ cls := "java/lang/Enum", name := "compareTo", desc := "(Ljava/lang/Object;)I" } : Jvm.MethodName)) ∈ lw_tbl := lw_at lw_m5 217 rfl
theorem q1293 : (Jvm.Cond.code ({ cls := "java/lang/Enum", name := "compareTo", desc := "(Ljava/lang/Object;)I" } : Jvm.MethodName) prog_22_method_15_code (2 : Nat) (Option.some Jvm.ClassFile.FieldType.int)) ∈ lw_all := lw_g (lw_at lw_m5 218 rfl) rfl
theorem q1294 : (Jvm.Cond.classLink "java/lang/Enum" (2 : Nat) "java/lang/Enum") ∈ lw_all := lw_g (lw_at lw_m5 219 rfl) rfl
theorem q1295 : (Jvm.Cond.methodLink "java/lang/Enum" (101 : Nat) ({ cls := "java/lang/Enum", name := "compareTo", desc := "(Ljava/lang/Enum;)I" } : Jvm.MethodName)) ∈ lw_all := lw_g (lw_at lw_m5 220 rfl) rfl
theorem q1296 : (Jvm.Cond.instanceMethod ({ cls := "java/lang/Enum", name := "compareTo", desc := "(Ljava/lang/Enum;)I" } : Jvm.MethodName)) ∈ lw_all := lw_g (lw_at lw_m5 221 rfl) rfl
theorem q1297 : (Jvm.Cond.sameMethod "java/lang/Enum" "java/lang/Enum" "compareTo" "(Ljava/lang/Enum;)I") ∈ lw_all := lw_g (lw_at lw_m5 222 rfl) rfl
theorem q1299 : (Jvm.Cond.code ({ cls := "java/lang/Enum", name := "compareTo", desc := "(Ljava/lang/Enum;)I" } : Jvm.MethodName) prog_22_method_8_code (4 : Nat) (Option.some Jvm.ClassFile.FieldType.int)) ∈ lw_all := lw_g (lw_at lw_m5 224 rfl) rfl
theorem q1300 : (Jvm.Cond.methodLink "java/lang/Enum" (29 : Nat) ({ cls := "java/lang/Object", name := "getClass", desc := "()Ljava/lang/Class;" } : Jvm.MethodName)) ∈ lw_all := lw_g (lw_at lw_m5 225 rfl) rfl
theorem q1301 : (Jvm.Cond.methodLink "java/lang/Enum" (33 : Nat) ({ cls := "java/lang/Enum", name := "getDeclaringClass", desc := "()Ljava/lang/Class;" } : Jvm.MethodName)) ∈ lw_all := lw_g (lw_at lw_m5 226 rfl) rfl
theorem q1302 : (Jvm.Cond.instanceMethod ({ cls := "java/lang/Enum", name := "getDeclaringClass", desc := "()Ljava/lang/Class;" } : Jvm.MethodName)) ∈ lw_all := lw_g (lw_at lw_m5 227 rfl) rfl
theorem q1303 : (Jvm.Cond.sameMethod "java/lang/Enum" "java/lang/Enum" "getDeclaringClass" "()Ljava/lang/Class;") ∈ lw_all := lw_g (lw_at lw_m5 228 rfl) rfl
theorem q1305 : (Jvm.Cond.code ({ cls := "java/lang/Enum", name := "getDeclaringClass", desc := "()Ljava/lang/Class;" } : Jvm.MethodName) prog_22_method_9_code (3 : Nat) (Option.some (Jvm.ClassFile.FieldType.object "java/lang/Class"))) ∈ lw_all := lw_g (lw_at lw_m5 230 rfl) rfl
theorem q2831 : (Jvm.Cond.fieldLink "java/lang/Enum" (7 : Nat) "java/lang/Enum" "ordinal" "I") ∈ lw_all := lw_g (lw_at lw_m12 76 rfl) rfl
theorem q2832 : (Jvm.Cond.fieldLink "java/lang/Enum" (17 : Nat) "java/lang/Enum" "hash" "I") ∈ lw_all := lw_g (lw_at lw_m12 77 rfl) rfl
/-! java/lang/Character -/
set_option maxRecDepth 100000
def RJ23 : String := "java/lang/Character"
abbrev cJ23_isValidCodePoint : ByteArray := prog_18_method_11_code
def yJ23_isValidCodePoint : MethodName := ⟨RJ23, "isValidCodePoint", "(I)Z"⟩
def dkwJ23_isValidCodePoint_0 : List UInt8 := [26, 16, 16, 124, 60, 27, 16, 17, 162, 0, 7, 4, 167, 0, 4, 3, 172]
abbrev dktJ23_isValidCodePoint_0 : List UInt8 := dkwJ23_isValidCodePoint_0 ++ []
theorem dksJ23_isValidCodePoint_0 : cJ23_isValidCodePoint.data.toList.drop 0 = dktJ23_isValidCodePoint_0 := by decide +kernel
theorem dJ23_isValidCodePoint_0 : decode cJ23_isValidCodePoint 0 = .ok (.iload_n 0, 1) := dk_26 (dk_at dksJ23_isValidCodePoint_0 0 rfl rfl)
theorem dJ23_isValidCodePoint_1 : decode cJ23_isValidCodePoint 1 = .ok (.bipush 16, 2) := dk_16 16 (dk_at dksJ23_isValidCodePoint_0 1 rfl rfl)
theorem dJ23_isValidCodePoint_3 : decode cJ23_isValidCodePoint 3 = .ok (.iushr, 1) := dk_124 (dk_at dksJ23_isValidCodePoint_0 3 rfl rfl)
theorem dJ23_isValidCodePoint_4 : decode cJ23_isValidCodePoint 4 = .ok (.istore_n 1, 1) := dk_60 (dk_at dksJ23_isValidCodePoint_0 4 rfl rfl)
theorem dJ23_isValidCodePoint_5 : decode cJ23_isValidCodePoint 5 = .ok (.iload_n 1, 1) := dk_27 (dk_at dksJ23_isValidCodePoint_0 5 rfl rfl)
theorem dJ23_isValidCodePoint_6 : decode cJ23_isValidCodePoint 6 = .ok (.bipush 17, 2) := dk_16 17 (dk_at dksJ23_isValidCodePoint_0 6 rfl rfl)
theorem dJ23_isValidCodePoint_8 : decode cJ23_isValidCodePoint 8 = .ok (.if_icmp .ge 7, 3) := dk_162 0 7 (dk_at dksJ23_isValidCodePoint_0 8 rfl rfl)
theorem dJ23_isValidCodePoint_11 : decode cJ23_isValidCodePoint 11 = .ok (.iconst 1, 1) := dk_4 (dk_at dksJ23_isValidCodePoint_0 11 rfl rfl)
theorem dJ23_isValidCodePoint_12 : decode cJ23_isValidCodePoint 12 = .ok (.goto 4, 3) := dk_167 0 4 (dk_at dksJ23_isValidCodePoint_0 12 rfl rfl)
theorem dJ23_isValidCodePoint_15 : decode cJ23_isValidCodePoint 15 = .ok (.iconst 0, 1) := dk_3 (dk_at dksJ23_isValidCodePoint_0 15 rfl rfl)
theorem dJ23_isValidCodePoint_16 : decode cJ23_isValidCodePoint 16 = .ok (.ireturn, 1) := dk_172 (dk_at dksJ23_isValidCodePoint_0 16 rfl rfl)
abbrev cJ23_highSurrogate : ByteArray := prog_18_method_28_code
def yJ23_highSurrogate : MethodName := ⟨RJ23, "highSurrogate", "(I)C"⟩
def dkwJ23_highSurrogate_0 : List UInt8 := [26, 16, 10, 124, 18, 110, 96, 146, 172]
abbrev dktJ23_highSurrogate_0 : List UInt8 := dkwJ23_highSurrogate_0 ++ []
theorem dksJ23_highSurrogate_0 : cJ23_highSurrogate.data.toList.drop 0 = dktJ23_highSurrogate_0 := by decide +kernel
theorem dJ23_highSurrogate_0 : decode cJ23_highSurrogate 0 = .ok (.iload_n 0, 1) := dk_26 (dk_at dksJ23_highSurrogate_0 0 rfl rfl)
theorem dJ23_highSurrogate_1 : decode cJ23_highSurrogate 1 = .ok (.bipush 10, 2) := dk_16 10 (dk_at dksJ23_highSurrogate_0 1 rfl rfl)
theorem dJ23_highSurrogate_3 : decode cJ23_highSurrogate 3 = .ok (.iushr, 1) := dk_124 (dk_at dksJ23_highSurrogate_0 3 rfl rfl)
theorem dJ23_highSurrogate_4 : decode cJ23_highSurrogate 4 = .ok (.ldc 110, 2) := dk_18 110 (dk_at dksJ23_highSurrogate_0 4 rfl rfl)
theorem dJ23_highSurrogate_6 : decode cJ23_highSurrogate 6 = .ok (.iadd, 1) := dk_96 (dk_at dksJ23_highSurrogate_0 6 rfl rfl)
theorem dJ23_highSurrogate_7 : decode cJ23_highSurrogate 7 = .ok (.i2c, 1) := dk_146 (dk_at dksJ23_highSurrogate_0 7 rfl rfl)
theorem dJ23_highSurrogate_8 : decode cJ23_highSurrogate 8 = .ok (.ireturn, 1) := dk_172 (dk_at dksJ23_highSurrogate_0 8 rfl rfl)
abbrev cJ23_lowSurrogate : ByteArray := prog_18_method_29_code
def yJ23_lowSurrogate : MethodName := ⟨RJ23, "lowSurrogate", "(I)C"⟩
def dkwJ23_lowSurrogate_0 : List UInt8 := [26, 17, 3, 255, 126, 18, 76, 96, 146, 172]
abbrev dktJ23_lowSurrogate_0 : List UInt8 := dkwJ23_lowSurrogate_0 ++ []
theorem dksJ23_lowSurrogate_0 : cJ23_lowSurrogate.data.toList.drop 0 = dktJ23_lowSurrogate_0 := by decide +kernel
theorem dJ23_lowSurrogate_0 : decode cJ23_lowSurrogate 0 = .ok (.iload_n 0, 1) := dk_26 (dk_at dksJ23_lowSurrogate_0 0 rfl rfl)
theorem dJ23_lowSurrogate_1 : decode cJ23_lowSurrogate 1 = .ok (.sipush 1023, 3) := dk_17 3 255 (dk_at dksJ23_lowSurrogate_0 1 rfl rfl)
theorem dJ23_lowSurrogate_4 : decode cJ23_lowSurrogate 4 = .ok (.iand, 1) := dk_126 (dk_at dksJ23_lowSurrogate_0 4 rfl rfl)
theorem dJ23_lowSurrogate_5 : decode cJ23_lowSurrogate 5 = .ok (.ldc 76, 2) := dk_18 76 (dk_at dksJ23_lowSurrogate_0 5 rfl rfl)
theorem dJ23_lowSurrogate_7 : decode cJ23_lowSurrogate 7 = .ok (.iadd, 1) := dk_96 (dk_at dksJ23_lowSurrogate_0 7 rfl rfl)
theorem dJ23_lowSurrogate_8 : decode cJ23_lowSurrogate 8 = .ok (.i2c, 1) := dk_146 (dk_at dksJ23_lowSurrogate_0 8 rfl rfl)
theorem dJ23_lowSurrogate_9 : decode cJ23_lowSurrogate 9 = .ok (.ireturn, 1) := dk_172 (dk_at dksJ23_lowSurrogate_0 9 rfl rfl)
theorem q147 : (Jvm.Cond.initialized "java/lang/Character") ∈ lw_all := lw_g (lw_at lw_m1 32 rfl) rfl
theorem q950 : (Jvm.Cond.static ({ cls := "java/lang/Character", name := "isValidCodePoint", desc := "(I)Z" } : Jvm.MethodName)) ∈ lw_all := lw_g (lw_at lw_m4 115 rfl) rfl
theorem q951 : (Jvm.Cond.code ({ cls := "java/lang/Character", name := "isValidCodePoint", desc := "(I)Z" } : Jvm.MethodName) prog_18_method_11_code (2 : Nat) (Option.some Jvm.ClassFile.FieldType.boolean)) ∈ lw_all := lw_g (lw_at lw_m4 116 rfl) rfl
theorem q953 : (Jvm.Cond.static ({ cls := "java/lang/Character", name := "highSurrogate", desc := "(I)C" } : Jvm.MethodName)) ∈ lw_all := lw_g (lw_at lw_m4 118 rfl) rfl
theorem q954 : (Jvm.Cond.code ({ cls := "java/lang/Character", name := "highSurrogate", desc := "(I)C" } : Jvm.MethodName) prog_18_method_28_code (1 : Nat) (Option.some Jvm.ClassFile.FieldType.char)) ∈ lw_all := lw_g (lw_at lw_m4 119 rfl) rfl
theorem q955 : (Jvm.Cond.constant "java/lang/Character" (110 : Nat) (55232 : Int32)) ∈ lw_all := lw_g (lw_at lw_m4 120 rfl) rfl
theorem q957 : (Jvm.Cond.static ({ cls := "java/lang/Character", name := "lowSurrogate", desc := "(I)C" } : Jvm.MethodName)) ∈ lw_all := lw_g (lw_at lw_m4 122 rfl) rfl
theorem q958 : (Jvm.Cond.code ({ cls := "java/lang/Character", name := "lowSurrogate", desc := "(I)C" } : Jvm.MethodName) prog_18_method_29_code (1 : Nat) (Option.some Jvm.ClassFile.FieldType.char)) ∈ lw_all := lw_g (lw_at lw_m4 123 rfl) rfl
theorem q959 : (Jvm.Cond.constant "java/lang/Character" (76 : Nat) (56320 : Int32)) ∈ lw_all := lw_g (lw_at lw_m4 124 rfl) rfl
/-! jdk/internal/misc/Unsafe -/
set_option maxRecDepth 100000
def RJ24 : String := "jdk/internal/misc/Unsafe"
abbrev cJ24_getLongUnaligned : ByteArray := prog_68_method_334_code
def yJ24_getLongUnaligned : MethodName := ⟨RJ24, "getLongUnaligned", "(Ljava/lang/Object;J)J"⟩
def dkwJ24_getLongUnaligned_7 : List UInt8 := [182, 0, 39, 184, 2, 197, 173]
abbrev dktJ24_getLongUnaligned_7 : List UInt8 := dkwJ24_getLongUnaligned_7 ++ []
def dkwJ24_getLongUnaligned_6 : List UInt8 := [20, 2, 195, 97, 182, 0, 39, 42, 43, 32, 20, 2, 190, 97, 182, 0, 39, 42, 43, 32, 20, 2, 184, 97]
abbrev dktJ24_getLongUnaligned_6 : List UInt8 := dkwJ24_getLongUnaligned_6 ++ dktJ24_getLongUnaligned_7
def dkwJ24_getLongUnaligned_5 : List UInt8 := [43, 32, 20, 1, 93, 97, 182, 0, 39, 42, 43, 32, 20, 0, 205, 97, 182, 0, 39, 42, 43, 32]
abbrev dktJ24_getLongUnaligned_5 : List UInt8 := dkwJ24_getLongUnaligned_5 ++ dktJ24_getLongUnaligned_6
def dkwJ24_getLongUnaligned_4 : List UInt8 := [43, 32, 182, 0, 39, 42, 43, 32, 10, 97, 182, 0, 39, 42, 43, 32, 20, 0, 203, 97, 182, 0, 39, 42]
abbrev dktJ24_getLongUnaligned_4 : List UInt8 := dkwJ24_getLongUnaligned_4 ++ dktJ24_getLongUnaligned_5
def dkwJ24_getLongUnaligned_3 : List UInt8 := [43, 32, 20, 0, 205, 97, 182, 0, 47, 42, 43, 32, 20, 2, 190, 97, 182, 0, 47, 184, 2, 192, 173, 42]
abbrev dktJ24_getLongUnaligned_3 : List UInt8 := dkwJ24_getLongUnaligned_3 ++ dktJ24_getLongUnaligned_4
def dkwJ24_getLongUnaligned_2 : List UInt8 := [10, 127, 9, 148, 154, 0, 43, 42, 43, 32, 182, 0, 47, 42, 43, 32, 20, 0, 203, 97, 182, 0, 47, 42]
abbrev dktJ24_getLongUnaligned_2 : List UInt8 := dkwJ24_getLongUnaligned_2 ++ dktJ24_getLongUnaligned_3
def dkwJ24_getLongUnaligned_1 : List UInt8 := [154, 0, 23, 42, 43, 32, 182, 0, 17, 42, 43, 32, 20, 0, 205, 97, 182, 0, 17, 184, 2, 186, 173, 32]
abbrev dktJ24_getLongUnaligned_1 : List UInt8 := dkwJ24_getLongUnaligned_1 ++ dktJ24_getLongUnaligned_2
def dkwJ24_getLongUnaligned_0 : List UInt8 := [32, 20, 2, 184, 127, 9, 148, 154, 0, 10, 42, 43, 32, 182, 0, 27, 173, 32, 20, 1, 93, 127, 9, 148]
abbrev dktJ24_getLongUnaligned_0 : List UInt8 := dkwJ24_getLongUnaligned_0 ++ dktJ24_getLongUnaligned_1
theorem dksJ24_getLongUnaligned_0 : cJ24_getLongUnaligned.data.toList.drop 0 = dktJ24_getLongUnaligned_0 := by decide +kernel
theorem dksJ24_getLongUnaligned_1 : cJ24_getLongUnaligned.data.toList.drop 24 = dktJ24_getLongUnaligned_1 := dk_seg dksJ24_getLongUnaligned_0 24 rfl rfl
theorem dksJ24_getLongUnaligned_2 : cJ24_getLongUnaligned.data.toList.drop 48 = dktJ24_getLongUnaligned_2 := dk_seg dksJ24_getLongUnaligned_1 24 rfl rfl
theorem dksJ24_getLongUnaligned_3 : cJ24_getLongUnaligned.data.toList.drop 72 = dktJ24_getLongUnaligned_3 := dk_seg dksJ24_getLongUnaligned_2 24 rfl rfl
theorem dksJ24_getLongUnaligned_4 : cJ24_getLongUnaligned.data.toList.drop 96 = dktJ24_getLongUnaligned_4 := dk_seg dksJ24_getLongUnaligned_3 24 rfl rfl
theorem dksJ24_getLongUnaligned_5 : cJ24_getLongUnaligned.data.toList.drop 120 = dktJ24_getLongUnaligned_5 := dk_seg dksJ24_getLongUnaligned_4 24 rfl rfl
theorem dksJ24_getLongUnaligned_6 : cJ24_getLongUnaligned.data.toList.drop 142 = dktJ24_getLongUnaligned_6 := dk_seg dksJ24_getLongUnaligned_5 22 rfl rfl
theorem dksJ24_getLongUnaligned_7 : cJ24_getLongUnaligned.data.toList.drop 166 = dktJ24_getLongUnaligned_7 := dk_seg dksJ24_getLongUnaligned_6 24 rfl rfl
theorem dJ24_getLongUnaligned_0 : decode cJ24_getLongUnaligned 0 = .ok (.lload_n 2, 1) := dk_32 (dk_at dksJ24_getLongUnaligned_0 0 rfl rfl)
theorem dJ24_getLongUnaligned_1 : decode cJ24_getLongUnaligned 1 = .ok (.ldc2_w 696, 3) := dk_20 2 184 (dk_at dksJ24_getLongUnaligned_0 1 rfl rfl)
theorem dJ24_getLongUnaligned_4 : decode cJ24_getLongUnaligned 4 = .ok (.land, 1) := dk_127 (dk_at dksJ24_getLongUnaligned_0 4 rfl rfl)
theorem dJ24_getLongUnaligned_5 : decode cJ24_getLongUnaligned 5 = .ok (.lconst 0, 1) := dk_9 (dk_at dksJ24_getLongUnaligned_0 5 rfl rfl)
theorem dJ24_getLongUnaligned_6 : decode cJ24_getLongUnaligned 6 = .ok (.lcmp, 1) := dk_148 (dk_at dksJ24_getLongUnaligned_0 6 rfl rfl)
theorem dJ24_getLongUnaligned_7 : decode cJ24_getLongUnaligned 7 = .ok (.ifCond .ne 10, 3) := dk_154 0 10 (dk_at dksJ24_getLongUnaligned_0 7 rfl rfl)
theorem dJ24_getLongUnaligned_10 : decode cJ24_getLongUnaligned 10 = .ok (.aload_n 0, 1) := dk_42 (dk_at dksJ24_getLongUnaligned_0 10 rfl rfl)
theorem dJ24_getLongUnaligned_11 : decode cJ24_getLongUnaligned 11 = .ok (.aload_n 1, 1) := dk_43 (dk_at dksJ24_getLongUnaligned_0 11 rfl rfl)
theorem dJ24_getLongUnaligned_12 : decode cJ24_getLongUnaligned 12 = .ok (.lload_n 2, 1) := dk_32 (dk_at dksJ24_getLongUnaligned_0 12 rfl rfl)
theorem dJ24_getLongUnaligned_13 : decode cJ24_getLongUnaligned 13 = .ok (.invokevirtual 27, 3) := dk_182 0 27 (dk_at dksJ24_getLongUnaligned_0 13 rfl rfl)
theorem dJ24_getLongUnaligned_16 : decode cJ24_getLongUnaligned 16 = .ok (.lreturn, 1) := dk_173 (dk_at dksJ24_getLongUnaligned_0 16 rfl rfl)
theorem dJ24_getLongUnaligned_17 : decode cJ24_getLongUnaligned 17 = .ok (.lload_n 2, 1) := dk_32 (dk_at dksJ24_getLongUnaligned_0 17 rfl rfl)
theorem dJ24_getLongUnaligned_18 : decode cJ24_getLongUnaligned 18 = .ok (.ldc2_w 349, 3) := dk_20 1 93 (dk_at dksJ24_getLongUnaligned_0 18 rfl rfl)
theorem dJ24_getLongUnaligned_21 : decode cJ24_getLongUnaligned 21 = .ok (.land, 1) := dk_127 (dk_at dksJ24_getLongUnaligned_0 21 rfl rfl)
theorem dJ24_getLongUnaligned_22 : decode cJ24_getLongUnaligned 22 = .ok (.lconst 0, 1) := dk_9 (dk_at dksJ24_getLongUnaligned_0 22 rfl rfl)
theorem dJ24_getLongUnaligned_23 : decode cJ24_getLongUnaligned 23 = .ok (.lcmp, 1) := dk_148 (dk_at dksJ24_getLongUnaligned_0 23 rfl rfl)
theorem dJ24_getLongUnaligned_24 : decode cJ24_getLongUnaligned 24 = .ok (.ifCond .ne 23, 3) := dk_154 0 23 (dk_at dksJ24_getLongUnaligned_1 0 rfl rfl)
theorem dJ24_getLongUnaligned_27 : decode cJ24_getLongUnaligned 27 = .ok (.aload_n 0, 1) := dk_42 (dk_at dksJ24_getLongUnaligned_1 3 rfl rfl)
theorem dJ24_getLongUnaligned_28 : decode cJ24_getLongUnaligned 28 = .ok (.aload_n 1, 1) := dk_43 (dk_at dksJ24_getLongUnaligned_1 4 rfl rfl)
theorem dJ24_getLongUnaligned_29 : decode cJ24_getLongUnaligned 29 = .ok (.lload_n 2, 1) := dk_32 (dk_at dksJ24_getLongUnaligned_1 5 rfl rfl)
theorem dJ24_getLongUnaligned_30 : decode cJ24_getLongUnaligned 30 = .ok (.invokevirtual 17, 3) := dk_182 0 17 (dk_at dksJ24_getLongUnaligned_1 6 rfl rfl)
theorem dJ24_getLongUnaligned_33 : decode cJ24_getLongUnaligned 33 = .ok (.aload_n 0, 1) := dk_42 (dk_at dksJ24_getLongUnaligned_1 9 rfl rfl)
theorem dJ24_getLongUnaligned_34 : decode cJ24_getLongUnaligned 34 = .ok (.aload_n 1, 1) := dk_43 (dk_at dksJ24_getLongUnaligned_1 10 rfl rfl)
theorem dJ24_getLongUnaligned_35 : decode cJ24_getLongUnaligned 35 = .ok (.lload_n 2, 1) := dk_32 (dk_at dksJ24_getLongUnaligned_1 11 rfl rfl)
theorem dJ24_getLongUnaligned_36 : decode cJ24_getLongUnaligned 36 = .ok (.ldc2_w 205, 3) := dk_20 0 205 (dk_at dksJ24_getLongUnaligned_1 12 rfl rfl)
theorem dJ24_getLongUnaligned_39 : decode cJ24_getLongUnaligned 39 = .ok (.ladd, 1) := dk_97 (dk_at dksJ24_getLongUnaligned_1 15 rfl rfl)
theorem dJ24_getLongUnaligned_40 : decode cJ24_getLongUnaligned 40 = .ok (.invokevirtual 17, 3) := dk_182 0 17 (dk_at dksJ24_getLongUnaligned_1 16 rfl rfl)
theorem dJ24_getLongUnaligned_43 : decode cJ24_getLongUnaligned 43 = .ok (.invokestatic 698, 3) := dk_184 2 186 (dk_at dksJ24_getLongUnaligned_1 19 rfl rfl)
theorem dJ24_getLongUnaligned_46 : decode cJ24_getLongUnaligned 46 = .ok (.lreturn, 1) := dk_173 (dk_at dksJ24_getLongUnaligned_1 22 rfl rfl)
theorem dJ24_getLongUnaligned_47 : decode cJ24_getLongUnaligned 47 = .ok (.lload_n 2, 1) := dk_32 (dk_at dksJ24_getLongUnaligned_1 23 rfl rfl)
theorem dJ24_getLongUnaligned_48 : decode cJ24_getLongUnaligned 48 = .ok (.lconst 1, 1) := dk_10 (dk_at dksJ24_getLongUnaligned_2 0 rfl rfl)
theorem dJ24_getLongUnaligned_49 : decode cJ24_getLongUnaligned 49 = .ok (.land, 1) := dk_127 (dk_at dksJ24_getLongUnaligned_2 1 rfl rfl)
theorem dJ24_getLongUnaligned_50 : decode cJ24_getLongUnaligned 50 = .ok (.lconst 0, 1) := dk_9 (dk_at dksJ24_getLongUnaligned_2 2 rfl rfl)
theorem dJ24_getLongUnaligned_51 : decode cJ24_getLongUnaligned 51 = .ok (.lcmp, 1) := dk_148 (dk_at dksJ24_getLongUnaligned_2 3 rfl rfl)
theorem dJ24_getLongUnaligned_52 : decode cJ24_getLongUnaligned 52 = .ok (.ifCond .ne 43, 3) := dk_154 0 43 (dk_at dksJ24_getLongUnaligned_2 4 rfl rfl)
theorem dJ24_getLongUnaligned_55 : decode cJ24_getLongUnaligned 55 = .ok (.aload_n 0, 1) := dk_42 (dk_at dksJ24_getLongUnaligned_2 7 rfl rfl)
theorem dJ24_getLongUnaligned_56 : decode cJ24_getLongUnaligned 56 = .ok (.aload_n 1, 1) := dk_43 (dk_at dksJ24_getLongUnaligned_2 8 rfl rfl)
theorem dJ24_getLongUnaligned_57 : decode cJ24_getLongUnaligned 57 = .ok (.lload_n 2, 1) := dk_32 (dk_at dksJ24_getLongUnaligned_2 9 rfl rfl)
theorem dJ24_getLongUnaligned_58 : decode cJ24_getLongUnaligned 58 = .ok (.invokevirtual 47, 3) := dk_182 0 47 (dk_at dksJ24_getLongUnaligned_2 10 rfl rfl)
theorem dJ24_getLongUnaligned_61 : decode cJ24_getLongUnaligned 61 = .ok (.aload_n 0, 1) := dk_42 (dk_at dksJ24_getLongUnaligned_2 13 rfl rfl)
theorem dJ24_getLongUnaligned_62 : decode cJ24_getLongUnaligned 62 = .ok (.aload_n 1, 1) := dk_43 (dk_at dksJ24_getLongUnaligned_2 14 rfl rfl)
theorem dJ24_getLongUnaligned_63 : decode cJ24_getLongUnaligned 63 = .ok (.lload_n 2, 1) := dk_32 (dk_at dksJ24_getLongUnaligned_2 15 rfl rfl)
theorem dJ24_getLongUnaligned_64 : decode cJ24_getLongUnaligned 64 = .ok (.ldc2_w 203, 3) := dk_20 0 203 (dk_at dksJ24_getLongUnaligned_2 16 rfl rfl)
theorem dJ24_getLongUnaligned_67 : decode cJ24_getLongUnaligned 67 = .ok (.ladd, 1) := dk_97 (dk_at dksJ24_getLongUnaligned_2 19 rfl rfl)
theorem dJ24_getLongUnaligned_68 : decode cJ24_getLongUnaligned 68 = .ok (.invokevirtual 47, 3) := dk_182 0 47 (dk_at dksJ24_getLongUnaligned_2 20 rfl rfl)
theorem dJ24_getLongUnaligned_71 : decode cJ24_getLongUnaligned 71 = .ok (.aload_n 0, 1) := dk_42 (dk_at dksJ24_getLongUnaligned_2 23 rfl rfl)
theorem dJ24_getLongUnaligned_72 : decode cJ24_getLongUnaligned 72 = .ok (.aload_n 1, 1) := dk_43 (dk_at dksJ24_getLongUnaligned_3 0 rfl rfl)
theorem dJ24_getLongUnaligned_73 : decode cJ24_getLongUnaligned 73 = .ok (.lload_n 2, 1) := dk_32 (dk_at dksJ24_getLongUnaligned_3 1 rfl rfl)
theorem dJ24_getLongUnaligned_74 : decode cJ24_getLongUnaligned 74 = .ok (.ldc2_w 205, 3) := dk_20 0 205 (dk_at dksJ24_getLongUnaligned_3 2 rfl rfl)
theorem dJ24_getLongUnaligned_77 : decode cJ24_getLongUnaligned 77 = .ok (.ladd, 1) := dk_97 (dk_at dksJ24_getLongUnaligned_3 5 rfl rfl)
theorem dJ24_getLongUnaligned_78 : decode cJ24_getLongUnaligned 78 = .ok (.invokevirtual 47, 3) := dk_182 0 47 (dk_at dksJ24_getLongUnaligned_3 6 rfl rfl)
theorem dJ24_getLongUnaligned_81 : decode cJ24_getLongUnaligned 81 = .ok (.aload_n 0, 1) := dk_42 (dk_at dksJ24_getLongUnaligned_3 9 rfl rfl)
theorem dJ24_getLongUnaligned_82 : decode cJ24_getLongUnaligned 82 = .ok (.aload_n 1, 1) := dk_43 (dk_at dksJ24_getLongUnaligned_3 10 rfl rfl)
theorem dJ24_getLongUnaligned_83 : decode cJ24_getLongUnaligned 83 = .ok (.lload_n 2, 1) := dk_32 (dk_at dksJ24_getLongUnaligned_3 11 rfl rfl)
theorem dJ24_getLongUnaligned_84 : decode cJ24_getLongUnaligned 84 = .ok (.ldc2_w 702, 3) := dk_20 2 190 (dk_at dksJ24_getLongUnaligned_3 12 rfl rfl)
theorem dJ24_getLongUnaligned_87 : decode cJ24_getLongUnaligned 87 = .ok (.ladd, 1) := dk_97 (dk_at dksJ24_getLongUnaligned_3 15 rfl rfl)
theorem dJ24_getLongUnaligned_88 : decode cJ24_getLongUnaligned 88 = .ok (.invokevirtual 47, 3) := dk_182 0 47 (dk_at dksJ24_getLongUnaligned_3 16 rfl rfl)
theorem dJ24_getLongUnaligned_91 : decode cJ24_getLongUnaligned 91 = .ok (.invokestatic 704, 3) := dk_184 2 192 (dk_at dksJ24_getLongUnaligned_3 19 rfl rfl)
theorem dJ24_getLongUnaligned_94 : decode cJ24_getLongUnaligned 94 = .ok (.lreturn, 1) := dk_173 (dk_at dksJ24_getLongUnaligned_3 22 rfl rfl)
theorem dJ24_getLongUnaligned_95 : decode cJ24_getLongUnaligned 95 = .ok (.aload_n 0, 1) := dk_42 (dk_at dksJ24_getLongUnaligned_3 23 rfl rfl)
theorem dJ24_getLongUnaligned_96 : decode cJ24_getLongUnaligned 96 = .ok (.aload_n 1, 1) := dk_43 (dk_at dksJ24_getLongUnaligned_4 0 rfl rfl)
theorem dJ24_getLongUnaligned_97 : decode cJ24_getLongUnaligned 97 = .ok (.lload_n 2, 1) := dk_32 (dk_at dksJ24_getLongUnaligned_4 1 rfl rfl)
theorem dJ24_getLongUnaligned_98 : decode cJ24_getLongUnaligned 98 = .ok (.invokevirtual 39, 3) := dk_182 0 39 (dk_at dksJ24_getLongUnaligned_4 2 rfl rfl)
theorem dJ24_getLongUnaligned_101 : decode cJ24_getLongUnaligned 101 = .ok (.aload_n 0, 1) := dk_42 (dk_at dksJ24_getLongUnaligned_4 5 rfl rfl)
theorem dJ24_getLongUnaligned_102 : decode cJ24_getLongUnaligned 102 = .ok (.aload_n 1, 1) := dk_43 (dk_at dksJ24_getLongUnaligned_4 6 rfl rfl)
theorem dJ24_getLongUnaligned_103 : decode cJ24_getLongUnaligned 103 = .ok (.lload_n 2, 1) := dk_32 (dk_at dksJ24_getLongUnaligned_4 7 rfl rfl)
theorem dJ24_getLongUnaligned_104 : decode cJ24_getLongUnaligned 104 = .ok (.lconst 1, 1) := dk_10 (dk_at dksJ24_getLongUnaligned_4 8 rfl rfl)
theorem dJ24_getLongUnaligned_105 : decode cJ24_getLongUnaligned 105 = .ok (.ladd, 1) := dk_97 (dk_at dksJ24_getLongUnaligned_4 9 rfl rfl)
theorem dJ24_getLongUnaligned_106 : decode cJ24_getLongUnaligned 106 = .ok (.invokevirtual 39, 3) := dk_182 0 39 (dk_at dksJ24_getLongUnaligned_4 10 rfl rfl)
theorem dJ24_getLongUnaligned_109 : decode cJ24_getLongUnaligned 109 = .ok (.aload_n 0, 1) := dk_42 (dk_at dksJ24_getLongUnaligned_4 13 rfl rfl)
theorem dJ24_getLongUnaligned_110 : decode cJ24_getLongUnaligned 110 = .ok (.aload_n 1, 1) := dk_43 (dk_at dksJ24_getLongUnaligned_4 14 rfl rfl)
theorem dJ24_getLongUnaligned_111 : decode cJ24_getLongUnaligned 111 = .ok (.lload_n 2, 1) := dk_32 (dk_at dksJ24_getLongUnaligned_4 15 rfl rfl)
theorem dJ24_getLongUnaligned_112 : decode cJ24_getLongUnaligned 112 = .ok (.ldc2_w 203, 3) := dk_20 0 203 (dk_at dksJ24_getLongUnaligned_4 16 rfl rfl)
theorem dJ24_getLongUnaligned_115 : decode cJ24_getLongUnaligned 115 = .ok (.ladd, 1) := dk_97 (dk_at dksJ24_getLongUnaligned_4 19 rfl rfl)
theorem dJ24_getLongUnaligned_116 : decode cJ24_getLongUnaligned 116 = .ok (.invokevirtual 39, 3) := dk_182 0 39 (dk_at dksJ24_getLongUnaligned_4 20 rfl rfl)
theorem dJ24_getLongUnaligned_119 : decode cJ24_getLongUnaligned 119 = .ok (.aload_n 0, 1) := dk_42 (dk_at dksJ24_getLongUnaligned_4 23 rfl rfl)
theorem dJ24_getLongUnaligned_120 : decode cJ24_getLongUnaligned 120 = .ok (.aload_n 1, 1) := dk_43 (dk_at dksJ24_getLongUnaligned_5 0 rfl rfl)
theorem dJ24_getLongUnaligned_121 : decode cJ24_getLongUnaligned 121 = .ok (.lload_n 2, 1) := dk_32 (dk_at dksJ24_getLongUnaligned_5 1 rfl rfl)
theorem dJ24_getLongUnaligned_122 : decode cJ24_getLongUnaligned 122 = .ok (.ldc2_w 349, 3) := dk_20 1 93 (dk_at dksJ24_getLongUnaligned_5 2 rfl rfl)
theorem dJ24_getLongUnaligned_125 : decode cJ24_getLongUnaligned 125 = .ok (.ladd, 1) := dk_97 (dk_at dksJ24_getLongUnaligned_5 5 rfl rfl)
theorem dJ24_getLongUnaligned_126 : decode cJ24_getLongUnaligned 126 = .ok (.invokevirtual 39, 3) := dk_182 0 39 (dk_at dksJ24_getLongUnaligned_5 6 rfl rfl)
theorem dJ24_getLongUnaligned_129 : decode cJ24_getLongUnaligned 129 = .ok (.aload_n 0, 1) := dk_42 (dk_at dksJ24_getLongUnaligned_5 9 rfl rfl)
theorem dJ24_getLongUnaligned_130 : decode cJ24_getLongUnaligned 130 = .ok (.aload_n 1, 1) := dk_43 (dk_at dksJ24_getLongUnaligned_5 10 rfl rfl)
theorem dJ24_getLongUnaligned_131 : decode cJ24_getLongUnaligned 131 = .ok (.lload_n 2, 1) := dk_32 (dk_at dksJ24_getLongUnaligned_5 11 rfl rfl)
theorem dJ24_getLongUnaligned_132 : decode cJ24_getLongUnaligned 132 = .ok (.ldc2_w 205, 3) := dk_20 0 205 (dk_at dksJ24_getLongUnaligned_5 12 rfl rfl)
theorem dJ24_getLongUnaligned_135 : decode cJ24_getLongUnaligned 135 = .ok (.ladd, 1) := dk_97 (dk_at dksJ24_getLongUnaligned_5 15 rfl rfl)
theorem dJ24_getLongUnaligned_136 : decode cJ24_getLongUnaligned 136 = .ok (.invokevirtual 39, 3) := dk_182 0 39 (dk_at dksJ24_getLongUnaligned_5 16 rfl rfl)
theorem dJ24_getLongUnaligned_139 : decode cJ24_getLongUnaligned 139 = .ok (.aload_n 0, 1) := dk_42 (dk_at dksJ24_getLongUnaligned_5 19 rfl rfl)
theorem dJ24_getLongUnaligned_140 : decode cJ24_getLongUnaligned 140 = .ok (.aload_n 1, 1) := dk_43 (dk_at dksJ24_getLongUnaligned_5 20 rfl rfl)
theorem dJ24_getLongUnaligned_141 : decode cJ24_getLongUnaligned 141 = .ok (.lload_n 2, 1) := dk_32 (dk_at dksJ24_getLongUnaligned_5 21 rfl rfl)
theorem dJ24_getLongUnaligned_142 : decode cJ24_getLongUnaligned 142 = .ok (.ldc2_w 707, 3) := dk_20 2 195 (dk_at dksJ24_getLongUnaligned_6 0 rfl rfl)
theorem dJ24_getLongUnaligned_145 : decode cJ24_getLongUnaligned 145 = .ok (.ladd, 1) := dk_97 (dk_at dksJ24_getLongUnaligned_6 3 rfl rfl)
theorem dJ24_getLongUnaligned_146 : decode cJ24_getLongUnaligned 146 = .ok (.invokevirtual 39, 3) := dk_182 0 39 (dk_at dksJ24_getLongUnaligned_6 4 rfl rfl)
theorem dJ24_getLongUnaligned_149 : decode cJ24_getLongUnaligned 149 = .ok (.aload_n 0, 1) := dk_42 (dk_at dksJ24_getLongUnaligned_6 7 rfl rfl)
theorem dJ24_getLongUnaligned_150 : decode cJ24_getLongUnaligned 150 = .ok (.aload_n 1, 1) := dk_43 (dk_at dksJ24_getLongUnaligned_6 8 rfl rfl)
theorem dJ24_getLongUnaligned_151 : decode cJ24_getLongUnaligned 151 = .ok (.lload_n 2, 1) := dk_32 (dk_at dksJ24_getLongUnaligned_6 9 rfl rfl)
theorem dJ24_getLongUnaligned_152 : decode cJ24_getLongUnaligned 152 = .ok (.ldc2_w 702, 3) := dk_20 2 190 (dk_at dksJ24_getLongUnaligned_6 10 rfl rfl)
theorem dJ24_getLongUnaligned_155 : decode cJ24_getLongUnaligned 155 = .ok (.ladd, 1) := dk_97 (dk_at dksJ24_getLongUnaligned_6 13 rfl rfl)
theorem dJ24_getLongUnaligned_156 : decode cJ24_getLongUnaligned 156 = .ok (.invokevirtual 39, 3) := dk_182 0 39 (dk_at dksJ24_getLongUnaligned_6 14 rfl rfl)
theorem dJ24_getLongUnaligned_159 : decode cJ24_getLongUnaligned 159 = .ok (.aload_n 0, 1) := dk_42 (dk_at dksJ24_getLongUnaligned_6 17 rfl rfl)
theorem dJ24_getLongUnaligned_160 : decode cJ24_getLongUnaligned 160 = .ok (.aload_n 1, 1) := dk_43 (dk_at dksJ24_getLongUnaligned_6 18 rfl rfl)
theorem dJ24_getLongUnaligned_161 : decode cJ24_getLongUnaligned 161 = .ok (.lload_n 2, 1) := dk_32 (dk_at dksJ24_getLongUnaligned_6 19 rfl rfl)
theorem dJ24_getLongUnaligned_162 : decode cJ24_getLongUnaligned 162 = .ok (.ldc2_w 696, 3) := dk_20 2 184 (dk_at dksJ24_getLongUnaligned_6 20 rfl rfl)
theorem dJ24_getLongUnaligned_165 : decode cJ24_getLongUnaligned 165 = .ok (.ladd, 1) := dk_97 (dk_at dksJ24_getLongUnaligned_6 23 rfl rfl)
theorem dJ24_getLongUnaligned_166 : decode cJ24_getLongUnaligned 166 = .ok (.invokevirtual 39, 3) := dk_182 0 39 (dk_at dksJ24_getLongUnaligned_7 0 rfl rfl)
theorem dJ24_getLongUnaligned_169 : decode cJ24_getLongUnaligned 169 = .ok (.invokestatic 709, 3) := dk_184 2 197 (dk_at dksJ24_getLongUnaligned_7 3 rfl rfl)
theorem dJ24_getLongUnaligned_172 : decode cJ24_getLongUnaligned 172 = .ok (.lreturn, 1) := dk_173 (dk_at dksJ24_getLongUnaligned_7 6 rfl rfl)
abbrev cJ24_makeLong : ByteArray := prog_68_method_353_code
def yJ24_makeLong : MethodName := ⟨RJ24, "makeLong", "(II)J"⟩
def dkwJ24_makeLong_1 : List UInt8 := [173]
abbrev dktJ24_makeLong_1 : List UInt8 := dkwJ24_makeLong_1 ++ []
def dkwJ24_makeLong_0 : List UInt8 := [26, 184, 3, 23, 16, 32, 3, 184, 3, 16, 121, 27, 184, 3, 23, 16, 32, 16, 32, 184, 3, 16, 121, 129]
abbrev dktJ24_makeLong_0 : List UInt8 := dkwJ24_makeLong_0 ++ dktJ24_makeLong_1
theorem dksJ24_makeLong_0 : cJ24_makeLong.data.toList.drop 0 = dktJ24_makeLong_0 := by decide +kernel
theorem dksJ24_makeLong_1 : cJ24_makeLong.data.toList.drop 24 = dktJ24_makeLong_1 := dk_seg dksJ24_makeLong_0 24 rfl rfl
theorem dJ24_makeLong_0 : decode cJ24_makeLong 0 = .ok (.iload_n 0, 1) := dk_26 (dk_at dksJ24_makeLong_0 0 rfl rfl)
theorem dJ24_makeLong_1 : decode cJ24_makeLong 1 = .ok (.invokestatic 791, 3) := dk_184 3 23 (dk_at dksJ24_makeLong_0 1 rfl rfl)
theorem dJ24_makeLong_4 : decode cJ24_makeLong 4 = .ok (.bipush 32, 2) := dk_16 32 (dk_at dksJ24_makeLong_0 4 rfl rfl)
theorem dJ24_makeLong_6 : decode cJ24_makeLong 6 = .ok (.iconst 0, 1) := dk_3 (dk_at dksJ24_makeLong_0 6 rfl rfl)
theorem dJ24_makeLong_7 : decode cJ24_makeLong 7 = .ok (.invokestatic 784, 3) := dk_184 3 16 (dk_at dksJ24_makeLong_0 7 rfl rfl)
theorem dJ24_makeLong_10 : decode cJ24_makeLong 10 = .ok (.lshl, 1) := dk_121 (dk_at dksJ24_makeLong_0 10 rfl rfl)
theorem dJ24_makeLong_11 : decode cJ24_makeLong 11 = .ok (.iload_n 1, 1) := dk_27 (dk_at dksJ24_makeLong_0 11 rfl rfl)
theorem dJ24_makeLong_12 : decode cJ24_makeLong 12 = .ok (.invokestatic 791, 3) := dk_184 3 23 (dk_at dksJ24_makeLong_0 12 rfl rfl)
theorem dJ24_makeLong_15 : decode cJ24_makeLong 15 = .ok (.bipush 32, 2) := dk_16 32 (dk_at dksJ24_makeLong_0 15 rfl rfl)
theorem dJ24_makeLong_17 : decode cJ24_makeLong 17 = .ok (.bipush 32, 2) := dk_16 32 (dk_at dksJ24_makeLong_0 17 rfl rfl)
theorem dJ24_makeLong_19 : decode cJ24_makeLong 19 = .ok (.invokestatic 784, 3) := dk_184 3 16 (dk_at dksJ24_makeLong_0 19 rfl rfl)
theorem dJ24_makeLong_22 : decode cJ24_makeLong 22 = .ok (.lshl, 1) := dk_121 (dk_at dksJ24_makeLong_0 22 rfl rfl)
theorem dJ24_makeLong_23 : decode cJ24_makeLong 23 = .ok (.lor, 1) := dk_129 (dk_at dksJ24_makeLong_0 23 rfl rfl)
theorem dJ24_makeLong_24 : decode cJ24_makeLong 24 = .ok (.lreturn, 1) := dk_173 (dk_at dksJ24_makeLong_1 0 rfl rfl)
abbrev cJ24_toUnsignedLong : ByteArray := prog_68_method_370_code
def yJ24_toUnsignedLong : MethodName := ⟨RJ24, "toUnsignedLong", "(I)J"⟩
def dkwJ24_toUnsignedLong_0 : List UInt8 := [26, 133, 20, 3, 44, 127, 173]
abbrev dktJ24_toUnsignedLong_0 : List UInt8 := dkwJ24_toUnsignedLong_0 ++ []
theorem dksJ24_toUnsignedLong_0 : cJ24_toUnsignedLong.data.toList.drop 0 = dktJ24_toUnsignedLong_0 := by decide +kernel
theorem dJ24_toUnsignedLong_0 : decode cJ24_toUnsignedLong 0 = .ok (.iload_n 0, 1) := dk_26 (dk_at dksJ24_toUnsignedLong_0 0 rfl rfl)
theorem dJ24_toUnsignedLong_1 : decode cJ24_toUnsignedLong 1 = .ok (.i2l, 1) := dk_133 (dk_at dksJ24_toUnsignedLong_0 1 rfl rfl)
theorem dJ24_toUnsignedLong_2 : decode cJ24_toUnsignedLong 2 = .ok (.ldc2_w 812, 3) := dk_20 3 44 (dk_at dksJ24_toUnsignedLong_0 2 rfl rfl)
theorem dJ24_toUnsignedLong_5 : decode cJ24_toUnsignedLong 5 = .ok (.land, 1) := dk_127 (dk_at dksJ24_toUnsignedLong_0 5 rfl rfl)
theorem dJ24_toUnsignedLong_6 : decode cJ24_toUnsignedLong 6 = .ok (.lreturn, 1) := dk_173 (dk_at dksJ24_toUnsignedLong_0 6 rfl rfl)
abbrev cJ24_pickPos : ByteArray := prog_68_method_350_code
def yJ24_pickPos : MethodName := ⟨RJ24, "pickPos", "(II)I"⟩
def dkwJ24_pickPos_0 : List UInt8 := [178, 1, 95, 153, 0, 9, 26, 27, 100, 167, 0, 4, 27, 172]
abbrev dktJ24_pickPos_0 : List UInt8 := dkwJ24_pickPos_0 ++ []
theorem dksJ24_pickPos_0 : cJ24_pickPos.data.toList.drop 0 = dktJ24_pickPos_0 := by decide +kernel
theorem dJ24_pickPos_0 : decode cJ24_pickPos 0 = .ok (.getstatic 351, 3) := dk_178 1 95 (dk_at dksJ24_pickPos_0 0 rfl rfl)
theorem dJ24_pickPos_3 : decode cJ24_pickPos 3 = .ok (.ifCond .eq 9, 3) := dk_153 0 9 (dk_at dksJ24_pickPos_0 3 rfl rfl)
theorem dJ24_pickPos_6 : decode cJ24_pickPos 6 = .ok (.iload_n 0, 1) := dk_26 (dk_at dksJ24_pickPos_0 6 rfl rfl)
theorem dJ24_pickPos_7 : decode cJ24_pickPos 7 = .ok (.iload_n 1, 1) := dk_27 (dk_at dksJ24_pickPos_0 7 rfl rfl)
theorem dJ24_pickPos_8 : decode cJ24_pickPos 8 = .ok (.isub, 1) := dk_100 (dk_at dksJ24_pickPos_0 8 rfl rfl)
theorem dJ24_pickPos_9 : decode cJ24_pickPos 9 = .ok (.goto 4, 3) := dk_167 0 4 (dk_at dksJ24_pickPos_0 9 rfl rfl)
theorem dJ24_pickPos_12 : decode cJ24_pickPos 12 = .ok (.iload_n 1, 1) := dk_27 (dk_at dksJ24_pickPos_0 12 rfl rfl)
theorem dJ24_pickPos_13 : decode cJ24_pickPos 13 = .ok (.ireturn, 1) := dk_172 (dk_at dksJ24_pickPos_0 13 rfl rfl)
abbrev cJ24_makeLong_2 : ByteArray := prog_68_method_352_code
def yJ24_makeLong_2 : MethodName := ⟨RJ24, "makeLong", "(SSSS)J"⟩
def dkwJ24_makeLong_2_2 : List UInt8 := [121, 129, 173]
abbrev dktJ24_makeLong_2_2 : List UInt8 := dkwJ24_makeLong_2_2 ++ []
def dkwJ24_makeLong_2_1 : List UInt8 := [28, 184, 3, 20, 16, 48, 16, 32, 184, 3, 16, 121, 129, 29, 184, 3, 20, 16, 48, 16, 48, 184, 3, 16]
abbrev dktJ24_makeLong_2_1 : List UInt8 := dkwJ24_makeLong_2_1 ++ dktJ24_makeLong_2_2
def dkwJ24_makeLong_2_0 : List UInt8 := [26, 184, 3, 20, 16, 48, 3, 184, 3, 16, 121, 27, 184, 3, 20, 16, 48, 16, 16, 184, 3, 16, 121, 129]
abbrev dktJ24_makeLong_2_0 : List UInt8 := dkwJ24_makeLong_2_0 ++ dktJ24_makeLong_2_1
theorem dksJ24_makeLong_2_0 : cJ24_makeLong_2.data.toList.drop 0 = dktJ24_makeLong_2_0 := by decide +kernel
theorem dksJ24_makeLong_2_1 : cJ24_makeLong_2.data.toList.drop 24 = dktJ24_makeLong_2_1 := dk_seg dksJ24_makeLong_2_0 24 rfl rfl
theorem dksJ24_makeLong_2_2 : cJ24_makeLong_2.data.toList.drop 48 = dktJ24_makeLong_2_2 := dk_seg dksJ24_makeLong_2_1 24 rfl rfl
theorem dJ24_makeLong_2_0 : decode cJ24_makeLong_2 0 = .ok (.iload_n 0, 1) := dk_26 (dk_at dksJ24_makeLong_2_0 0 rfl rfl)
theorem dJ24_makeLong_2_1 : decode cJ24_makeLong_2 1 = .ok (.invokestatic 788, 3) := dk_184 3 20 (dk_at dksJ24_makeLong_2_0 1 rfl rfl)
theorem dJ24_makeLong_2_4 : decode cJ24_makeLong_2 4 = .ok (.bipush 48, 2) := dk_16 48 (dk_at dksJ24_makeLong_2_0 4 rfl rfl)
theorem dJ24_makeLong_2_6 : decode cJ24_makeLong_2 6 = .ok (.iconst 0, 1) := dk_3 (dk_at dksJ24_makeLong_2_0 6 rfl rfl)
theorem dJ24_makeLong_2_7 : decode cJ24_makeLong_2 7 = .ok (.invokestatic 784, 3) := dk_184 3 16 (dk_at dksJ24_makeLong_2_0 7 rfl rfl)
theorem dJ24_makeLong_2_10 : decode cJ24_makeLong_2 10 = .ok (.lshl, 1) := dk_121 (dk_at dksJ24_makeLong_2_0 10 rfl rfl)
theorem dJ24_makeLong_2_11 : decode cJ24_makeLong_2 11 = .ok (.iload_n 1, 1) := dk_27 (dk_at dksJ24_makeLong_2_0 11 rfl rfl)
theorem dJ24_makeLong_2_12 : decode cJ24_makeLong_2 12 = .ok (.invokestatic 788, 3) := dk_184 3 20 (dk_at dksJ24_makeLong_2_0 12 rfl rfl)
theorem dJ24_makeLong_2_15 : decode cJ24_makeLong_2 15 = .ok (.bipush 48, 2) := dk_16 48 (dk_at dksJ24_makeLong_2_0 15 rfl rfl)
theorem dJ24_makeLong_2_17 : decode cJ24_makeLong_2 17 = .ok (.bipush 16, 2) := dk_16 16 (dk_at dksJ24_makeLong_2_0 17 rfl rfl)
theorem dJ24_makeLong_2_19 : decode cJ24_makeLong_2 19 = .ok (.invokestatic 784, 3) := dk_184 3 16 (dk_at dksJ24_makeLong_2_0 19 rfl rfl)
theorem dJ24_makeLong_2_22 : decode cJ24_makeLong_2 22 = .ok (.lshl, 1) := dk_121 (dk_at dksJ24_makeLong_2_0 22 rfl rfl)
theorem dJ24_makeLong_2_23 : decode cJ24_makeLong_2 23 = .ok (.lor, 1) := dk_129 (dk_at dksJ24_makeLong_2_0 23 rfl rfl)
theorem dJ24_makeLong_2_24 : decode cJ24_makeLong_2 24 = .ok (.iload_n 2, 1) := dk_28 (dk_at dksJ24_makeLong_2_1 0 rfl rfl)
theorem dJ24_makeLong_2_25 : decode cJ24_makeLong_2 25 = .ok (.invokestatic 788, 3) := dk_184 3 20 (dk_at dksJ24_makeLong_2_1 1 rfl rfl)
theorem dJ24_makeLong_2_28 : decode cJ24_makeLong_2 28 = .ok (.bipush 48, 2) := dk_16 48 (dk_at dksJ24_makeLong_2_1 4 rfl rfl)
theorem dJ24_makeLong_2_30 : decode cJ24_makeLong_2 30 = .ok (.bipush 32, 2) := dk_16 32 (dk_at dksJ24_makeLong_2_1 6 rfl rfl)
theorem dJ24_makeLong_2_32 : decode cJ24_makeLong_2 32 = .ok (.invokestatic 784, 3) := dk_184 3 16 (dk_at dksJ24_makeLong_2_1 8 rfl rfl)
theorem dJ24_makeLong_2_35 : decode cJ24_makeLong_2 35 = .ok (.lshl, 1) := dk_121 (dk_at dksJ24_makeLong_2_1 11 rfl rfl)
theorem dJ24_makeLong_2_36 : decode cJ24_makeLong_2 36 = .ok (.lor, 1) := dk_129 (dk_at dksJ24_makeLong_2_1 12 rfl rfl)
theorem dJ24_makeLong_2_37 : decode cJ24_makeLong_2 37 = .ok (.iload_n 3, 1) := dk_29 (dk_at dksJ24_makeLong_2_1 13 rfl rfl)
theorem dJ24_makeLong_2_38 : decode cJ24_makeLong_2 38 = .ok (.invokestatic 788, 3) := dk_184 3 20 (dk_at dksJ24_makeLong_2_1 14 rfl rfl)
theorem dJ24_makeLong_2_41 : decode cJ24_makeLong_2 41 = .ok (.bipush 48, 2) := dk_16 48 (dk_at dksJ24_makeLong_2_1 17 rfl rfl)
theorem dJ24_makeLong_2_43 : decode cJ24_makeLong_2 43 = .ok (.bipush 48, 2) := dk_16 48 (dk_at dksJ24_makeLong_2_1 19 rfl rfl)
theorem dJ24_makeLong_2_45 : decode cJ24_makeLong_2 45 = .ok (.invokestatic 784, 3) := dk_184 3 16 (dk_at dksJ24_makeLong_2_1 21 rfl rfl)
theorem dJ24_makeLong_2_48 : decode cJ24_makeLong_2 48 = .ok (.lshl, 1) := dk_121 (dk_at dksJ24_makeLong_2_2 0 rfl rfl)
theorem dJ24_makeLong_2_49 : decode cJ24_makeLong_2 49 = .ok (.lor, 1) := dk_129 (dk_at dksJ24_makeLong_2_2 1 rfl rfl)
theorem dJ24_makeLong_2_50 : decode cJ24_makeLong_2 50 = .ok (.lreturn, 1) := dk_173 (dk_at dksJ24_makeLong_2_2 2 rfl rfl)
abbrev cJ24_toUnsignedLong_2 : ByteArray := prog_68_method_369_code
def yJ24_toUnsignedLong_2 : MethodName := ⟨RJ24, "toUnsignedLong", "(S)J"⟩
def dkwJ24_toUnsignedLong_2_0 : List UInt8 := [26, 133, 20, 3, 42, 127, 173]
abbrev dktJ24_toUnsignedLong_2_0 : List UInt8 := dkwJ24_toUnsignedLong_2_0 ++ []
theorem dksJ24_toUnsignedLong_2_0 : cJ24_toUnsignedLong_2.data.toList.drop 0 = dktJ24_toUnsignedLong_2_0 := by decide +kernel
theorem dJ24_toUnsignedLong_2_0 : decode cJ24_toUnsignedLong_2 0 = .ok (.iload_n 0, 1) := dk_26 (dk_at dksJ24_toUnsignedLong_2_0 0 rfl rfl)
theorem dJ24_toUnsignedLong_2_1 : decode cJ24_toUnsignedLong_2 1 = .ok (.i2l, 1) := dk_133 (dk_at dksJ24_toUnsignedLong_2_0 1 rfl rfl)
theorem dJ24_toUnsignedLong_2_2 : decode cJ24_toUnsignedLong_2 2 = .ok (.ldc2_w 810, 3) := dk_20 3 42 (dk_at dksJ24_toUnsignedLong_2_0 2 rfl rfl)
theorem dJ24_toUnsignedLong_2_5 : decode cJ24_toUnsignedLong_2 5 = .ok (.land, 1) := dk_127 (dk_at dksJ24_toUnsignedLong_2_0 5 rfl rfl)
theorem dJ24_toUnsignedLong_2_6 : decode cJ24_toUnsignedLong_2 6 = .ok (.lreturn, 1) := dk_173 (dk_at dksJ24_toUnsignedLong_2_0 6 rfl rfl)
abbrev cJ24_makeLong_3 : ByteArray := prog_68_method_351_code
def yJ24_makeLong_3 : MethodName := ⟨RJ24, "makeLong", "(BBBBBBBB)J"⟩
def dkwJ24_makeLong_3_4 : List UInt8 := [184, 3, 13, 16, 56, 16, 56, 184, 3, 16, 121, 129, 173]
abbrev dktJ24_makeLong_3_4 : List UInt8 := dkwJ24_makeLong_3_4 ++ []
def dkwJ24_makeLong_3_3 : List UInt8 := [16, 40, 184, 3, 16, 121, 129, 21, 6, 184, 3, 13, 16, 56, 16, 48, 184, 3, 16, 121, 129, 21, 7]
abbrev dktJ24_makeLong_3_3 : List UInt8 := dkwJ24_makeLong_3_3 ++ dktJ24_makeLong_3_4
def dkwJ24_makeLong_3_2 : List UInt8 := [121, 129, 21, 4, 184, 3, 13, 16, 56, 16, 32, 184, 3, 16, 121, 129, 21, 5, 184, 3, 13, 16, 56]
abbrev dktJ24_makeLong_3_2 : List UInt8 := dkwJ24_makeLong_3_2 ++ dktJ24_makeLong_3_3
def dkwJ24_makeLong_3_1 : List UInt8 := [28, 184, 3, 13, 16, 56, 16, 16, 184, 3, 16, 121, 129, 29, 184, 3, 13, 16, 56, 16, 24, 184, 3, 16]
abbrev dktJ24_makeLong_3_1 : List UInt8 := dkwJ24_makeLong_3_1 ++ dktJ24_makeLong_3_2
def dkwJ24_makeLong_3_0 : List UInt8 := [26, 184, 3, 13, 16, 56, 3, 184, 3, 16, 121, 27, 184, 3, 13, 16, 56, 16, 8, 184, 3, 16, 121, 129]
abbrev dktJ24_makeLong_3_0 : List UInt8 := dkwJ24_makeLong_3_0 ++ dktJ24_makeLong_3_1
theorem dksJ24_makeLong_3_0 : cJ24_makeLong_3.data.toList.drop 0 = dktJ24_makeLong_3_0 := by decide +kernel
theorem dksJ24_makeLong_3_1 : cJ24_makeLong_3.data.toList.drop 24 = dktJ24_makeLong_3_1 := dk_seg dksJ24_makeLong_3_0 24 rfl rfl
theorem dksJ24_makeLong_3_2 : cJ24_makeLong_3.data.toList.drop 48 = dktJ24_makeLong_3_2 := dk_seg dksJ24_makeLong_3_1 24 rfl rfl
theorem dksJ24_makeLong_3_3 : cJ24_makeLong_3.data.toList.drop 71 = dktJ24_makeLong_3_3 := dk_seg dksJ24_makeLong_3_2 23 rfl rfl
theorem dksJ24_makeLong_3_4 : cJ24_makeLong_3.data.toList.drop 94 = dktJ24_makeLong_3_4 := dk_seg dksJ24_makeLong_3_3 23 rfl rfl
theorem dJ24_makeLong_3_0 : decode cJ24_makeLong_3 0 = .ok (.iload_n 0, 1) := dk_26 (dk_at dksJ24_makeLong_3_0 0 rfl rfl)
theorem dJ24_makeLong_3_1 : decode cJ24_makeLong_3 1 = .ok (.invokestatic 781, 3) := dk_184 3 13 (dk_at dksJ24_makeLong_3_0 1 rfl rfl)
theorem dJ24_makeLong_3_4 : decode cJ24_makeLong_3 4 = .ok (.bipush 56, 2) := dk_16 56 (dk_at dksJ24_makeLong_3_0 4 rfl rfl)
theorem dJ24_makeLong_3_6 : decode cJ24_makeLong_3 6 = .ok (.iconst 0, 1) := dk_3 (dk_at dksJ24_makeLong_3_0 6 rfl rfl)
theorem dJ24_makeLong_3_7 : decode cJ24_makeLong_3 7 = .ok (.invokestatic 784, 3) := dk_184 3 16 (dk_at dksJ24_makeLong_3_0 7 rfl rfl)
theorem dJ24_makeLong_3_10 : decode cJ24_makeLong_3 10 = .ok (.lshl, 1) := dk_121 (dk_at dksJ24_makeLong_3_0 10 rfl rfl)
theorem dJ24_makeLong_3_11 : decode cJ24_makeLong_3 11 = .ok (.iload_n 1, 1) := dk_27 (dk_at dksJ24_makeLong_3_0 11 rfl rfl)
theorem dJ24_makeLong_3_12 : decode cJ24_makeLong_3 12 = .ok (.invokestatic 781, 3) := dk_184 3 13 (dk_at dksJ24_makeLong_3_0 12 rfl rfl)
theorem dJ24_makeLong_3_15 : decode cJ24_makeLong_3 15 = .ok (.bipush 56, 2) := dk_16 56 (dk_at dksJ24_makeLong_3_0 15 rfl rfl)
theorem dJ24_makeLong_3_17 : decode cJ24_makeLong_3 17 = .ok (.bipush 8, 2) := dk_16 8 (dk_at dksJ24_makeLong_3_0 17 rfl rfl)
theorem dJ24_makeLong_3_19 : decode cJ24_makeLong_3 19 = .ok (.invokestatic 784, 3) := dk_184 3 16 (dk_at dksJ24_makeLong_3_0 19 rfl rfl)
theorem dJ24_makeLong_3_22 : decode cJ24_makeLong_3 22 = .ok (.lshl, 1) := dk_121 (dk_at dksJ24_makeLong_3_0 22 rfl rfl)
theorem dJ24_makeLong_3_23 : decode cJ24_makeLong_3 23 = .ok (.lor, 1) := dk_129 (dk_at dksJ24_makeLong_3_0 23 rfl rfl)
theorem dJ24_makeLong_3_24 : decode cJ24_makeLong_3 24 = .ok (.iload_n 2, 1) := dk_28 (dk_at dksJ24_makeLong_3_1 0 rfl rfl)
theorem dJ24_makeLong_3_25 : decode cJ24_makeLong_3 25 = .ok (.invokestatic 781, 3) := dk_184 3 13 (dk_at dksJ24_makeLong_3_1 1 rfl rfl)
theorem dJ24_makeLong_3_28 : decode cJ24_makeLong_3 28 = .ok (.bipush 56, 2) := dk_16 56 (dk_at dksJ24_makeLong_3_1 4 rfl rfl)
theorem dJ24_makeLong_3_30 : decode cJ24_makeLong_3 30 = .ok (.bipush 16, 2) := dk_16 16 (dk_at dksJ24_makeLong_3_1 6 rfl rfl)
theorem dJ24_makeLong_3_32 : decode cJ24_makeLong_3 32 = .ok (.invokestatic 784, 3) := dk_184 3 16 (dk_at dksJ24_makeLong_3_1 8 rfl rfl)
theorem dJ24_makeLong_3_35 : decode cJ24_makeLong_3 35 = .ok (.lshl, 1) := dk_121 (dk_at dksJ24_makeLong_3_1 11 rfl rfl)
theorem dJ24_makeLong_3_36 : decode cJ24_makeLong_3 36 = .ok (.lor, 1) := dk_129 (dk_at dksJ24_makeLong_3_1 12 rfl rfl)
theorem dJ24_makeLong_3_37 : decode cJ24_makeLong_3 37 = .ok (.iload_n 3, 1) := dk_29 (dk_at dksJ24_makeLong_3_1 13 rfl rfl)
theorem dJ24_makeLong_3_38 : decode cJ24_makeLong_3 38 = .ok (.invokestatic 781, 3) := dk_184 3 13 (dk_at dksJ24_makeLong_3_1 14 rfl rfl)
theorem dJ24_makeLong_3_41 : decode cJ24_makeLong_3 41 = .ok (.bipush 56, 2) := dk_16 56 (dk_at dksJ24_makeLong_3_1 17 rfl rfl)
theorem dJ24_makeLong_3_43 : decode cJ24_makeLong_3 43 = .ok (.bipush 24, 2) := dk_16 24 (dk_at dksJ24_makeLong_3_1 19 rfl rfl)
theorem dJ24_makeLong_3_45 : decode cJ24_makeLong_3 45 = .ok (.invokestatic 784, 3) := dk_184 3 16 (dk_at dksJ24_makeLong_3_1 21 rfl rfl)
theorem dJ24_makeLong_3_48 : decode cJ24_makeLong_3 48 = .ok (.lshl, 1) := dk_121 (dk_at dksJ24_makeLong_3_2 0 rfl rfl)
theorem dJ24_makeLong_3_49 : decode cJ24_makeLong_3 49 = .ok (.lor, 1) := dk_129 (dk_at dksJ24_makeLong_3_2 1 rfl rfl)
theorem dJ24_makeLong_3_50 : decode cJ24_makeLong_3 50 = .ok (.iload 4, 2) := dk_21 4 (dk_at dksJ24_makeLong_3_2 2 rfl rfl)
theorem dJ24_makeLong_3_52 : decode cJ24_makeLong_3 52 = .ok (.invokestatic 781, 3) := dk_184 3 13 (dk_at dksJ24_makeLong_3_2 4 rfl rfl)
theorem dJ24_makeLong_3_55 : decode cJ24_makeLong_3 55 = .ok (.bipush 56, 2) := dk_16 56 (dk_at dksJ24_makeLong_3_2 7 rfl rfl)
theorem dJ24_makeLong_3_57 : decode cJ24_makeLong_3 57 = .ok (.bipush 32, 2) := dk_16 32 (dk_at dksJ24_makeLong_3_2 9 rfl rfl)
theorem dJ24_makeLong_3_59 : decode cJ24_makeLong_3 59 = .ok (.invokestatic 784, 3) := dk_184 3 16 (dk_at dksJ24_makeLong_3_2 11 rfl rfl)
theorem dJ24_makeLong_3_62 : decode cJ24_makeLong_3 62 = .ok (.lshl, 1) := dk_121 (dk_at dksJ24_makeLong_3_2 14 rfl rfl)
theorem dJ24_makeLong_3_63 : decode cJ24_makeLong_3 63 = .ok (.lor, 1) := dk_129 (dk_at dksJ24_makeLong_3_2 15 rfl rfl)
theorem dJ24_makeLong_3_64 : decode cJ24_makeLong_3 64 = .ok (.iload 5, 2) := dk_21 5 (dk_at dksJ24_makeLong_3_2 16 rfl rfl)
theorem dJ24_makeLong_3_66 : decode cJ24_makeLong_3 66 = .ok (.invokestatic 781, 3) := dk_184 3 13 (dk_at dksJ24_makeLong_3_2 18 rfl rfl)
theorem dJ24_makeLong_3_69 : decode cJ24_makeLong_3 69 = .ok (.bipush 56, 2) := dk_16 56 (dk_at dksJ24_makeLong_3_2 21 rfl rfl)
theorem dJ24_makeLong_3_71 : decode cJ24_makeLong_3 71 = .ok (.bipush 40, 2) := dk_16 40 (dk_at dksJ24_makeLong_3_3 0 rfl rfl)
theorem dJ24_makeLong_3_73 : decode cJ24_makeLong_3 73 = .ok (.invokestatic 784, 3) := dk_184 3 16 (dk_at dksJ24_makeLong_3_3 2 rfl rfl)
theorem dJ24_makeLong_3_76 : decode cJ24_makeLong_3 76 = .ok (.lshl, 1) := dk_121 (dk_at dksJ24_makeLong_3_3 5 rfl rfl)
theorem dJ24_makeLong_3_77 : decode cJ24_makeLong_3 77 = .ok (.lor, 1) := dk_129 (dk_at dksJ24_makeLong_3_3 6 rfl rfl)
theorem dJ24_makeLong_3_78 : decode cJ24_makeLong_3 78 = .ok (.iload 6, 2) := dk_21 6 (dk_at dksJ24_makeLong_3_3 7 rfl rfl)
theorem dJ24_makeLong_3_80 : decode cJ24_makeLong_3 80 = .ok (.invokestatic 781, 3) := dk_184 3 13 (dk_at dksJ24_makeLong_3_3 9 rfl rfl)
theorem dJ24_makeLong_3_83 : decode cJ24_makeLong_3 83 = .ok (.bipush 56, 2) := dk_16 56 (dk_at dksJ24_makeLong_3_3 12 rfl rfl)
theorem dJ24_makeLong_3_85 : decode cJ24_makeLong_3 85 = .ok (.bipush 48, 2) := dk_16 48 (dk_at dksJ24_makeLong_3_3 14 rfl rfl)
theorem dJ24_makeLong_3_87 : decode cJ24_makeLong_3 87 = .ok (.invokestatic 784, 3) := dk_184 3 16 (dk_at dksJ24_makeLong_3_3 16 rfl rfl)
theorem dJ24_makeLong_3_90 : decode cJ24_makeLong_3 90 = .ok (.lshl, 1) := dk_121 (dk_at dksJ24_makeLong_3_3 19 rfl rfl)
theorem dJ24_makeLong_3_91 : decode cJ24_makeLong_3 91 = .ok (.lor, 1) := dk_129 (dk_at dksJ24_makeLong_3_3 20 rfl rfl)
theorem dJ24_makeLong_3_92 : decode cJ24_makeLong_3 92 = .ok (.iload 7, 2) := dk_21 7 (dk_at dksJ24_makeLong_3_3 21 rfl rfl)
theorem dJ24_makeLong_3_94 : decode cJ24_makeLong_3 94 = .ok (.invokestatic 781, 3) := dk_184 3 13 (dk_at dksJ24_makeLong_3_4 0 rfl rfl)
theorem dJ24_makeLong_3_97 : decode cJ24_makeLong_3 97 = .ok (.bipush 56, 2) := dk_16 56 (dk_at dksJ24_makeLong_3_4 3 rfl rfl)
theorem dJ24_makeLong_3_99 : decode cJ24_makeLong_3 99 = .ok (.bipush 56, 2) := dk_16 56 (dk_at dksJ24_makeLong_3_4 5 rfl rfl)
theorem dJ24_makeLong_3_101 : decode cJ24_makeLong_3 101 = .ok (.invokestatic 784, 3) := dk_184 3 16 (dk_at dksJ24_makeLong_3_4 7 rfl rfl)
theorem dJ24_makeLong_3_104 : decode cJ24_makeLong_3 104 = .ok (.lshl, 1) := dk_121 (dk_at dksJ24_makeLong_3_4 10 rfl rfl)
theorem dJ24_makeLong_3_105 : decode cJ24_makeLong_3 105 = .ok (.lor, 1) := dk_129 (dk_at dksJ24_makeLong_3_4 11 rfl rfl)
theorem dJ24_makeLong_3_106 : decode cJ24_makeLong_3 106 = .ok (.lreturn, 1) := dk_173 (dk_at dksJ24_makeLong_3_4 12 rfl rfl)
abbrev cJ24_toUnsignedLong_3 : ByteArray := prog_68_method_368_code
def yJ24_toUnsignedLong_3 : MethodName := ⟨RJ24, "toUnsignedLong", "(B)J"⟩
def dkwJ24_toUnsignedLong_3_0 : List UInt8 := [26, 133, 20, 3, 40, 127, 173]
abbrev dktJ24_toUnsignedLong_3_0 : List UInt8 := dkwJ24_toUnsignedLong_3_0 ++ []
theorem dksJ24_toUnsignedLong_3_0 : cJ24_toUnsignedLong_3.data.toList.drop 0 = dktJ24_toUnsignedLong_3_0 := by decide +kernel
theorem dJ24_toUnsignedLong_3_0 : decode cJ24_toUnsignedLong_3 0 = .ok (.iload_n 0, 1) := dk_26 (dk_at dksJ24_toUnsignedLong_3_0 0 rfl rfl)
theorem dJ24_toUnsignedLong_3_1 : decode cJ24_toUnsignedLong_3 1 = .ok (.i2l, 1) := dk_133 (dk_at dksJ24_toUnsignedLong_3_0 1 rfl rfl)
theorem dJ24_toUnsignedLong_3_2 : decode cJ24_toUnsignedLong_3 2 = .ok (.ldc2_w 808, 3) := dk_20 3 40 (dk_at dksJ24_toUnsignedLong_3_0 2 rfl rfl)
theorem dJ24_toUnsignedLong_3_5 : decode cJ24_toUnsignedLong_3 5 = .ok (.land, 1) := dk_127 (dk_at dksJ24_toUnsignedLong_3_0 5 rfl rfl)
theorem dJ24_toUnsignedLong_3_6 : decode cJ24_toUnsignedLong_3 6 = .ok (.lreturn, 1) := dk_173 (dk_at dksJ24_toUnsignedLong_3_0 6 rfl rfl)
abbrev cJ24_getIntUnaligned : ByteArray := prog_68_method_336_code
def yJ24_getIntUnaligned : MethodName := ⟨RJ24, "getIntUnaligned", "(Ljava/lang/Object;J)I"⟩
def dkwJ24_getIntUnaligned_3 : List UInt8 := [43, 32, 20, 1, 93, 97, 182, 0, 39, 184, 2, 211, 172]
abbrev dktJ24_getIntUnaligned_3 : List UInt8 := dkwJ24_getIntUnaligned_3 ++ []
def dkwJ24_getIntUnaligned_2 : List UInt8 := [43, 32, 182, 0, 39, 42, 43, 32, 10, 97, 182, 0, 39, 42, 43, 32, 20, 0, 203, 97, 182, 0, 39, 42]
abbrev dktJ24_getIntUnaligned_2 : List UInt8 := dkwJ24_getIntUnaligned_2 ++ dktJ24_getIntUnaligned_3
def dkwJ24_getIntUnaligned_1 : List UInt8 := [154, 0, 23, 42, 43, 32, 182, 0, 47, 42, 43, 32, 20, 0, 203, 97, 182, 0, 47, 184, 2, 207, 172, 42]
abbrev dktJ24_getIntUnaligned_1 : List UInt8 := dkwJ24_getIntUnaligned_1 ++ dktJ24_getIntUnaligned_2
def dkwJ24_getIntUnaligned_0 : List UInt8 := [32, 20, 1, 93, 127, 9, 148, 154, 0, 10, 42, 43, 32, 182, 0, 17, 172, 32, 10, 127, 9, 148]
abbrev dktJ24_getIntUnaligned_0 : List UInt8 := dkwJ24_getIntUnaligned_0 ++ dktJ24_getIntUnaligned_1
theorem dksJ24_getIntUnaligned_0 : cJ24_getIntUnaligned.data.toList.drop 0 = dktJ24_getIntUnaligned_0 := by decide +kernel
theorem dksJ24_getIntUnaligned_1 : cJ24_getIntUnaligned.data.toList.drop 22 = dktJ24_getIntUnaligned_1 := dk_seg dksJ24_getIntUnaligned_0 22 rfl rfl
theorem dksJ24_getIntUnaligned_2 : cJ24_getIntUnaligned.data.toList.drop 46 = dktJ24_getIntUnaligned_2 := dk_seg dksJ24_getIntUnaligned_1 24 rfl rfl
theorem dksJ24_getIntUnaligned_3 : cJ24_getIntUnaligned.data.toList.drop 70 = dktJ24_getIntUnaligned_3 := dk_seg dksJ24_getIntUnaligned_2 24 rfl rfl
theorem dJ24_getIntUnaligned_0 : decode cJ24_getIntUnaligned 0 = .ok (.lload_n 2, 1) := dk_32 (dk_at dksJ24_getIntUnaligned_0 0 rfl rfl)
theorem dJ24_getIntUnaligned_1 : decode cJ24_getIntUnaligned 1 = .ok (.ldc2_w 349, 3) := dk_20 1 93 (dk_at dksJ24_getIntUnaligned_0 1 rfl rfl)
theorem dJ24_getIntUnaligned_4 : decode cJ24_getIntUnaligned 4 = .ok (.land, 1) := dk_127 (dk_at dksJ24_getIntUnaligned_0 4 rfl rfl)
theorem dJ24_getIntUnaligned_5 : decode cJ24_getIntUnaligned 5 = .ok (.lconst 0, 1) := dk_9 (dk_at dksJ24_getIntUnaligned_0 5 rfl rfl)
theorem dJ24_getIntUnaligned_6 : decode cJ24_getIntUnaligned 6 = .ok (.lcmp, 1) := dk_148 (dk_at dksJ24_getIntUnaligned_0 6 rfl rfl)
theorem dJ24_getIntUnaligned_7 : decode cJ24_getIntUnaligned 7 = .ok (.ifCond .ne 10, 3) := dk_154 0 10 (dk_at dksJ24_getIntUnaligned_0 7 rfl rfl)
theorem dJ24_getIntUnaligned_10 : decode cJ24_getIntUnaligned 10 = .ok (.aload_n 0, 1) := dk_42 (dk_at dksJ24_getIntUnaligned_0 10 rfl rfl)
theorem dJ24_getIntUnaligned_11 : decode cJ24_getIntUnaligned 11 = .ok (.aload_n 1, 1) := dk_43 (dk_at dksJ24_getIntUnaligned_0 11 rfl rfl)
theorem dJ24_getIntUnaligned_12 : decode cJ24_getIntUnaligned 12 = .ok (.lload_n 2, 1) := dk_32 (dk_at dksJ24_getIntUnaligned_0 12 rfl rfl)
theorem dJ24_getIntUnaligned_13 : decode cJ24_getIntUnaligned 13 = .ok (.invokevirtual 17, 3) := dk_182 0 17 (dk_at dksJ24_getIntUnaligned_0 13 rfl rfl)
theorem dJ24_getIntUnaligned_16 : decode cJ24_getIntUnaligned 16 = .ok (.ireturn, 1) := dk_172 (dk_at dksJ24_getIntUnaligned_0 16 rfl rfl)
theorem dJ24_getIntUnaligned_17 : decode cJ24_getIntUnaligned 17 = .ok (.lload_n 2, 1) := dk_32 (dk_at dksJ24_getIntUnaligned_0 17 rfl rfl)
theorem dJ24_getIntUnaligned_18 : decode cJ24_getIntUnaligned 18 = .ok (.lconst 1, 1) := dk_10 (dk_at dksJ24_getIntUnaligned_0 18 rfl rfl)
theorem dJ24_getIntUnaligned_19 : decode cJ24_getIntUnaligned 19 = .ok (.land, 1) := dk_127 (dk_at dksJ24_getIntUnaligned_0 19 rfl rfl)
theorem dJ24_getIntUnaligned_20 : decode cJ24_getIntUnaligned 20 = .ok (.lconst 0, 1) := dk_9 (dk_at dksJ24_getIntUnaligned_0 20 rfl rfl)
theorem dJ24_getIntUnaligned_21 : decode cJ24_getIntUnaligned 21 = .ok (.lcmp, 1) := dk_148 (dk_at dksJ24_getIntUnaligned_0 21 rfl rfl)
theorem dJ24_getIntUnaligned_22 : decode cJ24_getIntUnaligned 22 = .ok (.ifCond .ne 23, 3) := dk_154 0 23 (dk_at dksJ24_getIntUnaligned_1 0 rfl rfl)
theorem dJ24_getIntUnaligned_25 : decode cJ24_getIntUnaligned 25 = .ok (.aload_n 0, 1) := dk_42 (dk_at dksJ24_getIntUnaligned_1 3 rfl rfl)
theorem dJ24_getIntUnaligned_26 : decode cJ24_getIntUnaligned 26 = .ok (.aload_n 1, 1) := dk_43 (dk_at dksJ24_getIntUnaligned_1 4 rfl rfl)
theorem dJ24_getIntUnaligned_27 : decode cJ24_getIntUnaligned 27 = .ok (.lload_n 2, 1) := dk_32 (dk_at dksJ24_getIntUnaligned_1 5 rfl rfl)
theorem dJ24_getIntUnaligned_28 : decode cJ24_getIntUnaligned 28 = .ok (.invokevirtual 47, 3) := dk_182 0 47 (dk_at dksJ24_getIntUnaligned_1 6 rfl rfl)
theorem dJ24_getIntUnaligned_31 : decode cJ24_getIntUnaligned 31 = .ok (.aload_n 0, 1) := dk_42 (dk_at dksJ24_getIntUnaligned_1 9 rfl rfl)
theorem dJ24_getIntUnaligned_32 : decode cJ24_getIntUnaligned 32 = .ok (.aload_n 1, 1) := dk_43 (dk_at dksJ24_getIntUnaligned_1 10 rfl rfl)
theorem dJ24_getIntUnaligned_33 : decode cJ24_getIntUnaligned 33 = .ok (.lload_n 2, 1) := dk_32 (dk_at dksJ24_getIntUnaligned_1 11 rfl rfl)
theorem dJ24_getIntUnaligned_34 : decode cJ24_getIntUnaligned 34 = .ok (.ldc2_w 203, 3) := dk_20 0 203 (dk_at dksJ24_getIntUnaligned_1 12 rfl rfl)
theorem dJ24_getIntUnaligned_37 : decode cJ24_getIntUnaligned 37 = .ok (.ladd, 1) := dk_97 (dk_at dksJ24_getIntUnaligned_1 15 rfl rfl)
theorem dJ24_getIntUnaligned_38 : decode cJ24_getIntUnaligned 38 = .ok (.invokevirtual 47, 3) := dk_182 0 47 (dk_at dksJ24_getIntUnaligned_1 16 rfl rfl)
theorem dJ24_getIntUnaligned_41 : decode cJ24_getIntUnaligned 41 = .ok (.invokestatic 719, 3) := dk_184 2 207 (dk_at dksJ24_getIntUnaligned_1 19 rfl rfl)
theorem dJ24_getIntUnaligned_44 : decode cJ24_getIntUnaligned 44 = .ok (.ireturn, 1) := dk_172 (dk_at dksJ24_getIntUnaligned_1 22 rfl rfl)
theorem dJ24_getIntUnaligned_45 : decode cJ24_getIntUnaligned 45 = .ok (.aload_n 0, 1) := dk_42 (dk_at dksJ24_getIntUnaligned_1 23 rfl rfl)
theorem dJ24_getIntUnaligned_46 : decode cJ24_getIntUnaligned 46 = .ok (.aload_n 1, 1) := dk_43 (dk_at dksJ24_getIntUnaligned_2 0 rfl rfl)
theorem dJ24_getIntUnaligned_47 : decode cJ24_getIntUnaligned 47 = .ok (.lload_n 2, 1) := dk_32 (dk_at dksJ24_getIntUnaligned_2 1 rfl rfl)
theorem dJ24_getIntUnaligned_48 : decode cJ24_getIntUnaligned 48 = .ok (.invokevirtual 39, 3) := dk_182 0 39 (dk_at dksJ24_getIntUnaligned_2 2 rfl rfl)
theorem dJ24_getIntUnaligned_51 : decode cJ24_getIntUnaligned 51 = .ok (.aload_n 0, 1) := dk_42 (dk_at dksJ24_getIntUnaligned_2 5 rfl rfl)
theorem dJ24_getIntUnaligned_52 : decode cJ24_getIntUnaligned 52 = .ok (.aload_n 1, 1) := dk_43 (dk_at dksJ24_getIntUnaligned_2 6 rfl rfl)
theorem dJ24_getIntUnaligned_53 : decode cJ24_getIntUnaligned 53 = .ok (.lload_n 2, 1) := dk_32 (dk_at dksJ24_getIntUnaligned_2 7 rfl rfl)
theorem dJ24_getIntUnaligned_54 : decode cJ24_getIntUnaligned 54 = .ok (.lconst 1, 1) := dk_10 (dk_at dksJ24_getIntUnaligned_2 8 rfl rfl)
theorem dJ24_getIntUnaligned_55 : decode cJ24_getIntUnaligned 55 = .ok (.ladd, 1) := dk_97 (dk_at dksJ24_getIntUnaligned_2 9 rfl rfl)
theorem dJ24_getIntUnaligned_56 : decode cJ24_getIntUnaligned 56 = .ok (.invokevirtual 39, 3) := dk_182 0 39 (dk_at dksJ24_getIntUnaligned_2 10 rfl rfl)
theorem dJ24_getIntUnaligned_59 : decode cJ24_getIntUnaligned 59 = .ok (.aload_n 0, 1) := dk_42 (dk_at dksJ24_getIntUnaligned_2 13 rfl rfl)
theorem dJ24_getIntUnaligned_60 : decode cJ24_getIntUnaligned 60 = .ok (.aload_n 1, 1) := dk_43 (dk_at dksJ24_getIntUnaligned_2 14 rfl rfl)
theorem dJ24_getIntUnaligned_61 : decode cJ24_getIntUnaligned 61 = .ok (.lload_n 2, 1) := dk_32 (dk_at dksJ24_getIntUnaligned_2 15 rfl rfl)
theorem dJ24_getIntUnaligned_62 : decode cJ24_getIntUnaligned 62 = .ok (.ldc2_w 203, 3) := dk_20 0 203 (dk_at dksJ24_getIntUnaligned_2 16 rfl rfl)
theorem dJ24_getIntUnaligned_65 : decode cJ24_getIntUnaligned 65 = .ok (.ladd, 1) := dk_97 (dk_at dksJ24_getIntUnaligned_2 19 rfl rfl)
theorem dJ24_getIntUnaligned_66 : decode cJ24_getIntUnaligned 66 = .ok (.invokevirtual 39, 3) := dk_182 0 39 (dk_at dksJ24_getIntUnaligned_2 20 rfl rfl)
theorem dJ24_getIntUnaligned_69 : decode cJ24_getIntUnaligned 69 = .ok (.aload_n 0, 1) := dk_42 (dk_at dksJ24_getIntUnaligned_2 23 rfl rfl)
theorem dJ24_getIntUnaligned_70 : decode cJ24_getIntUnaligned 70 = .ok (.aload_n 1, 1) := dk_43 (dk_at dksJ24_getIntUnaligned_3 0 rfl rfl)
theorem dJ24_getIntUnaligned_71 : decode cJ24_getIntUnaligned 71 = .ok (.lload_n 2, 1) := dk_32 (dk_at dksJ24_getIntUnaligned_3 1 rfl rfl)
theorem dJ24_getIntUnaligned_72 : decode cJ24_getIntUnaligned 72 = .ok (.ldc2_w 349, 3) := dk_20 1 93 (dk_at dksJ24_getIntUnaligned_3 2 rfl rfl)
theorem dJ24_getIntUnaligned_75 : decode cJ24_getIntUnaligned 75 = .ok (.ladd, 1) := dk_97 (dk_at dksJ24_getIntUnaligned_3 5 rfl rfl)
theorem dJ24_getIntUnaligned_76 : decode cJ24_getIntUnaligned 76 = .ok (.invokevirtual 39, 3) := dk_182 0 39 (dk_at dksJ24_getIntUnaligned_3 6 rfl rfl)
theorem dJ24_getIntUnaligned_79 : decode cJ24_getIntUnaligned 79 = .ok (.invokestatic 723, 3) := dk_184 2 211 (dk_at dksJ24_getIntUnaligned_3 9 rfl rfl)
theorem dJ24_getIntUnaligned_82 : decode cJ24_getIntUnaligned 82 = .ok (.ireturn, 1) := dk_172 (dk_at dksJ24_getIntUnaligned_3 12 rfl rfl)
abbrev cJ24_makeInt : ByteArray := prog_68_method_354_code
def yJ24_makeInt : MethodName := ⟨RJ24, "makeInt", "(SS)I"⟩
def dkwJ24_makeInt_1 : List UInt8 := [172]
abbrev dktJ24_makeInt_1 : List UInt8 := dkwJ24_makeInt_1 ++ []
def dkwJ24_makeInt_0 : List UInt8 := [26, 184, 3, 24, 16, 16, 3, 184, 3, 16, 120, 27, 184, 3, 24, 16, 16, 16, 16, 184, 3, 16, 120, 128]
abbrev dktJ24_makeInt_0 : List UInt8 := dkwJ24_makeInt_0 ++ dktJ24_makeInt_1
theorem dksJ24_makeInt_0 : cJ24_makeInt.data.toList.drop 0 = dktJ24_makeInt_0 := by decide +kernel
theorem dksJ24_makeInt_1 : cJ24_makeInt.data.toList.drop 24 = dktJ24_makeInt_1 := dk_seg dksJ24_makeInt_0 24 rfl rfl
theorem dJ24_makeInt_0 : decode cJ24_makeInt 0 = .ok (.iload_n 0, 1) := dk_26 (dk_at dksJ24_makeInt_0 0 rfl rfl)
theorem dJ24_makeInt_1 : decode cJ24_makeInt 1 = .ok (.invokestatic 792, 3) := dk_184 3 24 (dk_at dksJ24_makeInt_0 1 rfl rfl)
theorem dJ24_makeInt_4 : decode cJ24_makeInt 4 = .ok (.bipush 16, 2) := dk_16 16 (dk_at dksJ24_makeInt_0 4 rfl rfl)
theorem dJ24_makeInt_6 : decode cJ24_makeInt 6 = .ok (.iconst 0, 1) := dk_3 (dk_at dksJ24_makeInt_0 6 rfl rfl)
theorem dJ24_makeInt_7 : decode cJ24_makeInt 7 = .ok (.invokestatic 784, 3) := dk_184 3 16 (dk_at dksJ24_makeInt_0 7 rfl rfl)
theorem dJ24_makeInt_10 : decode cJ24_makeInt 10 = .ok (.ishl, 1) := dk_120 (dk_at dksJ24_makeInt_0 10 rfl rfl)
theorem dJ24_makeInt_11 : decode cJ24_makeInt 11 = .ok (.iload_n 1, 1) := dk_27 (dk_at dksJ24_makeInt_0 11 rfl rfl)
theorem dJ24_makeInt_12 : decode cJ24_makeInt 12 = .ok (.invokestatic 792, 3) := dk_184 3 24 (dk_at dksJ24_makeInt_0 12 rfl rfl)
theorem dJ24_makeInt_15 : decode cJ24_makeInt 15 = .ok (.bipush 16, 2) := dk_16 16 (dk_at dksJ24_makeInt_0 15 rfl rfl)
theorem dJ24_makeInt_17 : decode cJ24_makeInt 17 = .ok (.bipush 16, 2) := dk_16 16 (dk_at dksJ24_makeInt_0 17 rfl rfl)
theorem dJ24_makeInt_19 : decode cJ24_makeInt 19 = .ok (.invokestatic 784, 3) := dk_184 3 16 (dk_at dksJ24_makeInt_0 19 rfl rfl)
theorem dJ24_makeInt_22 : decode cJ24_makeInt 22 = .ok (.ishl, 1) := dk_120 (dk_at dksJ24_makeInt_0 22 rfl rfl)
theorem dJ24_makeInt_23 : decode cJ24_makeInt 23 = .ok (.ior, 1) := dk_128 (dk_at dksJ24_makeInt_0 23 rfl rfl)
theorem dJ24_makeInt_24 : decode cJ24_makeInt 24 = .ok (.ireturn, 1) := dk_172 (dk_at dksJ24_makeInt_1 0 rfl rfl)
abbrev cJ24_toUnsignedInt : ByteArray := prog_68_method_367_code
def yJ24_toUnsignedInt : MethodName := ⟨RJ24, "toUnsignedInt", "(S)I"⟩
def dkwJ24_toUnsignedInt_0 : List UInt8 := [26, 19, 1, 118, 126, 172]
abbrev dktJ24_toUnsignedInt_0 : List UInt8 := dkwJ24_toUnsignedInt_0 ++ []
theorem dksJ24_toUnsignedInt_0 : cJ24_toUnsignedInt.data.toList.drop 0 = dktJ24_toUnsignedInt_0 := by decide +kernel
theorem dJ24_toUnsignedInt_0 : decode cJ24_toUnsignedInt 0 = .ok (.iload_n 0, 1) := dk_26 (dk_at dksJ24_toUnsignedInt_0 0 rfl rfl)
theorem dJ24_toUnsignedInt_1 : decode cJ24_toUnsignedInt 1 = .ok (.ldc_w 374, 3) := dk_19 1 118 (dk_at dksJ24_toUnsignedInt_0 1 rfl rfl)
theorem dJ24_toUnsignedInt_4 : decode cJ24_toUnsignedInt 4 = .ok (.iand, 1) := dk_126 (dk_at dksJ24_toUnsignedInt_0 4 rfl rfl)
theorem dJ24_toUnsignedInt_5 : decode cJ24_toUnsignedInt 5 = .ok (.ireturn, 1) := dk_172 (dk_at dksJ24_toUnsignedInt_0 5 rfl rfl)
abbrev cJ24_makeInt_2 : ByteArray := prog_68_method_355_code
def yJ24_makeInt_2 : MethodName := ⟨RJ24, "makeInt", "(BBBB)I"⟩
def dkwJ24_makeInt_2_2 : List UInt8 := [120, 128, 172]
abbrev dktJ24_makeInt_2_2 : List UInt8 := dkwJ24_makeInt_2_2 ++ []
def dkwJ24_makeInt_2_1 : List UInt8 := [28, 184, 3, 28, 16, 24, 16, 16, 184, 3, 16, 120, 128, 29, 184, 3, 28, 16, 24, 16, 24, 184, 3, 16]
abbrev dktJ24_makeInt_2_1 : List UInt8 := dkwJ24_makeInt_2_1 ++ dktJ24_makeInt_2_2
def dkwJ24_makeInt_2_0 : List UInt8 := [26, 184, 3, 28, 16, 24, 3, 184, 3, 16, 120, 27, 184, 3, 28, 16, 24, 16, 8, 184, 3, 16, 120, 128]
abbrev dktJ24_makeInt_2_0 : List UInt8 := dkwJ24_makeInt_2_0 ++ dktJ24_makeInt_2_1
theorem dksJ24_makeInt_2_0 : cJ24_makeInt_2.data.toList.drop 0 = dktJ24_makeInt_2_0 := by decide +kernel
theorem dksJ24_makeInt_2_1 : cJ24_makeInt_2.data.toList.drop 24 = dktJ24_makeInt_2_1 := dk_seg dksJ24_makeInt_2_0 24 rfl rfl
theorem dksJ24_makeInt_2_2 : cJ24_makeInt_2.data.toList.drop 48 = dktJ24_makeInt_2_2 := dk_seg dksJ24_makeInt_2_1 24 rfl rfl
theorem dJ24_makeInt_2_0 : decode cJ24_makeInt_2 0 = .ok (.iload_n 0, 1) := dk_26 (dk_at dksJ24_makeInt_2_0 0 rfl rfl)
theorem dJ24_makeInt_2_1 : decode cJ24_makeInt_2 1 = .ok (.invokestatic 796, 3) := dk_184 3 28 (dk_at dksJ24_makeInt_2_0 1 rfl rfl)
theorem dJ24_makeInt_2_4 : decode cJ24_makeInt_2 4 = .ok (.bipush 24, 2) := dk_16 24 (dk_at dksJ24_makeInt_2_0 4 rfl rfl)
theorem dJ24_makeInt_2_6 : decode cJ24_makeInt_2 6 = .ok (.iconst 0, 1) := dk_3 (dk_at dksJ24_makeInt_2_0 6 rfl rfl)
theorem dJ24_makeInt_2_7 : decode cJ24_makeInt_2 7 = .ok (.invokestatic 784, 3) := dk_184 3 16 (dk_at dksJ24_makeInt_2_0 7 rfl rfl)
theorem dJ24_makeInt_2_10 : decode cJ24_makeInt_2 10 = .ok (.ishl, 1) := dk_120 (dk_at dksJ24_makeInt_2_0 10 rfl rfl)
theorem dJ24_makeInt_2_11 : decode cJ24_makeInt_2 11 = .ok (.iload_n 1, 1) := dk_27 (dk_at dksJ24_makeInt_2_0 11 rfl rfl)
theorem dJ24_makeInt_2_12 : decode cJ24_makeInt_2 12 = .ok (.invokestatic 796, 3) := dk_184 3 28 (dk_at dksJ24_makeInt_2_0 12 rfl rfl)
theorem dJ24_makeInt_2_15 : decode cJ24_makeInt_2 15 = .ok (.bipush 24, 2) := dk_16 24 (dk_at dksJ24_makeInt_2_0 15 rfl rfl)
theorem dJ24_makeInt_2_17 : decode cJ24_makeInt_2 17 = .ok (.bipush 8, 2) := dk_16 8 (dk_at dksJ24_makeInt_2_0 17 rfl rfl)
theorem dJ24_makeInt_2_19 : decode cJ24_makeInt_2 19 = .ok (.invokestatic 784, 3) := dk_184 3 16 (dk_at dksJ24_makeInt_2_0 19 rfl rfl)
theorem dJ24_makeInt_2_22 : decode cJ24_makeInt_2 22 = .ok (.ishl, 1) := dk_120 (dk_at dksJ24_makeInt_2_0 22 rfl rfl)
theorem dJ24_makeInt_2_23 : decode cJ24_makeInt_2 23 = .ok (.ior, 1) := dk_128 (dk_at dksJ24_makeInt_2_0 23 rfl rfl)
theorem dJ24_makeInt_2_24 : decode cJ24_makeInt_2 24 = .ok (.iload_n 2, 1) := dk_28 (dk_at dksJ24_makeInt_2_1 0 rfl rfl)
theorem dJ24_makeInt_2_25 : decode cJ24_makeInt_2 25 = .ok (.invokestatic 796, 3) := dk_184 3 28 (dk_at dksJ24_makeInt_2_1 1 rfl rfl)
theorem dJ24_makeInt_2_28 : decode cJ24_makeInt_2 28 = .ok (.bipush 24, 2) := dk_16 24 (dk_at dksJ24_makeInt_2_1 4 rfl rfl)
theorem dJ24_makeInt_2_30 : decode cJ24_makeInt_2 30 = .ok (.bipush 16, 2) := dk_16 16 (dk_at dksJ24_makeInt_2_1 6 rfl rfl)
theorem dJ24_makeInt_2_32 : decode cJ24_makeInt_2 32 = .ok (.invokestatic 784, 3) := dk_184 3 16 (dk_at dksJ24_makeInt_2_1 8 rfl rfl)
theorem dJ24_makeInt_2_35 : decode cJ24_makeInt_2 35 = .ok (.ishl, 1) := dk_120 (dk_at dksJ24_makeInt_2_1 11 rfl rfl)
theorem dJ24_makeInt_2_36 : decode cJ24_makeInt_2 36 = .ok (.ior, 1) := dk_128 (dk_at dksJ24_makeInt_2_1 12 rfl rfl)
theorem dJ24_makeInt_2_37 : decode cJ24_makeInt_2 37 = .ok (.iload_n 3, 1) := dk_29 (dk_at dksJ24_makeInt_2_1 13 rfl rfl)
theorem dJ24_makeInt_2_38 : decode cJ24_makeInt_2 38 = .ok (.invokestatic 796, 3) := dk_184 3 28 (dk_at dksJ24_makeInt_2_1 14 rfl rfl)
theorem dJ24_makeInt_2_41 : decode cJ24_makeInt_2 41 = .ok (.bipush 24, 2) := dk_16 24 (dk_at dksJ24_makeInt_2_1 17 rfl rfl)
theorem dJ24_makeInt_2_43 : decode cJ24_makeInt_2 43 = .ok (.bipush 24, 2) := dk_16 24 (dk_at dksJ24_makeInt_2_1 19 rfl rfl)
theorem dJ24_makeInt_2_45 : decode cJ24_makeInt_2 45 = .ok (.invokestatic 784, 3) := dk_184 3 16 (dk_at dksJ24_makeInt_2_1 21 rfl rfl)
theorem dJ24_makeInt_2_48 : decode cJ24_makeInt_2 48 = .ok (.ishl, 1) := dk_120 (dk_at dksJ24_makeInt_2_2 0 rfl rfl)
theorem dJ24_makeInt_2_49 : decode cJ24_makeInt_2 49 = .ok (.ior, 1) := dk_128 (dk_at dksJ24_makeInt_2_2 1 rfl rfl)
theorem dJ24_makeInt_2_50 : decode cJ24_makeInt_2 50 = .ok (.ireturn, 1) := dk_172 (dk_at dksJ24_makeInt_2_2 2 rfl rfl)
abbrev cJ24_toUnsignedInt_2 : ByteArray := prog_68_method_366_code
def yJ24_toUnsignedInt_2 : MethodName := ⟨RJ24, "toUnsignedInt", "(B)I"⟩
def dkwJ24_toUnsignedInt_2_0 : List UInt8 := [26, 17, 0, 255, 126, 172]
abbrev dktJ24_toUnsignedInt_2_0 : List UInt8 := dkwJ24_toUnsignedInt_2_0 ++ []
theorem dksJ24_toUnsignedInt_2_0 : cJ24_toUnsignedInt_2.data.toList.drop 0 = dktJ24_toUnsignedInt_2_0 := by decide +kernel
theorem dJ24_toUnsignedInt_2_0 : decode cJ24_toUnsignedInt_2 0 = .ok (.iload_n 0, 1) := dk_26 (dk_at dksJ24_toUnsignedInt_2_0 0 rfl rfl)
theorem dJ24_toUnsignedInt_2_1 : decode cJ24_toUnsignedInt_2 1 = .ok (.sipush 255, 3) := dk_17 0 255 (dk_at dksJ24_toUnsignedInt_2_0 1 rfl rfl)
theorem dJ24_toUnsignedInt_2_4 : decode cJ24_toUnsignedInt_2 4 = .ok (.iand, 1) := dk_126 (dk_at dksJ24_toUnsignedInt_2_0 4 rfl rfl)
theorem dJ24_toUnsignedInt_2_5 : decode cJ24_toUnsignedInt_2 5 = .ok (.ireturn, 1) := dk_172 (dk_at dksJ24_toUnsignedInt_2_0 5 rfl rfl)
theorem q150 : (Jvm.Cond.initialized "jdk/internal/misc/Unsafe") ∈ lw_all := lw_g (lw_at lw_m1 35 rfl) rfl
theorem q1023 : (Jvm.Cond.selects "jdk/internal/misc/Unsafe" ({ cls := "java/lang/Object", name := "getClass", desc := "()Ljava/lang/Class;" } : Jvm.MethodName) ({ cls := "java/lang/Object", name := "getClass", desc := "()Ljava/lang/Class;" } : Jvm.MethodName)) ∈ lw_all := lw_g (lw_at lw_m4 188 rfl) rfl
theorem q1215 : (Jvm.Cond.selects "jdk/internal/misc/Unsafe" ({ cls := "java/lang/Object", name := "hashCode", desc := "()I" } : Jvm.MethodName) ({ cls := "java/lang/Object", name := "hashCode", desc := "()I" } : Jvm.MethodName)) ∈ lw_all := lw_g (lw_at lw_m5 140 rfl) rfl
theorem q1259 : (Jvm.Cond.selects "jdk/internal/misc/Unsafe" ({ cls := "java/lang/Object", name := "equals", desc := "(Ljava/lang/Object;)Z" } : Jvm.MethodName) ({ cls := "java/lang/Object", name := "equals", desc := "(Ljava/lang/Object;)Z" } : Jvm.MethodName)) ∈ lw_all := lw_g (lw_at lw_m5 184 rfl) rfl
theorem q1339 : (Jvm.Cond.laysStatic "jdk/internal/misc/Unsafe" "ARRAY_BYTE_BASE_OFFSET" "I") ∈ lw_tbl := lw_at lw_m6 24 rfl
theorem q1350 : (Jvm.Cond.instanceMethod ({ cls := "jdk/internal/misc/Unsafe", name := "getLongUnaligned", desc := "(Ljava/lang/Object;J)J" } : Jvm.MethodName)) ∈ lw_all := lw_g (lw_at lw_m6 35 rfl) rfl
theorem q1351 : (Jvm.Cond.selects "jdk/internal/misc/Unsafe" ({ cls := "jdk/internal/misc/Unsafe", name := "getLongUnaligned", desc := "(Ljava/lang/Object;J)J" } : Jvm.MethodName) ({ cls := "jdk/internal/misc/Unsafe", name := "getLongUnaligned", desc := "(Ljava/lang/Object;J)J" } : Jvm.MethodName)) ∈ lw_all := lw_g (lw_at lw_m6 36 rfl) rfl
theorem q1352 : (Jvm.Cond.code ({ cls := "jdk/internal/misc/Unsafe", name := "getLongUnaligned", desc := "(Ljava/lang/Object;J)J" } : Jvm.MethodName) prog_68_method_334_code (4 : Nat) (Option.some Jvm.ClassFile.FieldType.long)) ∈ lw_all := lw_g (lw_at lw_m6 37 rfl) rfl
theorem q1353 : (Jvm.Cond.constantLong "jdk/internal/misc/Unsafe" (696 : Nat) (7 : Int64)) ∈ lw_all := lw_g (lw_at lw_m6 38 rfl) rfl
theorem q1354 : (Jvm.Cond.methodLink "jdk/internal/misc/Unsafe" (27 : Nat) ({ cls := "jdk/internal/misc/Unsafe", name := "getLong", desc := "(Ljava/lang/Object;J)J" } : Jvm.MethodName)) ∈ lw_all := lw_g (lw_at lw_m6 39 rfl) rfl
theorem q1355 : (Jvm.Cond.instanceMethod ({ cls := "jdk/internal/misc/Unsafe", name := "getLong", desc := "(Ljava/lang/Object;J)J" } : Jvm.MethodName)) ∈ lw_all := lw_g (lw_at lw_m6 40 rfl) rfl
theorem q1356 : (Jvm.Cond.selects "jdk/internal/misc/Unsafe" ({ cls := "jdk/internal/misc/Unsafe", name := "getLong", desc := "(Ljava/lang/Object;J)J" } : Jvm.MethodName) ({ cls := "jdk/internal/misc/Unsafe", name := "getLong", desc := "(Ljava/lang/Object;J)J" } : Jvm.MethodName)) ∈ lw_all := lw_g (lw_at lw_m6 41 rfl) rfl
theorem q1357 : (Jvm.Cond.native ({ cls := "jdk/internal/misc/Unsafe", name := "getLong", desc := "(Ljava/lang/Object;J)J" } : Jvm.MethodName)) ∈ lw_all := lw_g (lw_at lw_m6 42 rfl) rfl
theorem q1358 : (Jvm.Cond.constantLong "jdk/internal/misc/Unsafe" (349 : Nat) (3 : Int64)) ∈ lw_all := lw_g (lw_at lw_m6 43 rfl) rfl
theorem q1359 : (Jvm.Cond.methodLink "jdk/internal/misc/Unsafe" (17 : Nat) ({ cls := "jdk/internal/misc/Unsafe", name := "getInt", desc := "(Ljava/lang/Object;J)I" } : Jvm.MethodName)) ∈ lw_all := lw_g (lw_at lw_m6 44 rfl) rfl
theorem q1360 : (Jvm.Cond.instanceMethod ({ cls := "jdk/internal/misc/Unsafe", name := "getInt", desc := "(Ljava/lang/Object;J)I" } : Jvm.MethodName)) ∈ lw_all := lw_g (lw_at lw_m6 45 rfl) rfl
theorem q1361 : (Jvm.Cond.selects "jdk/internal/misc/Unsafe" ({ cls := "jdk/internal/misc/Unsafe", name := "getInt", desc := "(Ljava/lang/Object;J)I" } : Jvm.MethodName) ({ cls := "jdk/internal/misc/Unsafe", name := "getInt", desc := "(Ljava/lang/Object;J)I" } : Jvm.MethodName)) ∈ lw_all := lw_g (lw_at lw_m6 46 rfl) rfl
theorem q1362 : (Jvm.Cond.native ({ cls := "jdk/internal/misc/Unsafe", name := "getInt", desc := "(Ljava/lang/Object;J)I" } : Jvm.MethodName)) ∈ lw_all := lw_g (lw_at lw_m6 47 rfl) rfl
theorem q1363 : (Jvm.Cond.constantLong "jdk/internal/misc/Unsafe" (205 : Nat) (4 : Int64)) ∈ lw_all := lw_g (lw_at lw_m6 48 rfl) rfl
theorem q1364 : (Jvm.Cond.methodLink "jdk/internal/misc/Unsafe" (698 : Nat) ({ cls := "jdk/internal/misc/Unsafe", name := "makeLong", desc := "(II)J" } : Jvm.MethodName)) ∈ lw_all := lw_g (lw_at lw_m6 49 rfl) rfl
theorem q1365 : (Jvm.Cond.static ({ cls := "jdk/internal/misc/Unsafe", name := "makeLong", desc := "(II)J" } : Jvm.MethodName)) ∈ lw_all := lw_g (lw_at lw_m6 50 rfl) rfl
theorem q1366 : (Jvm.Cond.code ({ cls := "jdk/internal/misc/Unsafe", name := "makeLong", desc := "(II)J" } : Jvm.MethodName) prog_68_method_353_code (2 : Nat) (Option.some Jvm.ClassFile.FieldType.long)) ∈ lw_all := lw_g (lw_at lw_m6 51 rfl) rfl
theorem q1367 : (Jvm.Cond.methodLink "jdk/internal/misc/Unsafe" (791 : Nat) ({ cls := "jdk/internal/misc/Unsafe", name := "toUnsignedLong", desc := "(I)J" } : Jvm.MethodName)) ∈ lw_all := lw_g (lw_at lw_m6 52 rfl) rfl
theorem q1368 : (Jvm.Cond.static ({ cls := "jdk/internal/misc/Unsafe", name := "toUnsignedLong", desc := "(I)J" } : Jvm.MethodName)) ∈ lw_all := lw_g (lw_at lw_m6 53 rfl) rfl
theorem q1369 : (Jvm.Cond.code ({ cls := "jdk/internal/misc/Unsafe", name := "toUnsignedLong", desc := "(I)J" } : Jvm.MethodName) prog_68_method_370_code (1 : Nat) (Option.some Jvm.ClassFile.FieldType.long)) ∈ lw_all := lw_g (lw_at lw_m6 54 rfl) rfl
theorem q1370 : (Jvm.Cond.constantLong "jdk/internal/misc/Unsafe" (812 : Nat) (4294967295 : Int64)) ∈ lw_all := lw_g (lw_at lw_m6 55 rfl) rfl
theorem q1371 : (Jvm.Cond.methodLink "jdk/internal/misc/Unsafe" (784 : Nat) ({ cls := "jdk/internal/misc/Unsafe", name := "pickPos", desc := "(II)I" } : Jvm.MethodName)) ∈ lw_all := lw_g (lw_at lw_m6 56 rfl) rfl
theorem q1372 : (Jvm.Cond.static ({ cls := "jdk/internal/misc/Unsafe", name := "pickPos", desc := "(II)I" } : Jvm.MethodName)) ∈ lw_all := lw_g (lw_at lw_m6 57 rfl) rfl
theorem q1373 : (Jvm.Cond.code ({ cls := "jdk/internal/misc/Unsafe", name := "pickPos", desc := "(II)I" } : Jvm.MethodName) prog_68_method_350_code (2 : Nat) (Option.some Jvm.ClassFile.FieldType.int)) ∈ lw_all := lw_g (lw_at lw_m6 58 rfl) rfl
theorem q1374 : (Jvm.Cond.fieldLink "jdk/internal/misc/Unsafe" (351 : Nat) "jdk/internal/misc/UnsafeConstants" "BIG_ENDIAN" "Z") ∈ lw_all := lw_g (lw_at lw_m6 59 rfl) rfl
theorem q1376 : (Jvm.Cond.methodLink "jdk/internal/misc/Unsafe" (47 : Nat) ({ cls := "jdk/internal/misc/Unsafe", name := "getShort", desc := "(Ljava/lang/Object;J)S" } : Jvm.MethodName)) ∈ lw_all := lw_g (lw_at lw_m6 61 rfl) rfl
theorem q1377 : (Jvm.Cond.instanceMethod ({ cls := "jdk/internal/misc/Unsafe", name := "getShort", desc := "(Ljava/lang/Object;J)S" } : Jvm.MethodName)) ∈ lw_all := lw_g (lw_at lw_m6 62 rfl) rfl
theorem q1378 : (Jvm.Cond.selects "jdk/internal/misc/Unsafe" ({ cls := "jdk/internal/misc/Unsafe", name := "getShort", desc := "(Ljava/lang/Object;J)S" } : Jvm.MethodName) ({ cls := "jdk/internal/misc/Unsafe", name := "getShort", desc := "(Ljava/lang/Object;J)S" } : Jvm.MethodName)) ∈ lw_all := lw_g (lw_at lw_m6 63 rfl) rfl
theorem q1379 : (Jvm.Cond.native ({ cls := "jdk/internal/misc/Unsafe", name := "getShort", desc := "(Ljava/lang/Object;J)S" } : Jvm.MethodName)) ∈ lw_all := lw_g (lw_at lw_m6 64 rfl) rfl
theorem q1380 : (Jvm.Cond.constantLong "jdk/internal/misc/Unsafe" (203 : Nat) (2 : Int64)) ∈ lw_all := lw_g (lw_at lw_m6 65 rfl) rfl
theorem q1381 : (Jvm.Cond.constantLong "jdk/internal/misc/Unsafe" (702 : Nat) (6 : Int64)) ∈ lw_all := lw_g (lw_at lw_m6 66 rfl) rfl
theorem q1382 : (Jvm.Cond.methodLink "jdk/internal/misc/Unsafe" (704 : Nat) ({ cls := "jdk/internal/misc/Unsafe", name := "makeLong", desc := "(SSSS)J" } : Jvm.MethodName)) ∈ lw_all := lw_g (lw_at lw_m6 67 rfl) rfl
theorem q1383 : (Jvm.Cond.static ({ cls := "jdk/internal/misc/Unsafe", name := "makeLong", desc := "(SSSS)J" } : Jvm.MethodName)) ∈ lw_all := lw_g (lw_at lw_m6 68 rfl) rfl
theorem q1384 : (Jvm.Cond.code ({ cls := "jdk/internal/misc/Unsafe", name := "makeLong", desc := "(SSSS)J" } : Jvm.MethodName) prog_68_method_352_code (4 : Nat) (Option.some Jvm.ClassFile.FieldType.long)) ∈ lw_all := lw_g (lw_at lw_m6 69 rfl) rfl
theorem q1385 : (Jvm.Cond.methodLink "jdk/internal/misc/Unsafe" (788 : Nat) ({ cls := "jdk/internal/misc/Unsafe", name := "toUnsignedLong", desc := "(S)J" } : Jvm.MethodName)) ∈ lw_all := lw_g (lw_at lw_m6 70 rfl) rfl
theorem q1386 : (Jvm.Cond.static ({ cls := "jdk/internal/misc/Unsafe", name := "toUnsignedLong", desc := "(S)J" } : Jvm.MethodName)) ∈ lw_all := lw_g (lw_at lw_m6 71 rfl) rfl
theorem q1387 : (Jvm.Cond.code ({ cls := "jdk/internal/misc/Unsafe", name := "toUnsignedLong", desc := "(S)J" } : Jvm.MethodName) prog_68_method_369_code (1 : Nat) (Option.some Jvm.ClassFile.FieldType.long)) ∈ lw_all := lw_g (lw_at lw_m6 72 rfl) rfl
theorem q1388 : (Jvm.Cond.constantLong "jdk/internal/misc/Unsafe" (810 : Nat) (65535 : Int64)) ∈ lw_all := lw_g (lw_at lw_m6 73 rfl) rfl
theorem q1389 : (Jvm.Cond.methodLink "jdk/internal/misc/Unsafe" (39 : Nat) ({ cls := "jdk/internal/misc/Unsafe", name := "getByte", desc := "(Ljava/lang/Object;J)B" } : Jvm.MethodName)) ∈ lw_all := lw_g (lw_at lw_m6 74 rfl) rfl
theorem q1390 : (Jvm.Cond.instanceMethod ({ cls := "jdk/internal/misc/Unsafe", name := "getByte", desc := "(Ljava/lang/Object;J)B" } : Jvm.MethodName)) ∈ lw_all := lw_g (lw_at lw_m6 75 rfl) rfl
theorem q1391 : (Jvm.Cond.selects "jdk/internal/misc/Unsafe" ({ cls := "jdk/internal/misc/Unsafe", name := "getByte", desc := "(Ljava/lang/Object;J)B" } : Jvm.MethodName) ({ cls := "jdk/internal/misc/Unsafe", name := "getByte", desc := "(Ljava/lang/Object;J)B" } : Jvm.MethodName)) ∈ lw_all := lw_g (lw_at lw_m6 76 rfl) rfl
theorem q1392 : (Jvm.Cond.native ({ cls := "jdk/internal/misc/Unsafe", name := "getByte", desc := "(Ljava/lang/Object;J)B" } : Jvm.MethodName)) ∈ lw_all := lw_g (lw_at lw_m6 77 rfl) rfl
theorem q1393 : (Jvm.Cond.constantLong "jdk/internal/misc/Unsafe" (707 : Nat) (5 : Int64)) ∈ lw_all := lw_g (lw_at lw_m6 78 rfl) rfl
theorem q1394 : (Jvm.Cond.methodLink "jdk/internal/misc/Unsafe" (709 : Nat) ({ cls := "jdk/internal/misc/Unsafe", name := "makeLong", desc := "(BBBBBBBB)J" } : Jvm.MethodName)) ∈ lw_all := lw_g (lw_at lw_m6 79 rfl) rfl
theorem q1395 : (Jvm.Cond.static ({ cls := "jdk/internal/misc/Unsafe", name := "makeLong", desc := "(BBBBBBBB)J" } : Jvm.MethodName)) ∈ lw_all := lw_g (lw_at lw_m6 80 rfl) rfl
theorem q1396 : (Jvm.Cond.code ({ cls := "jdk/internal/misc/Unsafe", name := "makeLong", desc := "(BBBBBBBB)J" } : Jvm.MethodName) prog_68_method_351_code (8 : Nat) (Option.some Jvm.ClassFile.FieldType.long)) ∈ lw_all := lw_g (lw_at lw_m6 81 rfl) rfl
theorem q1397 : (Jvm.Cond.methodLink "jdk/internal/misc/Unsafe" (781 : Nat) ({ cls := "jdk/internal/misc/Unsafe", name := "toUnsignedLong", desc := "(B)J" } : Jvm.MethodName)) ∈ lw_all := lw_g (lw_at lw_m6 82 rfl) rfl
theorem q1398 : (Jvm.Cond.static ({ cls := "jdk/internal/misc/Unsafe", name := "toUnsignedLong", desc := "(B)J" } : Jvm.MethodName)) ∈ lw_all := lw_g (lw_at lw_m6 83 rfl) rfl
theorem q1399 : (Jvm.Cond.code ({ cls := "jdk/internal/misc/Unsafe", name := "toUnsignedLong", desc := "(B)J" } : Jvm.MethodName) prog_68_method_368_code (1 : Nat) (Option.some Jvm.ClassFile.FieldType.long)) ∈ lw_all := lw_g (lw_at lw_m6 84 rfl) rfl
theorem q1400 : (Jvm.Cond.constantLong "jdk/internal/misc/Unsafe" (808 : Nat) (255 : Int64)) ∈ lw_all := lw_g (lw_at lw_m6 85 rfl) rfl
theorem q1421 : (Jvm.Cond.instanceMethod ({ cls := "jdk/internal/misc/Unsafe", name := "getIntUnaligned", desc := "(Ljava/lang/Object;J)I" } : Jvm.MethodName)) ∈ lw_all := lw_g (lw_at lw_m6 106 rfl) rfl
theorem q1422 : (Jvm.Cond.selects "jdk/internal/misc/Unsafe" ({ cls := "jdk/internal/misc/Unsafe", name := "getIntUnaligned", desc := "(Ljava/lang/Object;J)I" } : Jvm.MethodName) ({ cls := "jdk/internal/misc/Unsafe", name := "getIntUnaligned", desc := "(Ljava/lang/Object;J)I" } : Jvm.MethodName)) ∈ lw_all := lw_g (lw_at lw_m6 107 rfl) rfl
theorem q1423 : (Jvm.Cond.code ({ cls := "jdk/internal/misc/Unsafe", name := "getIntUnaligned", desc := "(Ljava/lang/Object;J)I" } : Jvm.MethodName) prog_68_method_336_code (4 : Nat) (Option.some Jvm.ClassFile.FieldType.int)) ∈ lw_all := lw_g (lw_at lw_m6 108 rfl) rfl
theorem q1424 : (Jvm.Cond.methodLink "jdk/internal/misc/Unsafe" (719 : Nat) ({ cls := "jdk/internal/misc/Unsafe", name := "makeInt", desc := "(SS)I" } : Jvm.MethodName)) ∈ lw_all := lw_g (lw_at lw_m6 109 rfl) rfl
theorem q1425 : (Jvm.Cond.static ({ cls := "jdk/internal/misc/Unsafe", name := "makeInt", desc := "(SS)I" } : Jvm.MethodName)) ∈ lw_all := lw_g (lw_at lw_m6 110 rfl) rfl
theorem q1426 : (Jvm.Cond.code ({ cls := "jdk/internal/misc/Unsafe", name := "makeInt", desc := "(SS)I" } : Jvm.MethodName) prog_68_method_354_code (2 : Nat) (Option.some Jvm.ClassFile.FieldType.int)) ∈ lw_all := lw_g (lw_at lw_m6 111 rfl) rfl
theorem q1427 : (Jvm.Cond.methodLink "jdk/internal/misc/Unsafe" (792 : Nat) ({ cls := "jdk/internal/misc/Unsafe", name := "toUnsignedInt", desc := "(S)I" } : Jvm.MethodName)) ∈ lw_all := lw_g (lw_at lw_m6 112 rfl) rfl
theorem q1428 : (Jvm.Cond.static ({ cls := "jdk/internal/misc/Unsafe", name := "toUnsignedInt", desc := "(S)I" } : Jvm.MethodName)) ∈ lw_all := lw_g (lw_at lw_m6 113 rfl) rfl
theorem q1429 : (Jvm.Cond.code ({ cls := "jdk/internal/misc/Unsafe", name := "toUnsignedInt", desc := "(S)I" } : Jvm.MethodName) prog_68_method_367_code (1 : Nat) (Option.some Jvm.ClassFile.FieldType.int)) ∈ lw_all := lw_g (lw_at lw_m6 114 rfl) rfl
theorem q1430 : (Jvm.Cond.constant "jdk/internal/misc/Unsafe" (374 : Nat) (65535 : Int32)) ∈ lw_all := lw_g (lw_at lw_m6 115 rfl) rfl
theorem q1431 : (Jvm.Cond.methodLink "jdk/internal/misc/Unsafe" (723 : Nat) ({ cls := "jdk/internal/misc/Unsafe", name := "makeInt", desc := "(BBBB)I" } : Jvm.MethodName)) ∈ lw_all := lw_g (lw_at lw_m6 116 rfl) rfl
theorem q1432 : (Jvm.Cond.static ({ cls := "jdk/internal/misc/Unsafe", name := "makeInt", desc := "(BBBB)I" } : Jvm.MethodName)) ∈ lw_all := lw_g (lw_at lw_m6 117 rfl) rfl
theorem q1433 : (Jvm.Cond.code ({ cls := "jdk/internal/misc/Unsafe", name := "makeInt", desc := "(BBBB)I" } : Jvm.MethodName) prog_68_method_355_code (4 : Nat) (Option.some Jvm.ClassFile.FieldType.int)) ∈ lw_all := lw_g (lw_at lw_m6 118 rfl) rfl
theorem q1434 : (Jvm.Cond.methodLink "jdk/internal/misc/Unsafe" (796 : Nat) ({ cls := "jdk/internal/misc/Unsafe", name := "toUnsignedInt", desc := "(B)I" } : Jvm.MethodName)) ∈ lw_all := lw_g (lw_at lw_m6 119 rfl) rfl
theorem q1435 : (Jvm.Cond.static ({ cls := "jdk/internal/misc/Unsafe", name := "toUnsignedInt", desc := "(B)I" } : Jvm.MethodName)) ∈ lw_all := lw_g (lw_at lw_m6 120 rfl) rfl
theorem q1436 : (Jvm.Cond.code ({ cls := "jdk/internal/misc/Unsafe", name := "toUnsignedInt", desc := "(B)I" } : Jvm.MethodName) prog_68_method_366_code (1 : Nat) (Option.some Jvm.ClassFile.FieldType.int)) ∈ lw_all := lw_g (lw_at lw_m6 121 rfl) rfl
theorem q2805 : (Jvm.Cond.castable "jdk/internal/misc/Unsafe" "java/lang/Object") ∈ lw_tbl := lw_at lw_m12 50 rfl
/-! java/lang/Long -/
set_option maxRecDepth 100000
def RJ25 : String := "java/lang/Long"
abbrev cJ25_numberOfLeadingZeros : ByteArray := prog_30_method_48_code
def yJ25_numberOfLeadingZeros : MethodName := ⟨RJ25, "numberOfLeadingZeros", "(J)I"⟩
def dkwJ25_numberOfLeadingZeros_1 : List UInt8 := [184, 1, 52, 172]
abbrev dktJ25_numberOfLeadingZeros_1 : List UInt8 := dkwJ25_numberOfLeadingZeros_1 ++ []
def dkwJ25_numberOfLeadingZeros_0 : List UInt8 := [30, 16, 32, 125, 136, 61, 28, 154, 0, 14, 16, 32, 30, 136, 184, 1, 52, 96, 167, 0, 7, 28]
abbrev dktJ25_numberOfLeadingZeros_0 : List UInt8 := dkwJ25_numberOfLeadingZeros_0 ++ dktJ25_numberOfLeadingZeros_1
theorem dksJ25_numberOfLeadingZeros_0 : cJ25_numberOfLeadingZeros.data.toList.drop 0 = dktJ25_numberOfLeadingZeros_0 := by decide +kernel
theorem dksJ25_numberOfLeadingZeros_1 : cJ25_numberOfLeadingZeros.data.toList.drop 22 = dktJ25_numberOfLeadingZeros_1 := dk_seg dksJ25_numberOfLeadingZeros_0 22 rfl rfl
theorem dJ25_numberOfLeadingZeros_0 : decode cJ25_numberOfLeadingZeros 0 = .ok (.lload_n 0, 1) := dk_30 (dk_at dksJ25_numberOfLeadingZeros_0 0 rfl rfl)
theorem dJ25_numberOfLeadingZeros_1 : decode cJ25_numberOfLeadingZeros 1 = .ok (.bipush 32, 2) := dk_16 32 (dk_at dksJ25_numberOfLeadingZeros_0 1 rfl rfl)
theorem dJ25_numberOfLeadingZeros_3 : decode cJ25_numberOfLeadingZeros 3 = .ok (.lushr, 1) := dk_125 (dk_at dksJ25_numberOfLeadingZeros_0 3 rfl rfl)
theorem dJ25_numberOfLeadingZeros_4 : decode cJ25_numberOfLeadingZeros 4 = .ok (.l2i, 1) := dk_136 (dk_at dksJ25_numberOfLeadingZeros_0 4 rfl rfl)
theorem dJ25_numberOfLeadingZeros_5 : decode cJ25_numberOfLeadingZeros 5 = .ok (.istore_n 2, 1) := dk_61 (dk_at dksJ25_numberOfLeadingZeros_0 5 rfl rfl)
theorem dJ25_numberOfLeadingZeros_6 : decode cJ25_numberOfLeadingZeros 6 = .ok (.iload_n 2, 1) := dk_28 (dk_at dksJ25_numberOfLeadingZeros_0 6 rfl rfl)
theorem dJ25_numberOfLeadingZeros_7 : decode cJ25_numberOfLeadingZeros 7 = .ok (.ifCond .ne 14, 3) := dk_154 0 14 (dk_at dksJ25_numberOfLeadingZeros_0 7 rfl rfl)
theorem dJ25_numberOfLeadingZeros_10 : decode cJ25_numberOfLeadingZeros 10 = .ok (.bipush 32, 2) := dk_16 32 (dk_at dksJ25_numberOfLeadingZeros_0 10 rfl rfl)
theorem dJ25_numberOfLeadingZeros_12 : decode cJ25_numberOfLeadingZeros 12 = .ok (.lload_n 0, 1) := dk_30 (dk_at dksJ25_numberOfLeadingZeros_0 12 rfl rfl)
theorem dJ25_numberOfLeadingZeros_13 : decode cJ25_numberOfLeadingZeros 13 = .ok (.l2i, 1) := dk_136 (dk_at dksJ25_numberOfLeadingZeros_0 13 rfl rfl)
theorem dJ25_numberOfLeadingZeros_14 : decode cJ25_numberOfLeadingZeros 14 = .ok (.invokestatic 308, 3) := dk_184 1 52 (dk_at dksJ25_numberOfLeadingZeros_0 14 rfl rfl)
theorem dJ25_numberOfLeadingZeros_17 : decode cJ25_numberOfLeadingZeros 17 = .ok (.iadd, 1) := dk_96 (dk_at dksJ25_numberOfLeadingZeros_0 17 rfl rfl)
theorem dJ25_numberOfLeadingZeros_18 : decode cJ25_numberOfLeadingZeros 18 = .ok (.goto 7, 3) := dk_167 0 7 (dk_at dksJ25_numberOfLeadingZeros_0 18 rfl rfl)
theorem dJ25_numberOfLeadingZeros_21 : decode cJ25_numberOfLeadingZeros 21 = .ok (.iload_n 2, 1) := dk_28 (dk_at dksJ25_numberOfLeadingZeros_0 21 rfl rfl)
theorem dJ25_numberOfLeadingZeros_22 : decode cJ25_numberOfLeadingZeros 22 = .ok (.invokestatic 308, 3) := dk_184 1 52 (dk_at dksJ25_numberOfLeadingZeros_1 0 rfl rfl)
theorem dJ25_numberOfLeadingZeros_25 : decode cJ25_numberOfLeadingZeros 25 = .ok (.ireturn, 1) := dk_172 (dk_at dksJ25_numberOfLeadingZeros_1 3 rfl rfl)
abbrev cJ25_numberOfTrailingZeros : ByteArray := prog_30_method_49_code
def yJ25_numberOfTrailingZeros : MethodName := ⟨RJ25, "numberOfTrailingZeros", "(J)I"⟩
def dkwJ25_numberOfTrailingZeros_1 : List UInt8 := [184, 1, 55, 172]
abbrev dktJ25_numberOfTrailingZeros_1 : List UInt8 := dkwJ25_numberOfTrailingZeros_1 ++ []
def dkwJ25_numberOfTrailingZeros_0 : List UInt8 := [30, 136, 61, 28, 154, 0, 17, 16, 32, 30, 16, 32, 125, 136, 184, 1, 55, 96, 167, 0, 7, 28]
abbrev dktJ25_numberOfTrailingZeros_0 : List UInt8 := dkwJ25_numberOfTrailingZeros_0 ++ dktJ25_numberOfTrailingZeros_1
theorem dksJ25_numberOfTrailingZeros_0 : cJ25_numberOfTrailingZeros.data.toList.drop 0 = dktJ25_numberOfTrailingZeros_0 := by decide +kernel
theorem dksJ25_numberOfTrailingZeros_1 : cJ25_numberOfTrailingZeros.data.toList.drop 22 = dktJ25_numberOfTrailingZeros_1 := dk_seg dksJ25_numberOfTrailingZeros_0 22 rfl rfl
theorem dJ25_numberOfTrailingZeros_0 : decode cJ25_numberOfTrailingZeros 0 = .ok (.lload_n 0, 1) := dk_30 (dk_at dksJ25_numberOfTrailingZeros_0 0 rfl rfl)
theorem dJ25_numberOfTrailingZeros_1 : decode cJ25_numberOfTrailingZeros 1 = .ok (.l2i, 1) := dk_136 (dk_at dksJ25_numberOfTrailingZeros_0 1 rfl rfl)
theorem dJ25_numberOfTrailingZeros_2 : decode cJ25_numberOfTrailingZeros 2 = .ok (.istore_n 2, 1) := dk_61 (dk_at dksJ25_numberOfTrailingZeros_0 2 rfl rfl)
theorem dJ25_numberOfTrailingZeros_3 : decode cJ25_numberOfTrailingZeros 3 = .ok (.iload_n 2, 1) := dk_28 (dk_at dksJ25_numberOfTrailingZeros_0 3 rfl rfl)
theorem dJ25_numberOfTrailingZeros_4 : decode cJ25_numberOfTrailingZeros 4 = .ok (.ifCond .ne 17, 3) := dk_154 0 17 (dk_at dksJ25_numberOfTrailingZeros_0 4 rfl rfl)
theorem dJ25_numberOfTrailingZeros_7 : decode cJ25_numberOfTrailingZeros 7 = .ok (.bipush 32, 2) := dk_16 32 (dk_at dksJ25_numberOfTrailingZeros_0 7 rfl rfl)
theorem dJ25_numberOfTrailingZeros_9 : decode cJ25_numberOfTrailingZeros 9 = .ok (.lload_n 0, 1) := dk_30 (dk_at dksJ25_numberOfTrailingZeros_0 9 rfl rfl)
theorem dJ25_numberOfTrailingZeros_10 : decode cJ25_numberOfTrailingZeros 10 = .ok (.bipush 32, 2) := dk_16 32 (dk_at dksJ25_numberOfTrailingZeros_0 10 rfl rfl)
theorem dJ25_numberOfTrailingZeros_12 : decode cJ25_numberOfTrailingZeros 12 = .ok (.lushr, 1) := dk_125 (dk_at dksJ25_numberOfTrailingZeros_0 12 rfl rfl)
theorem dJ25_numberOfTrailingZeros_13 : decode cJ25_numberOfTrailingZeros 13 = .ok (.l2i, 1) := dk_136 (dk_at dksJ25_numberOfTrailingZeros_0 13 rfl rfl)
theorem dJ25_numberOfTrailingZeros_14 : decode cJ25_numberOfTrailingZeros 14 = .ok (.invokestatic 311, 3) := dk_184 1 55 (dk_at dksJ25_numberOfTrailingZeros_0 14 rfl rfl)
theorem dJ25_numberOfTrailingZeros_17 : decode cJ25_numberOfTrailingZeros 17 = .ok (.iadd, 1) := dk_96 (dk_at dksJ25_numberOfTrailingZeros_0 17 rfl rfl)
theorem dJ25_numberOfTrailingZeros_18 : decode cJ25_numberOfTrailingZeros 18 = .ok (.goto 7, 3) := dk_167 0 7 (dk_at dksJ25_numberOfTrailingZeros_0 18 rfl rfl)
theorem dJ25_numberOfTrailingZeros_21 : decode cJ25_numberOfTrailingZeros 21 = .ok (.iload_n 2, 1) := dk_28 (dk_at dksJ25_numberOfTrailingZeros_0 21 rfl rfl)
theorem dJ25_numberOfTrailingZeros_22 : decode cJ25_numberOfTrailingZeros 22 = .ok (.invokestatic 311, 3) := dk_184 1 55 (dk_at dksJ25_numberOfTrailingZeros_1 0 rfl rfl)
theorem dJ25_numberOfTrailingZeros_25 : decode cJ25_numberOfTrailingZeros 25 = .ok (.ireturn, 1) := dk_172 (dk_at dksJ25_numberOfTrailingZeros_1 3 rfl rfl)
theorem q152 : (Jvm.Cond.initialized "java/lang/Long") ∈ lw_all := lw_g (lw_at lw_m1 37 rfl) rfl
theorem q1404 : (Jvm.Cond.static ({ cls := "java/lang/Long", name := "numberOfLeadingZeros", desc := "(J)I" } : Jvm.MethodName)) ∈ lw_all := lw_g (lw_at lw_m6 89 rfl) rfl
theorem q1405 : (Jvm.Cond.code ({ cls := "java/lang/Long", name := "numberOfLeadingZeros", desc := "(J)I" } : Jvm.MethodName) prog_30_method_48_code (3 : Nat) (Option.some Jvm.ClassFile.FieldType.int)) ∈ lw_all := lw_g (lw_at lw_m6 90 rfl) rfl
theorem q1406 : (Jvm.Cond.methodLink "java/lang/Long" (308 : Nat) ({ cls := "java/lang/Integer", name := "numberOfLeadingZeros", desc := "(I)I" } : Jvm.MethodName)) ∈ lw_all := lw_g (lw_at lw_m6 91 rfl) rfl
theorem q1413 : (Jvm.Cond.static ({ cls := "java/lang/Long", name := "numberOfTrailingZeros", desc := "(J)I" } : Jvm.MethodName)) ∈ lw_all := lw_g (lw_at lw_m6 98 rfl) rfl
theorem q1414 : (Jvm.Cond.code ({ cls := "java/lang/Long", name := "numberOfTrailingZeros", desc := "(J)I" } : Jvm.MethodName) prog_30_method_49_code (3 : Nat) (Option.some Jvm.ClassFile.FieldType.int)) ∈ lw_all := lw_g (lw_at lw_m6 99 rfl) rfl
theorem q1415 : (Jvm.Cond.methodLink "java/lang/Long" (311 : Nat) ({ cls := "java/lang/Integer", name := "numberOfTrailingZeros", desc := "(I)I" } : Jvm.MethodName)) ∈ lw_all := lw_g (lw_at lw_m6 100 rfl) rfl
