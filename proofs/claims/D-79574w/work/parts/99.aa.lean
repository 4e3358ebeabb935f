/-! java/lang/StringUTF16 -/
set_option maxRecDepth 100000
def RJ10 : String := "java/lang/StringUTF16"
abbrev cJ10_newBytesFor : ByteArray := prog_53_method_2_code
def yJ10_newBytesFor : MethodName := ⟨RJ10, "newBytesFor", "(I)[B"⟩
def dkwJ10_newBytesFor_0 : List UInt8 := [26, 184, 0, 11, 188, 8, 176]
abbrev dktJ10_newBytesFor_0 : List UInt8 := dkwJ10_newBytesFor_0 ++ []
theorem dksJ10_newBytesFor_0 : cJ10_newBytesFor.data.toList.drop 0 = dktJ10_newBytesFor_0 := by decide +kernel
theorem dJ10_newBytesFor_0 : decode cJ10_newBytesFor 0 = .ok (.iload_n 0, 1) := dk_26 (dk_at dksJ10_newBytesFor_0 0 rfl rfl)
theorem dJ10_newBytesFor_1 : decode cJ10_newBytesFor 1 = .ok (.invokestatic 11, 3) := dk_184 0 11 (dk_at dksJ10_newBytesFor_0 1 rfl rfl)
theorem dJ10_newBytesFor_4 : decode cJ10_newBytesFor 4 = .ok (.newarray .byte, 2) := dk_188_8 (dk_at dksJ10_newBytesFor_0 4 rfl rfl)
theorem dJ10_newBytesFor_6 : decode cJ10_newBytesFor 6 = .ok (.areturn, 1) := dk_176 (dk_at dksJ10_newBytesFor_0 6 rfl rfl)
abbrev cJ10_newBytesLength : ByteArray := prog_53_method_3_code
def yJ10_newBytesLength : MethodName := ⟨RJ10, "newBytesLength", "(I)I"⟩
def dkwJ10_newBytesLength_2 : List UInt8 := [182, 0, 32, 182, 0, 37, 183, 0, 41, 191, 26, 4, 120, 172]
abbrev dktJ10_newBytesLength_2 : List UInt8 := dkwJ10_newBytesLength_2 ++ []
def dkwJ10_newBytesLength_1 : List UInt8 := [187, 0, 23, 89, 183, 0, 25, 18, 26, 182, 0, 28, 26, 182, 0, 32, 18, 35, 182, 0, 28, 18, 20]
abbrev dktJ10_newBytesLength_1 : List UInt8 := dkwJ10_newBytesLength_1 ++ dktJ10_newBytesLength_2
def dkwJ10_newBytesLength_0 : List UInt8 := [26, 156, 0, 11, 187, 0, 17, 89, 183, 0, 19, 191, 26, 18, 20, 161, 0, 40, 187, 0, 21, 89]
abbrev dktJ10_newBytesLength_0 : List UInt8 := dkwJ10_newBytesLength_0 ++ dktJ10_newBytesLength_1
theorem dksJ10_newBytesLength_0 : cJ10_newBytesLength.data.toList.drop 0 = dktJ10_newBytesLength_0 := by decide +kernel
theorem dksJ10_newBytesLength_1 : cJ10_newBytesLength.data.toList.drop 22 = dktJ10_newBytesLength_1 := dk_seg dksJ10_newBytesLength_0 22 rfl rfl
theorem dksJ10_newBytesLength_2 : cJ10_newBytesLength.data.toList.drop 45 = dktJ10_newBytesLength_2 := dk_seg dksJ10_newBytesLength_1 23 rfl rfl
theorem dJ10_newBytesLength_0 : decode cJ10_newBytesLength 0 = .ok (.iload_n 0, 1) := dk_26 (dk_at dksJ10_newBytesLength_0 0 rfl rfl)
theorem dJ10_newBytesLength_1 : decode cJ10_newBytesLength 1 = .ok (.ifCond .ge 11, 3) := dk_156 0 11 (dk_at dksJ10_newBytesLength_0 1 rfl rfl)
theorem dJ10_newBytesLength_4 : decode cJ10_newBytesLength 4 = .ok (.new 17, 3) := dk_187 0 17 (dk_at dksJ10_newBytesLength_0 4 rfl rfl)
theorem dJ10_newBytesLength_7 : decode cJ10_newBytesLength 7 = .ok (.dup, 1) := dk_89 (dk_at dksJ10_newBytesLength_0 7 rfl rfl)
theorem dJ10_newBytesLength_8 : decode cJ10_newBytesLength 8 = .ok (.invokespecial 19, 3) := dk_183 0 19 (dk_at dksJ10_newBytesLength_0 8 rfl rfl)
theorem dJ10_newBytesLength_11 : decode cJ10_newBytesLength 11 = .ok (.athrow, 1) := dk_191 (dk_at dksJ10_newBytesLength_0 11 rfl rfl)
theorem dJ10_newBytesLength_12 : decode cJ10_newBytesLength 12 = .ok (.iload_n 0, 1) := dk_26 (dk_at dksJ10_newBytesLength_0 12 rfl rfl)
theorem dJ10_newBytesLength_13 : decode cJ10_newBytesLength 13 = .ok (.ldc 20, 2) := dk_18 20 (dk_at dksJ10_newBytesLength_0 13 rfl rfl)
theorem dJ10_newBytesLength_15 : decode cJ10_newBytesLength 15 = .ok (.if_icmp .lt 40, 3) := dk_161 0 40 (dk_at dksJ10_newBytesLength_0 15 rfl rfl)
theorem dJ10_newBytesLength_18 : decode cJ10_newBytesLength 18 = .ok (.new 21, 3) := dk_187 0 21 (dk_at dksJ10_newBytesLength_0 18 rfl rfl)
theorem dJ10_newBytesLength_21 : decode cJ10_newBytesLength 21 = .ok (.dup, 1) := dk_89 (dk_at dksJ10_newBytesLength_0 21 rfl rfl)
theorem dJ10_newBytesLength_22 : decode cJ10_newBytesLength 22 = .ok (.new 23, 3) := dk_187 0 23 (dk_at dksJ10_newBytesLength_1 0 rfl rfl)
theorem dJ10_newBytesLength_25 : decode cJ10_newBytesLength 25 = .ok (.dup, 1) := dk_89 (dk_at dksJ10_newBytesLength_1 3 rfl rfl)
theorem dJ10_newBytesLength_26 : decode cJ10_newBytesLength 26 = .ok (.invokespecial 25, 3) := dk_183 0 25 (dk_at dksJ10_newBytesLength_1 4 rfl rfl)
theorem dJ10_newBytesLength_29 : decode cJ10_newBytesLength 29 = .ok (.ldc 26, 2) := dk_18 26 (dk_at dksJ10_newBytesLength_1 7 rfl rfl)
theorem dJ10_newBytesLength_31 : decode cJ10_newBytesLength 31 = .ok (.invokevirtual 28, 3) := dk_182 0 28 (dk_at dksJ10_newBytesLength_1 9 rfl rfl)
theorem dJ10_newBytesLength_34 : decode cJ10_newBytesLength 34 = .ok (.iload_n 0, 1) := dk_26 (dk_at dksJ10_newBytesLength_1 12 rfl rfl)
theorem dJ10_newBytesLength_35 : decode cJ10_newBytesLength 35 = .ok (.invokevirtual 32, 3) := dk_182 0 32 (dk_at dksJ10_newBytesLength_1 13 rfl rfl)
theorem dJ10_newBytesLength_38 : decode cJ10_newBytesLength 38 = .ok (.ldc 35, 2) := dk_18 35 (dk_at dksJ10_newBytesLength_1 16 rfl rfl)
theorem dJ10_newBytesLength_40 : decode cJ10_newBytesLength 40 = .ok (.invokevirtual 28, 3) := dk_182 0 28 (dk_at dksJ10_newBytesLength_1 18 rfl rfl)
theorem dJ10_newBytesLength_43 : decode cJ10_newBytesLength 43 = .ok (.ldc 20, 2) := dk_18 20 (dk_at dksJ10_newBytesLength_1 21 rfl rfl)
theorem dJ10_newBytesLength_45 : decode cJ10_newBytesLength 45 = .ok (.invokevirtual 32, 3) := dk_182 0 32 (dk_at dksJ10_newBytesLength_2 0 rfl rfl)
theorem dJ10_newBytesLength_48 : decode cJ10_newBytesLength 48 = .ok (.invokevirtual 37, 3) := dk_182 0 37 (dk_at dksJ10_newBytesLength_2 3 rfl rfl)
theorem dJ10_newBytesLength_51 : decode cJ10_newBytesLength 51 = .ok (.invokespecial 41, 3) := dk_183 0 41 (dk_at dksJ10_newBytesLength_2 6 rfl rfl)
theorem dJ10_newBytesLength_54 : decode cJ10_newBytesLength 54 = .ok (.athrow, 1) := dk_191 (dk_at dksJ10_newBytesLength_2 9 rfl rfl)
theorem dJ10_newBytesLength_55 : decode cJ10_newBytesLength 55 = .ok (.iload_n 0, 1) := dk_26 (dk_at dksJ10_newBytesLength_2 10 rfl rfl)
theorem dJ10_newBytesLength_56 : decode cJ10_newBytesLength 56 = .ok (.iconst 1, 1) := dk_4 (dk_at dksJ10_newBytesLength_2 11 rfl rfl)
theorem dJ10_newBytesLength_57 : decode cJ10_newBytesLength 57 = .ok (.ishl, 1) := dk_120 (dk_at dksJ10_newBytesLength_2 12 rfl rfl)
theorem dJ10_newBytesLength_58 : decode cJ10_newBytesLength 58 = .ok (.ireturn, 1) := dk_172 (dk_at dksJ10_newBytesLength_2 13 rfl rfl)
abbrev cJ10_getChar : ByteArray := prog_53_method_5_code
def yJ10_getChar : MethodName := ⟨RJ10, "getChar", "([BI)C"⟩
def dkwJ10_getChar_2 : List UInt8 := [51, 17, 0, 255, 126, 178, 0, 63, 120, 128, 146, 172]
abbrev dktJ10_getChar_2 : List UInt8 := dkwJ10_getChar_2 ++ []
def dkwJ10_getChar_1 : List UInt8 := [183, 0, 56, 191, 27, 4, 120, 60, 42, 27, 132, 1, 1, 51, 17, 0, 255, 126, 178, 0, 59, 120, 42, 27]
abbrev dktJ10_getChar_1 : List UInt8 := dkwJ10_getChar_1 ++ dktJ10_getChar_2
def dkwJ10_getChar_0 : List UInt8 := [178, 0, 44, 154, 0, 25, 27, 155, 0, 11, 27, 42, 184, 0, 48, 161, 0, 13, 187, 0, 52, 89, 18, 54]
abbrev dktJ10_getChar_0 : List UInt8 := dkwJ10_getChar_0 ++ dktJ10_getChar_1
theorem dksJ10_getChar_0 : cJ10_getChar.data.toList.drop 0 = dktJ10_getChar_0 := by decide +kernel
theorem dksJ10_getChar_1 : cJ10_getChar.data.toList.drop 24 = dktJ10_getChar_1 := dk_seg dksJ10_getChar_0 24 rfl rfl
theorem dksJ10_getChar_2 : cJ10_getChar.data.toList.drop 48 = dktJ10_getChar_2 := dk_seg dksJ10_getChar_1 24 rfl rfl
theorem dJ10_getChar_0 : decode cJ10_getChar 0 = .ok (.getstatic 44, 3) := dk_178 0 44 (dk_at dksJ10_getChar_0 0 rfl rfl)
theorem dJ10_getChar_3 : decode cJ10_getChar 3 = .ok (.ifCond .ne 25, 3) := dk_154 0 25 (dk_at dksJ10_getChar_0 3 rfl rfl)
theorem dJ10_getChar_6 : decode cJ10_getChar 6 = .ok (.iload_n 1, 1) := dk_27 (dk_at dksJ10_getChar_0 6 rfl rfl)
theorem dJ10_getChar_7 : decode cJ10_getChar 7 = .ok (.ifCond .lt 11, 3) := dk_155 0 11 (dk_at dksJ10_getChar_0 7 rfl rfl)
theorem dJ10_getChar_10 : decode cJ10_getChar 10 = .ok (.iload_n 1, 1) := dk_27 (dk_at dksJ10_getChar_0 10 rfl rfl)
theorem dJ10_getChar_11 : decode cJ10_getChar 11 = .ok (.aload_n 0, 1) := dk_42 (dk_at dksJ10_getChar_0 11 rfl rfl)
theorem dJ10_getChar_12 : decode cJ10_getChar 12 = .ok (.invokestatic 48, 3) := dk_184 0 48 (dk_at dksJ10_getChar_0 12 rfl rfl)
theorem dJ10_getChar_15 : decode cJ10_getChar 15 = .ok (.if_icmp .lt 13, 3) := dk_161 0 13 (dk_at dksJ10_getChar_0 15 rfl rfl)
theorem dJ10_getChar_18 : decode cJ10_getChar 18 = .ok (.new 52, 3) := dk_187 0 52 (dk_at dksJ10_getChar_0 18 rfl rfl)
theorem dJ10_getChar_21 : decode cJ10_getChar 21 = .ok (.dup, 1) := dk_89 (dk_at dksJ10_getChar_0 21 rfl rfl)
theorem dJ10_getChar_22 : decode cJ10_getChar 22 = .ok (.ldc 54, 2) := dk_18 54 (dk_at dksJ10_getChar_0 22 rfl rfl)
theorem dJ10_getChar_24 : decode cJ10_getChar 24 = .ok (.invokespecial 56, 3) := dk_183 0 56 (dk_at dksJ10_getChar_1 0 rfl rfl)
theorem dJ10_getChar_27 : decode cJ10_getChar 27 = .ok (.athrow, 1) := dk_191 (dk_at dksJ10_getChar_1 3 rfl rfl)
theorem dJ10_getChar_28 : decode cJ10_getChar 28 = .ok (.iload_n 1, 1) := dk_27 (dk_at dksJ10_getChar_1 4 rfl rfl)
theorem dJ10_getChar_29 : decode cJ10_getChar 29 = .ok (.iconst 1, 1) := dk_4 (dk_at dksJ10_getChar_1 5 rfl rfl)
theorem dJ10_getChar_30 : decode cJ10_getChar 30 = .ok (.ishl, 1) := dk_120 (dk_at dksJ10_getChar_1 6 rfl rfl)
theorem dJ10_getChar_31 : decode cJ10_getChar 31 = .ok (.istore_n 1, 1) := dk_60 (dk_at dksJ10_getChar_1 7 rfl rfl)
theorem dJ10_getChar_32 : decode cJ10_getChar 32 = .ok (.aload_n 0, 1) := dk_42 (dk_at dksJ10_getChar_1 8 rfl rfl)
theorem dJ10_getChar_33 : decode cJ10_getChar 33 = .ok (.iload_n 1, 1) := dk_27 (dk_at dksJ10_getChar_1 9 rfl rfl)
theorem dJ10_getChar_34 : decode cJ10_getChar 34 = .ok (.iinc 1 1, 3) := dk_132 1 1 (dk_at dksJ10_getChar_1 10 rfl rfl)
theorem dJ10_getChar_37 : decode cJ10_getChar 37 = .ok (.baload, 1) := dk_51 (dk_at dksJ10_getChar_1 13 rfl rfl)
theorem dJ10_getChar_38 : decode cJ10_getChar 38 = .ok (.sipush 255, 3) := dk_17 0 255 (dk_at dksJ10_getChar_1 14 rfl rfl)
theorem dJ10_getChar_41 : decode cJ10_getChar 41 = .ok (.iand, 1) := dk_126 (dk_at dksJ10_getChar_1 17 rfl rfl)
theorem dJ10_getChar_42 : decode cJ10_getChar 42 = .ok (.getstatic 59, 3) := dk_178 0 59 (dk_at dksJ10_getChar_1 18 rfl rfl)
theorem dJ10_getChar_45 : decode cJ10_getChar 45 = .ok (.ishl, 1) := dk_120 (dk_at dksJ10_getChar_1 21 rfl rfl)
theorem dJ10_getChar_46 : decode cJ10_getChar 46 = .ok (.aload_n 0, 1) := dk_42 (dk_at dksJ10_getChar_1 22 rfl rfl)
theorem dJ10_getChar_47 : decode cJ10_getChar 47 = .ok (.iload_n 1, 1) := dk_27 (dk_at dksJ10_getChar_1 23 rfl rfl)
theorem dJ10_getChar_48 : decode cJ10_getChar 48 = .ok (.baload, 1) := dk_51 (dk_at dksJ10_getChar_2 0 rfl rfl)
theorem dJ10_getChar_49 : decode cJ10_getChar 49 = .ok (.sipush 255, 3) := dk_17 0 255 (dk_at dksJ10_getChar_2 1 rfl rfl)
theorem dJ10_getChar_52 : decode cJ10_getChar 52 = .ok (.iand, 1) := dk_126 (dk_at dksJ10_getChar_2 4 rfl rfl)
theorem dJ10_getChar_53 : decode cJ10_getChar 53 = .ok (.getstatic 63, 3) := dk_178 0 63 (dk_at dksJ10_getChar_2 5 rfl rfl)
theorem dJ10_getChar_56 : decode cJ10_getChar 56 = .ok (.ishl, 1) := dk_120 (dk_at dksJ10_getChar_2 8 rfl rfl)
theorem dJ10_getChar_57 : decode cJ10_getChar 57 = .ok (.ior, 1) := dk_128 (dk_at dksJ10_getChar_2 9 rfl rfl)
theorem dJ10_getChar_58 : decode cJ10_getChar 58 = .ok (.i2c, 1) := dk_146 (dk_at dksJ10_getChar_2 10 rfl rfl)
theorem dJ10_getChar_59 : decode cJ10_getChar 59 = .ok (.ireturn, 1) := dk_172 (dk_at dksJ10_getChar_2 11 rfl rfl)
abbrev cJ10_length : ByteArray := prog_53_method_6_code
def yJ10_length : MethodName := ⟨RJ10, "length", "([B)I"⟩
def dkwJ10_length_0 : List UInt8 := [42, 190, 4, 122, 172]
abbrev dktJ10_length_0 : List UInt8 := dkwJ10_length_0 ++ []
theorem dksJ10_length_0 : cJ10_length.data.toList.drop 0 = dktJ10_length_0 := by decide +kernel
theorem dJ10_length_0 : decode cJ10_length 0 = .ok (.aload_n 0, 1) := dk_42 (dk_at dksJ10_length_0 0 rfl rfl)
theorem dJ10_length_1 : decode cJ10_length 1 = .ok (.arraylength, 1) := dk_190 (dk_at dksJ10_length_0 1 rfl rfl)
theorem dJ10_length_2 : decode cJ10_length 2 = .ok (.iconst 1, 1) := dk_4 (dk_at dksJ10_length_0 2 rfl rfl)
theorem dJ10_length_3 : decode cJ10_length 3 = .ok (.ishr, 1) := dk_122 (dk_at dksJ10_length_0 3 rfl rfl)
theorem dJ10_length_4 : decode cJ10_length 4 = .ok (.ireturn, 1) := dk_172 (dk_at dksJ10_length_0 4 rfl rfl)
abbrev cJ10_putCharsAt : ByteArray := prog_53_method_81_code
def yJ10_putCharsAt : MethodName := ⟨RJ10, "putCharsAt", "([BICCCC)I"⟩
def dkwJ10_putCharsAt_3 : List UInt8 := [21, 6, 172]
abbrev dktJ10_putCharsAt_3 : List UInt8 := dkwJ10_putCharsAt_3 ++ []
def dkwJ10_putCharsAt_2 : List UInt8 := [184, 0, 111, 178, 0, 44, 154, 0, 17, 27, 21, 6, 159, 0, 11, 187, 0, 52, 89, 183, 0, 66, 191]
abbrev dktJ10_putCharsAt_2 : List UInt8 := dkwJ10_putCharsAt_2 ++ dktJ10_putCharsAt_3
def dkwJ10_putCharsAt_1 : List UInt8 := [132, 1, 1, 29, 184, 0, 111, 42, 27, 132, 1, 1, 21, 4, 184, 0, 111, 42, 27, 132, 1, 1, 21, 5]
abbrev dktJ10_putCharsAt_1 : List UInt8 := dkwJ10_putCharsAt_1 ++ dktJ10_putCharsAt_2
def dkwJ10_putCharsAt_0 : List UInt8 := [27, 7, 96, 54, 6, 27, 21, 6, 42, 184, 0, 96, 42, 27, 132, 1, 1, 28, 184, 0, 111, 42, 27]
abbrev dktJ10_putCharsAt_0 : List UInt8 := dkwJ10_putCharsAt_0 ++ dktJ10_putCharsAt_1
theorem dksJ10_putCharsAt_0 : cJ10_putCharsAt.data.toList.drop 0 = dktJ10_putCharsAt_0 := by decide +kernel
theorem dksJ10_putCharsAt_1 : cJ10_putCharsAt.data.toList.drop 23 = dktJ10_putCharsAt_1 := dk_seg dksJ10_putCharsAt_0 23 rfl rfl
theorem dksJ10_putCharsAt_2 : cJ10_putCharsAt.data.toList.drop 47 = dktJ10_putCharsAt_2 := dk_seg dksJ10_putCharsAt_1 24 rfl rfl
theorem dksJ10_putCharsAt_3 : cJ10_putCharsAt.data.toList.drop 70 = dktJ10_putCharsAt_3 := dk_seg dksJ10_putCharsAt_2 23 rfl rfl
theorem dJ10_putCharsAt_0 : decode cJ10_putCharsAt 0 = .ok (.iload_n 1, 1) := dk_27 (dk_at dksJ10_putCharsAt_0 0 rfl rfl)
theorem dJ10_putCharsAt_1 : decode cJ10_putCharsAt 1 = .ok (.iconst 4, 1) := dk_7 (dk_at dksJ10_putCharsAt_0 1 rfl rfl)
theorem dJ10_putCharsAt_2 : decode cJ10_putCharsAt 2 = .ok (.iadd, 1) := dk_96 (dk_at dksJ10_putCharsAt_0 2 rfl rfl)
theorem dJ10_putCharsAt_3 : decode cJ10_putCharsAt 3 = .ok (.istore 6, 2) := dk_54 6 (dk_at dksJ10_putCharsAt_0 3 rfl rfl)
theorem dJ10_putCharsAt_5 : decode cJ10_putCharsAt 5 = .ok (.iload_n 1, 1) := dk_27 (dk_at dksJ10_putCharsAt_0 5 rfl rfl)
theorem dJ10_putCharsAt_6 : decode cJ10_putCharsAt 6 = .ok (.iload 6, 2) := dk_21 6 (dk_at dksJ10_putCharsAt_0 6 rfl rfl)
theorem dJ10_putCharsAt_8 : decode cJ10_putCharsAt 8 = .ok (.aload_n 0, 1) := dk_42 (dk_at dksJ10_putCharsAt_0 8 rfl rfl)
theorem dJ10_putCharsAt_9 : decode cJ10_putCharsAt 9 = .ok (.invokestatic 96, 3) := dk_184 0 96 (dk_at dksJ10_putCharsAt_0 9 rfl rfl)
theorem dJ10_putCharsAt_12 : decode cJ10_putCharsAt 12 = .ok (.aload_n 0, 1) := dk_42 (dk_at dksJ10_putCharsAt_0 12 rfl rfl)
theorem dJ10_putCharsAt_13 : decode cJ10_putCharsAt 13 = .ok (.iload_n 1, 1) := dk_27 (dk_at dksJ10_putCharsAt_0 13 rfl rfl)
theorem dJ10_putCharsAt_14 : decode cJ10_putCharsAt 14 = .ok (.iinc 1 1, 3) := dk_132 1 1 (dk_at dksJ10_putCharsAt_0 14 rfl rfl)
theorem dJ10_putCharsAt_17 : decode cJ10_putCharsAt 17 = .ok (.iload_n 2, 1) := dk_28 (dk_at dksJ10_putCharsAt_0 17 rfl rfl)
theorem dJ10_putCharsAt_18 : decode cJ10_putCharsAt 18 = .ok (.invokestatic 111, 3) := dk_184 0 111 (dk_at dksJ10_putCharsAt_0 18 rfl rfl)
theorem dJ10_putCharsAt_21 : decode cJ10_putCharsAt 21 = .ok (.aload_n 0, 1) := dk_42 (dk_at dksJ10_putCharsAt_0 21 rfl rfl)
theorem dJ10_putCharsAt_22 : decode cJ10_putCharsAt 22 = .ok (.iload_n 1, 1) := dk_27 (dk_at dksJ10_putCharsAt_0 22 rfl rfl)
theorem dJ10_putCharsAt_23 : decode cJ10_putCharsAt 23 = .ok (.iinc 1 1, 3) := dk_132 1 1 (dk_at dksJ10_putCharsAt_1 0 rfl rfl)
theorem dJ10_putCharsAt_26 : decode cJ10_putCharsAt 26 = .ok (.iload_n 3, 1) := dk_29 (dk_at dksJ10_putCharsAt_1 3 rfl rfl)
theorem dJ10_putCharsAt_27 : decode cJ10_putCharsAt 27 = .ok (.invokestatic 111, 3) := dk_184 0 111 (dk_at dksJ10_putCharsAt_1 4 rfl rfl)
theorem dJ10_putCharsAt_30 : decode cJ10_putCharsAt 30 = .ok (.aload_n 0, 1) := dk_42 (dk_at dksJ10_putCharsAt_1 7 rfl rfl)
theorem dJ10_putCharsAt_31 : decode cJ10_putCharsAt 31 = .ok (.iload_n 1, 1) := dk_27 (dk_at dksJ10_putCharsAt_1 8 rfl rfl)
theorem dJ10_putCharsAt_32 : decode cJ10_putCharsAt 32 = .ok (.iinc 1 1, 3) := dk_132 1 1 (dk_at dksJ10_putCharsAt_1 9 rfl rfl)
theorem dJ10_putCharsAt_35 : decode cJ10_putCharsAt 35 = .ok (.iload 4, 2) := dk_21 4 (dk_at dksJ10_putCharsAt_1 12 rfl rfl)
theorem dJ10_putCharsAt_37 : decode cJ10_putCharsAt 37 = .ok (.invokestatic 111, 3) := dk_184 0 111 (dk_at dksJ10_putCharsAt_1 14 rfl rfl)
theorem dJ10_putCharsAt_40 : decode cJ10_putCharsAt 40 = .ok (.aload_n 0, 1) := dk_42 (dk_at dksJ10_putCharsAt_1 17 rfl rfl)
theorem dJ10_putCharsAt_41 : decode cJ10_putCharsAt 41 = .ok (.iload_n 1, 1) := dk_27 (dk_at dksJ10_putCharsAt_1 18 rfl rfl)
theorem dJ10_putCharsAt_42 : decode cJ10_putCharsAt 42 = .ok (.iinc 1 1, 3) := dk_132 1 1 (dk_at dksJ10_putCharsAt_1 19 rfl rfl)
theorem dJ10_putCharsAt_45 : decode cJ10_putCharsAt 45 = .ok (.iload 5, 2) := dk_21 5 (dk_at dksJ10_putCharsAt_1 22 rfl rfl)
theorem dJ10_putCharsAt_47 : decode cJ10_putCharsAt 47 = .ok (.invokestatic 111, 3) := dk_184 0 111 (dk_at dksJ10_putCharsAt_2 0 rfl rfl)
theorem dJ10_putCharsAt_50 : decode cJ10_putCharsAt 50 = .ok (.getstatic 44, 3) := dk_178 0 44 (dk_at dksJ10_putCharsAt_2 3 rfl rfl)
theorem dJ10_putCharsAt_53 : decode cJ10_putCharsAt 53 = .ok (.ifCond .ne 17, 3) := dk_154 0 17 (dk_at dksJ10_putCharsAt_2 6 rfl rfl)
theorem dJ10_putCharsAt_56 : decode cJ10_putCharsAt 56 = .ok (.iload_n 1, 1) := dk_27 (dk_at dksJ10_putCharsAt_2 9 rfl rfl)
theorem dJ10_putCharsAt_57 : decode cJ10_putCharsAt 57 = .ok (.iload 6, 2) := dk_21 6 (dk_at dksJ10_putCharsAt_2 10 rfl rfl)
theorem dJ10_putCharsAt_59 : decode cJ10_putCharsAt 59 = .ok (.if_icmp .eq 11, 3) := dk_159 0 11 (dk_at dksJ10_putCharsAt_2 12 rfl rfl)
theorem dJ10_putCharsAt_62 : decode cJ10_putCharsAt 62 = .ok (.new 52, 3) := dk_187 0 52 (dk_at dksJ10_putCharsAt_2 15 rfl rfl)
theorem dJ10_putCharsAt_65 : decode cJ10_putCharsAt 65 = .ok (.dup, 1) := dk_89 (dk_at dksJ10_putCharsAt_2 18 rfl rfl)
theorem dJ10_putCharsAt_66 : decode cJ10_putCharsAt 66 = .ok (.invokespecial 66, 3) := dk_183 0 66 (dk_at dksJ10_putCharsAt_2 19 rfl rfl)
theorem dJ10_putCharsAt_69 : decode cJ10_putCharsAt 69 = .ok (.athrow, 1) := dk_191 (dk_at dksJ10_putCharsAt_2 22 rfl rfl)
theorem dJ10_putCharsAt_70 : decode cJ10_putCharsAt 70 = .ok (.iload 6, 2) := dk_21 6 (dk_at dksJ10_putCharsAt_3 0 rfl rfl)
theorem dJ10_putCharsAt_72 : decode cJ10_putCharsAt 72 = .ok (.ireturn, 1) := dk_172 (dk_at dksJ10_putCharsAt_3 2 rfl rfl)
abbrev cJ10_checkBoundsBeginEnd : ByteArray := prog_53_method_93_code
def yJ10_checkBoundsBeginEnd : MethodName := ⟨RJ10, "checkBoundsBeginEnd", "(II[B)V"⟩
def dkwJ10_checkBoundsBeginEnd_0 : List UInt8 := [26, 27, 44, 184, 0, 48, 184, 0, 241, 177]
abbrev dktJ10_checkBoundsBeginEnd_0 : List UInt8 := dkwJ10_checkBoundsBeginEnd_0 ++ []
theorem dksJ10_checkBoundsBeginEnd_0 : cJ10_checkBoundsBeginEnd.data.toList.drop 0 = dktJ10_checkBoundsBeginEnd_0 := by decide +kernel
theorem dJ10_checkBoundsBeginEnd_0 : decode cJ10_checkBoundsBeginEnd 0 = .ok (.iload_n 0, 1) := dk_26 (dk_at dksJ10_checkBoundsBeginEnd_0 0 rfl rfl)
theorem dJ10_checkBoundsBeginEnd_1 : decode cJ10_checkBoundsBeginEnd 1 = .ok (.iload_n 1, 1) := dk_27 (dk_at dksJ10_checkBoundsBeginEnd_0 1 rfl rfl)
theorem dJ10_checkBoundsBeginEnd_2 : decode cJ10_checkBoundsBeginEnd 2 = .ok (.aload_n 2, 1) := dk_44 (dk_at dksJ10_checkBoundsBeginEnd_0 2 rfl rfl)
theorem dJ10_checkBoundsBeginEnd_3 : decode cJ10_checkBoundsBeginEnd 3 = .ok (.invokestatic 48, 3) := dk_184 0 48 (dk_at dksJ10_checkBoundsBeginEnd_0 3 rfl rfl)
theorem dJ10_checkBoundsBeginEnd_6 : decode cJ10_checkBoundsBeginEnd 6 = .ok (.invokestatic 241, 3) := dk_184 0 241 (dk_at dksJ10_checkBoundsBeginEnd_0 6 rfl rfl)
theorem dJ10_checkBoundsBeginEnd_9 : decode cJ10_checkBoundsBeginEnd 9 = .ok (.return_, 1) := dk_177 (dk_at dksJ10_checkBoundsBeginEnd_0 9 rfl rfl)
abbrev cJ10_putChar : ByteArray := prog_53_method_4_code
def yJ10_putChar : MethodName := ⟨RJ10, "putChar", "([BII)V"⟩
def dkwJ10_putChar_2 : List UInt8 := [178, 0, 63, 122, 145, 84, 177]
abbrev dktJ10_putChar_2 : List UInt8 := dkwJ10_putChar_2 ++ []
def dkwJ10_putChar_1 : List UInt8 := [183, 0, 56, 191, 27, 4, 120, 60, 42, 27, 132, 1, 1, 28, 178, 0, 59, 122, 145, 84, 42, 27, 28]
abbrev dktJ10_putChar_1 : List UInt8 := dkwJ10_putChar_1 ++ dktJ10_putChar_2
def dkwJ10_putChar_0 : List UInt8 := [178, 0, 44, 154, 0, 25, 27, 155, 0, 11, 27, 42, 184, 0, 48, 161, 0, 13, 187, 0, 52, 89, 18, 54]
abbrev dktJ10_putChar_0 : List UInt8 := dkwJ10_putChar_0 ++ dktJ10_putChar_1
theorem dksJ10_putChar_0 : cJ10_putChar.data.toList.drop 0 = dktJ10_putChar_0 := by decide +kernel
theorem dksJ10_putChar_1 : cJ10_putChar.data.toList.drop 24 = dktJ10_putChar_1 := dk_seg dksJ10_putChar_0 24 rfl rfl
theorem dksJ10_putChar_2 : cJ10_putChar.data.toList.drop 47 = dktJ10_putChar_2 := dk_seg dksJ10_putChar_1 23 rfl rfl
theorem dJ10_putChar_0 : decode cJ10_putChar 0 = .ok (.getstatic 44, 3) := dk_178 0 44 (dk_at dksJ10_putChar_0 0 rfl rfl)
theorem dJ10_putChar_3 : decode cJ10_putChar 3 = .ok (.ifCond .ne 25, 3) := dk_154 0 25 (dk_at dksJ10_putChar_0 3 rfl rfl)
theorem dJ10_putChar_6 : decode cJ10_putChar 6 = .ok (.iload_n 1, 1) := dk_27 (dk_at dksJ10_putChar_0 6 rfl rfl)
theorem dJ10_putChar_7 : decode cJ10_putChar 7 = .ok (.ifCond .lt 11, 3) := dk_155 0 11 (dk_at dksJ10_putChar_0 7 rfl rfl)
theorem dJ10_putChar_10 : decode cJ10_putChar 10 = .ok (.iload_n 1, 1) := dk_27 (dk_at dksJ10_putChar_0 10 rfl rfl)
theorem dJ10_putChar_11 : decode cJ10_putChar 11 = .ok (.aload_n 0, 1) := dk_42 (dk_at dksJ10_putChar_0 11 rfl rfl)
theorem dJ10_putChar_12 : decode cJ10_putChar 12 = .ok (.invokestatic 48, 3) := dk_184 0 48 (dk_at dksJ10_putChar_0 12 rfl rfl)
theorem dJ10_putChar_15 : decode cJ10_putChar 15 = .ok (.if_icmp .lt 13, 3) := dk_161 0 13 (dk_at dksJ10_putChar_0 15 rfl rfl)
theorem dJ10_putChar_18 : decode cJ10_putChar 18 = .ok (.new 52, 3) := dk_187 0 52 (dk_at dksJ10_putChar_0 18 rfl rfl)
theorem dJ10_putChar_21 : decode cJ10_putChar 21 = .ok (.dup, 1) := dk_89 (dk_at dksJ10_putChar_0 21 rfl rfl)
theorem dJ10_putChar_22 : decode cJ10_putChar 22 = .ok (.ldc 54, 2) := dk_18 54 (dk_at dksJ10_putChar_0 22 rfl rfl)
theorem dJ10_putChar_24 : decode cJ10_putChar 24 = .ok (.invokespecial 56, 3) := dk_183 0 56 (dk_at dksJ10_putChar_1 0 rfl rfl)
theorem dJ10_putChar_27 : decode cJ10_putChar 27 = .ok (.athrow, 1) := dk_191 (dk_at dksJ10_putChar_1 3 rfl rfl)
theorem dJ10_putChar_28 : decode cJ10_putChar 28 = .ok (.iload_n 1, 1) := dk_27 (dk_at dksJ10_putChar_1 4 rfl rfl)
theorem dJ10_putChar_29 : decode cJ10_putChar 29 = .ok (.iconst 1, 1) := dk_4 (dk_at dksJ10_putChar_1 5 rfl rfl)
theorem dJ10_putChar_30 : decode cJ10_putChar 30 = .ok (.ishl, 1) := dk_120 (dk_at dksJ10_putChar_1 6 rfl rfl)
theorem dJ10_putChar_31 : decode cJ10_putChar 31 = .ok (.istore_n 1, 1) := dk_60 (dk_at dksJ10_putChar_1 7 rfl rfl)
theorem dJ10_putChar_32 : decode cJ10_putChar 32 = .ok (.aload_n 0, 1) := dk_42 (dk_at dksJ10_putChar_1 8 rfl rfl)
theorem dJ10_putChar_33 : decode cJ10_putChar 33 = .ok (.iload_n 1, 1) := dk_27 (dk_at dksJ10_putChar_1 9 rfl rfl)
theorem dJ10_putChar_34 : decode cJ10_putChar 34 = .ok (.iinc 1 1, 3) := dk_132 1 1 (dk_at dksJ10_putChar_1 10 rfl rfl)
theorem dJ10_putChar_37 : decode cJ10_putChar 37 = .ok (.iload_n 2, 1) := dk_28 (dk_at dksJ10_putChar_1 13 rfl rfl)
theorem dJ10_putChar_38 : decode cJ10_putChar 38 = .ok (.getstatic 59, 3) := dk_178 0 59 (dk_at dksJ10_putChar_1 14 rfl rfl)
theorem dJ10_putChar_41 : decode cJ10_putChar 41 = .ok (.ishr, 1) := dk_122 (dk_at dksJ10_putChar_1 17 rfl rfl)
theorem dJ10_putChar_42 : decode cJ10_putChar 42 = .ok (.i2b, 1) := dk_145 (dk_at dksJ10_putChar_1 18 rfl rfl)
theorem dJ10_putChar_43 : decode cJ10_putChar 43 = .ok (.bastore, 1) := dk_84 (dk_at dksJ10_putChar_1 19 rfl rfl)
theorem dJ10_putChar_44 : decode cJ10_putChar 44 = .ok (.aload_n 0, 1) := dk_42 (dk_at dksJ10_putChar_1 20 rfl rfl)
theorem dJ10_putChar_45 : decode cJ10_putChar 45 = .ok (.iload_n 1, 1) := dk_27 (dk_at dksJ10_putChar_1 21 rfl rfl)
theorem dJ10_putChar_46 : decode cJ10_putChar 46 = .ok (.iload_n 2, 1) := dk_28 (dk_at dksJ10_putChar_1 22 rfl rfl)
theorem dJ10_putChar_47 : decode cJ10_putChar 47 = .ok (.getstatic 63, 3) := dk_178 0 63 (dk_at dksJ10_putChar_2 0 rfl rfl)
theorem dJ10_putChar_50 : decode cJ10_putChar 50 = .ok (.ishr, 1) := dk_122 (dk_at dksJ10_putChar_2 3 rfl rfl)
theorem dJ10_putChar_51 : decode cJ10_putChar 51 = .ok (.i2b, 1) := dk_145 (dk_at dksJ10_putChar_2 4 rfl rfl)
theorem dJ10_putChar_52 : decode cJ10_putChar 52 = .ok (.bastore, 1) := dk_84 (dk_at dksJ10_putChar_2 5 rfl rfl)
theorem dJ10_putChar_53 : decode cJ10_putChar 53 = .ok (.return_, 1) := dk_177 (dk_at dksJ10_putChar_2 6 rfl rfl)
abbrev cJ10_inflate : ByteArray := prog_53_method_86_code
def yJ10_inflate : MethodName := ⟨RJ10, "inflate", "([BI[BII)V"⟩
def dkwJ10_inflate_1 : List UInt8 := [132, 1, 1, 51, 17, 0, 255, 126, 184, 0, 111, 132, 5, 1, 167, 255, 228, 177]
abbrev dktJ10_inflate_1 : List UInt8 := dkwJ10_inflate_1 ++ []
def dkwJ10_inflate_0 : List UInt8 := [29, 21, 4, 44, 184, 0, 173, 3, 54, 5, 21, 5, 21, 4, 162, 0, 27, 44, 29, 132, 3, 1, 42, 27]
abbrev dktJ10_inflate_0 : List UInt8 := dkwJ10_inflate_0 ++ dktJ10_inflate_1
theorem dksJ10_inflate_0 : cJ10_inflate.data.toList.drop 0 = dktJ10_inflate_0 := by decide +kernel
theorem dksJ10_inflate_1 : cJ10_inflate.data.toList.drop 24 = dktJ10_inflate_1 := dk_seg dksJ10_inflate_0 24 rfl rfl
theorem dJ10_inflate_0 : decode cJ10_inflate 0 = .ok (.iload_n 3, 1) := dk_29 (dk_at dksJ10_inflate_0 0 rfl rfl)
theorem dJ10_inflate_1 : decode cJ10_inflate 1 = .ok (.iload 4, 2) := dk_21 4 (dk_at dksJ10_inflate_0 1 rfl rfl)
theorem dJ10_inflate_3 : decode cJ10_inflate 3 = .ok (.aload_n 2, 1) := dk_44 (dk_at dksJ10_inflate_0 3 rfl rfl)
theorem dJ10_inflate_4 : decode cJ10_inflate 4 = .ok (.invokestatic 173, 3) := dk_184 0 173 (dk_at dksJ10_inflate_0 4 rfl rfl)
theorem dJ10_inflate_7 : decode cJ10_inflate 7 = .ok (.iconst 0, 1) := dk_3 (dk_at dksJ10_inflate_0 7 rfl rfl)
theorem dJ10_inflate_8 : decode cJ10_inflate 8 = .ok (.istore 5, 2) := dk_54 5 (dk_at dksJ10_inflate_0 8 rfl rfl)
theorem dJ10_inflate_10 : decode cJ10_inflate 10 = .ok (.iload 5, 2) := dk_21 5 (dk_at dksJ10_inflate_0 10 rfl rfl)
theorem dJ10_inflate_12 : decode cJ10_inflate 12 = .ok (.iload 4, 2) := dk_21 4 (dk_at dksJ10_inflate_0 12 rfl rfl)
theorem dJ10_inflate_14 : decode cJ10_inflate 14 = .ok (.if_icmp .ge 27, 3) := dk_162 0 27 (dk_at dksJ10_inflate_0 14 rfl rfl)
theorem dJ10_inflate_17 : decode cJ10_inflate 17 = .ok (.aload_n 2, 1) := dk_44 (dk_at dksJ10_inflate_0 17 rfl rfl)
theorem dJ10_inflate_18 : decode cJ10_inflate 18 = .ok (.iload_n 3, 1) := dk_29 (dk_at dksJ10_inflate_0 18 rfl rfl)
theorem dJ10_inflate_19 : decode cJ10_inflate 19 = .ok (.iinc 3 1, 3) := dk_132 3 1 (dk_at dksJ10_inflate_0 19 rfl rfl)
theorem dJ10_inflate_22 : decode cJ10_inflate 22 = .ok (.aload_n 0, 1) := dk_42 (dk_at dksJ10_inflate_0 22 rfl rfl)
theorem dJ10_inflate_23 : decode cJ10_inflate 23 = .ok (.iload_n 1, 1) := dk_27 (dk_at dksJ10_inflate_0 23 rfl rfl)
theorem dJ10_inflate_24 : decode cJ10_inflate 24 = .ok (.iinc 1 1, 3) := dk_132 1 1 (dk_at dksJ10_inflate_1 0 rfl rfl)
theorem dJ10_inflate_27 : decode cJ10_inflate 27 = .ok (.baload, 1) := dk_51 (dk_at dksJ10_inflate_1 3 rfl rfl)
theorem dJ10_inflate_28 : decode cJ10_inflate 28 = .ok (.sipush 255, 3) := dk_17 0 255 (dk_at dksJ10_inflate_1 4 rfl rfl)
theorem dJ10_inflate_31 : decode cJ10_inflate 31 = .ok (.iand, 1) := dk_126 (dk_at dksJ10_inflate_1 7 rfl rfl)
theorem dJ10_inflate_32 : decode cJ10_inflate 32 = .ok (.invokestatic 111, 3) := dk_184 0 111 (dk_at dksJ10_inflate_1 8 rfl rfl)
theorem dJ10_inflate_35 : decode cJ10_inflate 35 = .ok (.iinc 5 1, 3) := dk_132 5 1 (dk_at dksJ10_inflate_1 11 rfl rfl)
theorem dJ10_inflate_38 : decode cJ10_inflate 38 = .ok (.goto (-28), 3) := dk_167 255 228 (dk_at dksJ10_inflate_1 14 rfl rfl)
theorem dJ10_inflate_41 : decode cJ10_inflate 41 = .ok (.return_, 1) := dk_177 (dk_at dksJ10_inflate_1 17 rfl rfl)
abbrev cJ10_checkBoundsOffCount : ByteArray := prog_53_method_94_code
def yJ10_checkBoundsOffCount : MethodName := ⟨RJ10, "checkBoundsOffCount", "(II[B)V"⟩
def dkwJ10_checkBoundsOffCount_0 : List UInt8 := [26, 27, 44, 184, 0, 48, 184, 1, 163, 87, 177]
abbrev dktJ10_checkBoundsOffCount_0 : List UInt8 := dkwJ10_checkBoundsOffCount_0 ++ []
theorem dksJ10_checkBoundsOffCount_0 : cJ10_checkBoundsOffCount.data.toList.drop 0 = dktJ10_checkBoundsOffCount_0 := by decide +kernel
theorem dJ10_checkBoundsOffCount_0 : decode cJ10_checkBoundsOffCount 0 = .ok (.iload_n 0, 1) := dk_26 (dk_at dksJ10_checkBoundsOffCount_0 0 rfl rfl)
theorem dJ10_checkBoundsOffCount_1 : decode cJ10_checkBoundsOffCount 1 = .ok (.iload_n 1, 1) := dk_27 (dk_at dksJ10_checkBoundsOffCount_0 1 rfl rfl)
theorem dJ10_checkBoundsOffCount_2 : decode cJ10_checkBoundsOffCount 2 = .ok (.aload_n 2, 1) := dk_44 (dk_at dksJ10_checkBoundsOffCount_0 2 rfl rfl)
theorem dJ10_checkBoundsOffCount_3 : decode cJ10_checkBoundsOffCount 3 = .ok (.invokestatic 48, 3) := dk_184 0 48 (dk_at dksJ10_checkBoundsOffCount_0 3 rfl rfl)
theorem dJ10_checkBoundsOffCount_6 : decode cJ10_checkBoundsOffCount 6 = .ok (.invokestatic 419, 3) := dk_184 1 163 (dk_at dksJ10_checkBoundsOffCount_0 6 rfl rfl)
theorem dJ10_checkBoundsOffCount_9 : decode cJ10_checkBoundsOffCount 9 = .ok (.pop, 1) := dk_87 (dk_at dksJ10_checkBoundsOffCount_0 9 rfl rfl)
theorem dJ10_checkBoundsOffCount_10 : decode cJ10_checkBoundsOffCount 10 = .ok (.return_, 1) := dk_177 (dk_at dksJ10_checkBoundsOffCount_0 10 rfl rfl)
abbrev cJ10_getChars : ByteArray := prog_53_method_77_code
def yJ10_getChars : MethodName := ⟨RJ10, "getChars", "(III[B)I"⟩
def dkwJ10_getChars_1 : List UInt8 := [159, 0, 11, 187, 0, 52, 89, 183, 0, 66, 191, 21, 4, 172]
abbrev dktJ10_getChars_1 : List UInt8 := dkwJ10_getChars_1 ++ []
def dkwJ10_getChars_0 : List UInt8 := [27, 28, 45, 184, 0, 96, 26, 28, 45, 184, 1, 137, 54, 4, 178, 0, 44, 154, 0, 17, 27, 21, 4]
abbrev dktJ10_getChars_0 : List UInt8 := dkwJ10_getChars_0 ++ dktJ10_getChars_1
theorem dksJ10_getChars_0 : cJ10_getChars.data.toList.drop 0 = dktJ10_getChars_0 := by decide +kernel
theorem dksJ10_getChars_1 : cJ10_getChars.data.toList.drop 23 = dktJ10_getChars_1 := dk_seg dksJ10_getChars_0 23 rfl rfl
theorem dJ10_getChars_0 : decode cJ10_getChars 0 = .ok (.iload_n 1, 1) := dk_27 (dk_at dksJ10_getChars_0 0 rfl rfl)
theorem dJ10_getChars_1 : decode cJ10_getChars 1 = .ok (.iload_n 2, 1) := dk_28 (dk_at dksJ10_getChars_0 1 rfl rfl)
theorem dJ10_getChars_2 : decode cJ10_getChars 2 = .ok (.aload_n 3, 1) := dk_45 (dk_at dksJ10_getChars_0 2 rfl rfl)
theorem dJ10_getChars_3 : decode cJ10_getChars 3 = .ok (.invokestatic 96, 3) := dk_184 0 96 (dk_at dksJ10_getChars_0 3 rfl rfl)
theorem dJ10_getChars_6 : decode cJ10_getChars 6 = .ok (.iload_n 0, 1) := dk_26 (dk_at dksJ10_getChars_0 6 rfl rfl)
theorem dJ10_getChars_7 : decode cJ10_getChars 7 = .ok (.iload_n 2, 1) := dk_28 (dk_at dksJ10_getChars_0 7 rfl rfl)
theorem dJ10_getChars_8 : decode cJ10_getChars 8 = .ok (.aload_n 3, 1) := dk_45 (dk_at dksJ10_getChars_0 8 rfl rfl)
theorem dJ10_getChars_9 : decode cJ10_getChars 9 = .ok (.invokestatic 393, 3) := dk_184 1 137 (dk_at dksJ10_getChars_0 9 rfl rfl)
theorem dJ10_getChars_12 : decode cJ10_getChars 12 = .ok (.istore 4, 2) := dk_54 4 (dk_at dksJ10_getChars_0 12 rfl rfl)
theorem dJ10_getChars_14 : decode cJ10_getChars 14 = .ok (.getstatic 44, 3) := dk_178 0 44 (dk_at dksJ10_getChars_0 14 rfl rfl)
theorem dJ10_getChars_17 : decode cJ10_getChars 17 = .ok (.ifCond .ne 17, 3) := dk_154 0 17 (dk_at dksJ10_getChars_0 17 rfl rfl)
theorem dJ10_getChars_20 : decode cJ10_getChars 20 = .ok (.iload_n 1, 1) := dk_27 (dk_at dksJ10_getChars_0 20 rfl rfl)
theorem dJ10_getChars_21 : decode cJ10_getChars 21 = .ok (.iload 4, 2) := dk_21 4 (dk_at dksJ10_getChars_0 21 rfl rfl)
theorem dJ10_getChars_23 : decode cJ10_getChars 23 = .ok (.if_icmp .eq 11, 3) := dk_159 0 11 (dk_at dksJ10_getChars_1 0 rfl rfl)
theorem dJ10_getChars_26 : decode cJ10_getChars 26 = .ok (.new 52, 3) := dk_187 0 52 (dk_at dksJ10_getChars_1 3 rfl rfl)
theorem dJ10_getChars_29 : decode cJ10_getChars 29 = .ok (.dup, 1) := dk_89 (dk_at dksJ10_getChars_1 6 rfl rfl)
theorem dJ10_getChars_30 : decode cJ10_getChars 30 = .ok (.invokespecial 66, 3) := dk_183 0 66 (dk_at dksJ10_getChars_1 7 rfl rfl)
theorem dJ10_getChars_33 : decode cJ10_getChars 33 = .ok (.athrow, 1) := dk_191 (dk_at dksJ10_getChars_1 10 rfl rfl)
theorem dJ10_getChars_34 : decode cJ10_getChars 34 = .ok (.iload 4, 2) := dk_21 4 (dk_at dksJ10_getChars_1 11 rfl rfl)
theorem dJ10_getChars_36 : decode cJ10_getChars 36 = .ok (.ireturn, 1) := dk_172 (dk_at dksJ10_getChars_1 13 rfl rfl)
abbrev cJ10_getChars_2 : ByteArray := prog_53_method_89_code
def yJ10_getChars_2 : MethodName := ⟨RJ10, "getChars", "(II[B)I"⟩
def dkwJ10_getChars_2_5 : List UInt8 := [132, 5, 255, 21, 5, 16, 45, 184, 0, 111, 21, 5, 172]
abbrev dktJ10_getChars_2_5 : List UInt8 := dkwJ10_getChars_2_5 ++ []
def dkwJ10_getChars_2_4 : List UInt8 := [162, 0, 18, 44, 132, 5, 255, 21, 5, 178, 1, 151, 26, 116, 51, 184, 0, 111, 21, 6, 153, 0, 14, 44]
abbrev dktJ10_getChars_2_4 : List UInt8 := dkwJ10_getChars_2_4 ++ dktJ10_getChars_2_5
def dkwJ10_getChars_2_3 : List UInt8 := [184, 0, 111, 167, 255, 205, 44, 132, 5, 255, 21, 5, 178, 1, 147, 26, 116, 51, 184, 0, 111, 26, 16, 247]
abbrev dktJ10_getChars_2_3 : List UInt8 := dkwJ10_getChars_2_3 ++ dktJ10_getChars_2_4
def dkwJ10_getChars_2_2 : List UInt8 := [21, 5, 178, 1, 147, 21, 4, 51, 184, 0, 111, 44, 132, 5, 255, 21, 5, 178, 1, 151, 21, 4, 51]
abbrev dktJ10_getChars_2_2 : List UInt8 := dkwJ10_getChars_2_2 ++ dktJ10_getChars_2_3
def dkwJ10_getChars_2_1 : List UInt8 := [16, 156, 163, 0, 51, 26, 16, 100, 108, 62, 29, 16, 100, 104, 26, 100, 54, 4, 29, 59, 44, 132, 5, 255]
abbrev dktJ10_getChars_2_1 : List UInt8 := dkwJ10_getChars_2_1 ++ dktJ10_getChars_2_2
def dkwJ10_getChars_2_0 : List UInt8 := [27, 54, 5, 26, 156, 0, 7, 4, 167, 0, 4, 3, 54, 6, 21, 6, 154, 0, 6, 26, 116, 59, 26]
abbrev dktJ10_getChars_2_0 : List UInt8 := dkwJ10_getChars_2_0 ++ dktJ10_getChars_2_1
theorem dksJ10_getChars_2_0 : cJ10_getChars_2.data.toList.drop 0 = dktJ10_getChars_2_0 := by decide +kernel
theorem dksJ10_getChars_2_1 : cJ10_getChars_2.data.toList.drop 23 = dktJ10_getChars_2_1 := dk_seg dksJ10_getChars_2_0 23 rfl rfl
theorem dksJ10_getChars_2_2 : cJ10_getChars_2.data.toList.drop 47 = dktJ10_getChars_2_2 := dk_seg dksJ10_getChars_2_1 24 rfl rfl
theorem dksJ10_getChars_2_3 : cJ10_getChars_2.data.toList.drop 70 = dktJ10_getChars_2_3 := dk_seg dksJ10_getChars_2_2 23 rfl rfl
theorem dksJ10_getChars_2_4 : cJ10_getChars_2.data.toList.drop 94 = dktJ10_getChars_2_4 := dk_seg dksJ10_getChars_2_3 24 rfl rfl
theorem dksJ10_getChars_2_5 : cJ10_getChars_2.data.toList.drop 118 = dktJ10_getChars_2_5 := dk_seg dksJ10_getChars_2_4 24 rfl rfl
theorem dJ10_getChars_2_0 : decode cJ10_getChars_2 0 = .ok (.iload_n 1, 1) := dk_27 (dk_at dksJ10_getChars_2_0 0 rfl rfl)
theorem dJ10_getChars_2_1 : decode cJ10_getChars_2 1 = .ok (.istore 5, 2) := dk_54 5 (dk_at dksJ10_getChars_2_0 1 rfl rfl)
theorem dJ10_getChars_2_3 : decode cJ10_getChars_2 3 = .ok (.iload_n 0, 1) := dk_26 (dk_at dksJ10_getChars_2_0 3 rfl rfl)
theorem dJ10_getChars_2_4 : decode cJ10_getChars_2 4 = .ok (.ifCond .ge 7, 3) := dk_156 0 7 (dk_at dksJ10_getChars_2_0 4 rfl rfl)
theorem dJ10_getChars_2_7 : decode cJ10_getChars_2 7 = .ok (.iconst 1, 1) := dk_4 (dk_at dksJ10_getChars_2_0 7 rfl rfl)
theorem dJ10_getChars_2_8 : decode cJ10_getChars_2 8 = .ok (.goto 4, 3) := dk_167 0 4 (dk_at dksJ10_getChars_2_0 8 rfl rfl)
theorem dJ10_getChars_2_11 : decode cJ10_getChars_2 11 = .ok (.iconst 0, 1) := dk_3 (dk_at dksJ10_getChars_2_0 11 rfl rfl)
theorem dJ10_getChars_2_12 : decode cJ10_getChars_2 12 = .ok (.istore 6, 2) := dk_54 6 (dk_at dksJ10_getChars_2_0 12 rfl rfl)
theorem dJ10_getChars_2_14 : decode cJ10_getChars_2 14 = .ok (.iload 6, 2) := dk_21 6 (dk_at dksJ10_getChars_2_0 14 rfl rfl)
theorem dJ10_getChars_2_16 : decode cJ10_getChars_2 16 = .ok (.ifCond .ne 6, 3) := dk_154 0 6 (dk_at dksJ10_getChars_2_0 16 rfl rfl)
theorem dJ10_getChars_2_19 : decode cJ10_getChars_2 19 = .ok (.iload_n 0, 1) := dk_26 (dk_at dksJ10_getChars_2_0 19 rfl rfl)
theorem dJ10_getChars_2_20 : decode cJ10_getChars_2 20 = .ok (.ineg, 1) := dk_116 (dk_at dksJ10_getChars_2_0 20 rfl rfl)
theorem dJ10_getChars_2_21 : decode cJ10_getChars_2 21 = .ok (.istore_n 0, 1) := dk_59 (dk_at dksJ10_getChars_2_0 21 rfl rfl)
theorem dJ10_getChars_2_22 : decode cJ10_getChars_2 22 = .ok (.iload_n 0, 1) := dk_26 (dk_at dksJ10_getChars_2_0 22 rfl rfl)
theorem dJ10_getChars_2_23 : decode cJ10_getChars_2 23 = .ok (.bipush (-100), 2) := dk_16 156 (dk_at dksJ10_getChars_2_1 0 rfl rfl)
theorem dJ10_getChars_2_25 : decode cJ10_getChars_2 25 = .ok (.if_icmp .gt 51, 3) := dk_163 0 51 (dk_at dksJ10_getChars_2_1 2 rfl rfl)
theorem dJ10_getChars_2_28 : decode cJ10_getChars_2 28 = .ok (.iload_n 0, 1) := dk_26 (dk_at dksJ10_getChars_2_1 5 rfl rfl)
theorem dJ10_getChars_2_29 : decode cJ10_getChars_2 29 = .ok (.bipush 100, 2) := dk_16 100 (dk_at dksJ10_getChars_2_1 6 rfl rfl)
theorem dJ10_getChars_2_31 : decode cJ10_getChars_2 31 = .ok (.idiv, 1) := dk_108 (dk_at dksJ10_getChars_2_1 8 rfl rfl)
theorem dJ10_getChars_2_32 : decode cJ10_getChars_2 32 = .ok (.istore_n 3, 1) := dk_62 (dk_at dksJ10_getChars_2_1 9 rfl rfl)
theorem dJ10_getChars_2_33 : decode cJ10_getChars_2 33 = .ok (.iload_n 3, 1) := dk_29 (dk_at dksJ10_getChars_2_1 10 rfl rfl)
theorem dJ10_getChars_2_34 : decode cJ10_getChars_2 34 = .ok (.bipush 100, 2) := dk_16 100 (dk_at dksJ10_getChars_2_1 11 rfl rfl)
theorem dJ10_getChars_2_36 : decode cJ10_getChars_2 36 = .ok (.imul, 1) := dk_104 (dk_at dksJ10_getChars_2_1 13 rfl rfl)
theorem dJ10_getChars_2_37 : decode cJ10_getChars_2 37 = .ok (.iload_n 0, 1) := dk_26 (dk_at dksJ10_getChars_2_1 14 rfl rfl)
theorem dJ10_getChars_2_38 : decode cJ10_getChars_2 38 = .ok (.isub, 1) := dk_100 (dk_at dksJ10_getChars_2_1 15 rfl rfl)
theorem dJ10_getChars_2_39 : decode cJ10_getChars_2 39 = .ok (.istore 4, 2) := dk_54 4 (dk_at dksJ10_getChars_2_1 16 rfl rfl)
theorem dJ10_getChars_2_41 : decode cJ10_getChars_2 41 = .ok (.iload_n 3, 1) := dk_29 (dk_at dksJ10_getChars_2_1 18 rfl rfl)
theorem dJ10_getChars_2_42 : decode cJ10_getChars_2 42 = .ok (.istore_n 0, 1) := dk_59 (dk_at dksJ10_getChars_2_1 19 rfl rfl)
theorem dJ10_getChars_2_43 : decode cJ10_getChars_2 43 = .ok (.aload_n 2, 1) := dk_44 (dk_at dksJ10_getChars_2_1 20 rfl rfl)
theorem dJ10_getChars_2_44 : decode cJ10_getChars_2 44 = .ok (.iinc 5 (-1), 3) := dk_132 5 255 (dk_at dksJ10_getChars_2_1 21 rfl rfl)
theorem dJ10_getChars_2_47 : decode cJ10_getChars_2 47 = .ok (.iload 5, 2) := dk_21 5 (dk_at dksJ10_getChars_2_2 0 rfl rfl)
theorem dJ10_getChars_2_49 : decode cJ10_getChars_2 49 = .ok (.getstatic 403, 3) := dk_178 1 147 (dk_at dksJ10_getChars_2_2 2 rfl rfl)
theorem dJ10_getChars_2_52 : decode cJ10_getChars_2 52 = .ok (.iload 4, 2) := dk_21 4 (dk_at dksJ10_getChars_2_2 5 rfl rfl)
theorem dJ10_getChars_2_54 : decode cJ10_getChars_2 54 = .ok (.baload, 1) := dk_51 (dk_at dksJ10_getChars_2_2 7 rfl rfl)
theorem dJ10_getChars_2_55 : decode cJ10_getChars_2 55 = .ok (.invokestatic 111, 3) := dk_184 0 111 (dk_at dksJ10_getChars_2_2 8 rfl rfl)
theorem dJ10_getChars_2_58 : decode cJ10_getChars_2 58 = .ok (.aload_n 2, 1) := dk_44 (dk_at dksJ10_getChars_2_2 11 rfl rfl)
theorem dJ10_getChars_2_59 : decode cJ10_getChars_2 59 = .ok (.iinc 5 (-1), 3) := dk_132 5 255 (dk_at dksJ10_getChars_2_2 12 rfl rfl)
theorem dJ10_getChars_2_62 : decode cJ10_getChars_2 62 = .ok (.iload 5, 2) := dk_21 5 (dk_at dksJ10_getChars_2_2 15 rfl rfl)
theorem dJ10_getChars_2_64 : decode cJ10_getChars_2 64 = .ok (.getstatic 407, 3) := dk_178 1 151 (dk_at dksJ10_getChars_2_2 17 rfl rfl)
theorem dJ10_getChars_2_67 : decode cJ10_getChars_2 67 = .ok (.iload 4, 2) := dk_21 4 (dk_at dksJ10_getChars_2_2 20 rfl rfl)
theorem dJ10_getChars_2_69 : decode cJ10_getChars_2 69 = .ok (.baload, 1) := dk_51 (dk_at dksJ10_getChars_2_2 22 rfl rfl)
theorem dJ10_getChars_2_70 : decode cJ10_getChars_2 70 = .ok (.invokestatic 111, 3) := dk_184 0 111 (dk_at dksJ10_getChars_2_3 0 rfl rfl)
theorem dJ10_getChars_2_73 : decode cJ10_getChars_2 73 = .ok (.goto (-51), 3) := dk_167 255 205 (dk_at dksJ10_getChars_2_3 3 rfl rfl)
theorem dJ10_getChars_2_76 : decode cJ10_getChars_2 76 = .ok (.aload_n 2, 1) := dk_44 (dk_at dksJ10_getChars_2_3 6 rfl rfl)
theorem dJ10_getChars_2_77 : decode cJ10_getChars_2 77 = .ok (.iinc 5 (-1), 3) := dk_132 5 255 (dk_at dksJ10_getChars_2_3 7 rfl rfl)
theorem dJ10_getChars_2_80 : decode cJ10_getChars_2 80 = .ok (.iload 5, 2) := dk_21 5 (dk_at dksJ10_getChars_2_3 10 rfl rfl)
theorem dJ10_getChars_2_82 : decode cJ10_getChars_2 82 = .ok (.getstatic 403, 3) := dk_178 1 147 (dk_at dksJ10_getChars_2_3 12 rfl rfl)
theorem dJ10_getChars_2_85 : decode cJ10_getChars_2 85 = .ok (.iload_n 0, 1) := dk_26 (dk_at dksJ10_getChars_2_3 15 rfl rfl)
theorem dJ10_getChars_2_86 : decode cJ10_getChars_2 86 = .ok (.ineg, 1) := dk_116 (dk_at dksJ10_getChars_2_3 16 rfl rfl)
theorem dJ10_getChars_2_87 : decode cJ10_getChars_2 87 = .ok (.baload, 1) := dk_51 (dk_at dksJ10_getChars_2_3 17 rfl rfl)
theorem dJ10_getChars_2_88 : decode cJ10_getChars_2 88 = .ok (.invokestatic 111, 3) := dk_184 0 111 (dk_at dksJ10_getChars_2_3 18 rfl rfl)
theorem dJ10_getChars_2_91 : decode cJ10_getChars_2 91 = .ok (.iload_n 0, 1) := dk_26 (dk_at dksJ10_getChars_2_3 21 rfl rfl)
theorem dJ10_getChars_2_92 : decode cJ10_getChars_2 92 = .ok (.bipush (-9), 2) := dk_16 247 (dk_at dksJ10_getChars_2_3 22 rfl rfl)
theorem dJ10_getChars_2_94 : decode cJ10_getChars_2 94 = .ok (.if_icmp .ge 18, 3) := dk_162 0 18 (dk_at dksJ10_getChars_2_4 0 rfl rfl)
theorem dJ10_getChars_2_97 : decode cJ10_getChars_2 97 = .ok (.aload_n 2, 1) := dk_44 (dk_at dksJ10_getChars_2_4 3 rfl rfl)
theorem dJ10_getChars_2_98 : decode cJ10_getChars_2 98 = .ok (.iinc 5 (-1), 3) := dk_132 5 255 (dk_at dksJ10_getChars_2_4 4 rfl rfl)
theorem dJ10_getChars_2_101 : decode cJ10_getChars_2 101 = .ok (.iload 5, 2) := dk_21 5 (dk_at dksJ10_getChars_2_4 7 rfl rfl)
theorem dJ10_getChars_2_103 : decode cJ10_getChars_2 103 = .ok (.getstatic 407, 3) := dk_178 1 151 (dk_at dksJ10_getChars_2_4 9 rfl rfl)
theorem dJ10_getChars_2_106 : decode cJ10_getChars_2 106 = .ok (.iload_n 0, 1) := dk_26 (dk_at dksJ10_getChars_2_4 12 rfl rfl)
theorem dJ10_getChars_2_107 : decode cJ10_getChars_2 107 = .ok (.ineg, 1) := dk_116 (dk_at dksJ10_getChars_2_4 13 rfl rfl)
theorem dJ10_getChars_2_108 : decode cJ10_getChars_2 108 = .ok (.baload, 1) := dk_51 (dk_at dksJ10_getChars_2_4 14 rfl rfl)
theorem dJ10_getChars_2_109 : decode cJ10_getChars_2 109 = .ok (.invokestatic 111, 3) := dk_184 0 111 (dk_at dksJ10_getChars_2_4 15 rfl rfl)
theorem dJ10_getChars_2_112 : decode cJ10_getChars_2 112 = .ok (.iload 6, 2) := dk_21 6 (dk_at dksJ10_getChars_2_4 18 rfl rfl)
theorem dJ10_getChars_2_114 : decode cJ10_getChars_2 114 = .ok (.ifCond .eq 14, 3) := dk_153 0 14 (dk_at dksJ10_getChars_2_4 20 rfl rfl)
theorem dJ10_getChars_2_117 : decode cJ10_getChars_2 117 = .ok (.aload_n 2, 1) := dk_44 (dk_at dksJ10_getChars_2_4 23 rfl rfl)
theorem dJ10_getChars_2_118 : decode cJ10_getChars_2 118 = .ok (.iinc 5 (-1), 3) := dk_132 5 255 (dk_at dksJ10_getChars_2_5 0 rfl rfl)
theorem dJ10_getChars_2_121 : decode cJ10_getChars_2 121 = .ok (.iload 5, 2) := dk_21 5 (dk_at dksJ10_getChars_2_5 3 rfl rfl)
theorem dJ10_getChars_2_123 : decode cJ10_getChars_2 123 = .ok (.bipush 45, 2) := dk_16 45 (dk_at dksJ10_getChars_2_5 5 rfl rfl)
theorem dJ10_getChars_2_125 : decode cJ10_getChars_2 125 = .ok (.invokestatic 111, 3) := dk_184 0 111 (dk_at dksJ10_getChars_2_5 7 rfl rfl)
theorem dJ10_getChars_2_128 : decode cJ10_getChars_2 128 = .ok (.iload 5, 2) := dk_21 5 (dk_at dksJ10_getChars_2_5 10 rfl rfl)
theorem dJ10_getChars_2_130 : decode cJ10_getChars_2 130 = .ok (.ireturn, 1) := dk_172 (dk_at dksJ10_getChars_2_5 12 rfl rfl)
abbrev cJ10_compress : ByteArray := prog_53_method_17_code
def yJ10_compress : MethodName := ⟨RJ10, "compress", "([BII)[B"⟩
def dkwJ10_compress_2 : List UInt8 := [25, 5, 3, 45, 3, 28, 184, 0, 123, 28, 159, 0, 6, 25, 5, 176, 45, 176]
abbrev dktJ10_compress_2 : List UInt8 := dkwJ10_compress_2 ++ []
def dkwJ10_compress_1 : List UInt8 := [27, 28, 96, 184, 0, 11, 184, 0, 126, 58, 5, 25, 5, 21, 4, 184, 0, 71, 17, 0, 255, 163, 0, 16]
abbrev dktJ10_compress_1 : List UInt8 := dkwJ10_compress_1 ++ dktJ10_compress_2
def dkwJ10_compress_0 : List UInt8 := [28, 188, 8, 78, 42, 27, 45, 3, 28, 184, 0, 123, 54, 4, 21, 4, 28, 159, 0, 47, 42, 27, 4, 120]
abbrev dktJ10_compress_0 : List UInt8 := dkwJ10_compress_0 ++ dktJ10_compress_1
theorem dksJ10_compress_0 : cJ10_compress.data.toList.drop 0 = dktJ10_compress_0 := by decide +kernel
theorem dksJ10_compress_1 : cJ10_compress.data.toList.drop 24 = dktJ10_compress_1 := dk_seg dksJ10_compress_0 24 rfl rfl
theorem dksJ10_compress_2 : cJ10_compress.data.toList.drop 48 = dktJ10_compress_2 := dk_seg dksJ10_compress_1 24 rfl rfl
theorem dJ10_compress_0 : decode cJ10_compress 0 = .ok (.iload_n 2, 1) := dk_28 (dk_at dksJ10_compress_0 0 rfl rfl)
theorem dJ10_compress_1 : decode cJ10_compress 1 = .ok (.newarray .byte, 2) := dk_188_8 (dk_at dksJ10_compress_0 1 rfl rfl)
theorem dJ10_compress_3 : decode cJ10_compress 3 = .ok (.astore_n 3, 1) := dk_78 (dk_at dksJ10_compress_0 3 rfl rfl)
theorem dJ10_compress_4 : decode cJ10_compress 4 = .ok (.aload_n 0, 1) := dk_42 (dk_at dksJ10_compress_0 4 rfl rfl)
theorem dJ10_compress_5 : decode cJ10_compress 5 = .ok (.iload_n 1, 1) := dk_27 (dk_at dksJ10_compress_0 5 rfl rfl)
theorem dJ10_compress_6 : decode cJ10_compress 6 = .ok (.aload_n 3, 1) := dk_45 (dk_at dksJ10_compress_0 6 rfl rfl)
theorem dJ10_compress_7 : decode cJ10_compress 7 = .ok (.iconst 0, 1) := dk_3 (dk_at dksJ10_compress_0 7 rfl rfl)
theorem dJ10_compress_8 : decode cJ10_compress 8 = .ok (.iload_n 2, 1) := dk_28 (dk_at dksJ10_compress_0 8 rfl rfl)
theorem dJ10_compress_9 : decode cJ10_compress 9 = .ok (.invokestatic 123, 3) := dk_184 0 123 (dk_at dksJ10_compress_0 9 rfl rfl)
theorem dJ10_compress_12 : decode cJ10_compress 12 = .ok (.istore 4, 2) := dk_54 4 (dk_at dksJ10_compress_0 12 rfl rfl)
theorem dJ10_compress_14 : decode cJ10_compress 14 = .ok (.iload 4, 2) := dk_21 4 (dk_at dksJ10_compress_0 14 rfl rfl)
theorem dJ10_compress_16 : decode cJ10_compress 16 = .ok (.iload_n 2, 1) := dk_28 (dk_at dksJ10_compress_0 16 rfl rfl)
theorem dJ10_compress_17 : decode cJ10_compress 17 = .ok (.if_icmp .eq 47, 3) := dk_159 0 47 (dk_at dksJ10_compress_0 17 rfl rfl)
theorem dJ10_compress_20 : decode cJ10_compress 20 = .ok (.aload_n 0, 1) := dk_42 (dk_at dksJ10_compress_0 20 rfl rfl)
theorem dJ10_compress_21 : decode cJ10_compress 21 = .ok (.iload_n 1, 1) := dk_27 (dk_at dksJ10_compress_0 21 rfl rfl)
theorem dJ10_compress_22 : decode cJ10_compress 22 = .ok (.iconst 1, 1) := dk_4 (dk_at dksJ10_compress_0 22 rfl rfl)
theorem dJ10_compress_23 : decode cJ10_compress 23 = .ok (.ishl, 1) := dk_120 (dk_at dksJ10_compress_0 23 rfl rfl)
theorem dJ10_compress_24 : decode cJ10_compress 24 = .ok (.iload_n 1, 1) := dk_27 (dk_at dksJ10_compress_1 0 rfl rfl)
theorem dJ10_compress_25 : decode cJ10_compress 25 = .ok (.iload_n 2, 1) := dk_28 (dk_at dksJ10_compress_1 1 rfl rfl)
theorem dJ10_compress_26 : decode cJ10_compress 26 = .ok (.iadd, 1) := dk_96 (dk_at dksJ10_compress_1 2 rfl rfl)
theorem dJ10_compress_27 : decode cJ10_compress 27 = .ok (.invokestatic 11, 3) := dk_184 0 11 (dk_at dksJ10_compress_1 3 rfl rfl)
theorem dJ10_compress_30 : decode cJ10_compress 30 = .ok (.invokestatic 126, 3) := dk_184 0 126 (dk_at dksJ10_compress_1 6 rfl rfl)
theorem dJ10_compress_33 : decode cJ10_compress 33 = .ok (.astore 5, 2) := dk_58 5 (dk_at dksJ10_compress_1 9 rfl rfl)
theorem dJ10_compress_35 : decode cJ10_compress 35 = .ok (.aload 5, 2) := dk_25 5 (dk_at dksJ10_compress_1 11 rfl rfl)
theorem dJ10_compress_37 : decode cJ10_compress 37 = .ok (.iload 4, 2) := dk_21 4 (dk_at dksJ10_compress_1 13 rfl rfl)
theorem dJ10_compress_39 : decode cJ10_compress 39 = .ok (.invokestatic 71, 3) := dk_184 0 71 (dk_at dksJ10_compress_1 15 rfl rfl)
theorem dJ10_compress_42 : decode cJ10_compress 42 = .ok (.sipush 255, 3) := dk_17 0 255 (dk_at dksJ10_compress_1 18 rfl rfl)
theorem dJ10_compress_45 : decode cJ10_compress 45 = .ok (.if_icmp .gt 16, 3) := dk_163 0 16 (dk_at dksJ10_compress_1 21 rfl rfl)
theorem dJ10_compress_48 : decode cJ10_compress 48 = .ok (.aload 5, 2) := dk_25 5 (dk_at dksJ10_compress_2 0 rfl rfl)
theorem dJ10_compress_50 : decode cJ10_compress 50 = .ok (.iconst 0, 1) := dk_3 (dk_at dksJ10_compress_2 2 rfl rfl)
theorem dJ10_compress_51 : decode cJ10_compress 51 = .ok (.aload_n 3, 1) := dk_45 (dk_at dksJ10_compress_2 3 rfl rfl)
theorem dJ10_compress_52 : decode cJ10_compress 52 = .ok (.iconst 0, 1) := dk_3 (dk_at dksJ10_compress_2 4 rfl rfl)
theorem dJ10_compress_53 : decode cJ10_compress 53 = .ok (.iload_n 2, 1) := dk_28 (dk_at dksJ10_compress_2 5 rfl rfl)
theorem dJ10_compress_54 : decode cJ10_compress 54 = .ok (.invokestatic 123, 3) := dk_184 0 123 (dk_at dksJ10_compress_2 6 rfl rfl)
theorem dJ10_compress_57 : decode cJ10_compress 57 = .ok (.iload_n 2, 1) := dk_28 (dk_at dksJ10_compress_2 9 rfl rfl)
theorem dJ10_compress_58 : decode cJ10_compress 58 = .ok (.if_icmp .eq 6, 3) := dk_159 0 6 (dk_at dksJ10_compress_2 10 rfl rfl)
theorem dJ10_compress_61 : decode cJ10_compress 61 = .ok (.aload 5, 2) := dk_25 5 (dk_at dksJ10_compress_2 13 rfl rfl)
theorem dJ10_compress_63 : decode cJ10_compress 63 = .ok (.areturn, 1) := dk_176 (dk_at dksJ10_compress_2 15 rfl rfl)
theorem dJ10_compress_64 : decode cJ10_compress 64 = .ok (.aload_n 3, 1) := dk_45 (dk_at dksJ10_compress_2 16 rfl rfl)
theorem dJ10_compress_65 : decode cJ10_compress 65 = .ok (.areturn, 1) := dk_176 (dk_at dksJ10_compress_2 17 rfl rfl)
abbrev cJ10_compress_2 : ByteArray := prog_53_method_22_code
def yJ10_compress_2 : MethodName := ⟨RJ10, "compress", "([BI[BII)I"⟩
def dkwJ10_compress_2_2 : List UInt8 := [132, 5, 1, 167, 255, 216, 21, 4, 172]
abbrev dktJ10_compress_2_2 : List UInt8 := dkwJ10_compress_2_2 ++ []
def dkwJ10_compress_2_1 : List UInt8 := [21, 6, 17, 0, 255, 164, 0, 6, 21, 5, 172, 44, 29, 21, 6, 145, 84, 132, 1, 1, 132, 3, 1]
abbrev dktJ10_compress_2_1 : List UInt8 := dkwJ10_compress_2_1 ++ dktJ10_compress_2_2
def dkwJ10_compress_2_0 : List UInt8 := [27, 21, 4, 42, 184, 0, 173, 3, 54, 5, 21, 5, 21, 4, 162, 0, 39, 42, 27, 184, 0, 71, 54, 6]
abbrev dktJ10_compress_2_0 : List UInt8 := dkwJ10_compress_2_0 ++ dktJ10_compress_2_1
theorem dksJ10_compress_2_0 : cJ10_compress_2.data.toList.drop 0 = dktJ10_compress_2_0 := by decide +kernel
theorem dksJ10_compress_2_1 : cJ10_compress_2.data.toList.drop 24 = dktJ10_compress_2_1 := dk_seg dksJ10_compress_2_0 24 rfl rfl
theorem dksJ10_compress_2_2 : cJ10_compress_2.data.toList.drop 47 = dktJ10_compress_2_2 := dk_seg dksJ10_compress_2_1 23 rfl rfl
theorem dJ10_compress_2_0 : decode cJ10_compress_2 0 = .ok (.iload_n 1, 1) := dk_27 (dk_at dksJ10_compress_2_0 0 rfl rfl)
theorem dJ10_compress_2_1 : decode cJ10_compress_2 1 = .ok (.iload 4, 2) := dk_21 4 (dk_at dksJ10_compress_2_0 1 rfl rfl)
theorem dJ10_compress_2_3 : decode cJ10_compress_2 3 = .ok (.aload_n 0, 1) := dk_42 (dk_at dksJ10_compress_2_0 3 rfl rfl)
theorem dJ10_compress_2_4 : decode cJ10_compress_2 4 = .ok (.invokestatic 173, 3) := dk_184 0 173 (dk_at dksJ10_compress_2_0 4 rfl rfl)
theorem dJ10_compress_2_7 : decode cJ10_compress_2 7 = .ok (.iconst 0, 1) := dk_3 (dk_at dksJ10_compress_2_0 7 rfl rfl)
theorem dJ10_compress_2_8 : decode cJ10_compress_2 8 = .ok (.istore 5, 2) := dk_54 5 (dk_at dksJ10_compress_2_0 8 rfl rfl)
theorem dJ10_compress_2_10 : decode cJ10_compress_2 10 = .ok (.iload 5, 2) := dk_21 5 (dk_at dksJ10_compress_2_0 10 rfl rfl)
theorem dJ10_compress_2_12 : decode cJ10_compress_2 12 = .ok (.iload 4, 2) := dk_21 4 (dk_at dksJ10_compress_2_0 12 rfl rfl)
theorem dJ10_compress_2_14 : decode cJ10_compress_2 14 = .ok (.if_icmp .ge 39, 3) := dk_162 0 39 (dk_at dksJ10_compress_2_0 14 rfl rfl)
theorem dJ10_compress_2_17 : decode cJ10_compress_2 17 = .ok (.aload_n 0, 1) := dk_42 (dk_at dksJ10_compress_2_0 17 rfl rfl)
theorem dJ10_compress_2_18 : decode cJ10_compress_2 18 = .ok (.iload_n 1, 1) := dk_27 (dk_at dksJ10_compress_2_0 18 rfl rfl)
theorem dJ10_compress_2_19 : decode cJ10_compress_2 19 = .ok (.invokestatic 71, 3) := dk_184 0 71 (dk_at dksJ10_compress_2_0 19 rfl rfl)
theorem dJ10_compress_2_22 : decode cJ10_compress_2 22 = .ok (.istore 6, 2) := dk_54 6 (dk_at dksJ10_compress_2_0 22 rfl rfl)
theorem dJ10_compress_2_24 : decode cJ10_compress_2 24 = .ok (.iload 6, 2) := dk_21 6 (dk_at dksJ10_compress_2_1 0 rfl rfl)
theorem dJ10_compress_2_26 : decode cJ10_compress_2 26 = .ok (.sipush 255, 3) := dk_17 0 255 (dk_at dksJ10_compress_2_1 2 rfl rfl)
theorem dJ10_compress_2_29 : decode cJ10_compress_2 29 = .ok (.if_icmp .le 6, 3) := dk_164 0 6 (dk_at dksJ10_compress_2_1 5 rfl rfl)
theorem dJ10_compress_2_32 : decode cJ10_compress_2 32 = .ok (.iload 5, 2) := dk_21 5 (dk_at dksJ10_compress_2_1 8 rfl rfl)
theorem dJ10_compress_2_34 : decode cJ10_compress_2 34 = .ok (.ireturn, 1) := dk_172 (dk_at dksJ10_compress_2_1 10 rfl rfl)
theorem dJ10_compress_2_35 : decode cJ10_compress_2 35 = .ok (.aload_n 2, 1) := dk_44 (dk_at dksJ10_compress_2_1 11 rfl rfl)
theorem dJ10_compress_2_36 : decode cJ10_compress_2 36 = .ok (.iload_n 3, 1) := dk_29 (dk_at dksJ10_compress_2_1 12 rfl rfl)
theorem dJ10_compress_2_37 : decode cJ10_compress_2 37 = .ok (.iload 6, 2) := dk_21 6 (dk_at dksJ10_compress_2_1 13 rfl rfl)
theorem dJ10_compress_2_39 : decode cJ10_compress_2 39 = .ok (.i2b, 1) := dk_145 (dk_at dksJ10_compress_2_1 15 rfl rfl)
theorem dJ10_compress_2_40 : decode cJ10_compress_2 40 = .ok (.bastore, 1) := dk_84 (dk_at dksJ10_compress_2_1 16 rfl rfl)
theorem dJ10_compress_2_41 : decode cJ10_compress_2 41 = .ok (.iinc 1 1, 3) := dk_132 1 1 (dk_at dksJ10_compress_2_1 17 rfl rfl)
theorem dJ10_compress_2_44 : decode cJ10_compress_2 44 = .ok (.iinc 3 1, 3) := dk_132 3 1 (dk_at dksJ10_compress_2_1 20 rfl rfl)
theorem dJ10_compress_2_47 : decode cJ10_compress_2 47 = .ok (.iinc 5 1, 3) := dk_132 5 1 (dk_at dksJ10_compress_2_2 0 rfl rfl)
theorem dJ10_compress_2_50 : decode cJ10_compress_2 50 = .ok (.goto (-40), 3) := dk_167 255 216 (dk_at dksJ10_compress_2_2 3 rfl rfl)
theorem dJ10_compress_2_53 : decode cJ10_compress_2 53 = .ok (.iload 4, 2) := dk_21 4 (dk_at dksJ10_compress_2_2 6 rfl rfl)
theorem dJ10_compress_2_55 : decode cJ10_compress_2 55 = .ok (.ireturn, 1) := dk_172 (dk_at dksJ10_compress_2_2 8 rfl rfl)
abbrev cJ10_coderFromArrayLen : ByteArray := prog_53_method_15_code
def yJ10_coderFromArrayLen : MethodName := ⟨RJ10, "coderFromArrayLen", "([BI)B"⟩
def dkwJ10_coderFromArrayLen_0 : List UInt8 := [27, 42, 190, 100, 16, 31, 124, 145, 172]
abbrev dktJ10_coderFromArrayLen_0 : List UInt8 := dkwJ10_coderFromArrayLen_0 ++ []
theorem dksJ10_coderFromArrayLen_0 : cJ10_coderFromArrayLen.data.toList.drop 0 = dktJ10_coderFromArrayLen_0 := by decide +kernel
theorem dJ10_coderFromArrayLen_0 : decode cJ10_coderFromArrayLen 0 = .ok (.iload_n 1, 1) := dk_27 (dk_at dksJ10_coderFromArrayLen_0 0 rfl rfl)
theorem dJ10_coderFromArrayLen_1 : decode cJ10_coderFromArrayLen 1 = .ok (.aload_n 0, 1) := dk_42 (dk_at dksJ10_coderFromArrayLen_0 1 rfl rfl)
theorem dJ10_coderFromArrayLen_2 : decode cJ10_coderFromArrayLen 2 = .ok (.arraylength, 1) := dk_190 (dk_at dksJ10_coderFromArrayLen_0 2 rfl rfl)
theorem dJ10_coderFromArrayLen_3 : decode cJ10_coderFromArrayLen 3 = .ok (.isub, 1) := dk_100 (dk_at dksJ10_coderFromArrayLen_0 3 rfl rfl)
theorem dJ10_coderFromArrayLen_4 : decode cJ10_coderFromArrayLen 4 = .ok (.bipush 31, 2) := dk_16 31 (dk_at dksJ10_coderFromArrayLen_0 4 rfl rfl)
theorem dJ10_coderFromArrayLen_6 : decode cJ10_coderFromArrayLen 6 = .ok (.iushr, 1) := dk_124 (dk_at dksJ10_coderFromArrayLen_0 6 rfl rfl)
theorem dJ10_coderFromArrayLen_7 : decode cJ10_coderFromArrayLen 7 = .ok (.i2b, 1) := dk_145 (dk_at dksJ10_coderFromArrayLen_0 7 rfl rfl)
theorem dJ10_coderFromArrayLen_8 : decode cJ10_coderFromArrayLen 8 = .ok (.ireturn, 1) := dk_172 (dk_at dksJ10_coderFromArrayLen_0 8 rfl rfl)
abbrev cJ10_hashCode : ByteArray := prog_53_method_39_code
def yJ10_hashCode : MethodName := ⟨RJ10, "hashCode", "([B)I"⟩
def dkwJ10_hashCode_2 : List UInt8 := [3, 167, 0, 22, 42, 3, 184, 0, 71, 167, 0, 14, 42, 3, 42, 190, 4, 122, 3, 8, 184, 0, 220, 172]
abbrev dktJ10_hashCode_2 : List UInt8 := dkwJ10_hashCode_2 ++ []
def dkwJ10_hashCode_1 : List UInt8 := [171, 0, 0, 0, 0, 38, 0, 0, 0, 2, 0, 0, 0, 0, 0, 0, 0, 26, 0, 0, 0, 2, 0, 0, 0, 30]
abbrev dktJ10_hashCode_1 : List UInt8 := dkwJ10_hashCode_1 ++ dktJ10_hashCode_2
def dkwJ10_hashCode_0 : List UInt8 := [42, 190]
abbrev dktJ10_hashCode_0 : List UInt8 := dkwJ10_hashCode_0 ++ dktJ10_hashCode_1
theorem dksJ10_hashCode_0 : cJ10_hashCode.data.toList.drop 0 = dktJ10_hashCode_0 := by decide +kernel
theorem dksJ10_hashCode_1 : cJ10_hashCode.data.toList.drop 2 = dktJ10_hashCode_1 := dk_seg dksJ10_hashCode_0 2 rfl rfl
theorem dksJ10_hashCode_2 : cJ10_hashCode.data.toList.drop 28 = dktJ10_hashCode_2 := dk_seg dksJ10_hashCode_1 26 rfl rfl
theorem dJ10_hashCode_0 : decode cJ10_hashCode 0 = .ok (.aload_n 0, 1) := dk_42 (dk_at dksJ10_hashCode_0 0 rfl rfl)
theorem dJ10_hashCode_1 : decode cJ10_hashCode 1 = .ok (.arraylength, 1) := dk_190 (dk_at dksJ10_hashCode_0 1 rfl rfl)
theorem dJ10_hashCode_2 : decode cJ10_hashCode 2 = .ok (.lookupswitch 38 #[(0, 26), (2, 30)], 26) := by decide +kernel
theorem dJ10_hashCode_28 : decode cJ10_hashCode 28 = .ok (.iconst 0, 1) := dk_3 (dk_at dksJ10_hashCode_2 0 rfl rfl)
theorem dJ10_hashCode_29 : decode cJ10_hashCode 29 = .ok (.goto 22, 3) := dk_167 0 22 (dk_at dksJ10_hashCode_2 1 rfl rfl)
theorem dJ10_hashCode_32 : decode cJ10_hashCode 32 = .ok (.aload_n 0, 1) := dk_42 (dk_at dksJ10_hashCode_2 4 rfl rfl)
theorem dJ10_hashCode_33 : decode cJ10_hashCode 33 = .ok (.iconst 0, 1) := dk_3 (dk_at dksJ10_hashCode_2 5 rfl rfl)
theorem dJ10_hashCode_34 : decode cJ10_hashCode 34 = .ok (.invokestatic 71, 3) := dk_184 0 71 (dk_at dksJ10_hashCode_2 6 rfl rfl)
theorem dJ10_hashCode_37 : decode cJ10_hashCode 37 = .ok (.goto 14, 3) := dk_167 0 14 (dk_at dksJ10_hashCode_2 9 rfl rfl)
theorem dJ10_hashCode_40 : decode cJ10_hashCode 40 = .ok (.aload_n 0, 1) := dk_42 (dk_at dksJ10_hashCode_2 12 rfl rfl)
theorem dJ10_hashCode_41 : decode cJ10_hashCode 41 = .ok (.iconst 0, 1) := dk_3 (dk_at dksJ10_hashCode_2 13 rfl rfl)
theorem dJ10_hashCode_42 : decode cJ10_hashCode 42 = .ok (.aload_n 0, 1) := dk_42 (dk_at dksJ10_hashCode_2 14 rfl rfl)
theorem dJ10_hashCode_43 : decode cJ10_hashCode 43 = .ok (.arraylength, 1) := dk_190 (dk_at dksJ10_hashCode_2 15 rfl rfl)
theorem dJ10_hashCode_44 : decode cJ10_hashCode 44 = .ok (.iconst 1, 1) := dk_4 (dk_at dksJ10_hashCode_2 16 rfl rfl)
theorem dJ10_hashCode_45 : decode cJ10_hashCode 45 = .ok (.ishr, 1) := dk_122 (dk_at dksJ10_hashCode_2 17 rfl rfl)
theorem dJ10_hashCode_46 : decode cJ10_hashCode 46 = .ok (.iconst 0, 1) := dk_3 (dk_at dksJ10_hashCode_2 18 rfl rfl)
theorem dJ10_hashCode_47 : decode cJ10_hashCode 47 = .ok (.iconst 5, 1) := dk_8 (dk_at dksJ10_hashCode_2 19 rfl rfl)
theorem dJ10_hashCode_48 : decode cJ10_hashCode 48 = .ok (.invokestatic 220, 3) := dk_184 0 220 (dk_at dksJ10_hashCode_2 20 rfl rfl)
theorem dJ10_hashCode_51 : decode cJ10_hashCode 51 = .ok (.ireturn, 1) := dk_172 (dk_at dksJ10_hashCode_2 23 rfl rfl)
abbrev cJ10_compareTo : ByteArray := prog_53_method_29_code
def yJ10_compareTo : MethodName := ⟨RJ10, "compareTo", "([B[B)I"⟩
def dkwJ10_compareTo_0 : List UInt8 := [42, 184, 0, 48, 61, 43, 184, 0, 48, 62, 42, 43, 28, 29, 184, 0, 176, 172]
abbrev dktJ10_compareTo_0 : List UInt8 := dkwJ10_compareTo_0 ++ []
theorem dksJ10_compareTo_0 : cJ10_compareTo.data.toList.drop 0 = dktJ10_compareTo_0 := by decide +kernel
theorem dJ10_compareTo_0 : decode cJ10_compareTo 0 = .ok (.aload_n 0, 1) := dk_42 (dk_at dksJ10_compareTo_0 0 rfl rfl)
theorem dJ10_compareTo_1 : decode cJ10_compareTo 1 = .ok (.invokestatic 48, 3) := dk_184 0 48 (dk_at dksJ10_compareTo_0 1 rfl rfl)
theorem dJ10_compareTo_4 : decode cJ10_compareTo 4 = .ok (.istore_n 2, 1) := dk_61 (dk_at dksJ10_compareTo_0 4 rfl rfl)
theorem dJ10_compareTo_5 : decode cJ10_compareTo 5 = .ok (.aload_n 1, 1) := dk_43 (dk_at dksJ10_compareTo_0 5 rfl rfl)
theorem dJ10_compareTo_6 : decode cJ10_compareTo 6 = .ok (.invokestatic 48, 3) := dk_184 0 48 (dk_at dksJ10_compareTo_0 6 rfl rfl)
theorem dJ10_compareTo_9 : decode cJ10_compareTo 9 = .ok (.istore_n 3, 1) := dk_62 (dk_at dksJ10_compareTo_0 9 rfl rfl)
theorem dJ10_compareTo_10 : decode cJ10_compareTo 10 = .ok (.aload_n 0, 1) := dk_42 (dk_at dksJ10_compareTo_0 10 rfl rfl)
theorem dJ10_compareTo_11 : decode cJ10_compareTo 11 = .ok (.aload_n 1, 1) := dk_43 (dk_at dksJ10_compareTo_0 11 rfl rfl)
theorem dJ10_compareTo_12 : decode cJ10_compareTo 12 = .ok (.iload_n 2, 1) := dk_28 (dk_at dksJ10_compareTo_0 12 rfl rfl)
theorem dJ10_compareTo_13 : decode cJ10_compareTo 13 = .ok (.iload_n 3, 1) := dk_29 (dk_at dksJ10_compareTo_0 13 rfl rfl)
theorem dJ10_compareTo_14 : decode cJ10_compareTo 14 = .ok (.invokestatic 176, 3) := dk_184 0 176 (dk_at dksJ10_compareTo_0 14 rfl rfl)
theorem dJ10_compareTo_17 : decode cJ10_compareTo 17 = .ok (.ireturn, 1) := dk_172 (dk_at dksJ10_compareTo_0 17 rfl rfl)
abbrev cJ10_compareValues : ByteArray := prog_53_method_31_code
def yJ10_compareValues : MethodName := ⟨RJ10, "compareValues", "([B[BII)I"⟩
def dkwJ10_compareValues_2 : List UInt8 := [132, 5, 1, 167, 255, 217, 28, 29, 100, 172]
abbrev dktJ10_compareValues_2 : List UInt8 := dkwJ10_compareValues_2 ++ []
def dkwJ10_compareValues_1 : List UInt8 := [54, 6, 43, 21, 5, 184, 0, 71, 54, 7, 21, 6, 21, 7, 159, 0, 9, 21, 6, 21, 7, 100, 172]
abbrev dktJ10_compareValues_1 : List UInt8 := dkwJ10_compareValues_1 ++ dktJ10_compareValues_2
def dkwJ10_compareValues_0 : List UInt8 := [28, 29, 184, 0, 183, 54, 4, 3, 54, 5, 21, 5, 21, 4, 162, 0, 38, 42, 21, 5, 184, 0, 71]
abbrev dktJ10_compareValues_0 : List UInt8 := dkwJ10_compareValues_0 ++ dktJ10_compareValues_1
theorem dksJ10_compareValues_0 : cJ10_compareValues.data.toList.drop 0 = dktJ10_compareValues_0 := by decide +kernel
theorem dksJ10_compareValues_1 : cJ10_compareValues.data.toList.drop 23 = dktJ10_compareValues_1 := dk_seg dksJ10_compareValues_0 23 rfl rfl
theorem dksJ10_compareValues_2 : cJ10_compareValues.data.toList.drop 46 = dktJ10_compareValues_2 := dk_seg dksJ10_compareValues_1 23 rfl rfl
theorem dJ10_compareValues_0 : decode cJ10_compareValues 0 = .ok (.iload_n 2, 1) := dk_28 (dk_at dksJ10_compareValues_0 0 rfl rfl)
theorem dJ10_compareValues_1 : decode cJ10_compareValues 1 = .ok (.iload_n 3, 1) := dk_29 (dk_at dksJ10_compareValues_0 1 rfl rfl)
theorem dJ10_compareValues_2 : decode cJ10_compareValues 2 = .ok (.invokestatic 183, 3) := dk_184 0 183 (dk_at dksJ10_compareValues_0 2 rfl rfl)
theorem dJ10_compareValues_5 : decode cJ10_compareValues 5 = .ok (.istore 4, 2) := dk_54 4 (dk_at dksJ10_compareValues_0 5 rfl rfl)
theorem dJ10_compareValues_7 : decode cJ10_compareValues 7 = .ok (.iconst 0, 1) := dk_3 (dk_at dksJ10_compareValues_0 7 rfl rfl)
theorem dJ10_compareValues_8 : decode cJ10_compareValues 8 = .ok (.istore 5, 2) := dk_54 5 (dk_at dksJ10_compareValues_0 8 rfl rfl)
theorem dJ10_compareValues_10 : decode cJ10_compareValues 10 = .ok (.iload 5, 2) := dk_21 5 (dk_at dksJ10_compareValues_0 10 rfl rfl)
theorem dJ10_compareValues_12 : decode cJ10_compareValues 12 = .ok (.iload 4, 2) := dk_21 4 (dk_at dksJ10_compareValues_0 12 rfl rfl)
theorem dJ10_compareValues_14 : decode cJ10_compareValues 14 = .ok (.if_icmp .ge 38, 3) := dk_162 0 38 (dk_at dksJ10_compareValues_0 14 rfl rfl)
theorem dJ10_compareValues_17 : decode cJ10_compareValues 17 = .ok (.aload_n 0, 1) := dk_42 (dk_at dksJ10_compareValues_0 17 rfl rfl)
theorem dJ10_compareValues_18 : decode cJ10_compareValues 18 = .ok (.iload 5, 2) := dk_21 5 (dk_at dksJ10_compareValues_0 18 rfl rfl)
theorem dJ10_compareValues_20 : decode cJ10_compareValues 20 = .ok (.invokestatic 71, 3) := dk_184 0 71 (dk_at dksJ10_compareValues_0 20 rfl rfl)
theorem dJ10_compareValues_23 : decode cJ10_compareValues 23 = .ok (.istore 6, 2) := dk_54 6 (dk_at dksJ10_compareValues_1 0 rfl rfl)
theorem dJ10_compareValues_25 : decode cJ10_compareValues 25 = .ok (.aload_n 1, 1) := dk_43 (dk_at dksJ10_compareValues_1 2 rfl rfl)
theorem dJ10_compareValues_26 : decode cJ10_compareValues 26 = .ok (.iload 5, 2) := dk_21 5 (dk_at dksJ10_compareValues_1 3 rfl rfl)
theorem dJ10_compareValues_28 : decode cJ10_compareValues 28 = .ok (.invokestatic 71, 3) := dk_184 0 71 (dk_at dksJ10_compareValues_1 5 rfl rfl)
theorem dJ10_compareValues_31 : decode cJ10_compareValues 31 = .ok (.istore 7, 2) := dk_54 7 (dk_at dksJ10_compareValues_1 8 rfl rfl)
theorem dJ10_compareValues_33 : decode cJ10_compareValues 33 = .ok (.iload 6, 2) := dk_21 6 (dk_at dksJ10_compareValues_1 10 rfl rfl)
theorem dJ10_compareValues_35 : decode cJ10_compareValues 35 = .ok (.iload 7, 2) := dk_21 7 (dk_at dksJ10_compareValues_1 12 rfl rfl)
theorem dJ10_compareValues_37 : decode cJ10_compareValues 37 = .ok (.if_icmp .eq 9, 3) := dk_159 0 9 (dk_at dksJ10_compareValues_1 14 rfl rfl)
theorem dJ10_compareValues_40 : decode cJ10_compareValues 40 = .ok (.iload 6, 2) := dk_21 6 (dk_at dksJ10_compareValues_1 17 rfl rfl)
theorem dJ10_compareValues_42 : decode cJ10_compareValues 42 = .ok (.iload 7, 2) := dk_21 7 (dk_at dksJ10_compareValues_1 19 rfl rfl)
theorem dJ10_compareValues_44 : decode cJ10_compareValues 44 = .ok (.isub, 1) := dk_100 (dk_at dksJ10_compareValues_1 21 rfl rfl)
theorem dJ10_compareValues_45 : decode cJ10_compareValues 45 = .ok (.ireturn, 1) := dk_172 (dk_at dksJ10_compareValues_1 22 rfl rfl)
theorem dJ10_compareValues_46 : decode cJ10_compareValues 46 = .ok (.iinc 5 1, 3) := dk_132 5 1 (dk_at dksJ10_compareValues_2 0 rfl rfl)
theorem dJ10_compareValues_49 : decode cJ10_compareValues 49 = .ok (.goto (-39), 3) := dk_167 255 217 (dk_at dksJ10_compareValues_2 3 rfl rfl)
theorem dJ10_compareValues_52 : decode cJ10_compareValues 52 = .ok (.iload_n 2, 1) := dk_28 (dk_at dksJ10_compareValues_2 6 rfl rfl)
theorem dJ10_compareValues_53 : decode cJ10_compareValues 53 = .ok (.iload_n 3, 1) := dk_29 (dk_at dksJ10_compareValues_2 7 rfl rfl)
theorem dJ10_compareValues_54 : decode cJ10_compareValues 54 = .ok (.isub, 1) := dk_100 (dk_at dksJ10_compareValues_2 8 rfl rfl)
theorem dJ10_compareValues_55 : decode cJ10_compareValues 55 = .ok (.ireturn, 1) := dk_172 (dk_at dksJ10_compareValues_2 9 rfl rfl)
abbrev cJ10_compareToLatin1 : ByteArray := prog_53_method_32_code
def yJ10_compareToLatin1 : MethodName := ⟨RJ10, "compareToLatin1", "([B[B)I"⟩
def dkwJ10_compareToLatin1_0 : List UInt8 := [43, 42, 184, 0, 189, 116, 172]
abbrev dktJ10_compareToLatin1_0 : List UInt8 := dkwJ10_compareToLatin1_0 ++ []
theorem dksJ10_compareToLatin1_0 : cJ10_compareToLatin1.data.toList.drop 0 = dktJ10_compareToLatin1_0 := by decide +kernel
theorem dJ10_compareToLatin1_0 : decode cJ10_compareToLatin1 0 = .ok (.aload_n 1, 1) := dk_43 (dk_at dksJ10_compareToLatin1_0 0 rfl rfl)
theorem dJ10_compareToLatin1_1 : decode cJ10_compareToLatin1 1 = .ok (.aload_n 0, 1) := dk_42 (dk_at dksJ10_compareToLatin1_0 1 rfl rfl)
theorem dJ10_compareToLatin1_2 : decode cJ10_compareToLatin1 2 = .ok (.invokestatic 189, 3) := dk_184 0 189 (dk_at dksJ10_compareToLatin1_0 2 rfl rfl)
theorem dJ10_compareToLatin1_5 : decode cJ10_compareToLatin1 5 = .ok (.ineg, 1) := dk_116 (dk_at dksJ10_compareToLatin1_0 5 rfl rfl)
theorem dJ10_compareToLatin1_6 : decode cJ10_compareToLatin1 6 = .ok (.ireturn, 1) := dk_172 (dk_at dksJ10_compareToLatin1_0 6 rfl rfl)
abbrev cJ10_compareTo_2 : ByteArray := prog_53_method_30_code
def yJ10_compareTo_2 : MethodName := ⟨RJ10, "compareTo", "([B[BII)I"⟩
def dkwJ10_compareTo_2_0 : List UInt8 := [28, 42, 184, 0, 180, 29, 43, 184, 0, 180, 42, 43, 28, 29, 184, 0, 176, 172]
abbrev dktJ10_compareTo_2_0 : List UInt8 := dkwJ10_compareTo_2_0 ++ []
theorem dksJ10_compareTo_2_0 : cJ10_compareTo_2.data.toList.drop 0 = dktJ10_compareTo_2_0 := by decide +kernel
theorem dJ10_compareTo_2_0 : decode cJ10_compareTo_2 0 = .ok (.iload_n 2, 1) := dk_28 (dk_at dksJ10_compareTo_2_0 0 rfl rfl)
theorem dJ10_compareTo_2_1 : decode cJ10_compareTo_2 1 = .ok (.aload_n 0, 1) := dk_42 (dk_at dksJ10_compareTo_2_0 1 rfl rfl)
theorem dJ10_compareTo_2_2 : decode cJ10_compareTo_2 2 = .ok (.invokestatic 180, 3) := dk_184 0 180 (dk_at dksJ10_compareTo_2_0 2 rfl rfl)
theorem dJ10_compareTo_2_5 : decode cJ10_compareTo_2 5 = .ok (.iload_n 3, 1) := dk_29 (dk_at dksJ10_compareTo_2_0 5 rfl rfl)
theorem dJ10_compareTo_2_6 : decode cJ10_compareTo_2 6 = .ok (.aload_n 1, 1) := dk_43 (dk_at dksJ10_compareTo_2_0 6 rfl rfl)
theorem dJ10_compareTo_2_7 : decode cJ10_compareTo_2 7 = .ok (.invokestatic 180, 3) := dk_184 0 180 (dk_at dksJ10_compareTo_2_0 7 rfl rfl)
theorem dJ10_compareTo_2_10 : decode cJ10_compareTo_2 10 = .ok (.aload_n 0, 1) := dk_42 (dk_at dksJ10_compareTo_2_0 10 rfl rfl)
theorem dJ10_compareTo_2_11 : decode cJ10_compareTo_2 11 = .ok (.aload_n 1, 1) := dk_43 (dk_at dksJ10_compareTo_2_0 11 rfl rfl)
theorem dJ10_compareTo_2_12 : decode cJ10_compareTo_2 12 = .ok (.iload_n 2, 1) := dk_28 (dk_at dksJ10_compareTo_2_0 12 rfl rfl)
theorem dJ10_compareTo_2_13 : decode cJ10_compareTo_2 13 = .ok (.iload_n 3, 1) := dk_29 (dk_at dksJ10_compareTo_2_0 13 rfl rfl)
theorem dJ10_compareTo_2_14 : decode cJ10_compareTo_2 14 = .ok (.invokestatic 176, 3) := dk_184 0 176 (dk_at dksJ10_compareTo_2_0 14 rfl rfl)
theorem dJ10_compareTo_2_17 : decode cJ10_compareTo_2 17 = .ok (.ireturn, 1) := dk_172 (dk_at dksJ10_compareTo_2_0 17 rfl rfl)
abbrev cJ10_checkOffset : ByteArray := prog_53_method_92_code
def yJ10_checkOffset : MethodName := ⟨RJ10, "checkOffset", "(I[B)V"⟩
def dkwJ10_checkOffset_0 : List UInt8 := [26, 43, 184, 0, 48, 184, 1, 161, 177]
abbrev dktJ10_checkOffset_0 : List UInt8 := dkwJ10_checkOffset_0 ++ []
theorem dksJ10_checkOffset_0 : cJ10_checkOffset.data.toList.drop 0 = dktJ10_checkOffset_0 := by decide +kernel
theorem dJ10_checkOffset_0 : decode cJ10_checkOffset 0 = .ok (.iload_n 0, 1) := dk_26 (dk_at dksJ10_checkOffset_0 0 rfl rfl)
theorem dJ10_checkOffset_1 : decode cJ10_checkOffset 1 = .ok (.aload_n 1, 1) := dk_43 (dk_at dksJ10_checkOffset_0 1 rfl rfl)
theorem dJ10_checkOffset_2 : decode cJ10_checkOffset 2 = .ok (.invokestatic 48, 3) := dk_184 0 48 (dk_at dksJ10_checkOffset_0 2 rfl rfl)
theorem dJ10_checkOffset_5 : decode cJ10_checkOffset 5 = .ok (.invokestatic 417, 3) := dk_184 1 161 (dk_at dksJ10_checkOffset_0 5 rfl rfl)
theorem dJ10_checkOffset_8 : decode cJ10_checkOffset 8 = .ok (.return_, 1) := dk_177 (dk_at dksJ10_checkOffset_0 8 rfl rfl)
abbrev cJ10_compareToLatin1_2 : ByteArray := prog_53_method_33_code
def yJ10_compareToLatin1_2 : MethodName := ⟨RJ10, "compareToLatin1", "([B[BII)I"⟩
def dkwJ10_compareToLatin1_2_0 : List UInt8 := [43, 42, 29, 28, 184, 0, 193, 116, 172]
abbrev dktJ10_compareToLatin1_2_0 : List UInt8 := dkwJ10_compareToLatin1_2_0 ++ []
theorem dksJ10_compareToLatin1_2_0 : cJ10_compareToLatin1_2.data.toList.drop 0 = dktJ10_compareToLatin1_2_0 := by decide +kernel
theorem dJ10_compareToLatin1_2_0 : decode cJ10_compareToLatin1_2 0 = .ok (.aload_n 1, 1) := dk_43 (dk_at dksJ10_compareToLatin1_2_0 0 rfl rfl)
theorem dJ10_compareToLatin1_2_1 : decode cJ10_compareToLatin1_2 1 = .ok (.aload_n 0, 1) := dk_42 (dk_at dksJ10_compareToLatin1_2_0 1 rfl rfl)
theorem dJ10_compareToLatin1_2_2 : decode cJ10_compareToLatin1_2 2 = .ok (.iload_n 3, 1) := dk_29 (dk_at dksJ10_compareToLatin1_2_0 2 rfl rfl)
theorem dJ10_compareToLatin1_2_3 : decode cJ10_compareToLatin1_2 3 = .ok (.iload_n 2, 1) := dk_28 (dk_at dksJ10_compareToLatin1_2_0 3 rfl rfl)
theorem dJ10_compareToLatin1_2_4 : decode cJ10_compareToLatin1_2 4 = .ok (.invokestatic 193, 3) := dk_184 0 193 (dk_at dksJ10_compareToLatin1_2_0 4 rfl rfl)
theorem dJ10_compareToLatin1_2_7 : decode cJ10_compareToLatin1_2 7 = .ok (.ineg, 1) := dk_116 (dk_at dksJ10_compareToLatin1_2_0 7 rfl rfl)
theorem dJ10_compareToLatin1_2_8 : decode cJ10_compareToLatin1_2 8 = .ok (.ireturn, 1) := dk_172 (dk_at dksJ10_compareToLatin1_2_0 8 rfl rfl)
abbrev cJ10_charAt : ByteArray := prog_53_method_83_code
def yJ10_charAt : MethodName := ⟨RJ10, "charAt", "([BI)C"⟩
def dkwJ10_charAt_0 : List UInt8 := [27, 42, 184, 0, 67, 42, 27, 184, 0, 71, 172]
abbrev dktJ10_charAt_0 : List UInt8 := dkwJ10_charAt_0 ++ []
theorem dksJ10_charAt_0 : cJ10_charAt.data.toList.drop 0 = dktJ10_charAt_0 := by decide +kernel
theorem dJ10_charAt_0 : decode cJ10_charAt 0 = .ok (.iload_n 1, 1) := dk_27 (dk_at dksJ10_charAt_0 0 rfl rfl)
theorem dJ10_charAt_1 : decode cJ10_charAt 1 = .ok (.aload_n 0, 1) := dk_42 (dk_at dksJ10_charAt_0 1 rfl rfl)
theorem dJ10_charAt_2 : decode cJ10_charAt 2 = .ok (.invokestatic 67, 3) := dk_184 0 67 (dk_at dksJ10_charAt_0 2 rfl rfl)
theorem dJ10_charAt_5 : decode cJ10_charAt 5 = .ok (.aload_n 0, 1) := dk_42 (dk_at dksJ10_charAt_0 5 rfl rfl)
theorem dJ10_charAt_6 : decode cJ10_charAt 6 = .ok (.iload_n 1, 1) := dk_27 (dk_at dksJ10_charAt_0 6 rfl rfl)
theorem dJ10_charAt_7 : decode cJ10_charAt 7 = .ok (.invokestatic 71, 3) := dk_184 0 71 (dk_at dksJ10_charAt_0 7 rfl rfl)
theorem dJ10_charAt_10 : decode cJ10_charAt 10 = .ok (.ireturn, 1) := dk_172 (dk_at dksJ10_charAt_0 10 rfl rfl)
abbrev cJ10_checkIndex : ByteArray := prog_53_method_91_code
def yJ10_checkIndex : MethodName := ⟨RJ10, "checkIndex", "(I[B)V"⟩
def dkwJ10_checkIndex_0 : List UInt8 := [26, 43, 184, 0, 48, 184, 1, 158, 177]
abbrev dktJ10_checkIndex_0 : List UInt8 := dkwJ10_checkIndex_0 ++ []
theorem dksJ10_checkIndex_0 : cJ10_checkIndex.data.toList.drop 0 = dktJ10_checkIndex_0 := by decide +kernel
theorem dJ10_checkIndex_0 : decode cJ10_checkIndex 0 = .ok (.iload_n 0, 1) := dk_26 (dk_at dksJ10_checkIndex_0 0 rfl rfl)
theorem dJ10_checkIndex_1 : decode cJ10_checkIndex 1 = .ok (.aload_n 1, 1) := dk_43 (dk_at dksJ10_checkIndex_0 1 rfl rfl)
theorem dJ10_checkIndex_2 : decode cJ10_checkIndex 2 = .ok (.invokestatic 48, 3) := dk_184 0 48 (dk_at dksJ10_checkIndex_0 2 rfl rfl)
theorem dJ10_checkIndex_5 : decode cJ10_checkIndex 5 = .ok (.invokestatic 414, 3) := dk_184 1 158 (dk_at dksJ10_checkIndex_0 5 rfl rfl)
theorem dJ10_checkIndex_8 : decode cJ10_checkIndex 8 = .ok (.return_, 1) := dk_177 (dk_at dksJ10_checkIndex_0 8 rfl rfl)
abbrev cJ10_putCharSB : ByteArray := prog_53_method_71_code
def yJ10_putCharSB : MethodName := ⟨RJ10, "putCharSB", "([BII)V"⟩
def dkwJ10_putCharSB_0 : List UInt8 := [27, 42, 184, 0, 67, 42, 27, 28, 184, 0, 111, 177]
abbrev dktJ10_putCharSB_0 : List UInt8 := dkwJ10_putCharSB_0 ++ []
theorem dksJ10_putCharSB_0 : cJ10_putCharSB.data.toList.drop 0 = dktJ10_putCharSB_0 := by decide +kernel
theorem dJ10_putCharSB_0 : decode cJ10_putCharSB 0 = .ok (.iload_n 1, 1) := dk_27 (dk_at dksJ10_putCharSB_0 0 rfl rfl)
theorem dJ10_putCharSB_1 : decode cJ10_putCharSB 1 = .ok (.aload_n 0, 1) := dk_42 (dk_at dksJ10_putCharSB_0 1 rfl rfl)
theorem dJ10_putCharSB_2 : decode cJ10_putCharSB 2 = .ok (.invokestatic 67, 3) := dk_184 0 67 (dk_at dksJ10_putCharSB_0 2 rfl rfl)
theorem dJ10_putCharSB_5 : decode cJ10_putCharSB 5 = .ok (.aload_n 0, 1) := dk_42 (dk_at dksJ10_putCharSB_0 5 rfl rfl)
theorem dJ10_putCharSB_6 : decode cJ10_putCharSB 6 = .ok (.iload_n 1, 1) := dk_27 (dk_at dksJ10_putCharSB_0 6 rfl rfl)
theorem dJ10_putCharSB_7 : decode cJ10_putCharSB 7 = .ok (.iload_n 2, 1) := dk_28 (dk_at dksJ10_putCharSB_0 7 rfl rfl)
theorem dJ10_putCharSB_8 : decode cJ10_putCharSB 8 = .ok (.invokestatic 111, 3) := dk_184 0 111 (dk_at dksJ10_putCharSB_0 8 rfl rfl)
theorem dJ10_putCharSB_11 : decode cJ10_putCharSB 11 = .ok (.return_, 1) := dk_177 (dk_at dksJ10_putCharSB_0 11 rfl rfl)
abbrev cJ10_newString : ByteArray := prog_53_method_69_code
def yJ10_newString : MethodName := ⟨RJ10, "newString", "([BII)Ljava/lang/String;"⟩
def dkwJ10_newString_2 : List UInt8 := [42, 27, 4, 120, 29, 4, 120, 184, 0, 126, 4, 183, 1, 7, 176]
abbrev dktJ10_newString_2 : List UInt8 := dkwJ10_newString_2 ++ []
def dkwJ10_newString_1 : List UInt8 := [184, 1, 3, 54, 4, 187, 0, 3, 89, 45, 21, 4, 183, 1, 7, 176, 27, 28, 96, 62, 187, 0, 3, 89]
abbrev dktJ10_newString_1 : List UInt8 := dkwJ10_newString_1 ++ dktJ10_newString_2
def dkwJ10_newString_0 : List UInt8 := [28, 154, 0, 7, 19, 1, 39, 176, 178, 0, 251, 153, 0, 28, 42, 27, 28, 184, 1, 1, 78, 45, 28]
abbrev dktJ10_newString_0 : List UInt8 := dkwJ10_newString_0 ++ dktJ10_newString_1
theorem dksJ10_newString_0 : cJ10_newString.data.toList.drop 0 = dktJ10_newString_0 := by decide +kernel
theorem dksJ10_newString_1 : cJ10_newString.data.toList.drop 23 = dktJ10_newString_1 := dk_seg dksJ10_newString_0 23 rfl rfl
theorem dksJ10_newString_2 : cJ10_newString.data.toList.drop 47 = dktJ10_newString_2 := dk_seg dksJ10_newString_1 24 rfl rfl
theorem dJ10_newString_0 : decode cJ10_newString 0 = .ok (.iload_n 2, 1) := dk_28 (dk_at dksJ10_newString_0 0 rfl rfl)
theorem dJ10_newString_1 : decode cJ10_newString 1 = .ok (.ifCond .ne 7, 3) := dk_154 0 7 (dk_at dksJ10_newString_0 1 rfl rfl)
theorem dJ10_newString_4 : decode cJ10_newString 4 = .ok (.ldc_w 295, 3) := dk_19 1 39 (dk_at dksJ10_newString_0 4 rfl rfl)
theorem dJ10_newString_7 : decode cJ10_newString 7 = .ok (.areturn, 1) := dk_176 (dk_at dksJ10_newString_0 7 rfl rfl)
theorem dJ10_newString_8 : decode cJ10_newString 8 = .ok (.getstatic 251, 3) := dk_178 0 251 (dk_at dksJ10_newString_0 8 rfl rfl)
theorem dJ10_newString_11 : decode cJ10_newString 11 = .ok (.ifCond .eq 28, 3) := dk_153 0 28 (dk_at dksJ10_newString_0 11 rfl rfl)
theorem dJ10_newString_14 : decode cJ10_newString 14 = .ok (.aload_n 0, 1) := dk_42 (dk_at dksJ10_newString_0 14 rfl rfl)
theorem dJ10_newString_15 : decode cJ10_newString 15 = .ok (.iload_n 1, 1) := dk_27 (dk_at dksJ10_newString_0 15 rfl rfl)
theorem dJ10_newString_16 : decode cJ10_newString 16 = .ok (.iload_n 2, 1) := dk_28 (dk_at dksJ10_newString_0 16 rfl rfl)
theorem dJ10_newString_17 : decode cJ10_newString 17 = .ok (.invokestatic 257, 3) := dk_184 1 1 (dk_at dksJ10_newString_0 17 rfl rfl)
theorem dJ10_newString_20 : decode cJ10_newString 20 = .ok (.astore_n 3, 1) := dk_78 (dk_at dksJ10_newString_0 20 rfl rfl)
theorem dJ10_newString_21 : decode cJ10_newString 21 = .ok (.aload_n 3, 1) := dk_45 (dk_at dksJ10_newString_0 21 rfl rfl)
theorem dJ10_newString_22 : decode cJ10_newString 22 = .ok (.iload_n 2, 1) := dk_28 (dk_at dksJ10_newString_0 22 rfl rfl)
theorem dJ10_newString_23 : decode cJ10_newString 23 = .ok (.invokestatic 259, 3) := dk_184 1 3 (dk_at dksJ10_newString_1 0 rfl rfl)
theorem dJ10_newString_26 : decode cJ10_newString 26 = .ok (.istore 4, 2) := dk_54 4 (dk_at dksJ10_newString_1 3 rfl rfl)
theorem dJ10_newString_28 : decode cJ10_newString 28 = .ok (.new 3, 3) := dk_187 0 3 (dk_at dksJ10_newString_1 5 rfl rfl)
theorem dJ10_newString_31 : decode cJ10_newString 31 = .ok (.dup, 1) := dk_89 (dk_at dksJ10_newString_1 8 rfl rfl)
theorem dJ10_newString_32 : decode cJ10_newString 32 = .ok (.aload_n 3, 1) := dk_45 (dk_at dksJ10_newString_1 9 rfl rfl)
theorem dJ10_newString_33 : decode cJ10_newString 33 = .ok (.iload 4, 2) := dk_21 4 (dk_at dksJ10_newString_1 10 rfl rfl)
theorem dJ10_newString_35 : decode cJ10_newString 35 = .ok (.invokespecial 263, 3) := dk_183 1 7 (dk_at dksJ10_newString_1 12 rfl rfl)
theorem dJ10_newString_38 : decode cJ10_newString 38 = .ok (.areturn, 1) := dk_176 (dk_at dksJ10_newString_1 15 rfl rfl)
theorem dJ10_newString_39 : decode cJ10_newString 39 = .ok (.iload_n 1, 1) := dk_27 (dk_at dksJ10_newString_1 16 rfl rfl)
theorem dJ10_newString_40 : decode cJ10_newString 40 = .ok (.iload_n 2, 1) := dk_28 (dk_at dksJ10_newString_1 17 rfl rfl)
theorem dJ10_newString_41 : decode cJ10_newString 41 = .ok (.iadd, 1) := dk_96 (dk_at dksJ10_newString_1 18 rfl rfl)
theorem dJ10_newString_42 : decode cJ10_newString 42 = .ok (.istore_n 3, 1) := dk_62 (dk_at dksJ10_newString_1 19 rfl rfl)
theorem dJ10_newString_43 : decode cJ10_newString 43 = .ok (.new 3, 3) := dk_187 0 3 (dk_at dksJ10_newString_1 20 rfl rfl)
theorem dJ10_newString_46 : decode cJ10_newString 46 = .ok (.dup, 1) := dk_89 (dk_at dksJ10_newString_1 23 rfl rfl)
theorem dJ10_newString_47 : decode cJ10_newString 47 = .ok (.aload_n 0, 1) := dk_42 (dk_at dksJ10_newString_2 0 rfl rfl)
theorem dJ10_newString_48 : decode cJ10_newString 48 = .ok (.iload_n 1, 1) := dk_27 (dk_at dksJ10_newString_2 1 rfl rfl)
theorem dJ10_newString_49 : decode cJ10_newString 49 = .ok (.iconst 1, 1) := dk_4 (dk_at dksJ10_newString_2 2 rfl rfl)
theorem dJ10_newString_50 : decode cJ10_newString 50 = .ok (.ishl, 1) := dk_120 (dk_at dksJ10_newString_2 3 rfl rfl)
theorem dJ10_newString_51 : decode cJ10_newString 51 = .ok (.iload_n 3, 1) := dk_29 (dk_at dksJ10_newString_2 4 rfl rfl)
theorem dJ10_newString_52 : decode cJ10_newString 52 = .ok (.iconst 1, 1) := dk_4 (dk_at dksJ10_newString_2 5 rfl rfl)
theorem dJ10_newString_53 : decode cJ10_newString 53 = .ok (.ishl, 1) := dk_120 (dk_at dksJ10_newString_2 6 rfl rfl)
theorem dJ10_newString_54 : decode cJ10_newString 54 = .ok (.invokestatic 126, 3) := dk_184 0 126 (dk_at dksJ10_newString_2 7 rfl rfl)
theorem dJ10_newString_57 : decode cJ10_newString 57 = .ok (.iconst 1, 1) := dk_4 (dk_at dksJ10_newString_2 10 rfl rfl)
theorem dJ10_newString_58 : decode cJ10_newString 58 = .ok (.invokespecial 263, 3) := dk_183 1 7 (dk_at dksJ10_newString_2 11 rfl rfl)
theorem dJ10_newString_61 : decode cJ10_newString 61 = .ok (.areturn, 1) := dk_176 (dk_at dksJ10_newString_2 14 rfl rfl)
abbrev cJ10_indexOf : ByteArray := prog_53_method_41_code
def yJ10_indexOf : MethodName := ⟨RJ10, "indexOf", "([B[B)I"⟩
def dkwJ10_indexOf_1 : List UInt8 := [184, 0, 48, 3, 184, 0, 235, 172]
abbrev dktJ10_indexOf_1 : List UInt8 := dkwJ10_indexOf_1 ++ []
def dkwJ10_indexOf_0 : List UInt8 := [43, 190, 154, 0, 5, 3, 172, 42, 190, 43, 190, 162, 0, 5, 2, 172, 42, 42, 184, 0, 48, 43, 43]
abbrev dktJ10_indexOf_0 : List UInt8 := dkwJ10_indexOf_0 ++ dktJ10_indexOf_1
theorem dksJ10_indexOf_0 : cJ10_indexOf.data.toList.drop 0 = dktJ10_indexOf_0 := by decide +kernel
theorem dksJ10_indexOf_1 : cJ10_indexOf.data.toList.drop 23 = dktJ10_indexOf_1 := dk_seg dksJ10_indexOf_0 23 rfl rfl
theorem dJ10_indexOf_0 : decode cJ10_indexOf 0 = .ok (.aload_n 1, 1) := dk_43 (dk_at dksJ10_indexOf_0 0 rfl rfl)
theorem dJ10_indexOf_1 : decode cJ10_indexOf 1 = .ok (.arraylength, 1) := dk_190 (dk_at dksJ10_indexOf_0 1 rfl rfl)
theorem dJ10_indexOf_2 : decode cJ10_indexOf 2 = .ok (.ifCond .ne 5, 3) := dk_154 0 5 (dk_at dksJ10_indexOf_0 2 rfl rfl)
theorem dJ10_indexOf_5 : decode cJ10_indexOf 5 = .ok (.iconst 0, 1) := dk_3 (dk_at dksJ10_indexOf_0 5 rfl rfl)
theorem dJ10_indexOf_6 : decode cJ10_indexOf 6 = .ok (.ireturn, 1) := dk_172 (dk_at dksJ10_indexOf_0 6 rfl rfl)
theorem dJ10_indexOf_7 : decode cJ10_indexOf 7 = .ok (.aload_n 0, 1) := dk_42 (dk_at dksJ10_indexOf_0 7 rfl rfl)
theorem dJ10_indexOf_8 : decode cJ10_indexOf 8 = .ok (.arraylength, 1) := dk_190 (dk_at dksJ10_indexOf_0 8 rfl rfl)
theorem dJ10_indexOf_9 : decode cJ10_indexOf 9 = .ok (.aload_n 1, 1) := dk_43 (dk_at dksJ10_indexOf_0 9 rfl rfl)
theorem dJ10_indexOf_10 : decode cJ10_indexOf 10 = .ok (.arraylength, 1) := dk_190 (dk_at dksJ10_indexOf_0 10 rfl rfl)
theorem dJ10_indexOf_11 : decode cJ10_indexOf 11 = .ok (.if_icmp .ge 5, 3) := dk_162 0 5 (dk_at dksJ10_indexOf_0 11 rfl rfl)
theorem dJ10_indexOf_14 : decode cJ10_indexOf 14 = .ok (.iconst (-1), 1) := dk_2 (dk_at dksJ10_indexOf_0 14 rfl rfl)
theorem dJ10_indexOf_15 : decode cJ10_indexOf 15 = .ok (.ireturn, 1) := dk_172 (dk_at dksJ10_indexOf_0 15 rfl rfl)
theorem dJ10_indexOf_16 : decode cJ10_indexOf 16 = .ok (.aload_n 0, 1) := dk_42 (dk_at dksJ10_indexOf_0 16 rfl rfl)
theorem dJ10_indexOf_17 : decode cJ10_indexOf 17 = .ok (.aload_n 0, 1) := dk_42 (dk_at dksJ10_indexOf_0 17 rfl rfl)
theorem dJ10_indexOf_18 : decode cJ10_indexOf 18 = .ok (.invokestatic 48, 3) := dk_184 0 48 (dk_at dksJ10_indexOf_0 18 rfl rfl)
theorem dJ10_indexOf_21 : decode cJ10_indexOf 21 = .ok (.aload_n 1, 1) := dk_43 (dk_at dksJ10_indexOf_0 21 rfl rfl)
theorem dJ10_indexOf_22 : decode cJ10_indexOf 22 = .ok (.aload_n 1, 1) := dk_43 (dk_at dksJ10_indexOf_0 22 rfl rfl)
theorem dJ10_indexOf_23 : decode cJ10_indexOf 23 = .ok (.invokestatic 48, 3) := dk_184 0 48 (dk_at dksJ10_indexOf_1 0 rfl rfl)
theorem dJ10_indexOf_26 : decode cJ10_indexOf 26 = .ok (.iconst 0, 1) := dk_3 (dk_at dksJ10_indexOf_1 3 rfl rfl)
theorem dJ10_indexOf_27 : decode cJ10_indexOf 27 = .ok (.invokestatic 235, 3) := dk_184 0 235 (dk_at dksJ10_indexOf_1 4 rfl rfl)
theorem dJ10_indexOf_30 : decode cJ10_indexOf 30 = .ok (.ireturn, 1) := dk_172 (dk_at dksJ10_indexOf_1 7 rfl rfl)
abbrev cJ10_indexOfUnsafe : ByteArray := prog_53_method_43_code
def yJ10_indexOfUnsafe : MethodName := ⟨RJ10, "indexOfUnsafe", "([BI[BII)I"⟩
def dkwJ10_indexOfUnsafe_9 : List UInt8 := [167, 255, 146, 2, 172]
abbrev dktJ10_indexOfUnsafe_9 : List UInt8 := dkwJ10_indexOfUnsafe_9 ++ []
def dkwJ10_indexOfUnsafe_8 : List UInt8 := [132, 8, 1, 132, 10, 1, 167, 255, 228, 21, 8, 21, 9, 160, 0, 6, 21, 7, 172, 132, 7, 1]
abbrev dktJ10_indexOfUnsafe_8 : List UInt8 := dkwJ10_indexOfUnsafe_8 ++ dktJ10_indexOfUnsafe_9
def dkwJ10_indexOfUnsafe_7 : List UInt8 := [21, 8, 21, 9, 162, 0, 27, 42, 21, 8, 184, 0, 71, 44, 21, 10, 184, 0, 71, 160, 0, 12]
abbrev dktJ10_indexOfUnsafe_7 : List UInt8 := dkwJ10_indexOfUnsafe_7 ++ dktJ10_indexOfUnsafe_8
def dkwJ10_indexOfUnsafe_6 : List UInt8 := [21, 7, 21, 6, 163, 0, 61, 21, 7, 4, 96, 54, 8, 21, 8, 29, 96, 4, 100, 54, 9, 4, 54, 10]
abbrev dktJ10_indexOfUnsafe_6 : List UInt8 := dkwJ10_indexOfUnsafe_6 ++ dktJ10_indexOfUnsafe_7
def dkwJ10_indexOfUnsafe_5 : List UInt8 := [132, 7, 1, 21, 7, 21, 6, 163, 0, 17, 42, 21, 7, 184, 0, 71, 21, 5, 159, 0, 6, 167, 255, 235]
abbrev dktJ10_indexOfUnsafe_5 : List UInt8 := dkwJ10_indexOfUnsafe_5 ++ dktJ10_indexOfUnsafe_6
def dkwJ10_indexOfUnsafe_4 : List UInt8 := [21, 4, 54, 7, 21, 7, 21, 6, 163, 0, 109, 42, 21, 7, 184, 0, 71, 21, 5, 159, 0, 27]
abbrev dktJ10_indexOfUnsafe_4 : List UInt8 := dkwJ10_indexOfUnsafe_4 ++ dktJ10_indexOfUnsafe_5
def dkwJ10_indexOfUnsafe_3 : List UInt8 := [162, 0, 11, 187, 0, 52, 89, 183, 0, 66, 191, 44, 3, 184, 0, 71, 54, 5, 27, 29, 100, 54, 6]
abbrev dktJ10_indexOfUnsafe_3 : List UInt8 := dkwJ10_indexOfUnsafe_3 ++ dktJ10_indexOfUnsafe_4
def dkwJ10_indexOfUnsafe_2 : List UInt8 := [184, 0, 48, 164, 0, 11, 187, 0, 52, 89, 183, 0, 66, 191, 178, 0, 44, 154, 0, 16, 27, 29]
abbrev dktJ10_indexOfUnsafe_2 : List UInt8 := dkwJ10_indexOfUnsafe_2 ++ dktJ10_indexOfUnsafe_3
def dkwJ10_indexOfUnsafe_1 : List UInt8 := [154, 0, 15, 29, 157, 0, 11, 187, 0, 52, 89, 183, 0, 66, 191, 178, 0, 44, 154, 0, 19, 29, 44]
abbrev dktJ10_indexOfUnsafe_1 : List UInt8 := dkwJ10_indexOfUnsafe_1 ++ dktJ10_indexOfUnsafe_2
def dkwJ10_indexOfUnsafe_0 : List UInt8 := [178, 0, 44, 154, 0, 16, 21, 4, 156, 0, 11, 187, 0, 52, 89, 183, 0, 66, 191, 178, 0, 44]
abbrev dktJ10_indexOfUnsafe_0 : List UInt8 := dkwJ10_indexOfUnsafe_0 ++ dktJ10_indexOfUnsafe_1
theorem dksJ10_indexOfUnsafe_0 : cJ10_indexOfUnsafe.data.toList.drop 0 = dktJ10_indexOfUnsafe_0 := by decide +kernel
theorem dksJ10_indexOfUnsafe_1 : cJ10_indexOfUnsafe.data.toList.drop 22 = dktJ10_indexOfUnsafe_1 := dk_seg dksJ10_indexOfUnsafe_0 22 rfl rfl
theorem dksJ10_indexOfUnsafe_2 : cJ10_indexOfUnsafe.data.toList.drop 45 = dktJ10_indexOfUnsafe_2 := dk_seg dksJ10_indexOfUnsafe_1 23 rfl rfl
theorem dksJ10_indexOfUnsafe_3 : cJ10_indexOfUnsafe.data.toList.drop 67 = dktJ10_indexOfUnsafe_3 := dk_seg dksJ10_indexOfUnsafe_2 22 rfl rfl
theorem dksJ10_indexOfUnsafe_4 : cJ10_indexOfUnsafe.data.toList.drop 90 = dktJ10_indexOfUnsafe_4 := dk_seg dksJ10_indexOfUnsafe_3 23 rfl rfl
theorem dksJ10_indexOfUnsafe_5 : cJ10_indexOfUnsafe.data.toList.drop 112 = dktJ10_indexOfUnsafe_5 := dk_seg dksJ10_indexOfUnsafe_4 22 rfl rfl
theorem dksJ10_indexOfUnsafe_6 : cJ10_indexOfUnsafe.data.toList.drop 136 = dktJ10_indexOfUnsafe_6 := dk_seg dksJ10_indexOfUnsafe_5 24 rfl rfl
theorem dksJ10_indexOfUnsafe_7 : cJ10_indexOfUnsafe.data.toList.drop 160 = dktJ10_indexOfUnsafe_7 := dk_seg dksJ10_indexOfUnsafe_6 24 rfl rfl
theorem dksJ10_indexOfUnsafe_8 : cJ10_indexOfUnsafe.data.toList.drop 182 = dktJ10_indexOfUnsafe_8 := dk_seg dksJ10_indexOfUnsafe_7 22 rfl rfl
theorem dksJ10_indexOfUnsafe_9 : cJ10_indexOfUnsafe.data.toList.drop 204 = dktJ10_indexOfUnsafe_9 := dk_seg dksJ10_indexOfUnsafe_8 22 rfl rfl
theorem dJ10_indexOfUnsafe_0 : decode cJ10_indexOfUnsafe 0 = .ok (.getstatic 44, 3) := dk_178 0 44 (dk_at dksJ10_indexOfUnsafe_0 0 rfl rfl)
theorem dJ10_indexOfUnsafe_3 : decode cJ10_indexOfUnsafe 3 = .ok (.ifCond .ne 16, 3) := dk_154 0 16 (dk_at dksJ10_indexOfUnsafe_0 3 rfl rfl)
theorem dJ10_indexOfUnsafe_6 : decode cJ10_indexOfUnsafe 6 = .ok (.iload 4, 2) := dk_21 4 (dk_at dksJ10_indexOfUnsafe_0 6 rfl rfl)
theorem dJ10_indexOfUnsafe_8 : decode cJ10_indexOfUnsafe 8 = .ok (.ifCond .ge 11, 3) := dk_156 0 11 (dk_at dksJ10_indexOfUnsafe_0 8 rfl rfl)
theorem dJ10_indexOfUnsafe_11 : decode cJ10_indexOfUnsafe 11 = .ok (.new 52, 3) := dk_187 0 52 (dk_at dksJ10_indexOfUnsafe_0 11 rfl rfl)
theorem dJ10_indexOfUnsafe_14 : decode cJ10_indexOfUnsafe 14 = .ok (.dup, 1) := dk_89 (dk_at dksJ10_indexOfUnsafe_0 14 rfl rfl)
theorem dJ10_indexOfUnsafe_15 : decode cJ10_indexOfUnsafe 15 = .ok (.invokespecial 66, 3) := dk_183 0 66 (dk_at dksJ10_indexOfUnsafe_0 15 rfl rfl)
theorem dJ10_indexOfUnsafe_18 : decode cJ10_indexOfUnsafe 18 = .ok (.athrow, 1) := dk_191 (dk_at dksJ10_indexOfUnsafe_0 18 rfl rfl)
theorem dJ10_indexOfUnsafe_19 : decode cJ10_indexOfUnsafe 19 = .ok (.getstatic 44, 3) := dk_178 0 44 (dk_at dksJ10_indexOfUnsafe_0 19 rfl rfl)
theorem dJ10_indexOfUnsafe_22 : decode cJ10_indexOfUnsafe 22 = .ok (.ifCond .ne 15, 3) := dk_154 0 15 (dk_at dksJ10_indexOfUnsafe_1 0 rfl rfl)
theorem dJ10_indexOfUnsafe_25 : decode cJ10_indexOfUnsafe 25 = .ok (.iload_n 3, 1) := dk_29 (dk_at dksJ10_indexOfUnsafe_1 3 rfl rfl)
theorem dJ10_indexOfUnsafe_26 : decode cJ10_indexOfUnsafe 26 = .ok (.ifCond .gt 11, 3) := dk_157 0 11 (dk_at dksJ10_indexOfUnsafe_1 4 rfl rfl)
theorem dJ10_indexOfUnsafe_29 : decode cJ10_indexOfUnsafe 29 = .ok (.new 52, 3) := dk_187 0 52 (dk_at dksJ10_indexOfUnsafe_1 7 rfl rfl)
theorem dJ10_indexOfUnsafe_32 : decode cJ10_indexOfUnsafe 32 = .ok (.dup, 1) := dk_89 (dk_at dksJ10_indexOfUnsafe_1 10 rfl rfl)
theorem dJ10_indexOfUnsafe_33 : decode cJ10_indexOfUnsafe 33 = .ok (.invokespecial 66, 3) := dk_183 0 66 (dk_at dksJ10_indexOfUnsafe_1 11 rfl rfl)
theorem dJ10_indexOfUnsafe_36 : decode cJ10_indexOfUnsafe 36 = .ok (.athrow, 1) := dk_191 (dk_at dksJ10_indexOfUnsafe_1 14 rfl rfl)
theorem dJ10_indexOfUnsafe_37 : decode cJ10_indexOfUnsafe 37 = .ok (.getstatic 44, 3) := dk_178 0 44 (dk_at dksJ10_indexOfUnsafe_1 15 rfl rfl)
theorem dJ10_indexOfUnsafe_40 : decode cJ10_indexOfUnsafe 40 = .ok (.ifCond .ne 19, 3) := dk_154 0 19 (dk_at dksJ10_indexOfUnsafe_1 18 rfl rfl)
theorem dJ10_indexOfUnsafe_43 : decode cJ10_indexOfUnsafe 43 = .ok (.iload_n 3, 1) := dk_29 (dk_at dksJ10_indexOfUnsafe_1 21 rfl rfl)
theorem dJ10_indexOfUnsafe_44 : decode cJ10_indexOfUnsafe 44 = .ok (.aload_n 2, 1) := dk_44 (dk_at dksJ10_indexOfUnsafe_1 22 rfl rfl)
theorem dJ10_indexOfUnsafe_45 : decode cJ10_indexOfUnsafe 45 = .ok (.invokestatic 48, 3) := dk_184 0 48 (dk_at dksJ10_indexOfUnsafe_2 0 rfl rfl)
theorem dJ10_indexOfUnsafe_48 : decode cJ10_indexOfUnsafe 48 = .ok (.if_icmp .le 11, 3) := dk_164 0 11 (dk_at dksJ10_indexOfUnsafe_2 3 rfl rfl)
theorem dJ10_indexOfUnsafe_51 : decode cJ10_indexOfUnsafe 51 = .ok (.new 52, 3) := dk_187 0 52 (dk_at dksJ10_indexOfUnsafe_2 6 rfl rfl)
theorem dJ10_indexOfUnsafe_54 : decode cJ10_indexOfUnsafe 54 = .ok (.dup, 1) := dk_89 (dk_at dksJ10_indexOfUnsafe_2 9 rfl rfl)
theorem dJ10_indexOfUnsafe_55 : decode cJ10_indexOfUnsafe 55 = .ok (.invokespecial 66, 3) := dk_183 0 66 (dk_at dksJ10_indexOfUnsafe_2 10 rfl rfl)
theorem dJ10_indexOfUnsafe_58 : decode cJ10_indexOfUnsafe 58 = .ok (.athrow, 1) := dk_191 (dk_at dksJ10_indexOfUnsafe_2 13 rfl rfl)
theorem dJ10_indexOfUnsafe_59 : decode cJ10_indexOfUnsafe 59 = .ok (.getstatic 44, 3) := dk_178 0 44 (dk_at dksJ10_indexOfUnsafe_2 14 rfl rfl)
theorem dJ10_indexOfUnsafe_62 : decode cJ10_indexOfUnsafe 62 = .ok (.ifCond .ne 16, 3) := dk_154 0 16 (dk_at dksJ10_indexOfUnsafe_2 17 rfl rfl)
theorem dJ10_indexOfUnsafe_65 : decode cJ10_indexOfUnsafe 65 = .ok (.iload_n 1, 1) := dk_27 (dk_at dksJ10_indexOfUnsafe_2 20 rfl rfl)
theorem dJ10_indexOfUnsafe_66 : decode cJ10_indexOfUnsafe 66 = .ok (.iload_n 3, 1) := dk_29 (dk_at dksJ10_indexOfUnsafe_2 21 rfl rfl)
theorem dJ10_indexOfUnsafe_67 : decode cJ10_indexOfUnsafe 67 = .ok (.if_icmp .ge 11, 3) := dk_162 0 11 (dk_at dksJ10_indexOfUnsafe_3 0 rfl rfl)
theorem dJ10_indexOfUnsafe_70 : decode cJ10_indexOfUnsafe 70 = .ok (.new 52, 3) := dk_187 0 52 (dk_at dksJ10_indexOfUnsafe_3 3 rfl rfl)
theorem dJ10_indexOfUnsafe_73 : decode cJ10_indexOfUnsafe 73 = .ok (.dup, 1) := dk_89 (dk_at dksJ10_indexOfUnsafe_3 6 rfl rfl)
theorem dJ10_indexOfUnsafe_74 : decode cJ10_indexOfUnsafe 74 = .ok (.invokespecial 66, 3) := dk_183 0 66 (dk_at dksJ10_indexOfUnsafe_3 7 rfl rfl)
theorem dJ10_indexOfUnsafe_77 : decode cJ10_indexOfUnsafe 77 = .ok (.athrow, 1) := dk_191 (dk_at dksJ10_indexOfUnsafe_3 10 rfl rfl)
theorem dJ10_indexOfUnsafe_78 : decode cJ10_indexOfUnsafe 78 = .ok (.aload_n 2, 1) := dk_44 (dk_at dksJ10_indexOfUnsafe_3 11 rfl rfl)
theorem dJ10_indexOfUnsafe_79 : decode cJ10_indexOfUnsafe 79 = .ok (.iconst 0, 1) := dk_3 (dk_at dksJ10_indexOfUnsafe_3 12 rfl rfl)
theorem dJ10_indexOfUnsafe_80 : decode cJ10_indexOfUnsafe 80 = .ok (.invokestatic 71, 3) := dk_184 0 71 (dk_at dksJ10_indexOfUnsafe_3 13 rfl rfl)
theorem dJ10_indexOfUnsafe_83 : decode cJ10_indexOfUnsafe 83 = .ok (.istore 5, 2) := dk_54 5 (dk_at dksJ10_indexOfUnsafe_3 16 rfl rfl)
theorem dJ10_indexOfUnsafe_85 : decode cJ10_indexOfUnsafe 85 = .ok (.iload_n 1, 1) := dk_27 (dk_at dksJ10_indexOfUnsafe_3 18 rfl rfl)
theorem dJ10_indexOfUnsafe_86 : decode cJ10_indexOfUnsafe 86 = .ok (.iload_n 3, 1) := dk_29 (dk_at dksJ10_indexOfUnsafe_3 19 rfl rfl)
theorem dJ10_indexOfUnsafe_87 : decode cJ10_indexOfUnsafe 87 = .ok (.isub, 1) := dk_100 (dk_at dksJ10_indexOfUnsafe_3 20 rfl rfl)
theorem dJ10_indexOfUnsafe_88 : decode cJ10_indexOfUnsafe 88 = .ok (.istore 6, 2) := dk_54 6 (dk_at dksJ10_indexOfUnsafe_3 21 rfl rfl)
theorem dJ10_indexOfUnsafe_90 : decode cJ10_indexOfUnsafe 90 = .ok (.iload 4, 2) := dk_21 4 (dk_at dksJ10_indexOfUnsafe_4 0 rfl rfl)
theorem dJ10_indexOfUnsafe_92 : decode cJ10_indexOfUnsafe 92 = .ok (.istore 7, 2) := dk_54 7 (dk_at dksJ10_indexOfUnsafe_4 2 rfl rfl)
theorem dJ10_indexOfUnsafe_94 : decode cJ10_indexOfUnsafe 94 = .ok (.iload 7, 2) := dk_21 7 (dk_at dksJ10_indexOfUnsafe_4 4 rfl rfl)
theorem dJ10_indexOfUnsafe_96 : decode cJ10_indexOfUnsafe 96 = .ok (.iload 6, 2) := dk_21 6 (dk_at dksJ10_indexOfUnsafe_4 6 rfl rfl)
theorem dJ10_indexOfUnsafe_98 : decode cJ10_indexOfUnsafe 98 = .ok (.if_icmp .gt 109, 3) := dk_163 0 109 (dk_at dksJ10_indexOfUnsafe_4 8 rfl rfl)
theorem dJ10_indexOfUnsafe_101 : decode cJ10_indexOfUnsafe 101 = .ok (.aload_n 0, 1) := dk_42 (dk_at dksJ10_indexOfUnsafe_4 11 rfl rfl)
theorem dJ10_indexOfUnsafe_102 : decode cJ10_indexOfUnsafe 102 = .ok (.iload 7, 2) := dk_21 7 (dk_at dksJ10_indexOfUnsafe_4 12 rfl rfl)
theorem dJ10_indexOfUnsafe_104 : decode cJ10_indexOfUnsafe 104 = .ok (.invokestatic 71, 3) := dk_184 0 71 (dk_at dksJ10_indexOfUnsafe_4 14 rfl rfl)
theorem dJ10_indexOfUnsafe_107 : decode cJ10_indexOfUnsafe 107 = .ok (.iload 5, 2) := dk_21 5 (dk_at dksJ10_indexOfUnsafe_4 17 rfl rfl)
theorem dJ10_indexOfUnsafe_109 : decode cJ10_indexOfUnsafe 109 = .ok (.if_icmp .eq 27, 3) := dk_159 0 27 (dk_at dksJ10_indexOfUnsafe_4 19 rfl rfl)
theorem dJ10_indexOfUnsafe_112 : decode cJ10_indexOfUnsafe 112 = .ok (.iinc 7 1, 3) := dk_132 7 1 (dk_at dksJ10_indexOfUnsafe_5 0 rfl rfl)
theorem dJ10_indexOfUnsafe_115 : decode cJ10_indexOfUnsafe 115 = .ok (.iload 7, 2) := dk_21 7 (dk_at dksJ10_indexOfUnsafe_5 3 rfl rfl)
theorem dJ10_indexOfUnsafe_117 : decode cJ10_indexOfUnsafe 117 = .ok (.iload 6, 2) := dk_21 6 (dk_at dksJ10_indexOfUnsafe_5 5 rfl rfl)
theorem dJ10_indexOfUnsafe_119 : decode cJ10_indexOfUnsafe 119 = .ok (.if_icmp .gt 17, 3) := dk_163 0 17 (dk_at dksJ10_indexOfUnsafe_5 7 rfl rfl)
theorem dJ10_indexOfUnsafe_122 : decode cJ10_indexOfUnsafe 122 = .ok (.aload_n 0, 1) := dk_42 (dk_at dksJ10_indexOfUnsafe_5 10 rfl rfl)
theorem dJ10_indexOfUnsafe_123 : decode cJ10_indexOfUnsafe 123 = .ok (.iload 7, 2) := dk_21 7 (dk_at dksJ10_indexOfUnsafe_5 11 rfl rfl)
theorem dJ10_indexOfUnsafe_125 : decode cJ10_indexOfUnsafe 125 = .ok (.invokestatic 71, 3) := dk_184 0 71 (dk_at dksJ10_indexOfUnsafe_5 13 rfl rfl)
theorem dJ10_indexOfUnsafe_128 : decode cJ10_indexOfUnsafe 128 = .ok (.iload 5, 2) := dk_21 5 (dk_at dksJ10_indexOfUnsafe_5 16 rfl rfl)
theorem dJ10_indexOfUnsafe_130 : decode cJ10_indexOfUnsafe 130 = .ok (.if_icmp .eq 6, 3) := dk_159 0 6 (dk_at dksJ10_indexOfUnsafe_5 18 rfl rfl)
theorem dJ10_indexOfUnsafe_133 : decode cJ10_indexOfUnsafe 133 = .ok (.goto (-21), 3) := dk_167 255 235 (dk_at dksJ10_indexOfUnsafe_5 21 rfl rfl)
theorem dJ10_indexOfUnsafe_136 : decode cJ10_indexOfUnsafe 136 = .ok (.iload 7, 2) := dk_21 7 (dk_at dksJ10_indexOfUnsafe_6 0 rfl rfl)
theorem dJ10_indexOfUnsafe_138 : decode cJ10_indexOfUnsafe 138 = .ok (.iload 6, 2) := dk_21 6 (dk_at dksJ10_indexOfUnsafe_6 2 rfl rfl)
theorem dJ10_indexOfUnsafe_140 : decode cJ10_indexOfUnsafe 140 = .ok (.if_icmp .gt 61, 3) := dk_163 0 61 (dk_at dksJ10_indexOfUnsafe_6 4 rfl rfl)
theorem dJ10_indexOfUnsafe_143 : decode cJ10_indexOfUnsafe 143 = .ok (.iload 7, 2) := dk_21 7 (dk_at dksJ10_indexOfUnsafe_6 7 rfl rfl)
theorem dJ10_indexOfUnsafe_145 : decode cJ10_indexOfUnsafe 145 = .ok (.iconst 1, 1) := dk_4 (dk_at dksJ10_indexOfUnsafe_6 9 rfl rfl)
theorem dJ10_indexOfUnsafe_146 : decode cJ10_indexOfUnsafe 146 = .ok (.iadd, 1) := dk_96 (dk_at dksJ10_indexOfUnsafe_6 10 rfl rfl)
theorem dJ10_indexOfUnsafe_147 : decode cJ10_indexOfUnsafe 147 = .ok (.istore 8, 2) := dk_54 8 (dk_at dksJ10_indexOfUnsafe_6 11 rfl rfl)
theorem dJ10_indexOfUnsafe_149 : decode cJ10_indexOfUnsafe 149 = .ok (.iload 8, 2) := dk_21 8 (dk_at dksJ10_indexOfUnsafe_6 13 rfl rfl)
theorem dJ10_indexOfUnsafe_151 : decode cJ10_indexOfUnsafe 151 = .ok (.iload_n 3, 1) := dk_29 (dk_at dksJ10_indexOfUnsafe_6 15 rfl rfl)
theorem dJ10_indexOfUnsafe_152 : decode cJ10_indexOfUnsafe 152 = .ok (.iadd, 1) := dk_96 (dk_at dksJ10_indexOfUnsafe_6 16 rfl rfl)
theorem dJ10_indexOfUnsafe_153 : decode cJ10_indexOfUnsafe 153 = .ok (.iconst 1, 1) := dk_4 (dk_at dksJ10_indexOfUnsafe_6 17 rfl rfl)
theorem dJ10_indexOfUnsafe_154 : decode cJ10_indexOfUnsafe 154 = .ok (.isub, 1) := dk_100 (dk_at dksJ10_indexOfUnsafe_6 18 rfl rfl)
theorem dJ10_indexOfUnsafe_155 : decode cJ10_indexOfUnsafe 155 = .ok (.istore 9, 2) := dk_54 9 (dk_at dksJ10_indexOfUnsafe_6 19 rfl rfl)
theorem dJ10_indexOfUnsafe_157 : decode cJ10_indexOfUnsafe 157 = .ok (.iconst 1, 1) := dk_4 (dk_at dksJ10_indexOfUnsafe_6 21 rfl rfl)
theorem dJ10_indexOfUnsafe_158 : decode cJ10_indexOfUnsafe 158 = .ok (.istore 10, 2) := dk_54 10 (dk_at dksJ10_indexOfUnsafe_6 22 rfl rfl)
theorem dJ10_indexOfUnsafe_160 : decode cJ10_indexOfUnsafe 160 = .ok (.iload 8, 2) := dk_21 8 (dk_at dksJ10_indexOfUnsafe_7 0 rfl rfl)
theorem dJ10_indexOfUnsafe_162 : decode cJ10_indexOfUnsafe 162 = .ok (.iload 9, 2) := dk_21 9 (dk_at dksJ10_indexOfUnsafe_7 2 rfl rfl)
theorem dJ10_indexOfUnsafe_164 : decode cJ10_indexOfUnsafe 164 = .ok (.if_icmp .ge 27, 3) := dk_162 0 27 (dk_at dksJ10_indexOfUnsafe_7 4 rfl rfl)
theorem dJ10_indexOfUnsafe_167 : decode cJ10_indexOfUnsafe 167 = .ok (.aload_n 0, 1) := dk_42 (dk_at dksJ10_indexOfUnsafe_7 7 rfl rfl)
theorem dJ10_indexOfUnsafe_168 : decode cJ10_indexOfUnsafe 168 = .ok (.iload 8, 2) := dk_21 8 (dk_at dksJ10_indexOfUnsafe_7 8 rfl rfl)
theorem dJ10_indexOfUnsafe_170 : decode cJ10_indexOfUnsafe 170 = .ok (.invokestatic 71, 3) := dk_184 0 71 (dk_at dksJ10_indexOfUnsafe_7 10 rfl rfl)
theorem dJ10_indexOfUnsafe_173 : decode cJ10_indexOfUnsafe 173 = .ok (.aload_n 2, 1) := dk_44 (dk_at dksJ10_indexOfUnsafe_7 13 rfl rfl)
theorem dJ10_indexOfUnsafe_174 : decode cJ10_indexOfUnsafe 174 = .ok (.iload 10, 2) := dk_21 10 (dk_at dksJ10_indexOfUnsafe_7 14 rfl rfl)
theorem dJ10_indexOfUnsafe_176 : decode cJ10_indexOfUnsafe 176 = .ok (.invokestatic 71, 3) := dk_184 0 71 (dk_at dksJ10_indexOfUnsafe_7 16 rfl rfl)
theorem dJ10_indexOfUnsafe_179 : decode cJ10_indexOfUnsafe 179 = .ok (.if_icmp .ne 12, 3) := dk_160 0 12 (dk_at dksJ10_indexOfUnsafe_7 19 rfl rfl)
theorem dJ10_indexOfUnsafe_182 : decode cJ10_indexOfUnsafe 182 = .ok (.iinc 8 1, 3) := dk_132 8 1 (dk_at dksJ10_indexOfUnsafe_8 0 rfl rfl)
theorem dJ10_indexOfUnsafe_185 : decode cJ10_indexOfUnsafe 185 = .ok (.iinc 10 1, 3) := dk_132 10 1 (dk_at dksJ10_indexOfUnsafe_8 3 rfl rfl)
theorem dJ10_indexOfUnsafe_188 : decode cJ10_indexOfUnsafe 188 = .ok (.goto (-28), 3) := dk_167 255 228 (dk_at dksJ10_indexOfUnsafe_8 6 rfl rfl)
theorem dJ10_indexOfUnsafe_191 : decode cJ10_indexOfUnsafe 191 = .ok (.iload 8, 2) := dk_21 8 (dk_at dksJ10_indexOfUnsafe_8 9 rfl rfl)
theorem dJ10_indexOfUnsafe_193 : decode cJ10_indexOfUnsafe 193 = .ok (.iload 9, 2) := dk_21 9 (dk_at dksJ10_indexOfUnsafe_8 11 rfl rfl)
theorem dJ10_indexOfUnsafe_195 : decode cJ10_indexOfUnsafe 195 = .ok (.if_icmp .ne 6, 3) := dk_160 0 6 (dk_at dksJ10_indexOfUnsafe_8 13 rfl rfl)
theorem dJ10_indexOfUnsafe_198 : decode cJ10_indexOfUnsafe 198 = .ok (.iload 7, 2) := dk_21 7 (dk_at dksJ10_indexOfUnsafe_8 16 rfl rfl)
theorem dJ10_indexOfUnsafe_200 : decode cJ10_indexOfUnsafe 200 = .ok (.ireturn, 1) := dk_172 (dk_at dksJ10_indexOfUnsafe_8 18 rfl rfl)
theorem dJ10_indexOfUnsafe_201 : decode cJ10_indexOfUnsafe 201 = .ok (.iinc 7 1, 3) := dk_132 7 1 (dk_at dksJ10_indexOfUnsafe_8 19 rfl rfl)
theorem dJ10_indexOfUnsafe_204 : decode cJ10_indexOfUnsafe 204 = .ok (.goto (-110), 3) := dk_167 255 146 (dk_at dksJ10_indexOfUnsafe_9 0 rfl rfl)
theorem dJ10_indexOfUnsafe_207 : decode cJ10_indexOfUnsafe 207 = .ok (.iconst (-1), 1) := dk_2 (dk_at dksJ10_indexOfUnsafe_9 3 rfl rfl)
theorem dJ10_indexOfUnsafe_208 : decode cJ10_indexOfUnsafe 208 = .ok (.ireturn, 1) := dk_172 (dk_at dksJ10_indexOfUnsafe_9 4 rfl rfl)
abbrev cJ10_indexOfLatin1 : ByteArray := prog_53_method_44_code
def yJ10_indexOfLatin1 : MethodName := ⟨RJ10, "indexOfLatin1", "([B[B)I"⟩
def dkwJ10_indexOfLatin1_1 : List UInt8 := [43, 190, 3, 184, 0, 238, 172]
abbrev dktJ10_indexOfLatin1_1 : List UInt8 := dkwJ10_indexOfLatin1_1 ++ []
def dkwJ10_indexOfLatin1_0 : List UInt8 := [43, 190, 154, 0, 5, 3, 172, 42, 184, 0, 48, 43, 190, 162, 0, 5, 2, 172, 42, 42, 184, 0, 48, 43]
abbrev dktJ10_indexOfLatin1_0 : List UInt8 := dkwJ10_indexOfLatin1_0 ++ dktJ10_indexOfLatin1_1
theorem dksJ10_indexOfLatin1_0 : cJ10_indexOfLatin1.data.toList.drop 0 = dktJ10_indexOfLatin1_0 := by decide +kernel
theorem dksJ10_indexOfLatin1_1 : cJ10_indexOfLatin1.data.toList.drop 24 = dktJ10_indexOfLatin1_1 := dk_seg dksJ10_indexOfLatin1_0 24 rfl rfl
theorem dJ10_indexOfLatin1_0 : decode cJ10_indexOfLatin1 0 = .ok (.aload_n 1, 1) := dk_43 (dk_at dksJ10_indexOfLatin1_0 0 rfl rfl)
theorem dJ10_indexOfLatin1_1 : decode cJ10_indexOfLatin1 1 = .ok (.arraylength, 1) := dk_190 (dk_at dksJ10_indexOfLatin1_0 1 rfl rfl)
theorem dJ10_indexOfLatin1_2 : decode cJ10_indexOfLatin1 2 = .ok (.ifCond .ne 5, 3) := dk_154 0 5 (dk_at dksJ10_indexOfLatin1_0 2 rfl rfl)
theorem dJ10_indexOfLatin1_5 : decode cJ10_indexOfLatin1 5 = .ok (.iconst 0, 1) := dk_3 (dk_at dksJ10_indexOfLatin1_0 5 rfl rfl)
theorem dJ10_indexOfLatin1_6 : decode cJ10_indexOfLatin1 6 = .ok (.ireturn, 1) := dk_172 (dk_at dksJ10_indexOfLatin1_0 6 rfl rfl)
theorem dJ10_indexOfLatin1_7 : decode cJ10_indexOfLatin1 7 = .ok (.aload_n 0, 1) := dk_42 (dk_at dksJ10_indexOfLatin1_0 7 rfl rfl)
theorem dJ10_indexOfLatin1_8 : decode cJ10_indexOfLatin1 8 = .ok (.invokestatic 48, 3) := dk_184 0 48 (dk_at dksJ10_indexOfLatin1_0 8 rfl rfl)
theorem dJ10_indexOfLatin1_11 : decode cJ10_indexOfLatin1 11 = .ok (.aload_n 1, 1) := dk_43 (dk_at dksJ10_indexOfLatin1_0 11 rfl rfl)
theorem dJ10_indexOfLatin1_12 : decode cJ10_indexOfLatin1 12 = .ok (.arraylength, 1) := dk_190 (dk_at dksJ10_indexOfLatin1_0 12 rfl rfl)
theorem dJ10_indexOfLatin1_13 : decode cJ10_indexOfLatin1 13 = .ok (.if_icmp .ge 5, 3) := dk_162 0 5 (dk_at dksJ10_indexOfLatin1_0 13 rfl rfl)
theorem dJ10_indexOfLatin1_16 : decode cJ10_indexOfLatin1 16 = .ok (.iconst (-1), 1) := dk_2 (dk_at dksJ10_indexOfLatin1_0 16 rfl rfl)
theorem dJ10_indexOfLatin1_17 : decode cJ10_indexOfLatin1 17 = .ok (.ireturn, 1) := dk_172 (dk_at dksJ10_indexOfLatin1_0 17 rfl rfl)
theorem dJ10_indexOfLatin1_18 : decode cJ10_indexOfLatin1 18 = .ok (.aload_n 0, 1) := dk_42 (dk_at dksJ10_indexOfLatin1_0 18 rfl rfl)
theorem dJ10_indexOfLatin1_19 : decode cJ10_indexOfLatin1 19 = .ok (.aload_n 0, 1) := dk_42 (dk_at dksJ10_indexOfLatin1_0 19 rfl rfl)
theorem dJ10_indexOfLatin1_20 : decode cJ10_indexOfLatin1 20 = .ok (.invokestatic 48, 3) := dk_184 0 48 (dk_at dksJ10_indexOfLatin1_0 20 rfl rfl)
theorem dJ10_indexOfLatin1_23 : decode cJ10_indexOfLatin1 23 = .ok (.aload_n 1, 1) := dk_43 (dk_at dksJ10_indexOfLatin1_0 23 rfl rfl)
theorem dJ10_indexOfLatin1_24 : decode cJ10_indexOfLatin1 24 = .ok (.aload_n 1, 1) := dk_43 (dk_at dksJ10_indexOfLatin1_1 0 rfl rfl)
theorem dJ10_indexOfLatin1_25 : decode cJ10_indexOfLatin1 25 = .ok (.arraylength, 1) := dk_190 (dk_at dksJ10_indexOfLatin1_1 1 rfl rfl)
theorem dJ10_indexOfLatin1_26 : decode cJ10_indexOfLatin1 26 = .ok (.iconst 0, 1) := dk_3 (dk_at dksJ10_indexOfLatin1_1 2 rfl rfl)
theorem dJ10_indexOfLatin1_27 : decode cJ10_indexOfLatin1 27 = .ok (.invokestatic 238, 3) := dk_184 0 238 (dk_at dksJ10_indexOfLatin1_1 3 rfl rfl)
theorem dJ10_indexOfLatin1_30 : decode cJ10_indexOfLatin1 30 = .ok (.ireturn, 1) := dk_172 (dk_at dksJ10_indexOfLatin1_1 6 rfl rfl)
abbrev cJ10_indexOfLatin1Unsafe : ByteArray := prog_53_method_46_code
def yJ10_indexOfLatin1Unsafe : MethodName := ⟨RJ10, "indexOfLatin1Unsafe", "([BI[BII)I"⟩
def dkwJ10_indexOfLatin1Unsafe_9 : List UInt8 := [167, 255, 144, 2, 172]
abbrev dktJ10_indexOfLatin1Unsafe_9 : List UInt8 := dkwJ10_indexOfLatin1Unsafe_9 ++ []
def dkwJ10_indexOfLatin1Unsafe_8 : List UInt8 := [132, 8, 1, 132, 10, 1, 167, 255, 226, 21, 8, 21, 9, 160, 0, 6, 21, 7, 172, 132, 7, 1]
abbrev dktJ10_indexOfLatin1Unsafe_8 : List UInt8 := dkwJ10_indexOfLatin1Unsafe_8 ++ dktJ10_indexOfLatin1Unsafe_9
def dkwJ10_indexOfLatin1Unsafe_7 : List UInt8 := [21, 8, 21, 9, 162, 0, 29, 42, 21, 8, 184, 0, 71, 44, 21, 10, 51, 17, 0, 255, 126, 160, 0, 12]
abbrev dktJ10_indexOfLatin1Unsafe_7 : List UInt8 := dkwJ10_indexOfLatin1Unsafe_7 ++ dktJ10_indexOfLatin1Unsafe_8
def dkwJ10_indexOfLatin1Unsafe_6 : List UInt8 := [21, 7, 21, 6, 163, 0, 63, 21, 7, 4, 96, 54, 8, 21, 8, 29, 96, 4, 100, 54, 9, 4, 54, 10]
abbrev dktJ10_indexOfLatin1Unsafe_6 : List UInt8 := dkwJ10_indexOfLatin1Unsafe_6 ++ dktJ10_indexOfLatin1Unsafe_7
def dkwJ10_indexOfLatin1Unsafe_5 : List UInt8 := [132, 7, 1, 21, 7, 21, 6, 163, 0, 17, 42, 21, 7, 184, 0, 71, 21, 5, 159, 0, 6, 167, 255, 235]
abbrev dktJ10_indexOfLatin1Unsafe_5 : List UInt8 := dkwJ10_indexOfLatin1Unsafe_5 ++ dktJ10_indexOfLatin1Unsafe_6
def dkwJ10_indexOfLatin1Unsafe_4 : List UInt8 := [21, 4, 54, 7, 21, 7, 21, 6, 163, 0, 111, 42, 21, 7, 184, 0, 71, 21, 5, 159, 0, 27]
abbrev dktJ10_indexOfLatin1Unsafe_4 : List UInt8 := dkwJ10_indexOfLatin1Unsafe_4 ++ dktJ10_indexOfLatin1Unsafe_5
def dkwJ10_indexOfLatin1Unsafe_3 : List UInt8 := [187, 0, 52, 89, 183, 0, 66, 191, 44, 3, 51, 17, 0, 255, 126, 146, 54, 5, 27, 29, 100, 54, 6]
abbrev dktJ10_indexOfLatin1Unsafe_3 : List UInt8 := dkwJ10_indexOfLatin1Unsafe_3 ++ dktJ10_indexOfLatin1Unsafe_4
def dkwJ10_indexOfLatin1Unsafe_2 : List UInt8 := [164, 0, 11, 187, 0, 52, 89, 183, 0, 66, 191, 178, 0, 44, 154, 0, 16, 27, 29, 162, 0, 11]
abbrev dktJ10_indexOfLatin1Unsafe_2 : List UInt8 := dkwJ10_indexOfLatin1Unsafe_2 ++ dktJ10_indexOfLatin1Unsafe_3
def dkwJ10_indexOfLatin1Unsafe_1 : List UInt8 := [154, 0, 15, 29, 157, 0, 11, 187, 0, 52, 89, 183, 0, 66, 191, 178, 0, 44, 154, 0, 17, 29, 44, 190]
abbrev dktJ10_indexOfLatin1Unsafe_1 : List UInt8 := dkwJ10_indexOfLatin1Unsafe_1 ++ dktJ10_indexOfLatin1Unsafe_2
def dkwJ10_indexOfLatin1Unsafe_0 : List UInt8 := [178, 0, 44, 154, 0, 16, 21, 4, 156, 0, 11, 187, 0, 52, 89, 183, 0, 66, 191, 178, 0, 44]
abbrev dktJ10_indexOfLatin1Unsafe_0 : List UInt8 := dkwJ10_indexOfLatin1Unsafe_0 ++ dktJ10_indexOfLatin1Unsafe_1
theorem dksJ10_indexOfLatin1Unsafe_0 : cJ10_indexOfLatin1Unsafe.data.toList.drop 0 = dktJ10_indexOfLatin1Unsafe_0 := by decide +kernel
theorem dksJ10_indexOfLatin1Unsafe_1 : cJ10_indexOfLatin1Unsafe.data.toList.drop 22 = dktJ10_indexOfLatin1Unsafe_1 := dk_seg dksJ10_indexOfLatin1Unsafe_0 22 rfl rfl
theorem dksJ10_indexOfLatin1Unsafe_2 : cJ10_indexOfLatin1Unsafe.data.toList.drop 46 = dktJ10_indexOfLatin1Unsafe_2 := dk_seg dksJ10_indexOfLatin1Unsafe_1 24 rfl rfl
theorem dksJ10_indexOfLatin1Unsafe_3 : cJ10_indexOfLatin1Unsafe.data.toList.drop 68 = dktJ10_indexOfLatin1Unsafe_3 := dk_seg dksJ10_indexOfLatin1Unsafe_2 22 rfl rfl
theorem dksJ10_indexOfLatin1Unsafe_4 : cJ10_indexOfLatin1Unsafe.data.toList.drop 91 = dktJ10_indexOfLatin1Unsafe_4 := dk_seg dksJ10_indexOfLatin1Unsafe_3 23 rfl rfl
theorem dksJ10_indexOfLatin1Unsafe_5 : cJ10_indexOfLatin1Unsafe.data.toList.drop 113 = dktJ10_indexOfLatin1Unsafe_5 := dk_seg dksJ10_indexOfLatin1Unsafe_4 22 rfl rfl
theorem dksJ10_indexOfLatin1Unsafe_6 : cJ10_indexOfLatin1Unsafe.data.toList.drop 137 = dktJ10_indexOfLatin1Unsafe_6 := dk_seg dksJ10_indexOfLatin1Unsafe_5 24 rfl rfl
theorem dksJ10_indexOfLatin1Unsafe_7 : cJ10_indexOfLatin1Unsafe.data.toList.drop 161 = dktJ10_indexOfLatin1Unsafe_7 := dk_seg dksJ10_indexOfLatin1Unsafe_6 24 rfl rfl
theorem dksJ10_indexOfLatin1Unsafe_8 : cJ10_indexOfLatin1Unsafe.data.toList.drop 185 = dktJ10_indexOfLatin1Unsafe_8 := dk_seg dksJ10_indexOfLatin1Unsafe_7 24 rfl rfl
theorem dksJ10_indexOfLatin1Unsafe_9 : cJ10_indexOfLatin1Unsafe.data.toList.drop 207 = dktJ10_indexOfLatin1Unsafe_9 := dk_seg dksJ10_indexOfLatin1Unsafe_8 22 rfl rfl
theorem dJ10_indexOfLatin1Unsafe_0 : decode cJ10_indexOfLatin1Unsafe 0 = .ok (.getstatic 44, 3) := dk_178 0 44 (dk_at dksJ10_indexOfLatin1Unsafe_0 0 rfl rfl)
theorem dJ10_indexOfLatin1Unsafe_3 : decode cJ10_indexOfLatin1Unsafe 3 = .ok (.ifCond .ne 16, 3) := dk_154 0 16 (dk_at dksJ10_indexOfLatin1Unsafe_0 3 rfl rfl)
theorem dJ10_indexOfLatin1Unsafe_6 : decode cJ10_indexOfLatin1Unsafe 6 = .ok (.iload 4, 2) := dk_21 4 (dk_at dksJ10_indexOfLatin1Unsafe_0 6 rfl rfl)
theorem dJ10_indexOfLatin1Unsafe_8 : decode cJ10_indexOfLatin1Unsafe 8 = .ok (.ifCond .ge 11, 3) := dk_156 0 11 (dk_at dksJ10_indexOfLatin1Unsafe_0 8 rfl rfl)
theorem dJ10_indexOfLatin1Unsafe_11 : decode cJ10_indexOfLatin1Unsafe 11 = .ok (.new 52, 3) := dk_187 0 52 (dk_at dksJ10_indexOfLatin1Unsafe_0 11 rfl rfl)
theorem dJ10_indexOfLatin1Unsafe_14 : decode cJ10_indexOfLatin1Unsafe 14 = .ok (.dup, 1) := dk_89 (dk_at dksJ10_indexOfLatin1Unsafe_0 14 rfl rfl)
theorem dJ10_indexOfLatin1Unsafe_15 : decode cJ10_indexOfLatin1Unsafe 15 = .ok (.invokespecial 66, 3) := dk_183 0 66 (dk_at dksJ10_indexOfLatin1Unsafe_0 15 rfl rfl)
theorem dJ10_indexOfLatin1Unsafe_18 : decode cJ10_indexOfLatin1Unsafe 18 = .ok (.athrow, 1) := dk_191 (dk_at dksJ10_indexOfLatin1Unsafe_0 18 rfl rfl)
theorem dJ10_indexOfLatin1Unsafe_19 : decode cJ10_indexOfLatin1Unsafe 19 = .ok (.getstatic 44, 3) := dk_178 0 44 (dk_at dksJ10_indexOfLatin1Unsafe_0 19 rfl rfl)
theorem dJ10_indexOfLatin1Unsafe_22 : decode cJ10_indexOfLatin1Unsafe 22 = .ok (.ifCond .ne 15, 3) := dk_154 0 15 (dk_at dksJ10_indexOfLatin1Unsafe_1 0 rfl rfl)
theorem dJ10_indexOfLatin1Unsafe_25 : decode cJ10_indexOfLatin1Unsafe 25 = .ok (.iload_n 3, 1) := dk_29 (dk_at dksJ10_indexOfLatin1Unsafe_1 3 rfl rfl)
theorem dJ10_indexOfLatin1Unsafe_26 : decode cJ10_indexOfLatin1Unsafe 26 = .ok (.ifCond .gt 11, 3) := dk_157 0 11 (dk_at dksJ10_indexOfLatin1Unsafe_1 4 rfl rfl)
theorem dJ10_indexOfLatin1Unsafe_29 : decode cJ10_indexOfLatin1Unsafe 29 = .ok (.new 52, 3) := dk_187 0 52 (dk_at dksJ10_indexOfLatin1Unsafe_1 7 rfl rfl)
theorem dJ10_indexOfLatin1Unsafe_32 : decode cJ10_indexOfLatin1Unsafe 32 = .ok (.dup, 1) := dk_89 (dk_at dksJ10_indexOfLatin1Unsafe_1 10 rfl rfl)
theorem dJ10_indexOfLatin1Unsafe_33 : decode cJ10_indexOfLatin1Unsafe 33 = .ok (.invokespecial 66, 3) := dk_183 0 66 (dk_at dksJ10_indexOfLatin1Unsafe_1 11 rfl rfl)
theorem dJ10_indexOfLatin1Unsafe_36 : decode cJ10_indexOfLatin1Unsafe 36 = .ok (.athrow, 1) := dk_191 (dk_at dksJ10_indexOfLatin1Unsafe_1 14 rfl rfl)
theorem dJ10_indexOfLatin1Unsafe_37 : decode cJ10_indexOfLatin1Unsafe 37 = .ok (.getstatic 44, 3) := dk_178 0 44 (dk_at dksJ10_indexOfLatin1Unsafe_1 15 rfl rfl)
theorem dJ10_indexOfLatin1Unsafe_40 : decode cJ10_indexOfLatin1Unsafe 40 = .ok (.ifCond .ne 17, 3) := dk_154 0 17 (dk_at dksJ10_indexOfLatin1Unsafe_1 18 rfl rfl)
theorem dJ10_indexOfLatin1Unsafe_43 : decode cJ10_indexOfLatin1Unsafe 43 = .ok (.iload_n 3, 1) := dk_29 (dk_at dksJ10_indexOfLatin1Unsafe_1 21 rfl rfl)
theorem dJ10_indexOfLatin1Unsafe_44 : decode cJ10_indexOfLatin1Unsafe 44 = .ok (.aload_n 2, 1) := dk_44 (dk_at dksJ10_indexOfLatin1Unsafe_1 22 rfl rfl)
theorem dJ10_indexOfLatin1Unsafe_45 : decode cJ10_indexOfLatin1Unsafe 45 = .ok (.arraylength, 1) := dk_190 (dk_at dksJ10_indexOfLatin1Unsafe_1 23 rfl rfl)
theorem dJ10_indexOfLatin1Unsafe_46 : decode cJ10_indexOfLatin1Unsafe 46 = .ok (.if_icmp .le 11, 3) := dk_164 0 11 (dk_at dksJ10_indexOfLatin1Unsafe_2 0 rfl rfl)
theorem dJ10_indexOfLatin1Unsafe_49 : decode cJ10_indexOfLatin1Unsafe 49 = .ok (.new 52, 3) := dk_187 0 52 (dk_at dksJ10_indexOfLatin1Unsafe_2 3 rfl rfl)
theorem dJ10_indexOfLatin1Unsafe_52 : decode cJ10_indexOfLatin1Unsafe 52 = .ok (.dup, 1) := dk_89 (dk_at dksJ10_indexOfLatin1Unsafe_2 6 rfl rfl)
theorem dJ10_indexOfLatin1Unsafe_53 : decode cJ10_indexOfLatin1Unsafe 53 = .ok (.invokespecial 66, 3) := dk_183 0 66 (dk_at dksJ10_indexOfLatin1Unsafe_2 7 rfl rfl)
theorem dJ10_indexOfLatin1Unsafe_56 : decode cJ10_indexOfLatin1Unsafe 56 = .ok (.athrow, 1) := dk_191 (dk_at dksJ10_indexOfLatin1Unsafe_2 10 rfl rfl)
theorem dJ10_indexOfLatin1Unsafe_57 : decode cJ10_indexOfLatin1Unsafe 57 = .ok (.getstatic 44, 3) := dk_178 0 44 (dk_at dksJ10_indexOfLatin1Unsafe_2 11 rfl rfl)
theorem dJ10_indexOfLatin1Unsafe_60 : decode cJ10_indexOfLatin1Unsafe 60 = .ok (.ifCond .ne 16, 3) := dk_154 0 16 (dk_at dksJ10_indexOfLatin1Unsafe_2 14 rfl rfl)
theorem dJ10_indexOfLatin1Unsafe_63 : decode cJ10_indexOfLatin1Unsafe 63 = .ok (.iload_n 1, 1) := dk_27 (dk_at dksJ10_indexOfLatin1Unsafe_2 17 rfl rfl)
theorem dJ10_indexOfLatin1Unsafe_64 : decode cJ10_indexOfLatin1Unsafe 64 = .ok (.iload_n 3, 1) := dk_29 (dk_at dksJ10_indexOfLatin1Unsafe_2 18 rfl rfl)
theorem dJ10_indexOfLatin1Unsafe_65 : decode cJ10_indexOfLatin1Unsafe 65 = .ok (.if_icmp .ge 11, 3) := dk_162 0 11 (dk_at dksJ10_indexOfLatin1Unsafe_2 19 rfl rfl)
theorem dJ10_indexOfLatin1Unsafe_68 : decode cJ10_indexOfLatin1Unsafe 68 = .ok (.new 52, 3) := dk_187 0 52 (dk_at dksJ10_indexOfLatin1Unsafe_3 0 rfl rfl)
theorem dJ10_indexOfLatin1Unsafe_71 : decode cJ10_indexOfLatin1Unsafe 71 = .ok (.dup, 1) := dk_89 (dk_at dksJ10_indexOfLatin1Unsafe_3 3 rfl rfl)
theorem dJ10_indexOfLatin1Unsafe_72 : decode cJ10_indexOfLatin1Unsafe 72 = .ok (.invokespecial 66, 3) := dk_183 0 66 (dk_at dksJ10_indexOfLatin1Unsafe_3 4 rfl rfl)
theorem dJ10_indexOfLatin1Unsafe_75 : decode cJ10_indexOfLatin1Unsafe 75 = .ok (.athrow, 1) := dk_191 (dk_at dksJ10_indexOfLatin1Unsafe_3 7 rfl rfl)
theorem dJ10_indexOfLatin1Unsafe_76 : decode cJ10_indexOfLatin1Unsafe 76 = .ok (.aload_n 2, 1) := dk_44 (dk_at dksJ10_indexOfLatin1Unsafe_3 8 rfl rfl)
theorem dJ10_indexOfLatin1Unsafe_77 : decode cJ10_indexOfLatin1Unsafe 77 = .ok (.iconst 0, 1) := dk_3 (dk_at dksJ10_indexOfLatin1Unsafe_3 9 rfl rfl)
theorem dJ10_indexOfLatin1Unsafe_78 : decode cJ10_indexOfLatin1Unsafe 78 = .ok (.baload, 1) := dk_51 (dk_at dksJ10_indexOfLatin1Unsafe_3 10 rfl rfl)
theorem dJ10_indexOfLatin1Unsafe_79 : decode cJ10_indexOfLatin1Unsafe 79 = .ok (.sipush 255, 3) := dk_17 0 255 (dk_at dksJ10_indexOfLatin1Unsafe_3 11 rfl rfl)
theorem dJ10_indexOfLatin1Unsafe_82 : decode cJ10_indexOfLatin1Unsafe 82 = .ok (.iand, 1) := dk_126 (dk_at dksJ10_indexOfLatin1Unsafe_3 14 rfl rfl)
theorem dJ10_indexOfLatin1Unsafe_83 : decode cJ10_indexOfLatin1Unsafe 83 = .ok (.i2c, 1) := dk_146 (dk_at dksJ10_indexOfLatin1Unsafe_3 15 rfl rfl)
theorem dJ10_indexOfLatin1Unsafe_84 : decode cJ10_indexOfLatin1Unsafe 84 = .ok (.istore 5, 2) := dk_54 5 (dk_at dksJ10_indexOfLatin1Unsafe_3 16 rfl rfl)
theorem dJ10_indexOfLatin1Unsafe_86 : decode cJ10_indexOfLatin1Unsafe 86 = .ok (.iload_n 1, 1) := dk_27 (dk_at dksJ10_indexOfLatin1Unsafe_3 18 rfl rfl)
theorem dJ10_indexOfLatin1Unsafe_87 : decode cJ10_indexOfLatin1Unsafe 87 = .ok (.iload_n 3, 1) := dk_29 (dk_at dksJ10_indexOfLatin1Unsafe_3 19 rfl rfl)
theorem dJ10_indexOfLatin1Unsafe_88 : decode cJ10_indexOfLatin1Unsafe 88 = .ok (.isub, 1) := dk_100 (dk_at dksJ10_indexOfLatin1Unsafe_3 20 rfl rfl)
theorem dJ10_indexOfLatin1Unsafe_89 : decode cJ10_indexOfLatin1Unsafe 89 = .ok (.istore 6, 2) := dk_54 6 (dk_at dksJ10_indexOfLatin1Unsafe_3 21 rfl rfl)
theorem dJ10_indexOfLatin1Unsafe_91 : decode cJ10_indexOfLatin1Unsafe 91 = .ok (.iload 4, 2) := dk_21 4 (dk_at dksJ10_indexOfLatin1Unsafe_4 0 rfl rfl)
theorem dJ10_indexOfLatin1Unsafe_93 : decode cJ10_indexOfLatin1Unsafe 93 = .ok (.istore 7, 2) := dk_54 7 (dk_at dksJ10_indexOfLatin1Unsafe_4 2 rfl rfl)
theorem dJ10_indexOfLatin1Unsafe_95 : decode cJ10_indexOfLatin1Unsafe 95 = .ok (.iload 7, 2) := dk_21 7 (dk_at dksJ10_indexOfLatin1Unsafe_4 4 rfl rfl)
theorem dJ10_indexOfLatin1Unsafe_97 : decode cJ10_indexOfLatin1Unsafe 97 = .ok (.iload 6, 2) := dk_21 6 (dk_at dksJ10_indexOfLatin1Unsafe_4 6 rfl rfl)
theorem dJ10_indexOfLatin1Unsafe_99 : decode cJ10_indexOfLatin1Unsafe 99 = .ok (.if_icmp .gt 111, 3) := dk_163 0 111 (dk_at dksJ10_indexOfLatin1Unsafe_4 8 rfl rfl)
theorem dJ10_indexOfLatin1Unsafe_102 : decode cJ10_indexOfLatin1Unsafe 102 = .ok (.aload_n 0, 1) := dk_42 (dk_at dksJ10_indexOfLatin1Unsafe_4 11 rfl rfl)
theorem dJ10_indexOfLatin1Unsafe_103 : decode cJ10_indexOfLatin1Unsafe 103 = .ok (.iload 7, 2) := dk_21 7 (dk_at dksJ10_indexOfLatin1Unsafe_4 12 rfl rfl)
theorem dJ10_indexOfLatin1Unsafe_105 : decode cJ10_indexOfLatin1Unsafe 105 = .ok (.invokestatic 71, 3) := dk_184 0 71 (dk_at dksJ10_indexOfLatin1Unsafe_4 14 rfl rfl)
theorem dJ10_indexOfLatin1Unsafe_108 : decode cJ10_indexOfLatin1Unsafe 108 = .ok (.iload 5, 2) := dk_21 5 (dk_at dksJ10_indexOfLatin1Unsafe_4 17 rfl rfl)
theorem dJ10_indexOfLatin1Unsafe_110 : decode cJ10_indexOfLatin1Unsafe 110 = .ok (.if_icmp .eq 27, 3) := dk_159 0 27 (dk_at dksJ10_indexOfLatin1Unsafe_4 19 rfl rfl)
theorem dJ10_indexOfLatin1Unsafe_113 : decode cJ10_indexOfLatin1Unsafe 113 = .ok (.iinc 7 1, 3) := dk_132 7 1 (dk_at dksJ10_indexOfLatin1Unsafe_5 0 rfl rfl)
theorem dJ10_indexOfLatin1Unsafe_116 : decode cJ10_indexOfLatin1Unsafe 116 = .ok (.iload 7, 2) := dk_21 7 (dk_at dksJ10_indexOfLatin1Unsafe_5 3 rfl rfl)
theorem dJ10_indexOfLatin1Unsafe_118 : decode cJ10_indexOfLatin1Unsafe 118 = .ok (.iload 6, 2) := dk_21 6 (dk_at dksJ10_indexOfLatin1Unsafe_5 5 rfl rfl)
theorem dJ10_indexOfLatin1Unsafe_120 : decode cJ10_indexOfLatin1Unsafe 120 = .ok (.if_icmp .gt 17, 3) := dk_163 0 17 (dk_at dksJ10_indexOfLatin1Unsafe_5 7 rfl rfl)
theorem dJ10_indexOfLatin1Unsafe_123 : decode cJ10_indexOfLatin1Unsafe 123 = .ok (.aload_n 0, 1) := dk_42 (dk_at dksJ10_indexOfLatin1Unsafe_5 10 rfl rfl)
theorem dJ10_indexOfLatin1Unsafe_124 : decode cJ10_indexOfLatin1Unsafe 124 = .ok (.iload 7, 2) := dk_21 7 (dk_at dksJ10_indexOfLatin1Unsafe_5 11 rfl rfl)
theorem dJ10_indexOfLatin1Unsafe_126 : decode cJ10_indexOfLatin1Unsafe 126 = .ok (.invokestatic 71, 3) := dk_184 0 71 (dk_at dksJ10_indexOfLatin1Unsafe_5 13 rfl rfl)
theorem dJ10_indexOfLatin1Unsafe_129 : decode cJ10_indexOfLatin1Unsafe 129 = .ok (.iload 5, 2) := dk_21 5 (dk_at dksJ10_indexOfLatin1Unsafe_5 16 rfl rfl)
theorem dJ10_indexOfLatin1Unsafe_131 : decode cJ10_indexOfLatin1Unsafe 131 = .ok (.if_icmp .eq 6, 3) := dk_159 0 6 (dk_at dksJ10_indexOfLatin1Unsafe_5 18 rfl rfl)
theorem dJ10_indexOfLatin1Unsafe_134 : decode cJ10_indexOfLatin1Unsafe 134 = .ok (.goto (-21), 3) := dk_167 255 235 (dk_at dksJ10_indexOfLatin1Unsafe_5 21 rfl rfl)
theorem dJ10_indexOfLatin1Unsafe_137 : decode cJ10_indexOfLatin1Unsafe 137 = .ok (.iload 7, 2) := dk_21 7 (dk_at dksJ10_indexOfLatin1Unsafe_6 0 rfl rfl)
theorem dJ10_indexOfLatin1Unsafe_139 : decode cJ10_indexOfLatin1Unsafe 139 = .ok (.iload 6, 2) := dk_21 6 (dk_at dksJ10_indexOfLatin1Unsafe_6 2 rfl rfl)
theorem dJ10_indexOfLatin1Unsafe_141 : decode cJ10_indexOfLatin1Unsafe 141 = .ok (.if_icmp .gt 63, 3) := dk_163 0 63 (dk_at dksJ10_indexOfLatin1Unsafe_6 4 rfl rfl)
theorem dJ10_indexOfLatin1Unsafe_144 : decode cJ10_indexOfLatin1Unsafe 144 = .ok (.iload 7, 2) := dk_21 7 (dk_at dksJ10_indexOfLatin1Unsafe_6 7 rfl rfl)
theorem dJ10_indexOfLatin1Unsafe_146 : decode cJ10_indexOfLatin1Unsafe 146 = .ok (.iconst 1, 1) := dk_4 (dk_at dksJ10_indexOfLatin1Unsafe_6 9 rfl rfl)
theorem dJ10_indexOfLatin1Unsafe_147 : decode cJ10_indexOfLatin1Unsafe 147 = .ok (.iadd, 1) := dk_96 (dk_at dksJ10_indexOfLatin1Unsafe_6 10 rfl rfl)
theorem dJ10_indexOfLatin1Unsafe_148 : decode cJ10_indexOfLatin1Unsafe 148 = .ok (.istore 8, 2) := dk_54 8 (dk_at dksJ10_indexOfLatin1Unsafe_6 11 rfl rfl)
theorem dJ10_indexOfLatin1Unsafe_150 : decode cJ10_indexOfLatin1Unsafe 150 = .ok (.iload 8, 2) := dk_21 8 (dk_at dksJ10_indexOfLatin1Unsafe_6 13 rfl rfl)
theorem dJ10_indexOfLatin1Unsafe_152 : decode cJ10_indexOfLatin1Unsafe 152 = .ok (.iload_n 3, 1) := dk_29 (dk_at dksJ10_indexOfLatin1Unsafe_6 15 rfl rfl)
theorem dJ10_indexOfLatin1Unsafe_153 : decode cJ10_indexOfLatin1Unsafe 153 = .ok (.iadd, 1) := dk_96 (dk_at dksJ10_indexOfLatin1Unsafe_6 16 rfl rfl)
theorem dJ10_indexOfLatin1Unsafe_154 : decode cJ10_indexOfLatin1Unsafe 154 = .ok (.iconst 1, 1) := dk_4 (dk_at dksJ10_indexOfLatin1Unsafe_6 17 rfl rfl)
theorem dJ10_indexOfLatin1Unsafe_155 : decode cJ10_indexOfLatin1Unsafe 155 = .ok (.isub, 1) := dk_100 (dk_at dksJ10_indexOfLatin1Unsafe_6 18 rfl rfl)
theorem dJ10_indexOfLatin1Unsafe_156 : decode cJ10_indexOfLatin1Unsafe 156 = .ok (.istore 9, 2) := dk_54 9 (dk_at dksJ10_indexOfLatin1Unsafe_6 19 rfl rfl)
theorem dJ10_indexOfLatin1Unsafe_158 : decode cJ10_indexOfLatin1Unsafe 158 = .ok (.iconst 1, 1) := dk_4 (dk_at dksJ10_indexOfLatin1Unsafe_6 21 rfl rfl)
theorem dJ10_indexOfLatin1Unsafe_159 : decode cJ10_indexOfLatin1Unsafe 159 = .ok (.istore 10, 2) := dk_54 10 (dk_at dksJ10_indexOfLatin1Unsafe_6 22 rfl rfl)
theorem dJ10_indexOfLatin1Unsafe_161 : decode cJ10_indexOfLatin1Unsafe 161 = .ok (.iload 8, 2) := dk_21 8 (dk_at dksJ10_indexOfLatin1Unsafe_7 0 rfl rfl)
theorem dJ10_indexOfLatin1Unsafe_163 : decode cJ10_indexOfLatin1Unsafe 163 = .ok (.iload 9, 2) := dk_21 9 (dk_at dksJ10_indexOfLatin1Unsafe_7 2 rfl rfl)
theorem dJ10_indexOfLatin1Unsafe_165 : decode cJ10_indexOfLatin1Unsafe 165 = .ok (.if_icmp .ge 29, 3) := dk_162 0 29 (dk_at dksJ10_indexOfLatin1Unsafe_7 4 rfl rfl)
theorem dJ10_indexOfLatin1Unsafe_168 : decode cJ10_indexOfLatin1Unsafe 168 = .ok (.aload_n 0, 1) := dk_42 (dk_at dksJ10_indexOfLatin1Unsafe_7 7 rfl rfl)
theorem dJ10_indexOfLatin1Unsafe_169 : decode cJ10_indexOfLatin1Unsafe 169 = .ok (.iload 8, 2) := dk_21 8 (dk_at dksJ10_indexOfLatin1Unsafe_7 8 rfl rfl)
theorem dJ10_indexOfLatin1Unsafe_171 : decode cJ10_indexOfLatin1Unsafe 171 = .ok (.invokestatic 71, 3) := dk_184 0 71 (dk_at dksJ10_indexOfLatin1Unsafe_7 10 rfl rfl)
theorem dJ10_indexOfLatin1Unsafe_174 : decode cJ10_indexOfLatin1Unsafe 174 = .ok (.aload_n 2, 1) := dk_44 (dk_at dksJ10_indexOfLatin1Unsafe_7 13 rfl rfl)
theorem dJ10_indexOfLatin1Unsafe_175 : decode cJ10_indexOfLatin1Unsafe 175 = .ok (.iload 10, 2) := dk_21 10 (dk_at dksJ10_indexOfLatin1Unsafe_7 14 rfl rfl)
theorem dJ10_indexOfLatin1Unsafe_177 : decode cJ10_indexOfLatin1Unsafe 177 = .ok (.baload, 1) := dk_51 (dk_at dksJ10_indexOfLatin1Unsafe_7 16 rfl rfl)
theorem dJ10_indexOfLatin1Unsafe_178 : decode cJ10_indexOfLatin1Unsafe 178 = .ok (.sipush 255, 3) := dk_17 0 255 (dk_at dksJ10_indexOfLatin1Unsafe_7 17 rfl rfl)
theorem dJ10_indexOfLatin1Unsafe_181 : decode cJ10_indexOfLatin1Unsafe 181 = .ok (.iand, 1) := dk_126 (dk_at dksJ10_indexOfLatin1Unsafe_7 20 rfl rfl)
theorem dJ10_indexOfLatin1Unsafe_182 : decode cJ10_indexOfLatin1Unsafe 182 = .ok (.if_icmp .ne 12, 3) := dk_160 0 12 (dk_at dksJ10_indexOfLatin1Unsafe_7 21 rfl rfl)
theorem dJ10_indexOfLatin1Unsafe_185 : decode cJ10_indexOfLatin1Unsafe 185 = .ok (.iinc 8 1, 3) := dk_132 8 1 (dk_at dksJ10_indexOfLatin1Unsafe_8 0 rfl rfl)
theorem dJ10_indexOfLatin1Unsafe_188 : decode cJ10_indexOfLatin1Unsafe 188 = .ok (.iinc 10 1, 3) := dk_132 10 1 (dk_at dksJ10_indexOfLatin1Unsafe_8 3 rfl rfl)
theorem dJ10_indexOfLatin1Unsafe_191 : decode cJ10_indexOfLatin1Unsafe 191 = .ok (.goto (-30), 3) := dk_167 255 226 (dk_at dksJ10_indexOfLatin1Unsafe_8 6 rfl rfl)
theorem dJ10_indexOfLatin1Unsafe_194 : decode cJ10_indexOfLatin1Unsafe 194 = .ok (.iload 8, 2) := dk_21 8 (dk_at dksJ10_indexOfLatin1Unsafe_8 9 rfl rfl)
theorem dJ10_indexOfLatin1Unsafe_196 : decode cJ10_indexOfLatin1Unsafe 196 = .ok (.iload 9, 2) := dk_21 9 (dk_at dksJ10_indexOfLatin1Unsafe_8 11 rfl rfl)
theorem dJ10_indexOfLatin1Unsafe_198 : decode cJ10_indexOfLatin1Unsafe 198 = .ok (.if_icmp .ne 6, 3) := dk_160 0 6 (dk_at dksJ10_indexOfLatin1Unsafe_8 13 rfl rfl)
theorem dJ10_indexOfLatin1Unsafe_201 : decode cJ10_indexOfLatin1Unsafe 201 = .ok (.iload 7, 2) := dk_21 7 (dk_at dksJ10_indexOfLatin1Unsafe_8 16 rfl rfl)
theorem dJ10_indexOfLatin1Unsafe_203 : decode cJ10_indexOfLatin1Unsafe 203 = .ok (.ireturn, 1) := dk_172 (dk_at dksJ10_indexOfLatin1Unsafe_8 18 rfl rfl)
theorem dJ10_indexOfLatin1Unsafe_204 : decode cJ10_indexOfLatin1Unsafe 204 = .ok (.iinc 7 1, 3) := dk_132 7 1 (dk_at dksJ10_indexOfLatin1Unsafe_8 19 rfl rfl)
theorem dJ10_indexOfLatin1Unsafe_207 : decode cJ10_indexOfLatin1Unsafe 207 = .ok (.goto (-112), 3) := dk_167 255 144 (dk_at dksJ10_indexOfLatin1Unsafe_9 0 rfl rfl)
theorem dJ10_indexOfLatin1Unsafe_210 : decode cJ10_indexOfLatin1Unsafe 210 = .ok (.iconst (-1), 1) := dk_2 (dk_at dksJ10_indexOfLatin1Unsafe_9 3 rfl rfl)
theorem dJ10_indexOfLatin1Unsafe_211 : decode cJ10_indexOfLatin1Unsafe 211 = .ok (.ireturn, 1) := dk_172 (dk_at dksJ10_indexOfLatin1Unsafe_9 4 rfl rfl)
abbrev cJ10_fillNull : ByteArray := prog_53_method_70_code
def yJ10_fillNull : MethodName := ⟨RJ10, "fillNull", "([BII)V"⟩
def dkwJ10_fillNull_0 : List UInt8 := [42, 27, 4, 120, 28, 4, 120, 3, 184, 1, 124, 177]
abbrev dktJ10_fillNull_0 : List UInt8 := dkwJ10_fillNull_0 ++ []
theorem dksJ10_fillNull_0 : cJ10_fillNull.data.toList.drop 0 = dktJ10_fillNull_0 := by decide +kernel
theorem dJ10_fillNull_0 : decode cJ10_fillNull 0 = .ok (.aload_n 0, 1) := dk_42 (dk_at dksJ10_fillNull_0 0 rfl rfl)
theorem dJ10_fillNull_1 : decode cJ10_fillNull 1 = .ok (.iload_n 1, 1) := dk_27 (dk_at dksJ10_fillNull_0 1 rfl rfl)
theorem dJ10_fillNull_2 : decode cJ10_fillNull 2 = .ok (.iconst 1, 1) := dk_4 (dk_at dksJ10_fillNull_0 2 rfl rfl)
theorem dJ10_fillNull_3 : decode cJ10_fillNull 3 = .ok (.ishl, 1) := dk_120 (dk_at dksJ10_fillNull_0 3 rfl rfl)
theorem dJ10_fillNull_4 : decode cJ10_fillNull 4 = .ok (.iload_n 2, 1) := dk_28 (dk_at dksJ10_fillNull_0 4 rfl rfl)
theorem dJ10_fillNull_5 : decode cJ10_fillNull 5 = .ok (.iconst 1, 1) := dk_4 (dk_at dksJ10_fillNull_0 5 rfl rfl)
theorem dJ10_fillNull_6 : decode cJ10_fillNull 6 = .ok (.ishl, 1) := dk_120 (dk_at dksJ10_fillNull_0 6 rfl rfl)
theorem dJ10_fillNull_7 : decode cJ10_fillNull 7 = .ok (.iconst 0, 1) := dk_3 (dk_at dksJ10_fillNull_0 7 rfl rfl)
theorem dJ10_fillNull_8 : decode cJ10_fillNull 8 = .ok (.invokestatic 380, 3) := dk_184 1 124 (dk_at dksJ10_fillNull_0 8 rfl rfl)
theorem dJ10_fillNull_11 : decode cJ10_fillNull 11 = .ok (.return_, 1) := dk_177 (dk_at dksJ10_fillNull_0 11 rfl rfl)
theorem q86 : (Jvm.Cond.initialized "java/lang/StringUTF16") ∈ lw_all := lw_g (lw_at lw_m1 14 rfl) rfl
theorem q337 : (Jvm.Cond.static ({ cls := "java/lang/StringUTF16", name := "newBytesFor", desc := "(I)[B" } : Jvm.MethodName)) ∈ lw_all := lw_g (lw_at lw_m2 25 rfl) rfl
theorem q338 : (Jvm.Cond.code ({ cls := "java/lang/StringUTF16", name := "newBytesFor", desc := "(I)[B" } : Jvm.MethodName) prog_53_method_2_code (1 : Nat) (Option.some (Jvm.ClassFile.FieldType.array Jvm.ClassFile.FieldType.byte))) ∈ lw_all := lw_g (lw_at lw_m2 26 rfl) rfl
theorem q339 : (Jvm.Cond.methodLink "java/lang/StringUTF16" (11 : Nat) ({ cls := "java/lang/StringUTF16", name := "newBytesLength", desc := "(I)I" } : Jvm.MethodName)) ∈ lw_all := lw_g (lw_at lw_m2 27 rfl) rfl
theorem q340 : (Jvm.Cond.static ({ cls := "java/lang/StringUTF16", name := "newBytesLength", desc := "(I)I" } : Jvm.MethodName)) ∈ lw_all := lw_g (lw_at lw_m2 28 rfl) rfl
theorem q341 : (Jvm.Cond.code ({ cls := "java/lang/StringUTF16", name := "newBytesLength", desc := "(I)I" } : Jvm.MethodName) prog_53_method_3_code (1 : Nat) (Option.some Jvm.ClassFile.FieldType.int)) ∈ lw_all := lw_g (lw_at lw_m2 29 rfl) rfl
theorem q342 : (Jvm.Cond.constant "java/lang/StringUTF16" (20 : Nat) (1073741823 : Int32)) ∈ lw_all := lw_g (lw_at lw_m2 30 rfl) rfl
theorem q857 : (Jvm.Cond.static ({ cls := "java/lang/StringUTF16", name := "getChar", desc := "([BI)C" } : Jvm.MethodName)) ∈ lw_all := lw_g (lw_at lw_m4 65 rfl) rfl
theorem q858 : (Jvm.Cond.code ({ cls := "java/lang/StringUTF16", name := "getChar", desc := "([BI)C" } : Jvm.MethodName) prog_53_method_5_code (2 : Nat) (Option.some Jvm.ClassFile.FieldType.char)) ∈ lw_all := lw_g (lw_at lw_m4 66 rfl) rfl
theorem q859 : (Jvm.Cond.fieldLink "java/lang/StringUTF16" (44 : Nat) "java/lang/StringUTF16" "$assertionsDisabled" "Z") ∈ lw_all := lw_g (lw_at lw_m4 67 rfl) rfl
theorem q860 : (Jvm.Cond.laysStatic "java/lang/StringUTF16" "$assertionsDisabled" "Z") ∈ lw_tbl := lw_at lw_m4 68 rfl
theorem q861 : (Jvm.Cond.methodLink "java/lang/StringUTF16" (48 : Nat) ({ cls := "java/lang/StringUTF16", name := "length", desc := "([B)I" } : Jvm.MethodName)) ∈ lw_all := lw_g (lw_at lw_m4 69 rfl) rfl
theorem q862 : (Jvm.Cond.static ({ cls := "java/lang/StringUTF16", name := "length", desc := "([B)I" } : Jvm.MethodName)) ∈ lw_all := lw_g (lw_at lw_m4 70 rfl) rfl
theorem q863 : (Jvm.Cond.code ({ cls := "java/lang/StringUTF16", name := "length", desc := "([B)I" } : Jvm.MethodName) prog_53_method_6_code (1 : Nat) (Option.some Jvm.ClassFile.FieldType.int)) ∈ lw_all := lw_g (lw_at lw_m4 71 rfl) rfl
theorem q864 : (Jvm.Cond.fieldLink "java/lang/StringUTF16" (59 : Nat) "java/lang/StringUTF16" "HI_BYTE_SHIFT" "I") ∈ lw_all := lw_g (lw_at lw_m4 72 rfl) rfl
theorem q865 : (Jvm.Cond.laysStatic "java/lang/StringUTF16" "HI_BYTE_SHIFT" "I") ∈ lw_tbl := lw_at lw_m4 73 rfl
theorem q866 : (Jvm.Cond.fieldLink "java/lang/StringUTF16" (63 : Nat) "java/lang/StringUTF16" "LO_BYTE_SHIFT" "I") ∈ lw_all := lw_g (lw_at lw_m4 74 rfl) rfl
theorem q867 : (Jvm.Cond.laysStatic "java/lang/StringUTF16" "LO_BYTE_SHIFT" "I") ∈ lw_tbl := lw_at lw_m4 75 rfl
theorem q932 : (Jvm.Cond.static ({ cls := "java/lang/StringUTF16", name := "putCharsAt", desc := "([BICCCC)I" } : Jvm.MethodName)) ∈ lw_all := lw_g (lw_at lw_m4 140 rfl) rfl
theorem q933 : (Jvm.Cond.code ({ cls := "java/lang/StringUTF16", name := "putCharsAt", desc := "([BICCCC)I" } : Jvm.MethodName) prog_53_method_81_code (7 : Nat) (Option.some Jvm.ClassFile.FieldType.int)) ∈ lw_all := lw_g (lw_at lw_m4 141 rfl) rfl
theorem q934 : (Jvm.Cond.methodLink "java/lang/StringUTF16" (96 : Nat) ({ cls := "java/lang/StringUTF16", name := "checkBoundsBeginEnd", desc := "(II[B)V" } : Jvm.MethodName)) ∈ lw_all := lw_g (lw_at lw_m4 142 rfl) rfl
theorem q935 : (Jvm.Cond.static ({ cls := "java/lang/StringUTF16", name := "checkBoundsBeginEnd", desc := "(II[B)V" } : Jvm.MethodName)) ∈ lw_all := lw_g (lw_at lw_m4 143 rfl) rfl
theorem q936 : (Jvm.Cond.code ({ cls := "java/lang/StringUTF16", name := "checkBoundsBeginEnd", desc := "(II[B)V" } : Jvm.MethodName) prog_53_method_93_code (3 : Nat) (Option.none : Option Jvm.ClassFile.FieldType)) ∈ lw_all := lw_g (lw_at lw_m4 144 rfl) rfl
theorem q937 : (Jvm.Cond.methodLink "java/lang/StringUTF16" (241 : Nat) ({ cls := "java/lang/String", name := "checkBoundsBeginEnd", desc := "(III)V" } : Jvm.MethodName)) ∈ lw_all := lw_g (lw_at lw_m4 145 rfl) rfl
theorem q945 : (Jvm.Cond.methodLink "java/lang/StringUTF16" (111 : Nat) ({ cls := "java/lang/StringUTF16", name := "putChar", desc := "([BII)V" } : Jvm.MethodName)) ∈ lw_all := lw_g (lw_at lw_m4 153 rfl) rfl
theorem q946 : (Jvm.Cond.static ({ cls := "java/lang/StringUTF16", name := "putChar", desc := "([BII)V" } : Jvm.MethodName)) ∈ lw_all := lw_g (lw_at lw_m4 154 rfl) rfl
theorem q947 : (Jvm.Cond.code ({ cls := "java/lang/StringUTF16", name := "putChar", desc := "([BII)V" } : Jvm.MethodName) prog_53_method_4_code (3 : Nat) (Option.none : Option Jvm.ClassFile.FieldType)) ∈ lw_all := lw_g (lw_at lw_m4 155 rfl) rfl
theorem q973 : (Jvm.Cond.static ({ cls := "java/lang/StringUTF16", name := "inflate", desc := "([BI[BII)V" } : Jvm.MethodName)) ∈ lw_all := lw_g (lw_at lw_m4 181 rfl) rfl
theorem q974 : (Jvm.Cond.code ({ cls := "java/lang/StringUTF16", name := "inflate", desc := "([BI[BII)V" } : Jvm.MethodName) prog_53_method_86_code (6 : Nat) (Option.none : Option Jvm.ClassFile.FieldType)) ∈ lw_all := lw_g (lw_at lw_m4 182 rfl) rfl
theorem q975 : (Jvm.Cond.methodLink "java/lang/StringUTF16" (173 : Nat) ({ cls := "java/lang/StringUTF16", name := "checkBoundsOffCount", desc := "(II[B)V" } : Jvm.MethodName)) ∈ lw_all := lw_g (lw_at lw_m4 183 rfl) rfl
theorem q976 : (Jvm.Cond.static ({ cls := "java/lang/StringUTF16", name := "checkBoundsOffCount", desc := "(II[B)V" } : Jvm.MethodName)) ∈ lw_all := lw_g (lw_at lw_m4 184 rfl) rfl
theorem q977 : (Jvm.Cond.code ({ cls := "java/lang/StringUTF16", name := "checkBoundsOffCount", desc := "(II[B)V" } : Jvm.MethodName) prog_53_method_94_code (3 : Nat) (Option.none : Option Jvm.ClassFile.FieldType)) ∈ lw_all := lw_g (lw_at lw_m4 185 rfl) rfl
theorem q978 : (Jvm.Cond.methodLink "java/lang/StringUTF16" (419 : Nat) ({ cls := "java/lang/String", name := "checkBoundsOffCount", desc := "(III)I" } : Jvm.MethodName)) ∈ lw_all := lw_g (lw_at lw_m4 186 rfl) rfl
theorem q1008 : (Jvm.Cond.static ({ cls := "java/lang/StringUTF16", name := "getChars", desc := "(III[B)I" } : Jvm.MethodName)) ∈ lw_all := lw_g (lw_at lw_m4 216 rfl) rfl
theorem q1009 : (Jvm.Cond.code ({ cls := "java/lang/StringUTF16", name := "getChars", desc := "(III[B)I" } : Jvm.MethodName) prog_53_method_77_code (5 : Nat) (Option.some Jvm.ClassFile.FieldType.int)) ∈ lw_all := lw_g (lw_at lw_m4 217 rfl) rfl
theorem q1010 : (Jvm.Cond.methodLink "java/lang/StringUTF16" (393 : Nat) ({ cls := "java/lang/StringUTF16", name := "getChars", desc := "(II[B)I" } : Jvm.MethodName)) ∈ lw_all := lw_g (lw_at lw_m4 218 rfl) rfl
theorem q1011 : (Jvm.Cond.static ({ cls := "java/lang/StringUTF16", name := "getChars", desc := "(II[B)I" } : Jvm.MethodName)) ∈ lw_all := lw_g (lw_at lw_m4 219 rfl) rfl
theorem q1012 : (Jvm.Cond.code ({ cls := "java/lang/StringUTF16", name := "getChars", desc := "(II[B)I" } : Jvm.MethodName) prog_53_method_89_code (7 : Nat) (Option.some Jvm.ClassFile.FieldType.int)) ∈ lw_all := lw_g (lw_at lw_m4 220 rfl) rfl
theorem q1013 : (Jvm.Cond.fieldLink "java/lang/StringUTF16" (403 : Nat) "java/lang/Integer" "DigitOnes" "[B") ∈ lw_all := lw_g (lw_at lw_m4 221 rfl) rfl
theorem q1014 : (Jvm.Cond.fieldLink "java/lang/StringUTF16" (407 : Nat) "java/lang/Integer" "DigitTens" "[B") ∈ lw_all := lw_g (lw_at lw_m4 222 rfl) rfl
theorem q1073 : (Jvm.Cond.static ({ cls := "java/lang/StringUTF16", name := "compress", desc := "([BII)[B" } : Jvm.MethodName)) ∈ lw_all := lw_g (lw_at lw_m5 41 rfl) rfl
theorem q1074 : (Jvm.Cond.code ({ cls := "java/lang/StringUTF16", name := "compress", desc := "([BII)[B" } : Jvm.MethodName) prog_53_method_17_code (6 : Nat) (Option.some (Jvm.ClassFile.FieldType.array Jvm.ClassFile.FieldType.byte))) ∈ lw_all := lw_g (lw_at lw_m5 42 rfl) rfl
theorem q1075 : (Jvm.Cond.methodLink "java/lang/StringUTF16" (123 : Nat) ({ cls := "java/lang/StringUTF16", name := "compress", desc := "([BI[BII)I" } : Jvm.MethodName)) ∈ lw_all := lw_g (lw_at lw_m5 43 rfl) rfl
theorem q1076 : (Jvm.Cond.static ({ cls := "java/lang/StringUTF16", name := "compress", desc := "([BI[BII)I" } : Jvm.MethodName)) ∈ lw_all := lw_g (lw_at lw_m5 44 rfl) rfl
theorem q1077 : (Jvm.Cond.code ({ cls := "java/lang/StringUTF16", name := "compress", desc := "([BI[BII)I" } : Jvm.MethodName) prog_53_method_22_code (7 : Nat) (Option.some Jvm.ClassFile.FieldType.int)) ∈ lw_all := lw_g (lw_at lw_m5 45 rfl) rfl
theorem q1078 : (Jvm.Cond.methodLink "java/lang/StringUTF16" (71 : Nat) ({ cls := "java/lang/StringUTF16", name := "getChar", desc := "([BI)C" } : Jvm.MethodName)) ∈ lw_all := lw_g (lw_at lw_m5 46 rfl) rfl
theorem q1079 : (Jvm.Cond.methodLink "java/lang/StringUTF16" (126 : Nat) ({ cls := "java/util/Arrays", name := "copyOfRange", desc := "([BII)[B" } : Jvm.MethodName)) ∈ lw_all := lw_g (lw_at lw_m5 47 rfl) rfl
theorem q1081 : (Jvm.Cond.static ({ cls := "java/lang/StringUTF16", name := "coderFromArrayLen", desc := "([BI)B" } : Jvm.MethodName)) ∈ lw_all := lw_g (lw_at lw_m5 49 rfl) rfl
theorem q1082 : (Jvm.Cond.code ({ cls := "java/lang/StringUTF16", name := "coderFromArrayLen", desc := "([BI)B" } : Jvm.MethodName) prog_53_method_15_code (2 : Nat) (Option.some Jvm.ClassFile.FieldType.byte)) ∈ lw_all := lw_g (lw_at lw_m5 50 rfl) rfl
theorem q1098 : (Jvm.Cond.static ({ cls := "java/lang/StringUTF16", name := "hashCode", desc := "([B)I" } : Jvm.MethodName)) ∈ lw_all := lw_g (lw_at lw_m5 66 rfl) rfl
theorem q1099 : (Jvm.Cond.code ({ cls := "java/lang/StringUTF16", name := "hashCode", desc := "([B)I" } : Jvm.MethodName) prog_53_method_39_code (1 : Nat) (Option.some Jvm.ClassFile.FieldType.int)) ∈ lw_all := lw_g (lw_at lw_m5 67 rfl) rfl
theorem q1100 : (Jvm.Cond.methodLink "java/lang/StringUTF16" (220 : Nat) ({ cls := "jdk/internal/util/ArraysSupport", name := "vectorizedHashCode", desc := "(Ljava/lang/Object;IIII)I" } : Jvm.MethodName)) ∈ lw_all := lw_g (lw_at lw_m5 68 rfl) rfl
theorem q1326 : (Jvm.Cond.static ({ cls := "java/lang/StringUTF16", name := "compareTo", desc := "([B[B)I" } : Jvm.MethodName)) ∈ lw_all := lw_g (lw_at lw_m6 54 rfl) rfl
theorem q1327 : (Jvm.Cond.code ({ cls := "java/lang/StringUTF16", name := "compareTo", desc := "([B[B)I" } : Jvm.MethodName) prog_53_method_29_code (4 : Nat) (Option.some Jvm.ClassFile.FieldType.int)) ∈ lw_all := lw_g (lw_at lw_m6 55 rfl) rfl
theorem q1328 : (Jvm.Cond.methodLink "java/lang/StringUTF16" (176 : Nat) ({ cls := "java/lang/StringUTF16", name := "compareValues", desc := "([B[BII)I" } : Jvm.MethodName)) ∈ lw_all := lw_g (lw_at lw_m6 56 rfl) rfl
theorem q1329 : (Jvm.Cond.static ({ cls := "java/lang/StringUTF16", name := "compareValues", desc := "([B[BII)I" } : Jvm.MethodName)) ∈ lw_all := lw_g (lw_at lw_m6 57 rfl) rfl
theorem q1330 : (Jvm.Cond.code ({ cls := "java/lang/StringUTF16", name := "compareValues", desc := "([B[BII)I" } : Jvm.MethodName) prog_53_method_31_code (8 : Nat) (Option.some Jvm.ClassFile.FieldType.int)) ∈ lw_all := lw_g (lw_at lw_m6 58 rfl) rfl
theorem q1331 : (Jvm.Cond.methodLink "java/lang/StringUTF16" (183 : Nat) ({ cls := "java/lang/Math", name := "min", desc := "(II)I" } : Jvm.MethodName)) ∈ lw_all := lw_g (lw_at lw_m6 59 rfl) rfl
theorem q1344 : (Jvm.Cond.static ({ cls := "java/lang/StringUTF16", name := "compareToLatin1", desc := "([B[B)I" } : Jvm.MethodName)) ∈ lw_all := lw_g (lw_at lw_m6 72 rfl) rfl
theorem q1345 : (Jvm.Cond.code ({ cls := "java/lang/StringUTF16", name := "compareToLatin1", desc := "([B[B)I" } : Jvm.MethodName) prog_53_method_32_code (2 : Nat) (Option.some Jvm.ClassFile.FieldType.int)) ∈ lw_all := lw_g (lw_at lw_m6 73 rfl) rfl
theorem q1346 : (Jvm.Cond.methodLink "java/lang/StringUTF16" (189 : Nat) ({ cls := "java/lang/StringLatin1", name := "compareToUTF16", desc := "([B[B)I" } : Jvm.MethodName)) ∈ lw_all := lw_g (lw_at lw_m6 74 rfl) rfl
theorem q1363 : (Jvm.Cond.static ({ cls := "java/lang/StringUTF16", name := "compareTo", desc := "([B[BII)I" } : Jvm.MethodName)) ∈ lw_all := lw_g (lw_at lw_m6 91 rfl) rfl
theorem q1364 : (Jvm.Cond.code ({ cls := "java/lang/StringUTF16", name := "compareTo", desc := "([B[BII)I" } : Jvm.MethodName) prog_53_method_30_code (4 : Nat) (Option.some Jvm.ClassFile.FieldType.int)) ∈ lw_all := lw_g (lw_at lw_m6 92 rfl) rfl
theorem q1365 : (Jvm.Cond.methodLink "java/lang/StringUTF16" (180 : Nat) ({ cls := "java/lang/StringUTF16", name := "checkOffset", desc := "(I[B)V" } : Jvm.MethodName)) ∈ lw_all := lw_g (lw_at lw_m6 93 rfl) rfl
theorem q1366 : (Jvm.Cond.static ({ cls := "java/lang/StringUTF16", name := "checkOffset", desc := "(I[B)V" } : Jvm.MethodName)) ∈ lw_all := lw_g (lw_at lw_m6 94 rfl) rfl
theorem q1367 : (Jvm.Cond.code ({ cls := "java/lang/StringUTF16", name := "checkOffset", desc := "(I[B)V" } : Jvm.MethodName) prog_53_method_92_code (2 : Nat) (Option.none : Option Jvm.ClassFile.FieldType)) ∈ lw_all := lw_g (lw_at lw_m6 95 rfl) rfl
theorem q1368 : (Jvm.Cond.methodLink "java/lang/StringUTF16" (417 : Nat) ({ cls := "java/lang/String", name := "checkOffset", desc := "(II)V" } : Jvm.MethodName)) ∈ lw_all := lw_g (lw_at lw_m6 96 rfl) rfl
theorem q1376 : (Jvm.Cond.static ({ cls := "java/lang/StringUTF16", name := "compareToLatin1", desc := "([B[BII)I" } : Jvm.MethodName)) ∈ lw_all := lw_g (lw_at lw_m6 104 rfl) rfl
theorem q1377 : (Jvm.Cond.code ({ cls := "java/lang/StringUTF16", name := "compareToLatin1", desc := "([B[BII)I" } : Jvm.MethodName) prog_53_method_33_code (4 : Nat) (Option.some Jvm.ClassFile.FieldType.int)) ∈ lw_all := lw_g (lw_at lw_m6 105 rfl) rfl
theorem q1378 : (Jvm.Cond.methodLink "java/lang/StringUTF16" (193 : Nat) ({ cls := "java/lang/StringLatin1", name := "compareToUTF16", desc := "([B[BII)I" } : Jvm.MethodName)) ∈ lw_all := lw_g (lw_at lw_m6 106 rfl) rfl
theorem q2766 : (Jvm.Cond.static ({ cls := "java/lang/StringUTF16", name := "charAt", desc := "([BI)C" } : Jvm.MethodName)) ∈ lw_all := lw_g (lw_at lw_m12 54 rfl) rfl
theorem q2767 : (Jvm.Cond.code ({ cls := "java/lang/StringUTF16", name := "charAt", desc := "([BI)C" } : Jvm.MethodName) prog_53_method_83_code (2 : Nat) (Option.some Jvm.ClassFile.FieldType.char)) ∈ lw_all := lw_g (lw_at lw_m12 55 rfl) rfl
theorem q2768 : (Jvm.Cond.methodLink "java/lang/StringUTF16" (67 : Nat) ({ cls := "java/lang/StringUTF16", name := "checkIndex", desc := "(I[B)V" } : Jvm.MethodName)) ∈ lw_all := lw_g (lw_at lw_m12 56 rfl) rfl
theorem q2769 : (Jvm.Cond.static ({ cls := "java/lang/StringUTF16", name := "checkIndex", desc := "(I[B)V" } : Jvm.MethodName)) ∈ lw_all := lw_g (lw_at lw_m12 57 rfl) rfl
theorem q2770 : (Jvm.Cond.code ({ cls := "java/lang/StringUTF16", name := "checkIndex", desc := "(I[B)V" } : Jvm.MethodName) prog_53_method_91_code (2 : Nat) (Option.none : Option Jvm.ClassFile.FieldType)) ∈ lw_all := lw_g (lw_at lw_m12 58 rfl) rfl
theorem q2771 : (Jvm.Cond.methodLink "java/lang/StringUTF16" (414 : Nat) ({ cls := "java/lang/String", name := "checkIndex", desc := "(II)V" } : Jvm.MethodName)) ∈ lw_all := lw_g (lw_at lw_m12 59 rfl) rfl
theorem q2931 : (Jvm.Cond.static ({ cls := "java/lang/StringUTF16", name := "putCharSB", desc := "([BII)V" } : Jvm.MethodName)) ∈ lw_all := lw_g (lw_at lw_m12 219 rfl) rfl
theorem q2932 : (Jvm.Cond.code ({ cls := "java/lang/StringUTF16", name := "putCharSB", desc := "([BII)V" } : Jvm.MethodName) prog_53_method_71_code (3 : Nat) (Option.none : Option Jvm.ClassFile.FieldType)) ∈ lw_all := lw_g (lw_at lw_m12 220 rfl) rfl
theorem q2990 : (Jvm.Cond.static ({ cls := "java/lang/StringUTF16", name := "newString", desc := "([BII)Ljava/lang/String;" } : Jvm.MethodName)) ∈ lw_all := lw_g (lw_at lw_m13 38 rfl) rfl
theorem q2991 : (Jvm.Cond.code ({ cls := "java/lang/StringUTF16", name := "newString", desc := "([BII)Ljava/lang/String;" } : Jvm.MethodName) prog_53_method_69_code (5 : Nat) (Option.some (Jvm.ClassFile.FieldType.object "java/lang/String"))) ∈ lw_all := lw_g (lw_at lw_m13 39 rfl) rfl
theorem q2992 : (Jvm.Cond.stringRef "java/lang/StringUTF16" (295 : Nat) "") ∈ lw_tbl := lw_at lw_m13 40 rfl
theorem q2993 : (Jvm.Cond.fieldLink "java/lang/StringUTF16" (251 : Nat) "java/lang/String" "COMPACT_STRINGS" "Z") ∈ lw_all := lw_g (lw_at lw_m13 41 rfl) rfl
theorem q2994 : (Jvm.Cond.methodLink "java/lang/StringUTF16" (257 : Nat) ({ cls := "java/lang/StringUTF16", name := "compress", desc := "([BII)[B" } : Jvm.MethodName)) ∈ lw_all := lw_g (lw_at lw_m13 42 rfl) rfl
theorem q2995 : (Jvm.Cond.methodLink "java/lang/StringUTF16" (259 : Nat) ({ cls := "java/lang/StringUTF16", name := "coderFromArrayLen", desc := "([BI)B" } : Jvm.MethodName)) ∈ lw_all := lw_g (lw_at lw_m13 43 rfl) rfl
theorem q2996 : (Jvm.Cond.classLink "java/lang/StringUTF16" (3 : Nat) "java/lang/String") ∈ lw_all := lw_g (lw_at lw_m13 44 rfl) rfl
theorem q2997 : (Jvm.Cond.methodLink "java/lang/StringUTF16" (263 : Nat) ({ cls := "java/lang/String", name := "<init>", desc := "([BB)V" } : Jvm.MethodName)) ∈ lw_all := lw_g (lw_at lw_m13 45 rfl) rfl
theorem q3041 : (Jvm.Cond.static ({ cls := "java/lang/StringUTF16", name := "indexOf", desc := "([B[B)I" } : Jvm.MethodName)) ∈ lw_all := lw_g (lw_at lw_m13 89 rfl) rfl
theorem q3042 : (Jvm.Cond.code ({ cls := "java/lang/StringUTF16", name := "indexOf", desc := "([B[B)I" } : Jvm.MethodName) prog_53_method_41_code (2 : Nat) (Option.some Jvm.ClassFile.FieldType.int)) ∈ lw_all := lw_g (lw_at lw_m13 90 rfl) rfl
theorem q3043 : (Jvm.Cond.methodLink "java/lang/StringUTF16" (235 : Nat) ({ cls := "java/lang/StringUTF16", name := "indexOfUnsafe", desc := "([BI[BII)I" } : Jvm.MethodName)) ∈ lw_all := lw_g (lw_at lw_m13 91 rfl) rfl
theorem q3044 : (Jvm.Cond.static ({ cls := "java/lang/StringUTF16", name := "indexOfUnsafe", desc := "([BI[BII)I" } : Jvm.MethodName)) ∈ lw_all := lw_g (lw_at lw_m13 92 rfl) rfl
theorem q3045 : (Jvm.Cond.code ({ cls := "java/lang/StringUTF16", name := "indexOfUnsafe", desc := "([BI[BII)I" } : Jvm.MethodName) prog_53_method_43_code (11 : Nat) (Option.some Jvm.ClassFile.FieldType.int)) ∈ lw_all := lw_g (lw_at lw_m13 93 rfl) rfl
theorem q3047 : (Jvm.Cond.static ({ cls := "java/lang/StringUTF16", name := "indexOfLatin1", desc := "([B[B)I" } : Jvm.MethodName)) ∈ lw_all := lw_g (lw_at lw_m13 95 rfl) rfl
theorem q3048 : (Jvm.Cond.code ({ cls := "java/lang/StringUTF16", name := "indexOfLatin1", desc := "([B[B)I" } : Jvm.MethodName) prog_53_method_44_code (2 : Nat) (Option.some Jvm.ClassFile.FieldType.int)) ∈ lw_all := lw_g (lw_at lw_m13 96 rfl) rfl
theorem q3049 : (Jvm.Cond.methodLink "java/lang/StringUTF16" (238 : Nat) ({ cls := "java/lang/StringUTF16", name := "indexOfLatin1Unsafe", desc := "([BI[BII)I" } : Jvm.MethodName)) ∈ lw_all := lw_g (lw_at lw_m13 97 rfl) rfl
theorem q3050 : (Jvm.Cond.static ({ cls := "java/lang/StringUTF16", name := "indexOfLatin1Unsafe", desc := "([BI[BII)I" } : Jvm.MethodName)) ∈ lw_all := lw_g (lw_at lw_m13 98 rfl) rfl
theorem q3051 : (Jvm.Cond.code ({ cls := "java/lang/StringUTF16", name := "indexOfLatin1Unsafe", desc := "([BI[BII)I" } : Jvm.MethodName) prog_53_method_46_code (11 : Nat) (Option.some Jvm.ClassFile.FieldType.int)) ∈ lw_all := lw_g (lw_at lw_m13 99 rfl) rfl
theorem q3196 : (Jvm.Cond.static ({ cls := "java/lang/StringUTF16", name := "fillNull", desc := "([BII)V" } : Jvm.MethodName)) ∈ lw_all := lw_g (lw_at lw_m14 4 rfl) rfl
theorem q3197 : (Jvm.Cond.code ({ cls := "java/lang/StringUTF16", name := "fillNull", desc := "([BII)V" } : Jvm.MethodName) prog_53_method_70_code (3 : Nat) (Option.none : Option Jvm.ClassFile.FieldType)) ∈ lw_all := lw_g (lw_at lw_m14 5 rfl) rfl
theorem q3198 : (Jvm.Cond.methodLink "java/lang/StringUTF16" (380 : Nat) ({ cls := "java/util/Arrays", name := "fill", desc := "([BIIB)V" } : Jvm.MethodName)) ∈ lw_all := lw_g (lw_at lw_m14 6 rfl) rfl

