/-! java/lang/StringLatin1 -/
set_option maxRecDepth 100000
def RJ26 : String := "java/lang/StringLatin1"
abbrev cJ26_hashCode : ByteArray := prog_52_method_21_code
def yJ26_hashCode : MethodName := ⟨RJ26, "hashCode", "([B)I"⟩
def dkwJ26_hashCode_2 : List UInt8 := [3, 167, 0, 22, 42, 3, 51, 17, 0, 255, 126, 167, 0, 12, 42, 3, 42, 190, 3, 7, 184, 0, 84, 172]
abbrev dktJ26_hashCode_2 : List UInt8 := dkwJ26_hashCode_2 ++ []
def dkwJ26_hashCode_1 : List UInt8 := [171, 0, 0, 0, 0, 40, 0, 0, 0, 2, 0, 0, 0, 0, 0, 0, 0, 26, 0, 0, 0, 1, 0, 0, 0, 30]
abbrev dktJ26_hashCode_1 : List UInt8 := dkwJ26_hashCode_1 ++ dktJ26_hashCode_2
def dkwJ26_hashCode_0 : List UInt8 := [42, 190]
abbrev dktJ26_hashCode_0 : List UInt8 := dkwJ26_hashCode_0 ++ dktJ26_hashCode_1
theorem dksJ26_hashCode_0 : cJ26_hashCode.data.toList.drop 0 = dktJ26_hashCode_0 := by decide +kernel
theorem dksJ26_hashCode_1 : cJ26_hashCode.data.toList.drop 2 = dktJ26_hashCode_1 := dk_seg dksJ26_hashCode_0 2 rfl rfl
theorem dksJ26_hashCode_2 : cJ26_hashCode.data.toList.drop 28 = dktJ26_hashCode_2 := dk_seg dksJ26_hashCode_1 26 rfl rfl
theorem dJ26_hashCode_0 : decode cJ26_hashCode 0 = .ok (.aload_n 0, 1) := dk_42 (dk_at dksJ26_hashCode_0 0 rfl rfl)
theorem dJ26_hashCode_1 : decode cJ26_hashCode 1 = .ok (.arraylength, 1) := dk_190 (dk_at dksJ26_hashCode_0 1 rfl rfl)
theorem dJ26_hashCode_2 : decode cJ26_hashCode 2 = .ok (.lookupswitch 40 #[(0, 26), (1, 30)], 26) := by decide +kernel
theorem dJ26_hashCode_28 : decode cJ26_hashCode 28 = .ok (.iconst 0, 1) := dk_3 (dk_at dksJ26_hashCode_2 0 rfl rfl)
theorem dJ26_hashCode_29 : decode cJ26_hashCode 29 = .ok (.goto 22, 3) := dk_167 0 22 (dk_at dksJ26_hashCode_2 1 rfl rfl)
theorem dJ26_hashCode_32 : decode cJ26_hashCode 32 = .ok (.aload_n 0, 1) := dk_42 (dk_at dksJ26_hashCode_2 4 rfl rfl)
theorem dJ26_hashCode_33 : decode cJ26_hashCode 33 = .ok (.iconst 0, 1) := dk_3 (dk_at dksJ26_hashCode_2 5 rfl rfl)
theorem dJ26_hashCode_34 : decode cJ26_hashCode 34 = .ok (.baload, 1) := dk_51 (dk_at dksJ26_hashCode_2 6 rfl rfl)
theorem dJ26_hashCode_35 : decode cJ26_hashCode 35 = .ok (.sipush 255, 3) := dk_17 0 255 (dk_at dksJ26_hashCode_2 7 rfl rfl)
theorem dJ26_hashCode_38 : decode cJ26_hashCode 38 = .ok (.iand, 1) := dk_126 (dk_at dksJ26_hashCode_2 10 rfl rfl)
theorem dJ26_hashCode_39 : decode cJ26_hashCode 39 = .ok (.goto 12, 3) := dk_167 0 12 (dk_at dksJ26_hashCode_2 11 rfl rfl)
theorem dJ26_hashCode_42 : decode cJ26_hashCode 42 = .ok (.aload_n 0, 1) := dk_42 (dk_at dksJ26_hashCode_2 14 rfl rfl)
theorem dJ26_hashCode_43 : decode cJ26_hashCode 43 = .ok (.iconst 0, 1) := dk_3 (dk_at dksJ26_hashCode_2 15 rfl rfl)
theorem dJ26_hashCode_44 : decode cJ26_hashCode 44 = .ok (.aload_n 0, 1) := dk_42 (dk_at dksJ26_hashCode_2 16 rfl rfl)
theorem dJ26_hashCode_45 : decode cJ26_hashCode 45 = .ok (.arraylength, 1) := dk_190 (dk_at dksJ26_hashCode_2 17 rfl rfl)
theorem dJ26_hashCode_46 : decode cJ26_hashCode 46 = .ok (.iconst 0, 1) := dk_3 (dk_at dksJ26_hashCode_2 18 rfl rfl)
theorem dJ26_hashCode_47 : decode cJ26_hashCode 47 = .ok (.iconst 4, 1) := dk_7 (dk_at dksJ26_hashCode_2 19 rfl rfl)
theorem dJ26_hashCode_48 : decode cJ26_hashCode 48 = .ok (.invokestatic 84, 3) := dk_184 0 84 (dk_at dksJ26_hashCode_2 20 rfl rfl)
theorem dJ26_hashCode_51 : decode cJ26_hashCode 51 = .ok (.ireturn, 1) := dk_172 (dk_at dksJ26_hashCode_2 23 rfl rfl)
abbrev cJ26_inflate : ByteArray := prog_52_method_50_code
def yJ26_inflate : MethodName := ⟨RJ26, "inflate", "([BI[BII)V"⟩
def dkwJ26_inflate_0 : List UInt8 := [42, 27, 44, 29, 21, 4, 184, 0, 240, 177]
abbrev dktJ26_inflate_0 : List UInt8 := dkwJ26_inflate_0 ++ []
theorem dksJ26_inflate_0 : cJ26_inflate.data.toList.drop 0 = dktJ26_inflate_0 := by decide +kernel
theorem dJ26_inflate_0 : decode cJ26_inflate 0 = .ok (.aload_n 0, 1) := dk_42 (dk_at dksJ26_inflate_0 0 rfl rfl)
theorem dJ26_inflate_1 : decode cJ26_inflate 1 = .ok (.iload_n 1, 1) := dk_27 (dk_at dksJ26_inflate_0 1 rfl rfl)
theorem dJ26_inflate_2 : decode cJ26_inflate 2 = .ok (.aload_n 2, 1) := dk_44 (dk_at dksJ26_inflate_0 2 rfl rfl)
theorem dJ26_inflate_3 : decode cJ26_inflate 3 = .ok (.iload_n 3, 1) := dk_29 (dk_at dksJ26_inflate_0 3 rfl rfl)
theorem dJ26_inflate_4 : decode cJ26_inflate 4 = .ok (.iload 4, 2) := dk_21 4 (dk_at dksJ26_inflate_0 4 rfl rfl)
theorem dJ26_inflate_6 : decode cJ26_inflate 6 = .ok (.invokestatic 240, 3) := dk_184 0 240 (dk_at dksJ26_inflate_0 6 rfl rfl)
theorem dJ26_inflate_9 : decode cJ26_inflate 9 = .ok (.return_, 1) := dk_177 (dk_at dksJ26_inflate_0 9 rfl rfl)
abbrev cJ26_equals : ByteArray := prog_52_method_13_code
def yJ26_equals : MethodName := ⟨RJ26, "equals", "([B[B)Z"⟩
def dkwJ26_equals_1 : List UInt8 := [3, 172, 132, 2, 1, 167, 255, 236, 4, 172, 3, 172]
abbrev dktJ26_equals_1 : List UInt8 := dkwJ26_equals_1 ++ []
def dkwJ26_equals_0 : List UInt8 := [42, 190, 43, 190, 160, 0, 30, 3, 61, 28, 42, 190, 162, 0, 20, 42, 28, 51, 43, 28, 51, 159, 0, 5]
abbrev dktJ26_equals_0 : List UInt8 := dkwJ26_equals_0 ++ dktJ26_equals_1
theorem dksJ26_equals_0 : cJ26_equals.data.toList.drop 0 = dktJ26_equals_0 := by decide +kernel
theorem dksJ26_equals_1 : cJ26_equals.data.toList.drop 24 = dktJ26_equals_1 := dk_seg dksJ26_equals_0 24 rfl rfl
theorem dJ26_equals_0 : decode cJ26_equals 0 = .ok (.aload_n 0, 1) := dk_42 (dk_at dksJ26_equals_0 0 rfl rfl)
theorem dJ26_equals_1 : decode cJ26_equals 1 = .ok (.arraylength, 1) := dk_190 (dk_at dksJ26_equals_0 1 rfl rfl)
theorem dJ26_equals_2 : decode cJ26_equals 2 = .ok (.aload_n 1, 1) := dk_43 (dk_at dksJ26_equals_0 2 rfl rfl)
theorem dJ26_equals_3 : decode cJ26_equals 3 = .ok (.arraylength, 1) := dk_190 (dk_at dksJ26_equals_0 3 rfl rfl)
theorem dJ26_equals_4 : decode cJ26_equals 4 = .ok (.if_icmp .ne 30, 3) := dk_160 0 30 (dk_at dksJ26_equals_0 4 rfl rfl)
theorem dJ26_equals_7 : decode cJ26_equals 7 = .ok (.iconst 0, 1) := dk_3 (dk_at dksJ26_equals_0 7 rfl rfl)
theorem dJ26_equals_8 : decode cJ26_equals 8 = .ok (.istore_n 2, 1) := dk_61 (dk_at dksJ26_equals_0 8 rfl rfl)
theorem dJ26_equals_9 : decode cJ26_equals 9 = .ok (.iload_n 2, 1) := dk_28 (dk_at dksJ26_equals_0 9 rfl rfl)
theorem dJ26_equals_10 : decode cJ26_equals 10 = .ok (.aload_n 0, 1) := dk_42 (dk_at dksJ26_equals_0 10 rfl rfl)
theorem dJ26_equals_11 : decode cJ26_equals 11 = .ok (.arraylength, 1) := dk_190 (dk_at dksJ26_equals_0 11 rfl rfl)
theorem dJ26_equals_12 : decode cJ26_equals 12 = .ok (.if_icmp .ge 20, 3) := dk_162 0 20 (dk_at dksJ26_equals_0 12 rfl rfl)
theorem dJ26_equals_15 : decode cJ26_equals 15 = .ok (.aload_n 0, 1) := dk_42 (dk_at dksJ26_equals_0 15 rfl rfl)
theorem dJ26_equals_16 : decode cJ26_equals 16 = .ok (.iload_n 2, 1) := dk_28 (dk_at dksJ26_equals_0 16 rfl rfl)
theorem dJ26_equals_17 : decode cJ26_equals 17 = .ok (.baload, 1) := dk_51 (dk_at dksJ26_equals_0 17 rfl rfl)
theorem dJ26_equals_18 : decode cJ26_equals 18 = .ok (.aload_n 1, 1) := dk_43 (dk_at dksJ26_equals_0 18 rfl rfl)
theorem dJ26_equals_19 : decode cJ26_equals 19 = .ok (.iload_n 2, 1) := dk_28 (dk_at dksJ26_equals_0 19 rfl rfl)
theorem dJ26_equals_20 : decode cJ26_equals 20 = .ok (.baload, 1) := dk_51 (dk_at dksJ26_equals_0 20 rfl rfl)
theorem dJ26_equals_21 : decode cJ26_equals 21 = .ok (.if_icmp .eq 5, 3) := dk_159 0 5 (dk_at dksJ26_equals_0 21 rfl rfl)
theorem dJ26_equals_24 : decode cJ26_equals 24 = .ok (.iconst 0, 1) := dk_3 (dk_at dksJ26_equals_1 0 rfl rfl)
theorem dJ26_equals_25 : decode cJ26_equals 25 = .ok (.ireturn, 1) := dk_172 (dk_at dksJ26_equals_1 1 rfl rfl)
theorem dJ26_equals_26 : decode cJ26_equals 26 = .ok (.iinc 2 1, 3) := dk_132 2 1 (dk_at dksJ26_equals_1 2 rfl rfl)
theorem dJ26_equals_29 : decode cJ26_equals 29 = .ok (.goto (-20), 3) := dk_167 255 236 (dk_at dksJ26_equals_1 5 rfl rfl)
theorem dJ26_equals_32 : decode cJ26_equals 32 = .ok (.iconst 1, 1) := dk_4 (dk_at dksJ26_equals_1 8 rfl rfl)
theorem dJ26_equals_33 : decode cJ26_equals 33 = .ok (.ireturn, 1) := dk_172 (dk_at dksJ26_equals_1 9 rfl rfl)
theorem dJ26_equals_34 : decode cJ26_equals 34 = .ok (.iconst 0, 1) := dk_3 (dk_at dksJ26_equals_1 10 rfl rfl)
theorem dJ26_equals_35 : decode cJ26_equals 35 = .ok (.ireturn, 1) := dk_172 (dk_at dksJ26_equals_1 11 rfl rfl)
abbrev cJ26_compareTo : ByteArray := prog_52_method_14_code
def yJ26_compareTo : MethodName := ⟨RJ26, "compareTo", "([B[B)I"⟩
def dkwJ26_compareTo_0 : List UInt8 := [42, 190, 61, 43, 190, 62, 42, 43, 28, 29, 184, 0, 34, 172]
abbrev dktJ26_compareTo_0 : List UInt8 := dkwJ26_compareTo_0 ++ []
theorem dksJ26_compareTo_0 : cJ26_compareTo.data.toList.drop 0 = dktJ26_compareTo_0 := by decide +kernel
theorem dJ26_compareTo_0 : decode cJ26_compareTo 0 = .ok (.aload_n 0, 1) := dk_42 (dk_at dksJ26_compareTo_0 0 rfl rfl)
theorem dJ26_compareTo_1 : decode cJ26_compareTo 1 = .ok (.arraylength, 1) := dk_190 (dk_at dksJ26_compareTo_0 1 rfl rfl)
theorem dJ26_compareTo_2 : decode cJ26_compareTo 2 = .ok (.istore_n 2, 1) := dk_61 (dk_at dksJ26_compareTo_0 2 rfl rfl)
theorem dJ26_compareTo_3 : decode cJ26_compareTo 3 = .ok (.aload_n 1, 1) := dk_43 (dk_at dksJ26_compareTo_0 3 rfl rfl)
theorem dJ26_compareTo_4 : decode cJ26_compareTo 4 = .ok (.arraylength, 1) := dk_190 (dk_at dksJ26_compareTo_0 4 rfl rfl)
theorem dJ26_compareTo_5 : decode cJ26_compareTo 5 = .ok (.istore_n 3, 1) := dk_62 (dk_at dksJ26_compareTo_0 5 rfl rfl)
theorem dJ26_compareTo_6 : decode cJ26_compareTo 6 = .ok (.aload_n 0, 1) := dk_42 (dk_at dksJ26_compareTo_0 6 rfl rfl)
theorem dJ26_compareTo_7 : decode cJ26_compareTo 7 = .ok (.aload_n 1, 1) := dk_43 (dk_at dksJ26_compareTo_0 7 rfl rfl)
theorem dJ26_compareTo_8 : decode cJ26_compareTo 8 = .ok (.iload_n 2, 1) := dk_28 (dk_at dksJ26_compareTo_0 8 rfl rfl)
theorem dJ26_compareTo_9 : decode cJ26_compareTo 9 = .ok (.iload_n 3, 1) := dk_29 (dk_at dksJ26_compareTo_0 9 rfl rfl)
theorem dJ26_compareTo_10 : decode cJ26_compareTo 10 = .ok (.invokestatic 34, 3) := dk_184 0 34 (dk_at dksJ26_compareTo_0 10 rfl rfl)
theorem dJ26_compareTo_13 : decode cJ26_compareTo 13 = .ok (.ireturn, 1) := dk_172 (dk_at dksJ26_compareTo_0 13 rfl rfl)
abbrev cJ26_compareTo_2 : ByteArray := prog_52_method_15_code
def yJ26_compareTo_2 : MethodName := ⟨RJ26, "compareTo", "([B[BII)I"⟩
def dkwJ26_compareTo_2_1 : List UInt8 := [167, 0, 16, 42, 21, 5, 184, 0, 50, 43, 21, 5, 184, 0, 50, 100, 172]
abbrev dktJ26_compareTo_2_1 : List UInt8 := dkwJ26_compareTo_2_1 ++ []
def dkwJ26_compareTo_2_0 : List UInt8 := [28, 29, 184, 0, 38, 54, 4, 42, 43, 21, 4, 184, 0, 44, 54, 5, 21, 5, 156, 0, 9, 28, 29, 100]
abbrev dktJ26_compareTo_2_0 : List UInt8 := dkwJ26_compareTo_2_0 ++ dktJ26_compareTo_2_1
theorem dksJ26_compareTo_2_0 : cJ26_compareTo_2.data.toList.drop 0 = dktJ26_compareTo_2_0 := by decide +kernel
theorem dksJ26_compareTo_2_1 : cJ26_compareTo_2.data.toList.drop 24 = dktJ26_compareTo_2_1 := dk_seg dksJ26_compareTo_2_0 24 rfl rfl
theorem dJ26_compareTo_2_0 : decode cJ26_compareTo_2 0 = .ok (.iload_n 2, 1) := dk_28 (dk_at dksJ26_compareTo_2_0 0 rfl rfl)
theorem dJ26_compareTo_2_1 : decode cJ26_compareTo_2 1 = .ok (.iload_n 3, 1) := dk_29 (dk_at dksJ26_compareTo_2_0 1 rfl rfl)
theorem dJ26_compareTo_2_2 : decode cJ26_compareTo_2 2 = .ok (.invokestatic 38, 3) := dk_184 0 38 (dk_at dksJ26_compareTo_2_0 2 rfl rfl)
theorem dJ26_compareTo_2_5 : decode cJ26_compareTo_2 5 = .ok (.istore 4, 2) := dk_54 4 (dk_at dksJ26_compareTo_2_0 5 rfl rfl)
theorem dJ26_compareTo_2_7 : decode cJ26_compareTo_2 7 = .ok (.aload_n 0, 1) := dk_42 (dk_at dksJ26_compareTo_2_0 7 rfl rfl)
theorem dJ26_compareTo_2_8 : decode cJ26_compareTo_2 8 = .ok (.aload_n 1, 1) := dk_43 (dk_at dksJ26_compareTo_2_0 8 rfl rfl)
theorem dJ26_compareTo_2_9 : decode cJ26_compareTo_2 9 = .ok (.iload 4, 2) := dk_21 4 (dk_at dksJ26_compareTo_2_0 9 rfl rfl)
theorem dJ26_compareTo_2_11 : decode cJ26_compareTo_2 11 = .ok (.invokestatic 44, 3) := dk_184 0 44 (dk_at dksJ26_compareTo_2_0 11 rfl rfl)
theorem dJ26_compareTo_2_14 : decode cJ26_compareTo_2 14 = .ok (.istore 5, 2) := dk_54 5 (dk_at dksJ26_compareTo_2_0 14 rfl rfl)
theorem dJ26_compareTo_2_16 : decode cJ26_compareTo_2 16 = .ok (.iload 5, 2) := dk_21 5 (dk_at dksJ26_compareTo_2_0 16 rfl rfl)
theorem dJ26_compareTo_2_18 : decode cJ26_compareTo_2 18 = .ok (.ifCond .ge 9, 3) := dk_156 0 9 (dk_at dksJ26_compareTo_2_0 18 rfl rfl)
theorem dJ26_compareTo_2_21 : decode cJ26_compareTo_2 21 = .ok (.iload_n 2, 1) := dk_28 (dk_at dksJ26_compareTo_2_0 21 rfl rfl)
theorem dJ26_compareTo_2_22 : decode cJ26_compareTo_2 22 = .ok (.iload_n 3, 1) := dk_29 (dk_at dksJ26_compareTo_2_0 22 rfl rfl)
theorem dJ26_compareTo_2_23 : decode cJ26_compareTo_2 23 = .ok (.isub, 1) := dk_100 (dk_at dksJ26_compareTo_2_0 23 rfl rfl)
theorem dJ26_compareTo_2_24 : decode cJ26_compareTo_2 24 = .ok (.goto 16, 3) := dk_167 0 16 (dk_at dksJ26_compareTo_2_1 0 rfl rfl)
theorem dJ26_compareTo_2_27 : decode cJ26_compareTo_2 27 = .ok (.aload_n 0, 1) := dk_42 (dk_at dksJ26_compareTo_2_1 3 rfl rfl)
theorem dJ26_compareTo_2_28 : decode cJ26_compareTo_2 28 = .ok (.iload 5, 2) := dk_21 5 (dk_at dksJ26_compareTo_2_1 4 rfl rfl)
theorem dJ26_compareTo_2_30 : decode cJ26_compareTo_2 30 = .ok (.invokestatic 50, 3) := dk_184 0 50 (dk_at dksJ26_compareTo_2_1 6 rfl rfl)
theorem dJ26_compareTo_2_33 : decode cJ26_compareTo_2 33 = .ok (.aload_n 1, 1) := dk_43 (dk_at dksJ26_compareTo_2_1 9 rfl rfl)
theorem dJ26_compareTo_2_34 : decode cJ26_compareTo_2 34 = .ok (.iload 5, 2) := dk_21 5 (dk_at dksJ26_compareTo_2_1 10 rfl rfl)
theorem dJ26_compareTo_2_36 : decode cJ26_compareTo_2 36 = .ok (.invokestatic 50, 3) := dk_184 0 50 (dk_at dksJ26_compareTo_2_1 12 rfl rfl)
theorem dJ26_compareTo_2_39 : decode cJ26_compareTo_2 39 = .ok (.isub, 1) := dk_100 (dk_at dksJ26_compareTo_2_1 15 rfl rfl)
theorem dJ26_compareTo_2_40 : decode cJ26_compareTo_2 40 = .ok (.ireturn, 1) := dk_172 (dk_at dksJ26_compareTo_2_1 16 rfl rfl)
abbrev cJ26_getChar : ByteArray := prog_52_method_44_code
def yJ26_getChar : MethodName := ⟨RJ26, "getChar", "([BI)C"⟩
def dkwJ26_getChar_0 : List UInt8 := [42, 27, 51, 17, 0, 255, 126, 146, 172]
abbrev dktJ26_getChar_0 : List UInt8 := dkwJ26_getChar_0 ++ []
theorem dksJ26_getChar_0 : cJ26_getChar.data.toList.drop 0 = dktJ26_getChar_0 := by decide +kernel
theorem dJ26_getChar_0 : decode cJ26_getChar 0 = .ok (.aload_n 0, 1) := dk_42 (dk_at dksJ26_getChar_0 0 rfl rfl)
theorem dJ26_getChar_1 : decode cJ26_getChar 1 = .ok (.iload_n 1, 1) := dk_27 (dk_at dksJ26_getChar_0 1 rfl rfl)
theorem dJ26_getChar_2 : decode cJ26_getChar 2 = .ok (.baload, 1) := dk_51 (dk_at dksJ26_getChar_0 2 rfl rfl)
theorem dJ26_getChar_3 : decode cJ26_getChar 3 = .ok (.sipush 255, 3) := dk_17 0 255 (dk_at dksJ26_getChar_0 3 rfl rfl)
theorem dJ26_getChar_6 : decode cJ26_getChar 6 = .ok (.iand, 1) := dk_126 (dk_at dksJ26_getChar_0 6 rfl rfl)
theorem dJ26_getChar_7 : decode cJ26_getChar 7 = .ok (.i2c, 1) := dk_146 (dk_at dksJ26_getChar_0 7 rfl rfl)
theorem dJ26_getChar_8 : decode cJ26_getChar 8 = .ok (.ireturn, 1) := dk_172 (dk_at dksJ26_getChar_0 8 rfl rfl)
abbrev cJ26_compareToUTF16 : ByteArray := prog_52_method_16_code
def yJ26_compareToUTF16 : MethodName := ⟨RJ26, "compareToUTF16", "([B[B)I"⟩
def dkwJ26_compareToUTF16_0 : List UInt8 := [42, 184, 0, 54, 61, 43, 184, 0, 58, 62, 42, 43, 28, 29, 184, 0, 59, 172]
abbrev dktJ26_compareToUTF16_0 : List UInt8 := dkwJ26_compareToUTF16_0 ++ []
theorem dksJ26_compareToUTF16_0 : cJ26_compareToUTF16.data.toList.drop 0 = dktJ26_compareToUTF16_0 := by decide +kernel
theorem dJ26_compareToUTF16_0 : decode cJ26_compareToUTF16 0 = .ok (.aload_n 0, 1) := dk_42 (dk_at dksJ26_compareToUTF16_0 0 rfl rfl)
theorem dJ26_compareToUTF16_1 : decode cJ26_compareToUTF16 1 = .ok (.invokestatic 54, 3) := dk_184 0 54 (dk_at dksJ26_compareToUTF16_0 1 rfl rfl)
theorem dJ26_compareToUTF16_4 : decode cJ26_compareToUTF16 4 = .ok (.istore_n 2, 1) := dk_61 (dk_at dksJ26_compareToUTF16_0 4 rfl rfl)
theorem dJ26_compareToUTF16_5 : decode cJ26_compareToUTF16 5 = .ok (.aload_n 1, 1) := dk_43 (dk_at dksJ26_compareToUTF16_0 5 rfl rfl)
theorem dJ26_compareToUTF16_6 : decode cJ26_compareToUTF16 6 = .ok (.invokestatic 58, 3) := dk_184 0 58 (dk_at dksJ26_compareToUTF16_0 6 rfl rfl)
theorem dJ26_compareToUTF16_9 : decode cJ26_compareToUTF16 9 = .ok (.istore_n 3, 1) := dk_62 (dk_at dksJ26_compareToUTF16_0 9 rfl rfl)
theorem dJ26_compareToUTF16_10 : decode cJ26_compareToUTF16 10 = .ok (.aload_n 0, 1) := dk_42 (dk_at dksJ26_compareToUTF16_0 10 rfl rfl)
theorem dJ26_compareToUTF16_11 : decode cJ26_compareToUTF16 11 = .ok (.aload_n 1, 1) := dk_43 (dk_at dksJ26_compareToUTF16_0 11 rfl rfl)
theorem dJ26_compareToUTF16_12 : decode cJ26_compareToUTF16 12 = .ok (.iload_n 2, 1) := dk_28 (dk_at dksJ26_compareToUTF16_0 12 rfl rfl)
theorem dJ26_compareToUTF16_13 : decode cJ26_compareToUTF16 13 = .ok (.iload_n 3, 1) := dk_29 (dk_at dksJ26_compareToUTF16_0 13 rfl rfl)
theorem dJ26_compareToUTF16_14 : decode cJ26_compareToUTF16 14 = .ok (.invokestatic 59, 3) := dk_184 0 59 (dk_at dksJ26_compareToUTF16_0 14 rfl rfl)
theorem dJ26_compareToUTF16_17 : decode cJ26_compareToUTF16 17 = .ok (.ireturn, 1) := dk_172 (dk_at dksJ26_compareToUTF16_0 17 rfl rfl)
abbrev cJ26_length : ByteArray := prog_52_method_5_code
def yJ26_length : MethodName := ⟨RJ26, "length", "([B)I"⟩
theorem dJ26_length_0 : decode cJ26_length 0 = .ok (.aload_n 0, 1) := by decide +kernel
theorem dJ26_length_1 : decode cJ26_length 1 = .ok (.arraylength, 1) := by decide +kernel
theorem dJ26_length_2 : decode cJ26_length 2 = .ok (.ireturn, 1) := by decide +kernel
abbrev cJ26_compareToUTF16Values : ByteArray := prog_52_method_18_code
def yJ26_compareToUTF16Values : MethodName := ⟨RJ26, "compareToUTF16Values", "([B[BII)I"⟩
def dkwJ26_compareToUTF16Values_2 : List UInt8 := [132, 5, 1, 167, 255, 217, 28, 29, 100, 172]
abbrev dktJ26_compareToUTF16Values_2 : List UInt8 := dkwJ26_compareToUTF16Values_2 ++ []
def dkwJ26_compareToUTF16Values_1 : List UInt8 := [54, 6, 43, 21, 5, 184, 0, 65, 54, 7, 21, 6, 21, 7, 159, 0, 9, 21, 6, 21, 7, 100, 172]
abbrev dktJ26_compareToUTF16Values_1 : List UInt8 := dkwJ26_compareToUTF16Values_1 ++ dktJ26_compareToUTF16Values_2
def dkwJ26_compareToUTF16Values_0 : List UInt8 := [28, 29, 184, 0, 38, 54, 4, 3, 54, 5, 21, 5, 21, 4, 162, 0, 38, 42, 21, 5, 184, 0, 50]
abbrev dktJ26_compareToUTF16Values_0 : List UInt8 := dkwJ26_compareToUTF16Values_0 ++ dktJ26_compareToUTF16Values_1
theorem dksJ26_compareToUTF16Values_0 : cJ26_compareToUTF16Values.data.toList.drop 0 = dktJ26_compareToUTF16Values_0 := by decide +kernel
theorem dksJ26_compareToUTF16Values_1 : cJ26_compareToUTF16Values.data.toList.drop 23 = dktJ26_compareToUTF16Values_1 := dk_seg dksJ26_compareToUTF16Values_0 23 rfl rfl
theorem dksJ26_compareToUTF16Values_2 : cJ26_compareToUTF16Values.data.toList.drop 46 = dktJ26_compareToUTF16Values_2 := dk_seg dksJ26_compareToUTF16Values_1 23 rfl rfl
theorem dJ26_compareToUTF16Values_0 : decode cJ26_compareToUTF16Values 0 = .ok (.iload_n 2, 1) := dk_28 (dk_at dksJ26_compareToUTF16Values_0 0 rfl rfl)
theorem dJ26_compareToUTF16Values_1 : decode cJ26_compareToUTF16Values 1 = .ok (.iload_n 3, 1) := dk_29 (dk_at dksJ26_compareToUTF16Values_0 1 rfl rfl)
theorem dJ26_compareToUTF16Values_2 : decode cJ26_compareToUTF16Values 2 = .ok (.invokestatic 38, 3) := dk_184 0 38 (dk_at dksJ26_compareToUTF16Values_0 2 rfl rfl)
theorem dJ26_compareToUTF16Values_5 : decode cJ26_compareToUTF16Values 5 = .ok (.istore 4, 2) := dk_54 4 (dk_at dksJ26_compareToUTF16Values_0 5 rfl rfl)
theorem dJ26_compareToUTF16Values_7 : decode cJ26_compareToUTF16Values 7 = .ok (.iconst 0, 1) := dk_3 (dk_at dksJ26_compareToUTF16Values_0 7 rfl rfl)
theorem dJ26_compareToUTF16Values_8 : decode cJ26_compareToUTF16Values 8 = .ok (.istore 5, 2) := dk_54 5 (dk_at dksJ26_compareToUTF16Values_0 8 rfl rfl)
theorem dJ26_compareToUTF16Values_10 : decode cJ26_compareToUTF16Values 10 = .ok (.iload 5, 2) := dk_21 5 (dk_at dksJ26_compareToUTF16Values_0 10 rfl rfl)
theorem dJ26_compareToUTF16Values_12 : decode cJ26_compareToUTF16Values 12 = .ok (.iload 4, 2) := dk_21 4 (dk_at dksJ26_compareToUTF16Values_0 12 rfl rfl)
theorem dJ26_compareToUTF16Values_14 : decode cJ26_compareToUTF16Values 14 = .ok (.if_icmp .ge 38, 3) := dk_162 0 38 (dk_at dksJ26_compareToUTF16Values_0 14 rfl rfl)
theorem dJ26_compareToUTF16Values_17 : decode cJ26_compareToUTF16Values 17 = .ok (.aload_n 0, 1) := dk_42 (dk_at dksJ26_compareToUTF16Values_0 17 rfl rfl)
theorem dJ26_compareToUTF16Values_18 : decode cJ26_compareToUTF16Values 18 = .ok (.iload 5, 2) := dk_21 5 (dk_at dksJ26_compareToUTF16Values_0 18 rfl rfl)
theorem dJ26_compareToUTF16Values_20 : decode cJ26_compareToUTF16Values 20 = .ok (.invokestatic 50, 3) := dk_184 0 50 (dk_at dksJ26_compareToUTF16Values_0 20 rfl rfl)
theorem dJ26_compareToUTF16Values_23 : decode cJ26_compareToUTF16Values 23 = .ok (.istore 6, 2) := dk_54 6 (dk_at dksJ26_compareToUTF16Values_1 0 rfl rfl)
theorem dJ26_compareToUTF16Values_25 : decode cJ26_compareToUTF16Values 25 = .ok (.aload_n 1, 1) := dk_43 (dk_at dksJ26_compareToUTF16Values_1 2 rfl rfl)
theorem dJ26_compareToUTF16Values_26 : decode cJ26_compareToUTF16Values 26 = .ok (.iload 5, 2) := dk_21 5 (dk_at dksJ26_compareToUTF16Values_1 3 rfl rfl)
theorem dJ26_compareToUTF16Values_28 : decode cJ26_compareToUTF16Values 28 = .ok (.invokestatic 65, 3) := dk_184 0 65 (dk_at dksJ26_compareToUTF16Values_1 5 rfl rfl)
theorem dJ26_compareToUTF16Values_31 : decode cJ26_compareToUTF16Values 31 = .ok (.istore 7, 2) := dk_54 7 (dk_at dksJ26_compareToUTF16Values_1 8 rfl rfl)
theorem dJ26_compareToUTF16Values_33 : decode cJ26_compareToUTF16Values 33 = .ok (.iload 6, 2) := dk_21 6 (dk_at dksJ26_compareToUTF16Values_1 10 rfl rfl)
theorem dJ26_compareToUTF16Values_35 : decode cJ26_compareToUTF16Values 35 = .ok (.iload 7, 2) := dk_21 7 (dk_at dksJ26_compareToUTF16Values_1 12 rfl rfl)
theorem dJ26_compareToUTF16Values_37 : decode cJ26_compareToUTF16Values 37 = .ok (.if_icmp .eq 9, 3) := dk_159 0 9 (dk_at dksJ26_compareToUTF16Values_1 14 rfl rfl)
theorem dJ26_compareToUTF16Values_40 : decode cJ26_compareToUTF16Values 40 = .ok (.iload 6, 2) := dk_21 6 (dk_at dksJ26_compareToUTF16Values_1 17 rfl rfl)
theorem dJ26_compareToUTF16Values_42 : decode cJ26_compareToUTF16Values 42 = .ok (.iload 7, 2) := dk_21 7 (dk_at dksJ26_compareToUTF16Values_1 19 rfl rfl)
theorem dJ26_compareToUTF16Values_44 : decode cJ26_compareToUTF16Values 44 = .ok (.isub, 1) := dk_100 (dk_at dksJ26_compareToUTF16Values_1 21 rfl rfl)
theorem dJ26_compareToUTF16Values_45 : decode cJ26_compareToUTF16Values 45 = .ok (.ireturn, 1) := dk_172 (dk_at dksJ26_compareToUTF16Values_1 22 rfl rfl)
theorem dJ26_compareToUTF16Values_46 : decode cJ26_compareToUTF16Values 46 = .ok (.iinc 5 1, 3) := dk_132 5 1 (dk_at dksJ26_compareToUTF16Values_2 0 rfl rfl)
theorem dJ26_compareToUTF16Values_49 : decode cJ26_compareToUTF16Values 49 = .ok (.goto (-39), 3) := dk_167 255 217 (dk_at dksJ26_compareToUTF16Values_2 3 rfl rfl)
theorem dJ26_compareToUTF16Values_52 : decode cJ26_compareToUTF16Values 52 = .ok (.iload_n 2, 1) := dk_28 (dk_at dksJ26_compareToUTF16Values_2 6 rfl rfl)
theorem dJ26_compareToUTF16Values_53 : decode cJ26_compareToUTF16Values 53 = .ok (.iload_n 3, 1) := dk_29 (dk_at dksJ26_compareToUTF16Values_2 7 rfl rfl)
theorem dJ26_compareToUTF16Values_54 : decode cJ26_compareToUTF16Values 54 = .ok (.isub, 1) := dk_100 (dk_at dksJ26_compareToUTF16Values_2 8 rfl rfl)
theorem dJ26_compareToUTF16Values_55 : decode cJ26_compareToUTF16Values 55 = .ok (.ireturn, 1) := dk_172 (dk_at dksJ26_compareToUTF16Values_2 9 rfl rfl)
abbrev cJ26_compareToUTF16_2 : ByteArray := prog_52_method_17_code
def yJ26_compareToUTF16_2 : MethodName := ⟨RJ26, "compareToUTF16", "([B[BII)I"⟩
def dkwJ26_compareToUTF16_2_0 : List UInt8 := [28, 42, 184, 0, 54, 184, 0, 62, 29, 43, 184, 0, 58, 184, 0, 62, 42, 43, 28, 29, 184, 0, 59, 172]
abbrev dktJ26_compareToUTF16_2_0 : List UInt8 := dkwJ26_compareToUTF16_2_0 ++ []
theorem dksJ26_compareToUTF16_2_0 : cJ26_compareToUTF16_2.data.toList.drop 0 = dktJ26_compareToUTF16_2_0 := by decide +kernel
theorem dJ26_compareToUTF16_2_0 : decode cJ26_compareToUTF16_2 0 = .ok (.iload_n 2, 1) := dk_28 (dk_at dksJ26_compareToUTF16_2_0 0 rfl rfl)
theorem dJ26_compareToUTF16_2_1 : decode cJ26_compareToUTF16_2 1 = .ok (.aload_n 0, 1) := dk_42 (dk_at dksJ26_compareToUTF16_2_0 1 rfl rfl)
theorem dJ26_compareToUTF16_2_2 : decode cJ26_compareToUTF16_2 2 = .ok (.invokestatic 54, 3) := dk_184 0 54 (dk_at dksJ26_compareToUTF16_2_0 2 rfl rfl)
theorem dJ26_compareToUTF16_2_5 : decode cJ26_compareToUTF16_2 5 = .ok (.invokestatic 62, 3) := dk_184 0 62 (dk_at dksJ26_compareToUTF16_2_0 5 rfl rfl)
theorem dJ26_compareToUTF16_2_8 : decode cJ26_compareToUTF16_2 8 = .ok (.iload_n 3, 1) := dk_29 (dk_at dksJ26_compareToUTF16_2_0 8 rfl rfl)
theorem dJ26_compareToUTF16_2_9 : decode cJ26_compareToUTF16_2 9 = .ok (.aload_n 1, 1) := dk_43 (dk_at dksJ26_compareToUTF16_2_0 9 rfl rfl)
theorem dJ26_compareToUTF16_2_10 : decode cJ26_compareToUTF16_2 10 = .ok (.invokestatic 58, 3) := dk_184 0 58 (dk_at dksJ26_compareToUTF16_2_0 10 rfl rfl)
theorem dJ26_compareToUTF16_2_13 : decode cJ26_compareToUTF16_2 13 = .ok (.invokestatic 62, 3) := dk_184 0 62 (dk_at dksJ26_compareToUTF16_2_0 13 rfl rfl)
theorem dJ26_compareToUTF16_2_16 : decode cJ26_compareToUTF16_2 16 = .ok (.aload_n 0, 1) := dk_42 (dk_at dksJ26_compareToUTF16_2_0 16 rfl rfl)
theorem dJ26_compareToUTF16_2_17 : decode cJ26_compareToUTF16_2 17 = .ok (.aload_n 1, 1) := dk_43 (dk_at dksJ26_compareToUTF16_2_0 17 rfl rfl)
theorem dJ26_compareToUTF16_2_18 : decode cJ26_compareToUTF16_2 18 = .ok (.iload_n 2, 1) := dk_28 (dk_at dksJ26_compareToUTF16_2_0 18 rfl rfl)
theorem dJ26_compareToUTF16_2_19 : decode cJ26_compareToUTF16_2 19 = .ok (.iload_n 3, 1) := dk_29 (dk_at dksJ26_compareToUTF16_2_0 19 rfl rfl)
theorem dJ26_compareToUTF16_2_20 : decode cJ26_compareToUTF16_2 20 = .ok (.invokestatic 59, 3) := dk_184 0 59 (dk_at dksJ26_compareToUTF16_2_0 20 rfl rfl)
theorem dJ26_compareToUTF16_2_23 : decode cJ26_compareToUTF16_2 23 = .ok (.ireturn, 1) := dk_172 (dk_at dksJ26_compareToUTF16_2_0 23 rfl rfl)
abbrev cJ26_charAt : ByteArray := prog_52_method_2_code
def yJ26_charAt : MethodName := ⟨RJ26, "charAt", "([BI)C"⟩
def dkwJ26_charAt_0 : List UInt8 := [27, 42, 190, 184, 0, 9, 42, 27, 51, 17, 0, 255, 126, 146, 172]
abbrev dktJ26_charAt_0 : List UInt8 := dkwJ26_charAt_0 ++ []
theorem dksJ26_charAt_0 : cJ26_charAt.data.toList.drop 0 = dktJ26_charAt_0 := by decide +kernel
theorem dJ26_charAt_0 : decode cJ26_charAt 0 = .ok (.iload_n 1, 1) := dk_27 (dk_at dksJ26_charAt_0 0 rfl rfl)
theorem dJ26_charAt_1 : decode cJ26_charAt 1 = .ok (.aload_n 0, 1) := dk_42 (dk_at dksJ26_charAt_0 1 rfl rfl)
theorem dJ26_charAt_2 : decode cJ26_charAt 2 = .ok (.arraylength, 1) := dk_190 (dk_at dksJ26_charAt_0 2 rfl rfl)
theorem dJ26_charAt_3 : decode cJ26_charAt 3 = .ok (.invokestatic 9, 3) := dk_184 0 9 (dk_at dksJ26_charAt_0 3 rfl rfl)
theorem dJ26_charAt_6 : decode cJ26_charAt 6 = .ok (.aload_n 0, 1) := dk_42 (dk_at dksJ26_charAt_0 6 rfl rfl)
theorem dJ26_charAt_7 : decode cJ26_charAt 7 = .ok (.iload_n 1, 1) := dk_27 (dk_at dksJ26_charAt_0 7 rfl rfl)
theorem dJ26_charAt_8 : decode cJ26_charAt 8 = .ok (.baload, 1) := dk_51 (dk_at dksJ26_charAt_0 8 rfl rfl)
theorem dJ26_charAt_9 : decode cJ26_charAt 9 = .ok (.sipush 255, 3) := dk_17 0 255 (dk_at dksJ26_charAt_0 9 rfl rfl)
theorem dJ26_charAt_12 : decode cJ26_charAt 12 = .ok (.iand, 1) := dk_126 (dk_at dksJ26_charAt_0 12 rfl rfl)
theorem dJ26_charAt_13 : decode cJ26_charAt 13 = .ok (.i2c, 1) := dk_146 (dk_at dksJ26_charAt_0 13 rfl rfl)
theorem dJ26_charAt_14 : decode cJ26_charAt 14 = .ok (.ireturn, 1) := dk_172 (dk_at dksJ26_charAt_0 14 rfl rfl)
abbrev cJ26_canEncode : ByteArray := prog_52_method_3_code
def yJ26_canEncode : MethodName := ⟨RJ26, "canEncode", "(C)Z"⟩
def dkwJ26_canEncode_0 : List UInt8 := [26, 17, 0, 255, 163, 0, 7, 4, 167, 0, 4, 3, 172]
abbrev dktJ26_canEncode_0 : List UInt8 := dkwJ26_canEncode_0 ++ []
theorem dksJ26_canEncode_0 : cJ26_canEncode.data.toList.drop 0 = dktJ26_canEncode_0 := by decide +kernel
theorem dJ26_canEncode_0 : decode cJ26_canEncode 0 = .ok (.iload_n 0, 1) := dk_26 (dk_at dksJ26_canEncode_0 0 rfl rfl)
theorem dJ26_canEncode_1 : decode cJ26_canEncode 1 = .ok (.sipush 255, 3) := dk_17 0 255 (dk_at dksJ26_canEncode_0 1 rfl rfl)
theorem dJ26_canEncode_4 : decode cJ26_canEncode 4 = .ok (.if_icmp .gt 7, 3) := dk_163 0 7 (dk_at dksJ26_canEncode_0 4 rfl rfl)
theorem dJ26_canEncode_7 : decode cJ26_canEncode 7 = .ok (.iconst 1, 1) := dk_4 (dk_at dksJ26_canEncode_0 7 rfl rfl)
theorem dJ26_canEncode_8 : decode cJ26_canEncode 8 = .ok (.goto 4, 3) := dk_167 0 4 (dk_at dksJ26_canEncode_0 8 rfl rfl)
theorem dJ26_canEncode_11 : decode cJ26_canEncode 11 = .ok (.iconst 0, 1) := dk_3 (dk_at dksJ26_canEncode_0 11 rfl rfl)
theorem dJ26_canEncode_12 : decode cJ26_canEncode 12 = .ok (.ireturn, 1) := dk_172 (dk_at dksJ26_canEncode_0 12 rfl rfl)
abbrev cJ26_newString : ByteArray := prog_52_method_47_code
def yJ26_newString : MethodName := ⟨RJ26, "newString", "([BII)Ljava/lang/String;"⟩
def dkwJ26_newString_0 : List UInt8 := [28, 154, 0, 6, 18, 151, 176, 187, 0, 1, 89, 42, 27, 27, 28, 96, 184, 0, 232, 3, 183, 0, 112, 176]
abbrev dktJ26_newString_0 : List UInt8 := dkwJ26_newString_0 ++ []
theorem dksJ26_newString_0 : cJ26_newString.data.toList.drop 0 = dktJ26_newString_0 := by decide +kernel
theorem dJ26_newString_0 : decode cJ26_newString 0 = .ok (.iload_n 2, 1) := dk_28 (dk_at dksJ26_newString_0 0 rfl rfl)
theorem dJ26_newString_1 : decode cJ26_newString 1 = .ok (.ifCond .ne 6, 3) := dk_154 0 6 (dk_at dksJ26_newString_0 1 rfl rfl)
theorem dJ26_newString_4 : decode cJ26_newString 4 = .ok (.ldc 151, 2) := dk_18 151 (dk_at dksJ26_newString_0 4 rfl rfl)
theorem dJ26_newString_6 : decode cJ26_newString 6 = .ok (.areturn, 1) := dk_176 (dk_at dksJ26_newString_0 6 rfl rfl)
theorem dJ26_newString_7 : decode cJ26_newString 7 = .ok (.new 1, 3) := dk_187 0 1 (dk_at dksJ26_newString_0 7 rfl rfl)
theorem dJ26_newString_10 : decode cJ26_newString 10 = .ok (.dup, 1) := dk_89 (dk_at dksJ26_newString_0 10 rfl rfl)
theorem dJ26_newString_11 : decode cJ26_newString 11 = .ok (.aload_n 0, 1) := dk_42 (dk_at dksJ26_newString_0 11 rfl rfl)
theorem dJ26_newString_12 : decode cJ26_newString 12 = .ok (.iload_n 1, 1) := dk_27 (dk_at dksJ26_newString_0 12 rfl rfl)
theorem dJ26_newString_13 : decode cJ26_newString 13 = .ok (.iload_n 1, 1) := dk_27 (dk_at dksJ26_newString_0 13 rfl rfl)
theorem dJ26_newString_14 : decode cJ26_newString 14 = .ok (.iload_n 2, 1) := dk_28 (dk_at dksJ26_newString_0 14 rfl rfl)
theorem dJ26_newString_15 : decode cJ26_newString 15 = .ok (.iadd, 1) := dk_96 (dk_at dksJ26_newString_0 15 rfl rfl)
theorem dJ26_newString_16 : decode cJ26_newString 16 = .ok (.invokestatic 232, 3) := dk_184 0 232 (dk_at dksJ26_newString_0 16 rfl rfl)
theorem dJ26_newString_19 : decode cJ26_newString 19 = .ok (.iconst 0, 1) := dk_3 (dk_at dksJ26_newString_0 19 rfl rfl)
theorem dJ26_newString_20 : decode cJ26_newString 20 = .ok (.invokespecial 112, 3) := dk_183 0 112 (dk_at dksJ26_newString_0 20 rfl rfl)
theorem dJ26_newString_23 : decode cJ26_newString 23 = .ok (.areturn, 1) := dk_176 (dk_at dksJ26_newString_0 23 rfl rfl)
abbrev cJ26_indexOf : ByteArray := prog_52_method_24_code
def yJ26_indexOf : MethodName := ⟨RJ26, "indexOf", "([B[B)I"⟩
def dkwJ26_indexOf_1 : List UInt8 := [172]
abbrev dktJ26_indexOf_1 : List UInt8 := dkwJ26_indexOf_1 ++ []
def dkwJ26_indexOf_0 : List UInt8 := [43, 190, 154, 0, 5, 3, 172, 42, 190, 154, 0, 5, 2, 172, 42, 42, 190, 43, 43, 190, 3, 184, 0, 99]
abbrev dktJ26_indexOf_0 : List UInt8 := dkwJ26_indexOf_0 ++ dktJ26_indexOf_1
theorem dksJ26_indexOf_0 : cJ26_indexOf.data.toList.drop 0 = dktJ26_indexOf_0 := by decide +kernel
theorem dksJ26_indexOf_1 : cJ26_indexOf.data.toList.drop 24 = dktJ26_indexOf_1 := dk_seg dksJ26_indexOf_0 24 rfl rfl
theorem dJ26_indexOf_0 : decode cJ26_indexOf 0 = .ok (.aload_n 1, 1) := dk_43 (dk_at dksJ26_indexOf_0 0 rfl rfl)
theorem dJ26_indexOf_1 : decode cJ26_indexOf 1 = .ok (.arraylength, 1) := dk_190 (dk_at dksJ26_indexOf_0 1 rfl rfl)
theorem dJ26_indexOf_2 : decode cJ26_indexOf 2 = .ok (.ifCond .ne 5, 3) := dk_154 0 5 (dk_at dksJ26_indexOf_0 2 rfl rfl)
theorem dJ26_indexOf_5 : decode cJ26_indexOf 5 = .ok (.iconst 0, 1) := dk_3 (dk_at dksJ26_indexOf_0 5 rfl rfl)
theorem dJ26_indexOf_6 : decode cJ26_indexOf 6 = .ok (.ireturn, 1) := dk_172 (dk_at dksJ26_indexOf_0 6 rfl rfl)
theorem dJ26_indexOf_7 : decode cJ26_indexOf 7 = .ok (.aload_n 0, 1) := dk_42 (dk_at dksJ26_indexOf_0 7 rfl rfl)
theorem dJ26_indexOf_8 : decode cJ26_indexOf 8 = .ok (.arraylength, 1) := dk_190 (dk_at dksJ26_indexOf_0 8 rfl rfl)
theorem dJ26_indexOf_9 : decode cJ26_indexOf 9 = .ok (.ifCond .ne 5, 3) := dk_154 0 5 (dk_at dksJ26_indexOf_0 9 rfl rfl)
theorem dJ26_indexOf_12 : decode cJ26_indexOf 12 = .ok (.iconst (-1), 1) := dk_2 (dk_at dksJ26_indexOf_0 12 rfl rfl)
theorem dJ26_indexOf_13 : decode cJ26_indexOf 13 = .ok (.ireturn, 1) := dk_172 (dk_at dksJ26_indexOf_0 13 rfl rfl)
theorem dJ26_indexOf_14 : decode cJ26_indexOf 14 = .ok (.aload_n 0, 1) := dk_42 (dk_at dksJ26_indexOf_0 14 rfl rfl)
theorem dJ26_indexOf_15 : decode cJ26_indexOf 15 = .ok (.aload_n 0, 1) := dk_42 (dk_at dksJ26_indexOf_0 15 rfl rfl)
theorem dJ26_indexOf_16 : decode cJ26_indexOf 16 = .ok (.arraylength, 1) := dk_190 (dk_at dksJ26_indexOf_0 16 rfl rfl)
theorem dJ26_indexOf_17 : decode cJ26_indexOf 17 = .ok (.aload_n 1, 1) := dk_43 (dk_at dksJ26_indexOf_0 17 rfl rfl)
theorem dJ26_indexOf_18 : decode cJ26_indexOf 18 = .ok (.aload_n 1, 1) := dk_43 (dk_at dksJ26_indexOf_0 18 rfl rfl)
theorem dJ26_indexOf_19 : decode cJ26_indexOf 19 = .ok (.arraylength, 1) := dk_190 (dk_at dksJ26_indexOf_0 19 rfl rfl)
theorem dJ26_indexOf_20 : decode cJ26_indexOf 20 = .ok (.iconst 0, 1) := dk_3 (dk_at dksJ26_indexOf_0 20 rfl rfl)
theorem dJ26_indexOf_21 : decode cJ26_indexOf 21 = .ok (.invokestatic 99, 3) := dk_184 0 99 (dk_at dksJ26_indexOf_0 21 rfl rfl)
theorem dJ26_indexOf_24 : decode cJ26_indexOf 24 = .ok (.ireturn, 1) := dk_172 (dk_at dksJ26_indexOf_1 0 rfl rfl)
abbrev cJ26_indexOf_2 : ByteArray := prog_52_method_25_code
def yJ26_indexOf_2 : MethodName := ⟨RJ26, "indexOf", "([BI[BII)I"⟩
def dkwJ26_indexOf_2_5 : List UInt8 := [167, 255, 154, 2, 172]
abbrev dktJ26_indexOf_2_5 : List UInt8 := dkwJ26_indexOf_2_5 ++ []
def dkwJ26_indexOf_2_4 : List UInt8 := [132, 8, 1, 132, 10, 1, 167, 255, 232, 21, 8, 21, 9, 160, 0, 6, 21, 7, 172, 132, 7, 1]
abbrev dktJ26_indexOf_2_4 : List UInt8 := dkwJ26_indexOf_2_4 ++ dktJ26_indexOf_2_5
def dkwJ26_indexOf_2_3 : List UInt8 := [100, 54, 9, 4, 54, 10, 21, 8, 21, 9, 162, 0, 23, 42, 21, 8, 51, 44, 21, 10, 51, 160, 0, 12]
abbrev dktJ26_indexOf_2_3 : List UInt8 := dkwJ26_indexOf_2_3 ++ dktJ26_indexOf_2_4
def dkwJ26_indexOf_2_2 : List UInt8 := [159, 0, 6, 167, 255, 237, 21, 7, 21, 6, 163, 0, 57, 21, 7, 4, 96, 54, 8, 21, 8, 29, 96, 4]
abbrev dktJ26_indexOf_2_2 : List UInt8 := dkwJ26_indexOf_2_2 ++ dktJ26_indexOf_2_3
def dkwJ26_indexOf_2_1 : List UInt8 := [51, 21, 5, 159, 0, 25, 132, 7, 1, 21, 7, 21, 6, 163, 0, 15, 42, 21, 7, 51, 21, 5]
abbrev dktJ26_indexOf_2_1 : List UInt8 := dkwJ26_indexOf_2_1 ++ dktJ26_indexOf_2_2
def dkwJ26_indexOf_2_0 : List UInt8 := [44, 3, 51, 54, 5, 27, 29, 100, 54, 6, 21, 4, 54, 7, 21, 7, 21, 6, 163, 0, 101, 42, 21, 7]
abbrev dktJ26_indexOf_2_0 : List UInt8 := dkwJ26_indexOf_2_0 ++ dktJ26_indexOf_2_1
theorem dksJ26_indexOf_2_0 : cJ26_indexOf_2.data.toList.drop 0 = dktJ26_indexOf_2_0 := by decide +kernel
theorem dksJ26_indexOf_2_1 : cJ26_indexOf_2.data.toList.drop 24 = dktJ26_indexOf_2_1 := dk_seg dksJ26_indexOf_2_0 24 rfl rfl
theorem dksJ26_indexOf_2_2 : cJ26_indexOf_2.data.toList.drop 46 = dktJ26_indexOf_2_2 := dk_seg dksJ26_indexOf_2_1 22 rfl rfl
theorem dksJ26_indexOf_2_3 : cJ26_indexOf_2.data.toList.drop 70 = dktJ26_indexOf_2_3 := dk_seg dksJ26_indexOf_2_2 24 rfl rfl
theorem dksJ26_indexOf_2_4 : cJ26_indexOf_2.data.toList.drop 94 = dktJ26_indexOf_2_4 := dk_seg dksJ26_indexOf_2_3 24 rfl rfl
theorem dksJ26_indexOf_2_5 : cJ26_indexOf_2.data.toList.drop 116 = dktJ26_indexOf_2_5 := dk_seg dksJ26_indexOf_2_4 22 rfl rfl
theorem dJ26_indexOf_2_0 : decode cJ26_indexOf_2 0 = .ok (.aload_n 2, 1) := dk_44 (dk_at dksJ26_indexOf_2_0 0 rfl rfl)
theorem dJ26_indexOf_2_1 : decode cJ26_indexOf_2 1 = .ok (.iconst 0, 1) := dk_3 (dk_at dksJ26_indexOf_2_0 1 rfl rfl)
theorem dJ26_indexOf_2_2 : decode cJ26_indexOf_2 2 = .ok (.baload, 1) := dk_51 (dk_at dksJ26_indexOf_2_0 2 rfl rfl)
theorem dJ26_indexOf_2_3 : decode cJ26_indexOf_2 3 = .ok (.istore 5, 2) := dk_54 5 (dk_at dksJ26_indexOf_2_0 3 rfl rfl)
theorem dJ26_indexOf_2_5 : decode cJ26_indexOf_2 5 = .ok (.iload_n 1, 1) := dk_27 (dk_at dksJ26_indexOf_2_0 5 rfl rfl)
theorem dJ26_indexOf_2_6 : decode cJ26_indexOf_2 6 = .ok (.iload_n 3, 1) := dk_29 (dk_at dksJ26_indexOf_2_0 6 rfl rfl)
theorem dJ26_indexOf_2_7 : decode cJ26_indexOf_2 7 = .ok (.isub, 1) := dk_100 (dk_at dksJ26_indexOf_2_0 7 rfl rfl)
theorem dJ26_indexOf_2_8 : decode cJ26_indexOf_2 8 = .ok (.istore 6, 2) := dk_54 6 (dk_at dksJ26_indexOf_2_0 8 rfl rfl)
theorem dJ26_indexOf_2_10 : decode cJ26_indexOf_2 10 = .ok (.iload 4, 2) := dk_21 4 (dk_at dksJ26_indexOf_2_0 10 rfl rfl)
theorem dJ26_indexOf_2_12 : decode cJ26_indexOf_2 12 = .ok (.istore 7, 2) := dk_54 7 (dk_at dksJ26_indexOf_2_0 12 rfl rfl)
theorem dJ26_indexOf_2_14 : decode cJ26_indexOf_2 14 = .ok (.iload 7, 2) := dk_21 7 (dk_at dksJ26_indexOf_2_0 14 rfl rfl)
theorem dJ26_indexOf_2_16 : decode cJ26_indexOf_2 16 = .ok (.iload 6, 2) := dk_21 6 (dk_at dksJ26_indexOf_2_0 16 rfl rfl)
theorem dJ26_indexOf_2_18 : decode cJ26_indexOf_2 18 = .ok (.if_icmp .gt 101, 3) := dk_163 0 101 (dk_at dksJ26_indexOf_2_0 18 rfl rfl)
theorem dJ26_indexOf_2_21 : decode cJ26_indexOf_2 21 = .ok (.aload_n 0, 1) := dk_42 (dk_at dksJ26_indexOf_2_0 21 rfl rfl)
theorem dJ26_indexOf_2_22 : decode cJ26_indexOf_2 22 = .ok (.iload 7, 2) := dk_21 7 (dk_at dksJ26_indexOf_2_0 22 rfl rfl)
theorem dJ26_indexOf_2_24 : decode cJ26_indexOf_2 24 = .ok (.baload, 1) := dk_51 (dk_at dksJ26_indexOf_2_1 0 rfl rfl)
theorem dJ26_indexOf_2_25 : decode cJ26_indexOf_2 25 = .ok (.iload 5, 2) := dk_21 5 (dk_at dksJ26_indexOf_2_1 1 rfl rfl)
theorem dJ26_indexOf_2_27 : decode cJ26_indexOf_2 27 = .ok (.if_icmp .eq 25, 3) := dk_159 0 25 (dk_at dksJ26_indexOf_2_1 3 rfl rfl)
theorem dJ26_indexOf_2_30 : decode cJ26_indexOf_2 30 = .ok (.iinc 7 1, 3) := dk_132 7 1 (dk_at dksJ26_indexOf_2_1 6 rfl rfl)
theorem dJ26_indexOf_2_33 : decode cJ26_indexOf_2 33 = .ok (.iload 7, 2) := dk_21 7 (dk_at dksJ26_indexOf_2_1 9 rfl rfl)
theorem dJ26_indexOf_2_35 : decode cJ26_indexOf_2 35 = .ok (.iload 6, 2) := dk_21 6 (dk_at dksJ26_indexOf_2_1 11 rfl rfl)
theorem dJ26_indexOf_2_37 : decode cJ26_indexOf_2 37 = .ok (.if_icmp .gt 15, 3) := dk_163 0 15 (dk_at dksJ26_indexOf_2_1 13 rfl rfl)
theorem dJ26_indexOf_2_40 : decode cJ26_indexOf_2 40 = .ok (.aload_n 0, 1) := dk_42 (dk_at dksJ26_indexOf_2_1 16 rfl rfl)
theorem dJ26_indexOf_2_41 : decode cJ26_indexOf_2 41 = .ok (.iload 7, 2) := dk_21 7 (dk_at dksJ26_indexOf_2_1 17 rfl rfl)
theorem dJ26_indexOf_2_43 : decode cJ26_indexOf_2 43 = .ok (.baload, 1) := dk_51 (dk_at dksJ26_indexOf_2_1 19 rfl rfl)
theorem dJ26_indexOf_2_44 : decode cJ26_indexOf_2 44 = .ok (.iload 5, 2) := dk_21 5 (dk_at dksJ26_indexOf_2_1 20 rfl rfl)
theorem dJ26_indexOf_2_46 : decode cJ26_indexOf_2 46 = .ok (.if_icmp .eq 6, 3) := dk_159 0 6 (dk_at dksJ26_indexOf_2_2 0 rfl rfl)
theorem dJ26_indexOf_2_49 : decode cJ26_indexOf_2 49 = .ok (.goto (-19), 3) := dk_167 255 237 (dk_at dksJ26_indexOf_2_2 3 rfl rfl)
theorem dJ26_indexOf_2_52 : decode cJ26_indexOf_2 52 = .ok (.iload 7, 2) := dk_21 7 (dk_at dksJ26_indexOf_2_2 6 rfl rfl)
theorem dJ26_indexOf_2_54 : decode cJ26_indexOf_2 54 = .ok (.iload 6, 2) := dk_21 6 (dk_at dksJ26_indexOf_2_2 8 rfl rfl)
theorem dJ26_indexOf_2_56 : decode cJ26_indexOf_2 56 = .ok (.if_icmp .gt 57, 3) := dk_163 0 57 (dk_at dksJ26_indexOf_2_2 10 rfl rfl)
theorem dJ26_indexOf_2_59 : decode cJ26_indexOf_2 59 = .ok (.iload 7, 2) := dk_21 7 (dk_at dksJ26_indexOf_2_2 13 rfl rfl)
theorem dJ26_indexOf_2_61 : decode cJ26_indexOf_2 61 = .ok (.iconst 1, 1) := dk_4 (dk_at dksJ26_indexOf_2_2 15 rfl rfl)
theorem dJ26_indexOf_2_62 : decode cJ26_indexOf_2 62 = .ok (.iadd, 1) := dk_96 (dk_at dksJ26_indexOf_2_2 16 rfl rfl)
theorem dJ26_indexOf_2_63 : decode cJ26_indexOf_2 63 = .ok (.istore 8, 2) := dk_54 8 (dk_at dksJ26_indexOf_2_2 17 rfl rfl)
theorem dJ26_indexOf_2_65 : decode cJ26_indexOf_2 65 = .ok (.iload 8, 2) := dk_21 8 (dk_at dksJ26_indexOf_2_2 19 rfl rfl)
theorem dJ26_indexOf_2_67 : decode cJ26_indexOf_2 67 = .ok (.iload_n 3, 1) := dk_29 (dk_at dksJ26_indexOf_2_2 21 rfl rfl)
theorem dJ26_indexOf_2_68 : decode cJ26_indexOf_2 68 = .ok (.iadd, 1) := dk_96 (dk_at dksJ26_indexOf_2_2 22 rfl rfl)
theorem dJ26_indexOf_2_69 : decode cJ26_indexOf_2 69 = .ok (.iconst 1, 1) := dk_4 (dk_at dksJ26_indexOf_2_2 23 rfl rfl)
theorem dJ26_indexOf_2_70 : decode cJ26_indexOf_2 70 = .ok (.isub, 1) := dk_100 (dk_at dksJ26_indexOf_2_3 0 rfl rfl)
theorem dJ26_indexOf_2_71 : decode cJ26_indexOf_2 71 = .ok (.istore 9, 2) := dk_54 9 (dk_at dksJ26_indexOf_2_3 1 rfl rfl)
theorem dJ26_indexOf_2_73 : decode cJ26_indexOf_2 73 = .ok (.iconst 1, 1) := dk_4 (dk_at dksJ26_indexOf_2_3 3 rfl rfl)
theorem dJ26_indexOf_2_74 : decode cJ26_indexOf_2 74 = .ok (.istore 10, 2) := dk_54 10 (dk_at dksJ26_indexOf_2_3 4 rfl rfl)
theorem dJ26_indexOf_2_76 : decode cJ26_indexOf_2 76 = .ok (.iload 8, 2) := dk_21 8 (dk_at dksJ26_indexOf_2_3 6 rfl rfl)
theorem dJ26_indexOf_2_78 : decode cJ26_indexOf_2 78 = .ok (.iload 9, 2) := dk_21 9 (dk_at dksJ26_indexOf_2_3 8 rfl rfl)
theorem dJ26_indexOf_2_80 : decode cJ26_indexOf_2 80 = .ok (.if_icmp .ge 23, 3) := dk_162 0 23 (dk_at dksJ26_indexOf_2_3 10 rfl rfl)
theorem dJ26_indexOf_2_83 : decode cJ26_indexOf_2 83 = .ok (.aload_n 0, 1) := dk_42 (dk_at dksJ26_indexOf_2_3 13 rfl rfl)
theorem dJ26_indexOf_2_84 : decode cJ26_indexOf_2 84 = .ok (.iload 8, 2) := dk_21 8 (dk_at dksJ26_indexOf_2_3 14 rfl rfl)
theorem dJ26_indexOf_2_86 : decode cJ26_indexOf_2 86 = .ok (.baload, 1) := dk_51 (dk_at dksJ26_indexOf_2_3 16 rfl rfl)
theorem dJ26_indexOf_2_87 : decode cJ26_indexOf_2 87 = .ok (.aload_n 2, 1) := dk_44 (dk_at dksJ26_indexOf_2_3 17 rfl rfl)
theorem dJ26_indexOf_2_88 : decode cJ26_indexOf_2 88 = .ok (.iload 10, 2) := dk_21 10 (dk_at dksJ26_indexOf_2_3 18 rfl rfl)
theorem dJ26_indexOf_2_90 : decode cJ26_indexOf_2 90 = .ok (.baload, 1) := dk_51 (dk_at dksJ26_indexOf_2_3 20 rfl rfl)
theorem dJ26_indexOf_2_91 : decode cJ26_indexOf_2 91 = .ok (.if_icmp .ne 12, 3) := dk_160 0 12 (dk_at dksJ26_indexOf_2_3 21 rfl rfl)
theorem dJ26_indexOf_2_94 : decode cJ26_indexOf_2 94 = .ok (.iinc 8 1, 3) := dk_132 8 1 (dk_at dksJ26_indexOf_2_4 0 rfl rfl)
theorem dJ26_indexOf_2_97 : decode cJ26_indexOf_2 97 = .ok (.iinc 10 1, 3) := dk_132 10 1 (dk_at dksJ26_indexOf_2_4 3 rfl rfl)
theorem dJ26_indexOf_2_100 : decode cJ26_indexOf_2 100 = .ok (.goto (-24), 3) := dk_167 255 232 (dk_at dksJ26_indexOf_2_4 6 rfl rfl)
theorem dJ26_indexOf_2_103 : decode cJ26_indexOf_2 103 = .ok (.iload 8, 2) := dk_21 8 (dk_at dksJ26_indexOf_2_4 9 rfl rfl)
theorem dJ26_indexOf_2_105 : decode cJ26_indexOf_2 105 = .ok (.iload 9, 2) := dk_21 9 (dk_at dksJ26_indexOf_2_4 11 rfl rfl)
theorem dJ26_indexOf_2_107 : decode cJ26_indexOf_2 107 = .ok (.if_icmp .ne 6, 3) := dk_160 0 6 (dk_at dksJ26_indexOf_2_4 13 rfl rfl)
theorem dJ26_indexOf_2_110 : decode cJ26_indexOf_2 110 = .ok (.iload 7, 2) := dk_21 7 (dk_at dksJ26_indexOf_2_4 16 rfl rfl)
theorem dJ26_indexOf_2_112 : decode cJ26_indexOf_2 112 = .ok (.ireturn, 1) := dk_172 (dk_at dksJ26_indexOf_2_4 18 rfl rfl)
theorem dJ26_indexOf_2_113 : decode cJ26_indexOf_2 113 = .ok (.iinc 7 1, 3) := dk_132 7 1 (dk_at dksJ26_indexOf_2_4 19 rfl rfl)
theorem dJ26_indexOf_2_116 : decode cJ26_indexOf_2 116 = .ok (.goto (-102), 3) := dk_167 255 154 (dk_at dksJ26_indexOf_2_5 0 rfl rfl)
theorem dJ26_indexOf_2_119 : decode cJ26_indexOf_2 119 = .ok (.iconst (-1), 1) := dk_2 (dk_at dksJ26_indexOf_2_5 3 rfl rfl)
theorem dJ26_indexOf_2_120 : decode cJ26_indexOf_2 120 = .ok (.ireturn, 1) := dk_172 (dk_at dksJ26_indexOf_2_5 4 rfl rfl)
abbrev cJ26_fillNull : ByteArray := prog_52_method_48_code
def yJ26_fillNull : MethodName := ⟨RJ26, "fillNull", "([BII)V"⟩
def dkwJ26_fillNull_0 : List UInt8 := [42, 27, 28, 3, 184, 0, 236, 177]
abbrev dktJ26_fillNull_0 : List UInt8 := dkwJ26_fillNull_0 ++ []
theorem dksJ26_fillNull_0 : cJ26_fillNull.data.toList.drop 0 = dktJ26_fillNull_0 := by decide +kernel
theorem dJ26_fillNull_0 : decode cJ26_fillNull 0 = .ok (.aload_n 0, 1) := dk_42 (dk_at dksJ26_fillNull_0 0 rfl rfl)
theorem dJ26_fillNull_1 : decode cJ26_fillNull 1 = .ok (.iload_n 1, 1) := dk_27 (dk_at dksJ26_fillNull_0 1 rfl rfl)
theorem dJ26_fillNull_2 : decode cJ26_fillNull 2 = .ok (.iload_n 2, 1) := dk_28 (dk_at dksJ26_fillNull_0 2 rfl rfl)
theorem dJ26_fillNull_3 : decode cJ26_fillNull 3 = .ok (.iconst 0, 1) := dk_3 (dk_at dksJ26_fillNull_0 3 rfl rfl)
theorem dJ26_fillNull_4 : decode cJ26_fillNull 4 = .ok (.invokestatic 236, 3) := dk_184 0 236 (dk_at dksJ26_fillNull_0 4 rfl rfl)
theorem dJ26_fillNull_7 : decode cJ26_fillNull 7 = .ok (.return_, 1) := dk_177 (dk_at dksJ26_fillNull_0 7 rfl rfl)
theorem q106 : (Jvm.Cond.initialized "java/lang/StringLatin1") ∈ lw_all := lw_g (lw_at lw_m1 34 rfl) rfl
theorem q832 : (Jvm.Cond.static ({ cls := "java/lang/StringLatin1", name := "hashCode", desc := "([B)I" } : Jvm.MethodName)) ∈ lw_all := lw_g (lw_at lw_m4 40 rfl) rfl
theorem q833 : (Jvm.Cond.code ({ cls := "java/lang/StringLatin1", name := "hashCode", desc := "([B)I" } : Jvm.MethodName) prog_52_method_21_code (1 : Nat) (Option.some Jvm.ClassFile.FieldType.int)) ∈ lw_all := lw_g (lw_at lw_m4 41 rfl) rfl
theorem q834 : (Jvm.Cond.methodLink "java/lang/StringLatin1" (84 : Nat) ({ cls := "jdk/internal/util/ArraysSupport", name := "vectorizedHashCode", desc := "(Ljava/lang/Object;IIII)I" } : Jvm.MethodName)) ∈ lw_all := lw_g (lw_at lw_m4 42 rfl) rfl
theorem q970 : (Jvm.Cond.static ({ cls := "java/lang/StringLatin1", name := "inflate", desc := "([BI[BII)V" } : Jvm.MethodName)) ∈ lw_all := lw_g (lw_at lw_m4 178 rfl) rfl
theorem q971 : (Jvm.Cond.code ({ cls := "java/lang/StringLatin1", name := "inflate", desc := "([BI[BII)V" } : Jvm.MethodName) prog_52_method_50_code (5 : Nat) (Option.none : Option Jvm.ClassFile.FieldType)) ∈ lw_all := lw_g (lw_at lw_m4 179 rfl) rfl
theorem q972 : (Jvm.Cond.methodLink "java/lang/StringLatin1" (240 : Nat) ({ cls := "java/lang/StringUTF16", name := "inflate", desc := "([BI[BII)V" } : Jvm.MethodName)) ∈ lw_all := lw_g (lw_at lw_m4 180 rfl) rfl
theorem q1153 : (Jvm.Cond.static ({ cls := "java/lang/StringLatin1", name := "equals", desc := "([B[B)Z" } : Jvm.MethodName)) ∈ lw_all := lw_g (lw_at lw_m5 121 rfl) rfl
theorem q1154 : (Jvm.Cond.code ({ cls := "java/lang/StringLatin1", name := "equals", desc := "([B[B)Z" } : Jvm.MethodName) prog_52_method_13_code (3 : Nat) (Option.some Jvm.ClassFile.FieldType.boolean)) ∈ lw_all := lw_g (lw_at lw_m5 122 rfl) rfl
theorem q1212 : (Jvm.Cond.static ({ cls := "java/lang/StringLatin1", name := "compareTo", desc := "([B[B)I" } : Jvm.MethodName)) ∈ lw_all := lw_g (lw_at lw_m5 180 rfl) rfl
theorem q1213 : (Jvm.Cond.code ({ cls := "java/lang/StringLatin1", name := "compareTo", desc := "([B[B)I" } : Jvm.MethodName) prog_52_method_14_code (4 : Nat) (Option.some Jvm.ClassFile.FieldType.int)) ∈ lw_all := lw_g (lw_at lw_m5 181 rfl) rfl
theorem q1214 : (Jvm.Cond.methodLink "java/lang/StringLatin1" (34 : Nat) ({ cls := "java/lang/StringLatin1", name := "compareTo", desc := "([B[BII)I" } : Jvm.MethodName)) ∈ lw_all := lw_g (lw_at lw_m5 182 rfl) rfl
theorem q1215 : (Jvm.Cond.static ({ cls := "java/lang/StringLatin1", name := "compareTo", desc := "([B[BII)I" } : Jvm.MethodName)) ∈ lw_all := lw_g (lw_at lw_m5 183 rfl) rfl
theorem q1216 : (Jvm.Cond.code ({ cls := "java/lang/StringLatin1", name := "compareTo", desc := "([B[BII)I" } : Jvm.MethodName) prog_52_method_15_code (6 : Nat) (Option.some Jvm.ClassFile.FieldType.int)) ∈ lw_all := lw_g (lw_at lw_m5 184 rfl) rfl
theorem q1217 : (Jvm.Cond.methodLink "java/lang/StringLatin1" (38 : Nat) ({ cls := "java/lang/Math", name := "min", desc := "(II)I" } : Jvm.MethodName)) ∈ lw_all := lw_g (lw_at lw_m5 185 rfl) rfl
theorem q1218 : (Jvm.Cond.methodLink "java/lang/StringLatin1" (44 : Nat) ({ cls := "jdk/internal/util/ArraysSupport", name := "mismatch", desc := "([B[BI)I" } : Jvm.MethodName)) ∈ lw_all := lw_g (lw_at lw_m5 186 rfl) rfl
theorem q1322 : (Jvm.Cond.methodLink "java/lang/StringLatin1" (50 : Nat) ({ cls := "java/lang/StringLatin1", name := "getChar", desc := "([BI)C" } : Jvm.MethodName)) ∈ lw_all := lw_g (lw_at lw_m6 50 rfl) rfl
theorem q1323 : (Jvm.Cond.static ({ cls := "java/lang/StringLatin1", name := "getChar", desc := "([BI)C" } : Jvm.MethodName)) ∈ lw_all := lw_g (lw_at lw_m6 51 rfl) rfl
theorem q1324 : (Jvm.Cond.code ({ cls := "java/lang/StringLatin1", name := "getChar", desc := "([BI)C" } : Jvm.MethodName) prog_52_method_44_code (2 : Nat) (Option.some Jvm.ClassFile.FieldType.char)) ∈ lw_all := lw_g (lw_at lw_m6 52 rfl) rfl
theorem q1333 : (Jvm.Cond.static ({ cls := "java/lang/StringLatin1", name := "compareToUTF16", desc := "([B[B)I" } : Jvm.MethodName)) ∈ lw_all := lw_g (lw_at lw_m6 61 rfl) rfl
theorem q1334 : (Jvm.Cond.code ({ cls := "java/lang/StringLatin1", name := "compareToUTF16", desc := "([B[B)I" } : Jvm.MethodName) prog_52_method_16_code (4 : Nat) (Option.some Jvm.ClassFile.FieldType.int)) ∈ lw_all := lw_g (lw_at lw_m6 62 rfl) rfl
theorem q1335 : (Jvm.Cond.methodLink "java/lang/StringLatin1" (54 : Nat) ({ cls := "java/lang/StringLatin1", name := "length", desc := "([B)I" } : Jvm.MethodName)) ∈ lw_all := lw_g (lw_at lw_m6 63 rfl) rfl
theorem q1336 : (Jvm.Cond.static ({ cls := "java/lang/StringLatin1", name := "length", desc := "([B)I" } : Jvm.MethodName)) ∈ lw_all := lw_g (lw_at lw_m6 64 rfl) rfl
theorem q1337 : (Jvm.Cond.code ({ cls := "java/lang/StringLatin1", name := "length", desc := "([B)I" } : Jvm.MethodName) prog_52_method_5_code (1 : Nat) (Option.some Jvm.ClassFile.FieldType.int)) ∈ lw_all := lw_g (lw_at lw_m6 65 rfl) rfl
theorem q1338 : (Jvm.Cond.methodLink "java/lang/StringLatin1" (58 : Nat) ({ cls := "java/lang/StringUTF16", name := "length", desc := "([B)I" } : Jvm.MethodName)) ∈ lw_all := lw_g (lw_at lw_m6 66 rfl) rfl
theorem q1339 : (Jvm.Cond.methodLink "java/lang/StringLatin1" (59 : Nat) ({ cls := "java/lang/StringLatin1", name := "compareToUTF16Values", desc := "([B[BII)I" } : Jvm.MethodName)) ∈ lw_all := lw_g (lw_at lw_m6 67 rfl) rfl
theorem q1340 : (Jvm.Cond.static ({ cls := "java/lang/StringLatin1", name := "compareToUTF16Values", desc := "([B[BII)I" } : Jvm.MethodName)) ∈ lw_all := lw_g (lw_at lw_m6 68 rfl) rfl
theorem q1341 : (Jvm.Cond.code ({ cls := "java/lang/StringLatin1", name := "compareToUTF16Values", desc := "([B[BII)I" } : Jvm.MethodName) prog_52_method_18_code (8 : Nat) (Option.some Jvm.ClassFile.FieldType.int)) ∈ lw_all := lw_g (lw_at lw_m6 69 rfl) rfl
theorem q1342 : (Jvm.Cond.methodLink "java/lang/StringLatin1" (65 : Nat) ({ cls := "java/lang/StringUTF16", name := "getChar", desc := "([BI)C" } : Jvm.MethodName)) ∈ lw_all := lw_g (lw_at lw_m6 70 rfl) rfl
theorem q1372 : (Jvm.Cond.static ({ cls := "java/lang/StringLatin1", name := "compareToUTF16", desc := "([B[BII)I" } : Jvm.MethodName)) ∈ lw_all := lw_g (lw_at lw_m6 100 rfl) rfl
theorem q1373 : (Jvm.Cond.code ({ cls := "java/lang/StringLatin1", name := "compareToUTF16", desc := "([B[BII)I" } : Jvm.MethodName) prog_52_method_17_code (4 : Nat) (Option.some Jvm.ClassFile.FieldType.int)) ∈ lw_all := lw_g (lw_at lw_m6 101 rfl) rfl
theorem q1374 : (Jvm.Cond.methodLink "java/lang/StringLatin1" (62 : Nat) ({ cls := "java/lang/String", name := "checkOffset", desc := "(II)V" } : Jvm.MethodName)) ∈ lw_all := lw_g (lw_at lw_m6 102 rfl) rfl
theorem q2759 : (Jvm.Cond.static ({ cls := "java/lang/StringLatin1", name := "charAt", desc := "([BI)C" } : Jvm.MethodName)) ∈ lw_all := lw_g (lw_at lw_m12 47 rfl) rfl
theorem q2760 : (Jvm.Cond.code ({ cls := "java/lang/StringLatin1", name := "charAt", desc := "([BI)C" } : Jvm.MethodName) prog_52_method_2_code (2 : Nat) (Option.some Jvm.ClassFile.FieldType.char)) ∈ lw_all := lw_g (lw_at lw_m12 48 rfl) rfl
theorem q2761 : (Jvm.Cond.methodLink "java/lang/StringLatin1" (9 : Nat) ({ cls := "java/lang/String", name := "checkIndex", desc := "(II)V" } : Jvm.MethodName)) ∈ lw_all := lw_g (lw_at lw_m12 49 rfl) rfl
theorem q2928 : (Jvm.Cond.static ({ cls := "java/lang/StringLatin1", name := "canEncode", desc := "(C)Z" } : Jvm.MethodName)) ∈ lw_all := lw_g (lw_at lw_m12 216 rfl) rfl
theorem q2929 : (Jvm.Cond.code ({ cls := "java/lang/StringLatin1", name := "canEncode", desc := "(C)Z" } : Jvm.MethodName) prog_52_method_3_code (1 : Nat) (Option.some Jvm.ClassFile.FieldType.boolean)) ∈ lw_all := lw_g (lw_at lw_m12 217 rfl) rfl
theorem q2983 : (Jvm.Cond.static ({ cls := "java/lang/StringLatin1", name := "newString", desc := "([BII)Ljava/lang/String;" } : Jvm.MethodName)) ∈ lw_all := lw_g (lw_at lw_m13 31 rfl) rfl
theorem q2984 : (Jvm.Cond.code ({ cls := "java/lang/StringLatin1", name := "newString", desc := "([BII)Ljava/lang/String;" } : Jvm.MethodName) prog_52_method_47_code (3 : Nat) (Option.some (Jvm.ClassFile.FieldType.object "java/lang/String"))) ∈ lw_all := lw_g (lw_at lw_m13 32 rfl) rfl
theorem q2985 : (Jvm.Cond.stringRef "java/lang/StringLatin1" (151 : Nat) "") ∈ lw_tbl := lw_at lw_m13 33 rfl
theorem q2986 : (Jvm.Cond.classLink "java/lang/StringLatin1" (1 : Nat) "java/lang/String") ∈ lw_all := lw_g (lw_at lw_m13 34 rfl) rfl
theorem q2987 : (Jvm.Cond.methodLink "java/lang/StringLatin1" (232 : Nat) ({ cls := "java/util/Arrays", name := "copyOfRange", desc := "([BII)[B" } : Jvm.MethodName)) ∈ lw_all := lw_g (lw_at lw_m13 35 rfl) rfl
theorem q2988 : (Jvm.Cond.methodLink "java/lang/StringLatin1" (112 : Nat) ({ cls := "java/lang/String", name := "<init>", desc := "([BB)V" } : Jvm.MethodName)) ∈ lw_all := lw_g (lw_at lw_m13 36 rfl) rfl
theorem q3035 : (Jvm.Cond.static ({ cls := "java/lang/StringLatin1", name := "indexOf", desc := "([B[B)I" } : Jvm.MethodName)) ∈ lw_all := lw_g (lw_at lw_m13 83 rfl) rfl
theorem q3036 : (Jvm.Cond.code ({ cls := "java/lang/StringLatin1", name := "indexOf", desc := "([B[B)I" } : Jvm.MethodName) prog_52_method_24_code (2 : Nat) (Option.some Jvm.ClassFile.FieldType.int)) ∈ lw_all := lw_g (lw_at lw_m13 84 rfl) rfl
theorem q3037 : (Jvm.Cond.methodLink "java/lang/StringLatin1" (99 : Nat) ({ cls := "java/lang/StringLatin1", name := "indexOf", desc := "([BI[BII)I" } : Jvm.MethodName)) ∈ lw_all := lw_g (lw_at lw_m13 85 rfl) rfl
theorem q3038 : (Jvm.Cond.static ({ cls := "java/lang/StringLatin1", name := "indexOf", desc := "([BI[BII)I" } : Jvm.MethodName)) ∈ lw_all := lw_g (lw_at lw_m13 86 rfl) rfl
theorem q3039 : (Jvm.Cond.code ({ cls := "java/lang/StringLatin1", name := "indexOf", desc := "([BI[BII)I" } : Jvm.MethodName) prog_52_method_25_code (11 : Nat) (Option.some Jvm.ClassFile.FieldType.int)) ∈ lw_all := lw_g (lw_at lw_m13 87 rfl) rfl
theorem q3174 : (Jvm.Cond.static ({ cls := "java/lang/StringLatin1", name := "fillNull", desc := "([BII)V" } : Jvm.MethodName)) ∈ lw_all := lw_g (lw_at lw_m13 222 rfl) rfl
theorem q3175 : (Jvm.Cond.code ({ cls := "java/lang/StringLatin1", name := "fillNull", desc := "([BII)V" } : Jvm.MethodName) prog_52_method_48_code (3 : Nat) (Option.none : Option Jvm.ClassFile.FieldType)) ∈ lw_all := lw_g (lw_at lw_m13 223 rfl) rfl
theorem q3176 : (Jvm.Cond.methodLink "java/lang/StringLatin1" (236 : Nat) ({ cls := "java/util/Arrays", name := "fill", desc := "([BIIB)V" } : Jvm.MethodName)) ∈ lw_all := lw_g (lw_at lw_m13 224 rfl) rfl

/-! jdk/internal/util/Preconditions -/
set_option maxRecDepth 100000
def RJ27 : String := "jdk/internal/util/Preconditions"
abbrev cJ27_checkFromToIndex : ByteArray := prog_95_method_12_code
def yJ27_checkFromToIndex : MethodName := ⟨RJ27, "checkFromToIndex", "(IIILjava/util/function/BiFunction;)I"⟩
def dkwJ27_checkFromToIndex_0 : List UInt8 := [26, 155, 0, 13, 26, 27, 163, 0, 8, 27, 28, 164, 0, 11, 45, 26, 27, 28, 184, 0, 99, 191, 26, 172]
abbrev dktJ27_checkFromToIndex_0 : List UInt8 := dkwJ27_checkFromToIndex_0 ++ []
theorem dksJ27_checkFromToIndex_0 : cJ27_checkFromToIndex.data.toList.drop 0 = dktJ27_checkFromToIndex_0 := by decide +kernel
theorem dJ27_checkFromToIndex_0 : decode cJ27_checkFromToIndex 0 = .ok (.iload_n 0, 1) := dk_26 (dk_at dksJ27_checkFromToIndex_0 0 rfl rfl)
theorem dJ27_checkFromToIndex_1 : decode cJ27_checkFromToIndex 1 = .ok (.ifCond .lt 13, 3) := dk_155 0 13 (dk_at dksJ27_checkFromToIndex_0 1 rfl rfl)
theorem dJ27_checkFromToIndex_4 : decode cJ27_checkFromToIndex 4 = .ok (.iload_n 0, 1) := dk_26 (dk_at dksJ27_checkFromToIndex_0 4 rfl rfl)
theorem dJ27_checkFromToIndex_5 : decode cJ27_checkFromToIndex 5 = .ok (.iload_n 1, 1) := dk_27 (dk_at dksJ27_checkFromToIndex_0 5 rfl rfl)
theorem dJ27_checkFromToIndex_6 : decode cJ27_checkFromToIndex 6 = .ok (.if_icmp .gt 8, 3) := dk_163 0 8 (dk_at dksJ27_checkFromToIndex_0 6 rfl rfl)
theorem dJ27_checkFromToIndex_9 : decode cJ27_checkFromToIndex 9 = .ok (.iload_n 1, 1) := dk_27 (dk_at dksJ27_checkFromToIndex_0 9 rfl rfl)
theorem dJ27_checkFromToIndex_10 : decode cJ27_checkFromToIndex 10 = .ok (.iload_n 2, 1) := dk_28 (dk_at dksJ27_checkFromToIndex_0 10 rfl rfl)
theorem dJ27_checkFromToIndex_11 : decode cJ27_checkFromToIndex 11 = .ok (.if_icmp .le 11, 3) := dk_164 0 11 (dk_at dksJ27_checkFromToIndex_0 11 rfl rfl)
theorem dJ27_checkFromToIndex_14 : decode cJ27_checkFromToIndex 14 = .ok (.aload_n 3, 1) := dk_45 (dk_at dksJ27_checkFromToIndex_0 14 rfl rfl)
theorem dJ27_checkFromToIndex_15 : decode cJ27_checkFromToIndex 15 = .ok (.iload_n 0, 1) := dk_26 (dk_at dksJ27_checkFromToIndex_0 15 rfl rfl)
theorem dJ27_checkFromToIndex_16 : decode cJ27_checkFromToIndex 16 = .ok (.iload_n 1, 1) := dk_27 (dk_at dksJ27_checkFromToIndex_0 16 rfl rfl)
theorem dJ27_checkFromToIndex_17 : decode cJ27_checkFromToIndex 17 = .ok (.iload_n 2, 1) := dk_28 (dk_at dksJ27_checkFromToIndex_0 17 rfl rfl)
theorem dJ27_checkFromToIndex_18 : decode cJ27_checkFromToIndex 18 = .ok (.invokestatic 99, 3) := dk_184 0 99 (dk_at dksJ27_checkFromToIndex_0 18 rfl rfl)
theorem dJ27_checkFromToIndex_21 : decode cJ27_checkFromToIndex 21 = .ok (.athrow, 1) := dk_191 (dk_at dksJ27_checkFromToIndex_0 21 rfl rfl)
theorem dJ27_checkFromToIndex_22 : decode cJ27_checkFromToIndex 22 = .ok (.iload_n 0, 1) := dk_26 (dk_at dksJ27_checkFromToIndex_0 22 rfl rfl)
theorem dJ27_checkFromToIndex_23 : decode cJ27_checkFromToIndex 23 = .ok (.ireturn, 1) := dk_172 (dk_at dksJ27_checkFromToIndex_0 23 rfl rfl)
abbrev cJ27_checkFromIndexSize : ByteArray := prog_95_method_13_code
def yJ27_checkFromIndexSize : MethodName := ⟨RJ27, "checkFromIndexSize", "(IIILjava/util/function/BiFunction;)I"⟩
def dkwJ27_checkFromIndexSize_1 : List UInt8 := [172]
abbrev dktJ27_checkFromIndexSize_1 : List UInt8 := dkwJ27_checkFromIndexSize_1 ++ []
def dkwJ27_checkFromIndexSize_0 : List UInt8 := [28, 26, 128, 27, 128, 155, 0, 10, 27, 28, 26, 100, 164, 0, 11, 45, 26, 27, 28, 184, 0, 103, 191, 26]
abbrev dktJ27_checkFromIndexSize_0 : List UInt8 := dkwJ27_checkFromIndexSize_0 ++ dktJ27_checkFromIndexSize_1
theorem dksJ27_checkFromIndexSize_0 : cJ27_checkFromIndexSize.data.toList.drop 0 = dktJ27_checkFromIndexSize_0 := by decide +kernel
theorem dksJ27_checkFromIndexSize_1 : cJ27_checkFromIndexSize.data.toList.drop 24 = dktJ27_checkFromIndexSize_1 := dk_seg dksJ27_checkFromIndexSize_0 24 rfl rfl
theorem dJ27_checkFromIndexSize_0 : decode cJ27_checkFromIndexSize 0 = .ok (.iload_n 2, 1) := dk_28 (dk_at dksJ27_checkFromIndexSize_0 0 rfl rfl)
theorem dJ27_checkFromIndexSize_1 : decode cJ27_checkFromIndexSize 1 = .ok (.iload_n 0, 1) := dk_26 (dk_at dksJ27_checkFromIndexSize_0 1 rfl rfl)
theorem dJ27_checkFromIndexSize_2 : decode cJ27_checkFromIndexSize 2 = .ok (.ior, 1) := dk_128 (dk_at dksJ27_checkFromIndexSize_0 2 rfl rfl)
theorem dJ27_checkFromIndexSize_3 : decode cJ27_checkFromIndexSize 3 = .ok (.iload_n 1, 1) := dk_27 (dk_at dksJ27_checkFromIndexSize_0 3 rfl rfl)
theorem dJ27_checkFromIndexSize_4 : decode cJ27_checkFromIndexSize 4 = .ok (.ior, 1) := dk_128 (dk_at dksJ27_checkFromIndexSize_0 4 rfl rfl)
theorem dJ27_checkFromIndexSize_5 : decode cJ27_checkFromIndexSize 5 = .ok (.ifCond .lt 10, 3) := dk_155 0 10 (dk_at dksJ27_checkFromIndexSize_0 5 rfl rfl)
theorem dJ27_checkFromIndexSize_8 : decode cJ27_checkFromIndexSize 8 = .ok (.iload_n 1, 1) := dk_27 (dk_at dksJ27_checkFromIndexSize_0 8 rfl rfl)
theorem dJ27_checkFromIndexSize_9 : decode cJ27_checkFromIndexSize 9 = .ok (.iload_n 2, 1) := dk_28 (dk_at dksJ27_checkFromIndexSize_0 9 rfl rfl)
theorem dJ27_checkFromIndexSize_10 : decode cJ27_checkFromIndexSize 10 = .ok (.iload_n 0, 1) := dk_26 (dk_at dksJ27_checkFromIndexSize_0 10 rfl rfl)
theorem dJ27_checkFromIndexSize_11 : decode cJ27_checkFromIndexSize 11 = .ok (.isub, 1) := dk_100 (dk_at dksJ27_checkFromIndexSize_0 11 rfl rfl)
theorem dJ27_checkFromIndexSize_12 : decode cJ27_checkFromIndexSize 12 = .ok (.if_icmp .le 11, 3) := dk_164 0 11 (dk_at dksJ27_checkFromIndexSize_0 12 rfl rfl)
theorem dJ27_checkFromIndexSize_15 : decode cJ27_checkFromIndexSize 15 = .ok (.aload_n 3, 1) := dk_45 (dk_at dksJ27_checkFromIndexSize_0 15 rfl rfl)
theorem dJ27_checkFromIndexSize_16 : decode cJ27_checkFromIndexSize 16 = .ok (.iload_n 0, 1) := dk_26 (dk_at dksJ27_checkFromIndexSize_0 16 rfl rfl)
theorem dJ27_checkFromIndexSize_17 : decode cJ27_checkFromIndexSize 17 = .ok (.iload_n 1, 1) := dk_27 (dk_at dksJ27_checkFromIndexSize_0 17 rfl rfl)
theorem dJ27_checkFromIndexSize_18 : decode cJ27_checkFromIndexSize 18 = .ok (.iload_n 2, 1) := dk_28 (dk_at dksJ27_checkFromIndexSize_0 18 rfl rfl)
theorem dJ27_checkFromIndexSize_19 : decode cJ27_checkFromIndexSize 19 = .ok (.invokestatic 103, 3) := dk_184 0 103 (dk_at dksJ27_checkFromIndexSize_0 19 rfl rfl)
theorem dJ27_checkFromIndexSize_22 : decode cJ27_checkFromIndexSize 22 = .ok (.athrow, 1) := dk_191 (dk_at dksJ27_checkFromIndexSize_0 22 rfl rfl)
theorem dJ27_checkFromIndexSize_23 : decode cJ27_checkFromIndexSize 23 = .ok (.iload_n 0, 1) := dk_26 (dk_at dksJ27_checkFromIndexSize_0 23 rfl rfl)
theorem dJ27_checkFromIndexSize_24 : decode cJ27_checkFromIndexSize 24 = .ok (.ireturn, 1) := dk_172 (dk_at dksJ27_checkFromIndexSize_1 0 rfl rfl)
abbrev cJ27_checkIndex : ByteArray := prog_95_method_11_code
def yJ27_checkIndex : MethodName := ⟨RJ27, "checkIndex", "(IILjava/util/function/BiFunction;)I"⟩
def dkwJ27_checkIndex_0 : List UInt8 := [26, 155, 0, 8, 26, 27, 161, 0, 10, 44, 26, 27, 184, 0, 95, 191, 26, 172]
abbrev dktJ27_checkIndex_0 : List UInt8 := dkwJ27_checkIndex_0 ++ []
theorem dksJ27_checkIndex_0 : cJ27_checkIndex.data.toList.drop 0 = dktJ27_checkIndex_0 := by decide +kernel
theorem dJ27_checkIndex_0 : decode cJ27_checkIndex 0 = .ok (.iload_n 0, 1) := dk_26 (dk_at dksJ27_checkIndex_0 0 rfl rfl)
theorem dJ27_checkIndex_1 : decode cJ27_checkIndex 1 = .ok (.ifCond .lt 8, 3) := dk_155 0 8 (dk_at dksJ27_checkIndex_0 1 rfl rfl)
theorem dJ27_checkIndex_4 : decode cJ27_checkIndex 4 = .ok (.iload_n 0, 1) := dk_26 (dk_at dksJ27_checkIndex_0 4 rfl rfl)
theorem dJ27_checkIndex_5 : decode cJ27_checkIndex 5 = .ok (.iload_n 1, 1) := dk_27 (dk_at dksJ27_checkIndex_0 5 rfl rfl)
theorem dJ27_checkIndex_6 : decode cJ27_checkIndex 6 = .ok (.if_icmp .lt 10, 3) := dk_161 0 10 (dk_at dksJ27_checkIndex_0 6 rfl rfl)
theorem dJ27_checkIndex_9 : decode cJ27_checkIndex 9 = .ok (.aload_n 2, 1) := dk_44 (dk_at dksJ27_checkIndex_0 9 rfl rfl)
theorem dJ27_checkIndex_10 : decode cJ27_checkIndex 10 = .ok (.iload_n 0, 1) := dk_26 (dk_at dksJ27_checkIndex_0 10 rfl rfl)
theorem dJ27_checkIndex_11 : decode cJ27_checkIndex 11 = .ok (.iload_n 1, 1) := dk_27 (dk_at dksJ27_checkIndex_0 11 rfl rfl)
theorem dJ27_checkIndex_12 : decode cJ27_checkIndex 12 = .ok (.invokestatic 95, 3) := dk_184 0 95 (dk_at dksJ27_checkIndex_0 12 rfl rfl)
theorem dJ27_checkIndex_15 : decode cJ27_checkIndex 15 = .ok (.athrow, 1) := dk_191 (dk_at dksJ27_checkIndex_0 15 rfl rfl)
theorem dJ27_checkIndex_16 : decode cJ27_checkIndex 16 = .ok (.iload_n 0, 1) := dk_26 (dk_at dksJ27_checkIndex_0 16 rfl rfl)
theorem dJ27_checkIndex_17 : decode cJ27_checkIndex 17 = .ok (.ireturn, 1) := dk_172 (dk_at dksJ27_checkIndex_0 17 rfl rfl)
theorem q107 : (Jvm.Cond.initialized "jdk/internal/util/Preconditions") ∈ lw_all := lw_g (lw_at lw_m1 35 rfl) rfl
theorem q941 : (Jvm.Cond.laysStatic "jdk/internal/util/Preconditions" "SIOOBE_FORMATTER" "Ljava/util/function/BiFunction;") ∈ lw_tbl := lw_at lw_m4 149 rfl
theorem q943 : (Jvm.Cond.static ({ cls := "jdk/internal/util/Preconditions", name := "checkFromToIndex", desc := "(IIILjava/util/function/BiFunction;)I" } : Jvm.MethodName)) ∈ lw_all := lw_g (lw_at lw_m4 151 rfl) rfl
theorem q944 : (Jvm.Cond.code ({ cls := "jdk/internal/util/Preconditions", name := "checkFromToIndex", desc := "(IIILjava/util/function/BiFunction;)I" } : Jvm.MethodName) prog_95_method_12_code (4 : Nat) (Option.some Jvm.ClassFile.FieldType.int)) ∈ lw_all := lw_g (lw_at lw_m4 152 rfl) rfl
theorem q982 : (Jvm.Cond.static ({ cls := "jdk/internal/util/Preconditions", name := "checkFromIndexSize", desc := "(IIILjava/util/function/BiFunction;)I" } : Jvm.MethodName)) ∈ lw_all := lw_g (lw_at lw_m4 190 rfl) rfl
theorem q983 : (Jvm.Cond.code ({ cls := "jdk/internal/util/Preconditions", name := "checkFromIndexSize", desc := "(IIILjava/util/function/BiFunction;)I" } : Jvm.MethodName) prog_95_method_13_code (4 : Nat) (Option.some Jvm.ClassFile.FieldType.int)) ∈ lw_all := lw_g (lw_at lw_m4 191 rfl) rfl
theorem q1675 : (Jvm.Cond.static ({ cls := "jdk/internal/util/Preconditions", name := "checkIndex", desc := "(IILjava/util/function/BiFunction;)I" } : Jvm.MethodName)) ∈ lw_all := lw_g (lw_at lw_m7 163 rfl) rfl
theorem q1676 : (Jvm.Cond.code ({ cls := "jdk/internal/util/Preconditions", name := "checkIndex", desc := "(IILjava/util/function/BiFunction;)I" } : Jvm.MethodName) prog_95_method_11_code (3 : Nat) (Option.some Jvm.ClassFile.FieldType.int)) ∈ lw_all := lw_g (lw_at lw_m7 164 rfl) rfl

/-! java/util/HashMap$Node -/
set_option maxRecDepth 100000
def RJ30 : String := "java/util/HashMap$Node"
abbrev cJ30_getKey : ByteArray := prog_72_method_2_code
def yJ30_getKey : MethodName := ⟨RJ30, "getKey", "()Ljava/lang/Object;"⟩
theorem dJ30_getKey_0 : decode cJ30_getKey 0 = .ok (.aload_n 0, 1) := by decide +kernel
theorem dJ30_getKey_1 : decode cJ30_getKey 1 = .ok (.getfield 13, 3) := by decide +kernel
theorem dJ30_getKey_4 : decode cJ30_getKey 4 = .ok (.areturn, 1) := by decide +kernel
abbrev cJ30_getValue : ByteArray := prog_72_method_3_code
def yJ30_getValue : MethodName := ⟨RJ30, "getValue", "()Ljava/lang/Object;"⟩
theorem dJ30_getValue_0 : decode cJ30_getValue 0 = .ok (.aload_n 0, 1) := by decide +kernel
theorem dJ30_getValue_1 : decode cJ30_getValue 1 = .ok (.getfield 17, 3) := by decide +kernel
theorem dJ30_getValue_4 : decode cJ30_getValue 4 = .ok (.areturn, 1) := by decide +kernel
abbrev cJ30_init : ByteArray := prog_72_method_1_code
def yJ30_init : MethodName := ⟨RJ30, "<init>", "(ILjava/lang/Object;Ljava/lang/Object;Ljava/util/HashMap$Node;)V"⟩
def dkwJ30_init_1 : List UInt8 := [181, 0, 20, 177]
abbrev dktJ30_init_1 : List UInt8 := dkwJ30_init_1 ++ []
def dkwJ30_init_0 : List UInt8 := [42, 183, 0, 1, 42, 27, 181, 0, 7, 42, 44, 181, 0, 13, 42, 45, 181, 0, 17, 42, 25, 4]
abbrev dktJ30_init_0 : List UInt8 := dkwJ30_init_0 ++ dktJ30_init_1
theorem dksJ30_init_0 : cJ30_init.data.toList.drop 0 = dktJ30_init_0 := by decide +kernel
theorem dksJ30_init_1 : cJ30_init.data.toList.drop 22 = dktJ30_init_1 := dk_seg dksJ30_init_0 22 rfl rfl
theorem dJ30_init_0 : decode cJ30_init 0 = .ok (.aload_n 0, 1) := dk_42 (dk_at dksJ30_init_0 0 rfl rfl)
theorem dJ30_init_1 : decode cJ30_init 1 = .ok (.invokespecial 1, 3) := dk_183 0 1 (dk_at dksJ30_init_0 1 rfl rfl)
theorem dJ30_init_4 : decode cJ30_init 4 = .ok (.aload_n 0, 1) := dk_42 (dk_at dksJ30_init_0 4 rfl rfl)
theorem dJ30_init_5 : decode cJ30_init 5 = .ok (.iload_n 1, 1) := dk_27 (dk_at dksJ30_init_0 5 rfl rfl)
theorem dJ30_init_6 : decode cJ30_init 6 = .ok (.putfield 7, 3) := dk_181 0 7 (dk_at dksJ30_init_0 6 rfl rfl)
theorem dJ30_init_9 : decode cJ30_init 9 = .ok (.aload_n 0, 1) := dk_42 (dk_at dksJ30_init_0 9 rfl rfl)
theorem dJ30_init_10 : decode cJ30_init 10 = .ok (.aload_n 2, 1) := dk_44 (dk_at dksJ30_init_0 10 rfl rfl)
theorem dJ30_init_11 : decode cJ30_init 11 = .ok (.putfield 13, 3) := dk_181 0 13 (dk_at dksJ30_init_0 11 rfl rfl)
theorem dJ30_init_14 : decode cJ30_init 14 = .ok (.aload_n 0, 1) := dk_42 (dk_at dksJ30_init_0 14 rfl rfl)
theorem dJ30_init_15 : decode cJ30_init 15 = .ok (.aload_n 3, 1) := dk_45 (dk_at dksJ30_init_0 15 rfl rfl)
theorem dJ30_init_16 : decode cJ30_init 16 = .ok (.putfield 17, 3) := dk_181 0 17 (dk_at dksJ30_init_0 16 rfl rfl)
theorem dJ30_init_19 : decode cJ30_init 19 = .ok (.aload_n 0, 1) := dk_42 (dk_at dksJ30_init_0 19 rfl rfl)
theorem dJ30_init_20 : decode cJ30_init 20 = .ok (.aload 4, 2) := dk_25 4 (dk_at dksJ30_init_0 20 rfl rfl)
theorem dJ30_init_22 : decode cJ30_init 22 = .ok (.putfield 20, 3) := dk_181 0 20 (dk_at dksJ30_init_1 0 rfl rfl)
theorem dJ30_init_25 : decode cJ30_init 25 = .ok (.return_, 1) := dk_177 (dk_at dksJ30_init_1 3 rfl rfl)
theorem q111 : (Jvm.Cond.initialized "java/util/HashMap$Node") ∈ lw_all := lw_g (lw_at lw_m1 39 rfl) rfl
theorem q633 : (Jvm.Cond.selects "java/util/HashMap$Node" ({ cls := "java/lang/Object", name := "getClass", desc := "()Ljava/lang/Class;" } : Jvm.MethodName) ({ cls := "java/lang/Object", name := "getClass", desc := "()Ljava/lang/Class;" } : Jvm.MethodName)) ∈ lw_all := lw_g (lw_at lw_m3 81 rfl) rfl
theorem q730 : (Jvm.Cond.castable "java/util/HashMap$Node" "java/util/Map$Entry") ∈ lw_tbl := lw_at lw_m3 178 rfl
theorem q731 : (Jvm.Cond.selects "java/util/HashMap$Node" ({ cls := "java/util/Map$Entry", name := "getKey", desc := "()Ljava/lang/Object;" } : Jvm.MethodName) ({ cls := "java/util/HashMap$Node", name := "getKey", desc := "()Ljava/lang/Object;" } : Jvm.MethodName)) ∈ lw_all := lw_g (lw_at lw_m3 179 rfl) rfl
theorem q732 : (Jvm.Cond.unhidden "java/util/HashMap$Node" "getKey" "()Ljava/lang/Object;") ∈ lw_tbl := lw_at lw_m3 180 rfl
theorem q733 : (Jvm.Cond.instanceMethod ({ cls := "java/util/HashMap$Node", name := "getKey", desc := "()Ljava/lang/Object;" } : Jvm.MethodName)) ∈ lw_all := lw_g (lw_at lw_m3 181 rfl) rfl
theorem q734 : (Jvm.Cond.publicMethod ({ cls := "java/util/HashMap$Node", name := "getKey", desc := "()Ljava/lang/Object;" } : Jvm.MethodName)) ∈ lw_tbl := lw_at lw_m3 182 rfl
theorem q735 : (Jvm.Cond.code ({ cls := "java/util/HashMap$Node", name := "getKey", desc := "()Ljava/lang/Object;" } : Jvm.MethodName) prog_72_method_2_code (1 : Nat) (Option.some (Jvm.ClassFile.FieldType.object "java/lang/Object"))) ∈ lw_all := lw_g (lw_at lw_m3 183 rfl) rfl
theorem q747 : (Jvm.Cond.selects "java/util/HashMap$Node" ({ cls := "java/util/Map$Entry", name := "getValue", desc := "()Ljava/lang/Object;" } : Jvm.MethodName) ({ cls := "java/util/HashMap$Node", name := "getValue", desc := "()Ljava/lang/Object;" } : Jvm.MethodName)) ∈ lw_all := lw_g (lw_at lw_m3 195 rfl) rfl
theorem q748 : (Jvm.Cond.unhidden "java/util/HashMap$Node" "getValue" "()Ljava/lang/Object;") ∈ lw_tbl := lw_at lw_m3 196 rfl
theorem q749 : (Jvm.Cond.instanceMethod ({ cls := "java/util/HashMap$Node", name := "getValue", desc := "()Ljava/lang/Object;" } : Jvm.MethodName)) ∈ lw_all := lw_g (lw_at lw_m3 197 rfl) rfl
theorem q750 : (Jvm.Cond.publicMethod ({ cls := "java/util/HashMap$Node", name := "getValue", desc := "()Ljava/lang/Object;" } : Jvm.MethodName)) ∈ lw_tbl := lw_at lw_m3 198 rfl
theorem q751 : (Jvm.Cond.code ({ cls := "java/util/HashMap$Node", name := "getValue", desc := "()Ljava/lang/Object;" } : Jvm.MethodName) prog_72_method_3_code (1 : Nat) (Option.some (Jvm.ClassFile.FieldType.object "java/lang/Object"))) ∈ lw_all := lw_g (lw_at lw_m3 199 rfl) rfl
theorem q1415 : (Jvm.Cond.instanceMethod ({ cls := "java/util/HashMap$Node", name := "<init>", desc := "(ILjava/lang/Object;Ljava/lang/Object;Ljava/util/HashMap$Node;)V" } : Jvm.MethodName)) ∈ lw_all := lw_g (lw_at lw_m6 143 rfl) rfl
theorem q1416 : (Jvm.Cond.code ({ cls := "java/util/HashMap$Node", name := "<init>", desc := "(ILjava/lang/Object;Ljava/lang/Object;Ljava/util/HashMap$Node;)V" } : Jvm.MethodName) prog_72_method_1_code (5 : Nat) (Option.none : Option Jvm.ClassFile.FieldType)) ∈ lw_all := lw_g (lw_at lw_m6 144 rfl) rfl
theorem q1417 : (Jvm.Cond.methodLink "java/util/HashMap$Node" (1 : Nat) ({ cls := "java/lang/Object", name := "<init>", desc := "()V" } : Jvm.MethodName)) ∈ lw_all := lw_g (lw_at lw_m6 145 rfl) rfl
theorem q1422 : (Jvm.Cond.fieldLink "java/util/HashMap$Node" (7 : Nat) "java/util/HashMap$Node" "hash" "I") ∈ lw_all := lw_g (lw_at lw_m6 150 rfl) rfl
theorem q1429 : (Jvm.Cond.fieldLink "java/util/HashMap$Node" (13 : Nat) "java/util/HashMap$Node" "key" "Ljava/lang/Object;") ∈ lw_all := lw_g (lw_at lw_m6 157 rfl) rfl
theorem q1436 : (Jvm.Cond.fieldLink "java/util/HashMap$Node" (17 : Nat) "java/util/HashMap$Node" "value" "Ljava/lang/Object;") ∈ lw_all := lw_g (lw_at lw_m6 164 rfl) rfl
theorem q1441 : (Jvm.Cond.fieldLink "java/util/HashMap$Node" (20 : Nat) "java/util/HashMap$Node" "next" "Ljava/util/HashMap$Node;") ∈ lw_all := lw_g (lw_at lw_m6 169 rfl) rfl
theorem q1452 : (Jvm.Cond.soleField "java/util/HashMap$Node" "hash") ∈ lw_all := lw_g (lw_at lw_m6 180 rfl) rfl
theorem q1454 : (Jvm.Cond.soleField "java/util/HashMap$Node" "key") ∈ lw_all := lw_g (lw_at lw_m6 182 rfl) rfl
theorem q1456 : (Jvm.Cond.soleField "java/util/HashMap$Node" "value") ∈ lw_all := lw_g (lw_at lw_m6 184 rfl) rfl
theorem q1458 : (Jvm.Cond.soleField "java/util/HashMap$Node" "next") ∈ lw_all := lw_g (lw_at lw_m6 186 rfl) rfl
theorem q3680 : (Jvm.Cond.castable "java/util/HashMap$Node" "java/lang/Object") ∈ lw_tbl := lw_at lw_m16 8 rfl

/-! java/util/LinkedHashMap$Entry -/
set_option maxRecDepth 100000
def RJ31 : String := "java/util/LinkedHashMap$Entry"
def TJ31 : u_T := fun k => match k with
  | 0 => ("java/util/HashMap$Node", "hash", "I", true)
  | 1 => ("java/util/HashMap$Node", "key", "Ljava/lang/Object;", true)
  | 2 => ("java/util/HashMap$Node", "value", "Ljava/lang/Object;", false)
  | 3 => ("java/util/HashMap$Node", "next", "Ljava/util/HashMap$Node;", false)
  | 4 => ("java/util/LinkedHashMap$Entry", "before", "Ljava/util/LinkedHashMap$Entry;", false)
  | _ => ("java/util/LinkedHashMap$Entry", "after", "Ljava/util/LinkedHashMap$Entry;", false)
def tyJ31 : Nat → FieldType := fun k => match k with
  | 0 => .int
  | 1 => .object "java/lang/Object"
  | 2 => .object "java/lang/Object"
  | 3 => .object "java/util/HashMap$Node"
  | 4 => .object "java/util/LinkedHashMap$Entry"
  | _ => .object "java/util/LinkedHashMap$Entry"
abbrev wsJ310 : List Cond := u_ws RJ31 TJ31 6
theorem nmJ31 : ∀ a, a < 6 → ∀ b, b < 6 → a ≠ b → (TJ31 a).2.1 ≠ (TJ31 b).2.1 := by decide +kernel
theorem tyJ31_ok : ∀ k, k < 6 → parseFieldDescriptor (TJ31 k).2.2.1 = some (tyJ31 k) := by decide +kernel
abbrev cJ31_init : ByteArray := prog_76_method_1_code
def yJ31_init : MethodName := ⟨RJ31, "<init>", "(ILjava/lang/Object;Ljava/lang/Object;Ljava/util/HashMap$Node;)V"⟩
def dkwJ31_init_0 : List UInt8 := [42, 27, 44, 45, 25, 4, 183, 0, 1, 177]
abbrev dktJ31_init_0 : List UInt8 := dkwJ31_init_0 ++ []
theorem dksJ31_init_0 : cJ31_init.data.toList.drop 0 = dktJ31_init_0 := by decide +kernel
theorem dJ31_init_0 : decode cJ31_init 0 = .ok (.aload_n 0, 1) := dk_42 (dk_at dksJ31_init_0 0 rfl rfl)
theorem dJ31_init_1 : decode cJ31_init 1 = .ok (.iload_n 1, 1) := dk_27 (dk_at dksJ31_init_0 1 rfl rfl)
theorem dJ31_init_2 : decode cJ31_init 2 = .ok (.aload_n 2, 1) := dk_44 (dk_at dksJ31_init_0 2 rfl rfl)
theorem dJ31_init_3 : decode cJ31_init 3 = .ok (.aload_n 3, 1) := dk_45 (dk_at dksJ31_init_0 3 rfl rfl)
theorem dJ31_init_4 : decode cJ31_init 4 = .ok (.aload 4, 2) := dk_25 4 (dk_at dksJ31_init_0 4 rfl rfl)
theorem dJ31_init_6 : decode cJ31_init 6 = .ok (.invokespecial 1, 3) := dk_183 0 1 (dk_at dksJ31_init_0 6 rfl rfl)
theorem dJ31_init_9 : decode cJ31_init 9 = .ok (.return_, 1) := dk_177 (dk_at dksJ31_init_0 9 rfl rfl)
theorem q112 : (Jvm.Cond.initialized "java/util/LinkedHashMap$Entry") ∈ lw_all := lw_g (lw_at lw_m1 40 rfl) rfl
theorem q636 : (Jvm.Cond.selects "java/util/LinkedHashMap$Entry" ({ cls := "java/lang/Object", name := "getClass", desc := "()Ljava/lang/Class;" } : Jvm.MethodName) ({ cls := "java/lang/Object", name := "getClass", desc := "()Ljava/lang/Class;" } : Jvm.MethodName)) ∈ lw_all := lw_g (lw_at lw_m3 84 rfl) rfl
theorem q739 : (Jvm.Cond.castable "java/util/LinkedHashMap$Entry" "java/util/Map$Entry") ∈ lw_tbl := lw_at lw_m3 187 rfl
theorem q740 : (Jvm.Cond.selects "java/util/LinkedHashMap$Entry" ({ cls := "java/util/Map$Entry", name := "getKey", desc := "()Ljava/lang/Object;" } : Jvm.MethodName) ({ cls := "java/util/HashMap$Node", name := "getKey", desc := "()Ljava/lang/Object;" } : Jvm.MethodName)) ∈ lw_all := lw_g (lw_at lw_m3 188 rfl) rfl
theorem q741 : (Jvm.Cond.unhidden "java/util/LinkedHashMap$Entry" "getKey" "()Ljava/lang/Object;") ∈ lw_tbl := lw_at lw_m3 189 rfl
theorem q754 : (Jvm.Cond.selects "java/util/LinkedHashMap$Entry" ({ cls := "java/util/Map$Entry", name := "getValue", desc := "()Ljava/lang/Object;" } : Jvm.MethodName) ({ cls := "java/util/HashMap$Node", name := "getValue", desc := "()Ljava/lang/Object;" } : Jvm.MethodName)) ∈ lw_all := lw_g (lw_at lw_m3 202 rfl) rfl
theorem q755 : (Jvm.Cond.unhidden "java/util/LinkedHashMap$Entry" "getValue" "()Ljava/lang/Object;") ∈ lw_tbl := lw_at lw_m3 203 rfl
theorem q1410 : (Jvm.Cond.instantiable "java/util/LinkedHashMap$Entry" (6 : Nat)) ∈ lw_all := lw_g (lw_at lw_m6 138 rfl) rfl
theorem q1412 : (Jvm.Cond.instanceMethod ({ cls := "java/util/LinkedHashMap$Entry", name := "<init>", desc := "(ILjava/lang/Object;Ljava/lang/Object;Ljava/util/HashMap$Node;)V" } : Jvm.MethodName)) ∈ lw_all := lw_g (lw_at lw_m6 140 rfl) rfl
theorem q1413 : (Jvm.Cond.code ({ cls := "java/util/LinkedHashMap$Entry", name := "<init>", desc := "(ILjava/lang/Object;Ljava/lang/Object;Ljava/util/HashMap$Node;)V" } : Jvm.MethodName) prog_76_method_1_code (5 : Nat) (Option.none : Option Jvm.ClassFile.FieldType)) ∈ lw_all := lw_g (lw_at lw_m6 141 rfl) rfl
theorem q1414 : (Jvm.Cond.methodLink "java/util/LinkedHashMap$Entry" (1 : Nat) ({ cls := "java/util/HashMap$Node", name := "<init>", desc := "(ILjava/lang/Object;Ljava/lang/Object;Ljava/util/HashMap$Node;)V" } : Jvm.MethodName)) ∈ lw_all := lw_g (lw_at lw_m6 142 rfl) rfl
theorem q1427 : (Jvm.Cond.sameField "java/util/LinkedHashMap$Entry" "java/util/HashMap$Node" "hash" "I") ∈ lw_all := lw_g (lw_at lw_m6 155 rfl) rfl
theorem q1434 : (Jvm.Cond.sameField "java/util/LinkedHashMap$Entry" "java/util/HashMap$Node" "key" "Ljava/lang/Object;") ∈ lw_all := lw_g (lw_at lw_m6 162 rfl) rfl
theorem q1438 : (Jvm.Cond.sameField "java/util/LinkedHashMap$Entry" "java/util/HashMap$Node" "value" "Ljava/lang/Object;") ∈ lw_all := lw_g (lw_at lw_m6 166 rfl) rfl
theorem q1447 : (Jvm.Cond.lays "java/util/LinkedHashMap$Entry" "java/util/LinkedHashMap$Entry" "before" "Ljava/util/LinkedHashMap$Entry;") ∈ lw_all := lw_g (lw_at lw_m6 175 rfl) rfl
theorem q1448 : (Jvm.Cond.soleField "java/util/LinkedHashMap$Entry" "before") ∈ lw_all := lw_g (lw_at lw_m6 176 rfl) rfl
theorem q1449 : (Jvm.Cond.lays "java/util/LinkedHashMap$Entry" "java/util/LinkedHashMap$Entry" "after" "Ljava/util/LinkedHashMap$Entry;") ∈ lw_all := lw_g (lw_at lw_m6 177 rfl) rfl
theorem q1450 : (Jvm.Cond.soleField "java/util/LinkedHashMap$Entry" "after") ∈ lw_all := lw_g (lw_at lw_m6 178 rfl) rfl
theorem q1451 : (Jvm.Cond.laysFinal "java/util/LinkedHashMap$Entry" "java/util/HashMap$Node" "hash" "I") ∈ lw_all := lw_g (lw_at lw_m6 179 rfl) rfl
theorem q1453 : (Jvm.Cond.laysFinal "java/util/LinkedHashMap$Entry" "java/util/HashMap$Node" "key" "Ljava/lang/Object;") ∈ lw_all := lw_g (lw_at lw_m6 181 rfl) rfl
theorem q1455 : (Jvm.Cond.lays "java/util/LinkedHashMap$Entry" "java/util/HashMap$Node" "value" "Ljava/lang/Object;") ∈ lw_all := lw_g (lw_at lw_m6 183 rfl) rfl
theorem q1457 : (Jvm.Cond.lays "java/util/LinkedHashMap$Entry" "java/util/HashMap$Node" "next" "Ljava/util/HashMap$Node;") ∈ lw_all := lw_g (lw_at lw_m6 185 rfl) rfl
theorem q1459 : (Jvm.Cond.superclass "java/util/LinkedHashMap$Entry" "java/util/HashMap$Node") ∈ lw_all := lw_g (lw_at lw_m6 187 rfl) rfl
theorem q3699 : (Jvm.Cond.castable "java/util/LinkedHashMap$Entry" "java/lang/Object") ∈ lw_tbl := lw_at lw_m16 27 rfl
theorem q3728 : (Jvm.Cond.castable "java/util/LinkedHashMap$Entry" "java/util/HashMap$Node") ∈ lw_tbl := lw_at lw_m16 56 rfl
theorem in_J31 : ∀ w ∈ wsJ310, w ∈ lw_all := lw_in wsJ310 [1451, 1453, 1455, 1457, 1447, 1449] (by decide +kernel) (by decide +kernel)

/-! java/lang/IndexOutOfBoundsException -/
set_option maxRecDepth 100000
def RJ33 : String := "java/lang/IndexOutOfBoundsException"
def TJ33 : u_T := fun k => match k with
  | 0 => ("java/lang/Throwable", "cause", "Ljava/lang/Throwable;", false)
  | 1 => ("java/lang/Throwable", "stackTrace", "[Ljava/lang/StackTraceElement;", false)
  | 2 => ("java/lang/Throwable", "suppressedExceptions", "Ljava/util/List;", false)
  | 3 => ("java/lang/Throwable", "detailMessage", "Ljava/lang/String;", false)
  | 4 => ("java/lang/Throwable", "backtrace", "Ljava/lang/Object;", false)
  | _ => ("java/lang/Throwable", "depth", "I", false)
def tyJ33 : Nat → FieldType := fun k => match k with
  | 0 => .object "java/lang/Throwable"
  | 1 => .array (.object "java/lang/StackTraceElement")
  | 2 => .object "java/util/List"
  | 3 => .object "java/lang/String"
  | 4 => .object "java/lang/Object"
  | _ => .int
abbrev wsJ330 : List Cond := u_ws RJ33 TJ33 6
theorem nmJ33 : ∀ a, a < 6 → ∀ b, b < 6 → a ≠ b → (TJ33 a).2.1 ≠ (TJ33 b).2.1 := by decide +kernel
theorem tyJ33_ok : ∀ k, k < 6 → parseFieldDescriptor (TJ33 k).2.2.1 = some (tyJ33 k) := by decide +kernel
abbrev cJ33_init : ByteArray := prog_41_method_1_code
def yJ33_init : MethodName := ⟨RJ33, "<init>", "()V"⟩
theorem dJ33_init_0 : decode cJ33_init 0 = .ok (.aload_n 0, 1) := by decide +kernel
theorem dJ33_init_1 : decode cJ33_init 1 = .ok (.invokespecial 1, 3) := by decide +kernel
theorem dJ33_init_4 : decode cJ33_init 4 = .ok (.return_, 1) := by decide +kernel
abbrev cJ33_init_2 : ByteArray := prog_41_method_2_code
def yJ33_init_2 : MethodName := ⟨RJ33, "<init>", "(Ljava/lang/String;)V"⟩
def dkwJ33_init_2_0 : List UInt8 := [42, 43, 183, 0, 7, 177]
abbrev dktJ33_init_2_0 : List UInt8 := dkwJ33_init_2_0 ++ []
theorem dksJ33_init_2_0 : cJ33_init_2.data.toList.drop 0 = dktJ33_init_2_0 := by decide +kernel
theorem dJ33_init_2_0 : decode cJ33_init_2 0 = .ok (.aload_n 0, 1) := dk_42 (dk_at dksJ33_init_2_0 0 rfl rfl)
theorem dJ33_init_2_1 : decode cJ33_init_2 1 = .ok (.aload_n 1, 1) := dk_43 (dk_at dksJ33_init_2_0 1 rfl rfl)
theorem dJ33_init_2_2 : decode cJ33_init_2 2 = .ok (.invokespecial 7, 3) := dk_183 0 7 (dk_at dksJ33_init_2_0 2 rfl rfl)
theorem dJ33_init_2_5 : decode cJ33_init_2 5 = .ok (.return_, 1) := dk_177 (dk_at dksJ33_init_2_0 5 rfl rfl)
theorem q115 : (Jvm.Cond.initialized "java/lang/IndexOutOfBoundsException") ∈ lw_all := lw_g (lw_at lw_m1 43 rfl) rfl
theorem q506 : (Jvm.Cond.selects "java/lang/IndexOutOfBoundsException" ({ cls := "java/lang/Throwable", name := "fillInStackTrace", desc := "()Ljava/lang/Throwable;" } : Jvm.MethodName) ({ cls := "java/lang/Throwable", name := "fillInStackTrace", desc := "()Ljava/lang/Throwable;" } : Jvm.MethodName)) ∈ lw_all := lw_g (lw_at lw_m2 194 rfl) rfl
theorem q622 : (Jvm.Cond.selects "java/lang/IndexOutOfBoundsException" ({ cls := "java/lang/Object", name := "getClass", desc := "()Ljava/lang/Class;" } : Jvm.MethodName) ({ cls := "java/lang/Object", name := "getClass", desc := "()Ljava/lang/Class;" } : Jvm.MethodName)) ∈ lw_all := lw_g (lw_at lw_m3 70 rfl) rfl
theorem q816 : (Jvm.Cond.selects "java/lang/IndexOutOfBoundsException" ({ cls := "java/lang/Object", name := "hashCode", desc := "()I" } : Jvm.MethodName) ({ cls := "java/lang/Object", name := "hashCode", desc := "()I" } : Jvm.MethodName)) ∈ lw_all := lw_g (lw_at lw_m4 24 rfl) rfl
theorem q1142 : (Jvm.Cond.selects "java/lang/IndexOutOfBoundsException" ({ cls := "java/lang/Object", name := "equals", desc := "(Ljava/lang/Object;)Z" } : Jvm.MethodName) ({ cls := "java/lang/Object", name := "equals", desc := "(Ljava/lang/Object;)Z" } : Jvm.MethodName)) ∈ lw_all := lw_g (lw_at lw_m5 110 rfl) rfl
theorem q1648 : (Jvm.Cond.instantiable "java/lang/IndexOutOfBoundsException" (6 : Nat)) ∈ lw_all := lw_g (lw_at lw_m7 136 rfl) rfl
theorem q1649 : (Jvm.Cond.castable "java/lang/IndexOutOfBoundsException" "java/lang/IndexOutOfBoundsException") ∈ lw_tbl := lw_at lw_m7 137 rfl
theorem q1650 : (Jvm.Cond.selects "java/lang/IndexOutOfBoundsException" ({ cls := "java/lang/Throwable", name := "fillInStackTrace", desc := "(I)Ljava/lang/Throwable;" } : Jvm.MethodName) ({ cls := "java/lang/Throwable", name := "fillInStackTrace", desc := "(I)Ljava/lang/Throwable;" } : Jvm.MethodName)) ∈ lw_all := lw_g (lw_at lw_m7 138 rfl) rfl
theorem q1651 : (Jvm.Cond.lays "java/lang/IndexOutOfBoundsException" "java/lang/Throwable" "cause" "Ljava/lang/Throwable;") ∈ lw_all := lw_g (lw_at lw_m7 139 rfl) rfl
theorem q1652 : (Jvm.Cond.lays "java/lang/IndexOutOfBoundsException" "java/lang/Throwable" "stackTrace" "[Ljava/lang/StackTraceElement;") ∈ lw_all := lw_g (lw_at lw_m7 140 rfl) rfl
theorem q1653 : (Jvm.Cond.lays "java/lang/IndexOutOfBoundsException" "java/lang/Throwable" "suppressedExceptions" "Ljava/util/List;") ∈ lw_all := lw_g (lw_at lw_m7 141 rfl) rfl
theorem q1654 : (Jvm.Cond.lays "java/lang/IndexOutOfBoundsException" "java/lang/Throwable" "detailMessage" "Ljava/lang/String;") ∈ lw_all := lw_g (lw_at lw_m7 142 rfl) rfl
theorem q1655 : (Jvm.Cond.lays "java/lang/IndexOutOfBoundsException" "java/lang/Throwable" "backtrace" "Ljava/lang/Object;") ∈ lw_all := lw_g (lw_at lw_m7 143 rfl) rfl
theorem q1657 : (Jvm.Cond.instanceMethod ({ cls := "java/lang/IndexOutOfBoundsException", name := "<init>", desc := "()V" } : Jvm.MethodName)) ∈ lw_all := lw_g (lw_at lw_m7 145 rfl) rfl
theorem q1658 : (Jvm.Cond.code ({ cls := "java/lang/IndexOutOfBoundsException", name := "<init>", desc := "()V" } : Jvm.MethodName) prog_41_method_1_code (1 : Nat) (Option.none : Option Jvm.ClassFile.FieldType)) ∈ lw_all := lw_g (lw_at lw_m7 146 rfl) rfl
theorem q1659 : (Jvm.Cond.methodLink "java/lang/IndexOutOfBoundsException" (1 : Nat) ({ cls := "java/lang/RuntimeException", name := "<init>", desc := "()V" } : Jvm.MethodName)) ∈ lw_all := lw_g (lw_at lw_m7 147 rfl) rfl
theorem q1660 : (Jvm.Cond.lays "java/lang/IndexOutOfBoundsException" "java/lang/Throwable" "depth" "I") ∈ lw_all := lw_g (lw_at lw_m7 148 rfl) rfl
theorem q1661 : (Jvm.Cond.superclass "java/lang/IndexOutOfBoundsException" "java/lang/RuntimeException") ∈ lw_all := lw_g (lw_at lw_m7 149 rfl) rfl
theorem q2169 : (Jvm.Cond.instanceMethod ({ cls := "java/lang/IndexOutOfBoundsException", name := "<init>", desc := "(Ljava/lang/String;)V" } : Jvm.MethodName)) ∈ lw_all := lw_g (lw_at lw_m9 177 rfl) rfl
theorem q2170 : (Jvm.Cond.code ({ cls := "java/lang/IndexOutOfBoundsException", name := "<init>", desc := "(Ljava/lang/String;)V" } : Jvm.MethodName) prog_41_method_2_code (2 : Nat) (Option.none : Option Jvm.ClassFile.FieldType)) ∈ lw_all := lw_g (lw_at lw_m9 178 rfl) rfl
theorem q2171 : (Jvm.Cond.methodLink "java/lang/IndexOutOfBoundsException" (7 : Nat) ({ cls := "java/lang/RuntimeException", name := "<init>", desc := "(Ljava/lang/String;)V" } : Jvm.MethodName)) ∈ lw_all := lw_g (lw_at lw_m9 179 rfl) rfl
theorem q2340 : (Jvm.Cond.declares ({ cls := "java/lang/IndexOutOfBoundsException", name := "<init>", desc := "()V" } : Jvm.MethodName)) ∈ lw_tbl := lw_at lw_m10 108 rfl
theorem q2341 : (Jvm.Cond.declares ({ cls := "java/lang/IndexOutOfBoundsException", name := "<init>", desc := "(Ljava/lang/String;)V" } : Jvm.MethodName)) ∈ lw_tbl := lw_at lw_m10 109 rfl
theorem q2659 : (Jvm.Cond.selects "java/lang/IndexOutOfBoundsException" ({ cls := "java/lang/Throwable", name := "getLocalizedMessage", desc := "()Ljava/lang/String;" } : Jvm.MethodName) ({ cls := "java/lang/Throwable", name := "getLocalizedMessage", desc := "()Ljava/lang/String;" } : Jvm.MethodName)) ∈ lw_all := lw_g (lw_at lw_m11 187 rfl) rfl
theorem q2674 : (Jvm.Cond.selects "java/lang/IndexOutOfBoundsException" ({ cls := "java/lang/Throwable", name := "getMessage", desc := "()Ljava/lang/String;" } : Jvm.MethodName) ({ cls := "java/lang/Throwable", name := "getMessage", desc := "()Ljava/lang/String;" } : Jvm.MethodName)) ∈ lw_all := lw_g (lw_at lw_m11 202 rfl) rfl
theorem q2704 : (Jvm.Cond.selects "java/lang/IndexOutOfBoundsException" ({ cls := "java/lang/Object", name := "toString", desc := "()Ljava/lang/String;" } : Jvm.MethodName) ({ cls := "java/lang/Throwable", name := "toString", desc := "()Ljava/lang/String;" } : Jvm.MethodName)) ∈ lw_all := lw_g (lw_at lw_m11 232 rfl) rfl
theorem q3708 : (Jvm.Cond.castable "java/lang/IndexOutOfBoundsException" "java/lang/Object") ∈ lw_tbl := lw_at lw_m16 36 rfl
theorem in_J33 : ∀ w ∈ wsJ330, w ∈ lw_all := lw_in wsJ330 [1651, 1652, 1653, 1654, 1655, 1660] (by decide +kernel) (by decide +kernel)

/-! java/util/Objects -/
set_option maxRecDepth 100000
def RJ34 : String := "java/util/Objects"
abbrev cJ34_checkIndex : ByteArray := prog_84_method_17_code
def yJ34_checkIndex : MethodName := ⟨RJ34, "checkIndex", "(II)I"⟩
def dkwJ34_checkIndex_0 : List UInt8 := [26, 27, 1, 184, 0, 105, 172]
abbrev dktJ34_checkIndex_0 : List UInt8 := dkwJ34_checkIndex_0 ++ []
theorem dksJ34_checkIndex_0 : cJ34_checkIndex.data.toList.drop 0 = dktJ34_checkIndex_0 := by decide +kernel
theorem dJ34_checkIndex_0 : decode cJ34_checkIndex 0 = .ok (.iload_n 0, 1) := dk_26 (dk_at dksJ34_checkIndex_0 0 rfl rfl)
theorem dJ34_checkIndex_1 : decode cJ34_checkIndex 1 = .ok (.iload_n 1, 1) := dk_27 (dk_at dksJ34_checkIndex_0 1 rfl rfl)
theorem dJ34_checkIndex_2 : decode cJ34_checkIndex 2 = .ok (.aconst_null, 1) := dk_1 (dk_at dksJ34_checkIndex_0 2 rfl rfl)
theorem dJ34_checkIndex_3 : decode cJ34_checkIndex 3 = .ok (.invokestatic 105, 3) := dk_184 0 105 (dk_at dksJ34_checkIndex_0 3 rfl rfl)
theorem dJ34_checkIndex_6 : decode cJ34_checkIndex 6 = .ok (.ireturn, 1) := dk_172 (dk_at dksJ34_checkIndex_0 6 rfl rfl)
theorem q116 : (Jvm.Cond.initialized "java/util/Objects") ∈ lw_all := lw_g (lw_at lw_m1 44 rfl) rfl
theorem q1672 : (Jvm.Cond.static ({ cls := "java/util/Objects", name := "checkIndex", desc := "(II)I" } : Jvm.MethodName)) ∈ lw_all := lw_g (lw_at lw_m7 160 rfl) rfl
theorem q1673 : (Jvm.Cond.code ({ cls := "java/util/Objects", name := "checkIndex", desc := "(II)I" } : Jvm.MethodName) prog_84_method_17_code (2 : Nat) (Option.some Jvm.ClassFile.FieldType.int)) ∈ lw_all := lw_g (lw_at lw_m7 161 rfl) rfl
theorem q1674 : (Jvm.Cond.methodLink "java/util/Objects" (105 : Nat) ({ cls := "jdk/internal/util/Preconditions", name := "checkIndex", desc := "(IILjava/util/function/BiFunction;)I" } : Jvm.MethodName)) ∈ lw_all := lw_g (lw_at lw_m7 162 rfl) rfl

/-! java/lang/UnsupportedOperationException -/
set_option maxRecDepth 100000
def RJ35 : String := "java/lang/UnsupportedOperationException"
def TJ35 : u_T := fun k => match k with
  | 0 => ("java/lang/Throwable", "cause", "Ljava/lang/Throwable;", false)
  | 1 => ("java/lang/Throwable", "stackTrace", "[Ljava/lang/StackTraceElement;", false)
  | 2 => ("java/lang/Throwable", "suppressedExceptions", "Ljava/util/List;", false)
  | 3 => ("java/lang/Throwable", "detailMessage", "Ljava/lang/String;", false)
  | 4 => ("java/lang/Throwable", "backtrace", "Ljava/lang/Object;", false)
  | _ => ("java/lang/Throwable", "depth", "I", false)
def tyJ35 : Nat → FieldType := fun k => match k with
  | 0 => .object "java/lang/Throwable"
  | 1 => .array (.object "java/lang/StackTraceElement")
  | 2 => .object "java/util/List"
  | 3 => .object "java/lang/String"
  | 4 => .object "java/lang/Object"
  | _ => .int
abbrev wsJ350 : List Cond := u_ws RJ35 TJ35 6
theorem nmJ35 : ∀ a, a < 6 → ∀ b, b < 6 → a ≠ b → (TJ35 a).2.1 ≠ (TJ35 b).2.1 := by decide +kernel
theorem tyJ35_ok : ∀ k, k < 6 → parseFieldDescriptor (TJ35 k).2.2.1 = some (tyJ35 k) := by decide +kernel
abbrev cJ35_init : ByteArray := prog_57_method_1_code
def yJ35_init : MethodName := ⟨RJ35, "<init>", "()V"⟩
theorem dJ35_init_0 : decode cJ35_init 0 = .ok (.aload_n 0, 1) := by decide +kernel
theorem dJ35_init_1 : decode cJ35_init 1 = .ok (.invokespecial 1, 3) := by decide +kernel
theorem dJ35_init_4 : decode cJ35_init 4 = .ok (.return_, 1) := by decide +kernel
theorem q121 : (Jvm.Cond.initialized "java/lang/UnsupportedOperationException") ∈ lw_all := lw_g (lw_at lw_m1 49 rfl) rfl
theorem q508 : (Jvm.Cond.selects "java/lang/UnsupportedOperationException" ({ cls := "java/lang/Throwable", name := "fillInStackTrace", desc := "()Ljava/lang/Throwable;" } : Jvm.MethodName) ({ cls := "java/lang/Throwable", name := "fillInStackTrace", desc := "()Ljava/lang/Throwable;" } : Jvm.MethodName)) ∈ lw_all := lw_g (lw_at lw_m2 196 rfl) rfl
theorem q628 : (Jvm.Cond.selects "java/lang/UnsupportedOperationException" ({ cls := "java/lang/Object", name := "getClass", desc := "()Ljava/lang/Class;" } : Jvm.MethodName) ({ cls := "java/lang/Object", name := "getClass", desc := "()Ljava/lang/Class;" } : Jvm.MethodName)) ∈ lw_all := lw_g (lw_at lw_m3 76 rfl) rfl
theorem q1104 : (Jvm.Cond.selects "java/lang/UnsupportedOperationException" ({ cls := "java/lang/Object", name := "hashCode", desc := "()I" } : Jvm.MethodName) ({ cls := "java/lang/Object", name := "hashCode", desc := "()I" } : Jvm.MethodName)) ∈ lw_all := lw_g (lw_at lw_m5 72 rfl) rfl
theorem q1158 : (Jvm.Cond.selects "java/lang/UnsupportedOperationException" ({ cls := "java/lang/Object", name := "equals", desc := "(Ljava/lang/Object;)Z" } : Jvm.MethodName) ({ cls := "java/lang/Object", name := "equals", desc := "(Ljava/lang/Object;)Z" } : Jvm.MethodName)) ∈ lw_all := lw_g (lw_at lw_m5 126 rfl) rfl
theorem q2276 : (Jvm.Cond.instantiable "java/lang/UnsupportedOperationException" (6 : Nat)) ∈ lw_all := lw_g (lw_at lw_m10 44 rfl) rfl
theorem q2277 : (Jvm.Cond.castable "java/lang/UnsupportedOperationException" "java/lang/UnsupportedOperationException") ∈ lw_tbl := lw_at lw_m10 45 rfl
theorem q2278 : (Jvm.Cond.selects "java/lang/UnsupportedOperationException" ({ cls := "java/lang/Throwable", name := "fillInStackTrace", desc := "(I)Ljava/lang/Throwable;" } : Jvm.MethodName) ({ cls := "java/lang/Throwable", name := "fillInStackTrace", desc := "(I)Ljava/lang/Throwable;" } : Jvm.MethodName)) ∈ lw_all := lw_g (lw_at lw_m10 46 rfl) rfl
theorem q2279 : (Jvm.Cond.lays "java/lang/UnsupportedOperationException" "java/lang/Throwable" "cause" "Ljava/lang/Throwable;") ∈ lw_all := lw_g (lw_at lw_m10 47 rfl) rfl
theorem q2280 : (Jvm.Cond.lays "java/lang/UnsupportedOperationException" "java/lang/Throwable" "stackTrace" "[Ljava/lang/StackTraceElement;") ∈ lw_all := lw_g (lw_at lw_m10 48 rfl) rfl
theorem q2281 : (Jvm.Cond.lays "java/lang/UnsupportedOperationException" "java/lang/Throwable" "suppressedExceptions" "Ljava/util/List;") ∈ lw_all := lw_g (lw_at lw_m10 49 rfl) rfl
theorem q2282 : (Jvm.Cond.lays "java/lang/UnsupportedOperationException" "java/lang/Throwable" "detailMessage" "Ljava/lang/String;") ∈ lw_all := lw_g (lw_at lw_m10 50 rfl) rfl
theorem q2283 : (Jvm.Cond.lays "java/lang/UnsupportedOperationException" "java/lang/Throwable" "backtrace" "Ljava/lang/Object;") ∈ lw_all := lw_g (lw_at lw_m10 51 rfl) rfl
theorem q2285 : (Jvm.Cond.instanceMethod ({ cls := "java/lang/UnsupportedOperationException", name := "<init>", desc := "()V" } : Jvm.MethodName)) ∈ lw_all := lw_g (lw_at lw_m10 53 rfl) rfl
theorem q2286 : (Jvm.Cond.code ({ cls := "java/lang/UnsupportedOperationException", name := "<init>", desc := "()V" } : Jvm.MethodName) prog_57_method_1_code (1 : Nat) (Option.none : Option Jvm.ClassFile.FieldType)) ∈ lw_all := lw_g (lw_at lw_m10 54 rfl) rfl
theorem q2287 : (Jvm.Cond.methodLink "java/lang/UnsupportedOperationException" (1 : Nat) ({ cls := "java/lang/RuntimeException", name := "<init>", desc := "()V" } : Jvm.MethodName)) ∈ lw_all := lw_g (lw_at lw_m10 55 rfl) rfl
theorem q2288 : (Jvm.Cond.lays "java/lang/UnsupportedOperationException" "java/lang/Throwable" "depth" "I") ∈ lw_all := lw_g (lw_at lw_m10 56 rfl) rfl
theorem q2289 : (Jvm.Cond.superclass "java/lang/UnsupportedOperationException" "java/lang/RuntimeException") ∈ lw_all := lw_g (lw_at lw_m10 57 rfl) rfl
theorem q2661 : (Jvm.Cond.selects "java/lang/UnsupportedOperationException" ({ cls := "java/lang/Throwable", name := "getLocalizedMessage", desc := "()Ljava/lang/String;" } : Jvm.MethodName) ({ cls := "java/lang/Throwable", name := "getLocalizedMessage", desc := "()Ljava/lang/String;" } : Jvm.MethodName)) ∈ lw_all := lw_g (lw_at lw_m11 189 rfl) rfl
theorem q2676 : (Jvm.Cond.selects "java/lang/UnsupportedOperationException" ({ cls := "java/lang/Throwable", name := "getMessage", desc := "()Ljava/lang/String;" } : Jvm.MethodName) ({ cls := "java/lang/Throwable", name := "getMessage", desc := "()Ljava/lang/String;" } : Jvm.MethodName)) ∈ lw_all := lw_g (lw_at lw_m11 204 rfl) rfl
theorem q2725 : (Jvm.Cond.selects "java/lang/UnsupportedOperationException" ({ cls := "java/lang/Object", name := "toString", desc := "()Ljava/lang/String;" } : Jvm.MethodName) ({ cls := "java/lang/Throwable", name := "toString", desc := "()Ljava/lang/String;" } : Jvm.MethodName)) ∈ lw_all := lw_g (lw_at lw_m12 13 rfl) rfl
theorem q3704 : (Jvm.Cond.castable "java/lang/UnsupportedOperationException" "java/lang/Object") ∈ lw_tbl := lw_at lw_m16 32 rfl
theorem in_J35 : ∀ w ∈ wsJ350, w ∈ lw_all := lw_in wsJ350 [2279, 2280, 2281, 2282, 2283, 2288] (by decide +kernel) (by decide +kernel)

/-! java/lang/IllegalStateException -/
set_option maxRecDepth 100000
def RJ36 : String := "java/lang/IllegalStateException"
def TJ36 : u_T := fun k => match k with
  | 0 => ("java/lang/Throwable", "cause", "Ljava/lang/Throwable;", false)
  | 1 => ("java/lang/Throwable", "stackTrace", "[Ljava/lang/StackTraceElement;", false)
  | 2 => ("java/lang/Throwable", "suppressedExceptions", "Ljava/util/List;", false)
  | 3 => ("java/lang/Throwable", "detailMessage", "Ljava/lang/String;", false)
  | 4 => ("java/lang/Throwable", "backtrace", "Ljava/lang/Object;", false)
  | _ => ("java/lang/Throwable", "depth", "I", false)
def tyJ36 : Nat → FieldType := fun k => match k with
  | 0 => .object "java/lang/Throwable"
  | 1 => .array (.object "java/lang/StackTraceElement")
  | 2 => .object "java/util/List"
  | 3 => .object "java/lang/String"
  | 4 => .object "java/lang/Object"
  | _ => .int
abbrev wsJ360 : List Cond := u_ws RJ36 TJ36 6
theorem nmJ36 : ∀ a, a < 6 → ∀ b, b < 6 → a ≠ b → (TJ36 a).2.1 ≠ (TJ36 b).2.1 := by decide +kernel
theorem tyJ36_ok : ∀ k, k < 6 → parseFieldDescriptor (TJ36 k).2.2.1 = some (tyJ36 k) := by decide +kernel
abbrev cJ36_init : ByteArray := prog_40_method_1_code
def yJ36_init : MethodName := ⟨RJ36, "<init>", "()V"⟩
theorem dJ36_init_0 : decode cJ36_init 0 = .ok (.aload_n 0, 1) := by decide +kernel
theorem dJ36_init_1 : decode cJ36_init 1 = .ok (.invokespecial 1, 3) := by decide +kernel
theorem dJ36_init_4 : decode cJ36_init 4 = .ok (.return_, 1) := by decide +kernel
abbrev cJ36_init_2 : ByteArray := prog_40_method_2_code
def yJ36_init_2 : MethodName := ⟨RJ36, "<init>", "(Ljava/lang/String;)V"⟩
def dkwJ36_init_2_0 : List UInt8 := [42, 43, 183, 0, 7, 177]
abbrev dktJ36_init_2_0 : List UInt8 := dkwJ36_init_2_0 ++ []
theorem dksJ36_init_2_0 : cJ36_init_2.data.toList.drop 0 = dktJ36_init_2_0 := by decide +kernel
theorem dJ36_init_2_0 : decode cJ36_init_2 0 = .ok (.aload_n 0, 1) := dk_42 (dk_at dksJ36_init_2_0 0 rfl rfl)
theorem dJ36_init_2_1 : decode cJ36_init_2 1 = .ok (.aload_n 1, 1) := dk_43 (dk_at dksJ36_init_2_0 1 rfl rfl)
theorem dJ36_init_2_2 : decode cJ36_init_2 2 = .ok (.invokespecial 7, 3) := dk_183 0 7 (dk_at dksJ36_init_2_0 2 rfl rfl)
theorem dJ36_init_2_5 : decode cJ36_init_2 5 = .ok (.return_, 1) := dk_177 (dk_at dksJ36_init_2_0 5 rfl rfl)
theorem q122 : (Jvm.Cond.initialized "java/lang/IllegalStateException") ∈ lw_all := lw_g (lw_at lw_m1 50 rfl) rfl
theorem q505 : (Jvm.Cond.selects "java/lang/IllegalStateException" ({ cls := "java/lang/Throwable", name := "fillInStackTrace", desc := "()Ljava/lang/Throwable;" } : Jvm.MethodName) ({ cls := "java/lang/Throwable", name := "fillInStackTrace", desc := "()Ljava/lang/Throwable;" } : Jvm.MethodName)) ∈ lw_all := lw_g (lw_at lw_m2 193 rfl) rfl
theorem q621 : (Jvm.Cond.selects "java/lang/IllegalStateException" ({ cls := "java/lang/Object", name := "getClass", desc := "()Ljava/lang/Class;" } : Jvm.MethodName) ({ cls := "java/lang/Object", name := "getClass", desc := "()Ljava/lang/Class;" } : Jvm.MethodName)) ∈ lw_all := lw_g (lw_at lw_m3 69 rfl) rfl
theorem q815 : (Jvm.Cond.selects "java/lang/IllegalStateException" ({ cls := "java/lang/Object", name := "hashCode", desc := "()I" } : Jvm.MethodName) ({ cls := "java/lang/Object", name := "hashCode", desc := "()I" } : Jvm.MethodName)) ∈ lw_all := lw_g (lw_at lw_m4 23 rfl) rfl
theorem q1141 : (Jvm.Cond.selects "java/lang/IllegalStateException" ({ cls := "java/lang/Object", name := "equals", desc := "(Ljava/lang/Object;)Z" } : Jvm.MethodName) ({ cls := "java/lang/Object", name := "equals", desc := "(Ljava/lang/Object;)Z" } : Jvm.MethodName)) ∈ lw_all := lw_g (lw_at lw_m5 109 rfl) rfl
theorem q1940 : (Jvm.Cond.instantiable "java/lang/IllegalStateException" (6 : Nat)) ∈ lw_all := lw_g (lw_at lw_m8 188 rfl) rfl
theorem q1941 : (Jvm.Cond.castable "java/lang/IllegalStateException" "java/lang/IllegalStateException") ∈ lw_tbl := lw_at lw_m8 189 rfl
theorem q1942 : (Jvm.Cond.selects "java/lang/IllegalStateException" ({ cls := "java/lang/Throwable", name := "fillInStackTrace", desc := "(I)Ljava/lang/Throwable;" } : Jvm.MethodName) ({ cls := "java/lang/Throwable", name := "fillInStackTrace", desc := "(I)Ljava/lang/Throwable;" } : Jvm.MethodName)) ∈ lw_all := lw_g (lw_at lw_m8 190 rfl) rfl
theorem q1943 : (Jvm.Cond.lays "java/lang/IllegalStateException" "java/lang/Throwable" "cause" "Ljava/lang/Throwable;") ∈ lw_all := lw_g (lw_at lw_m8 191 rfl) rfl
theorem q1944 : (Jvm.Cond.lays "java/lang/IllegalStateException" "java/lang/Throwable" "stackTrace" "[Ljava/lang/StackTraceElement;") ∈ lw_all := lw_g (lw_at lw_m8 192 rfl) rfl
theorem q1945 : (Jvm.Cond.lays "java/lang/IllegalStateException" "java/lang/Throwable" "suppressedExceptions" "Ljava/util/List;") ∈ lw_all := lw_g (lw_at lw_m8 193 rfl) rfl
theorem q1946 : (Jvm.Cond.lays "java/lang/IllegalStateException" "java/lang/Throwable" "detailMessage" "Ljava/lang/String;") ∈ lw_all := lw_g (lw_at lw_m8 194 rfl) rfl
theorem q1947 : (Jvm.Cond.lays "java/lang/IllegalStateException" "java/lang/Throwable" "backtrace" "Ljava/lang/Object;") ∈ lw_all := lw_g (lw_at lw_m8 195 rfl) rfl
theorem q1949 : (Jvm.Cond.instanceMethod ({ cls := "java/lang/IllegalStateException", name := "<init>", desc := "()V" } : Jvm.MethodName)) ∈ lw_all := lw_g (lw_at lw_m8 197 rfl) rfl
theorem q1950 : (Jvm.Cond.code ({ cls := "java/lang/IllegalStateException", name := "<init>", desc := "()V" } : Jvm.MethodName) prog_40_method_1_code (1 : Nat) (Option.none : Option Jvm.ClassFile.FieldType)) ∈ lw_all := lw_g (lw_at lw_m8 198 rfl) rfl
theorem q1951 : (Jvm.Cond.methodLink "java/lang/IllegalStateException" (1 : Nat) ({ cls := "java/lang/RuntimeException", name := "<init>", desc := "()V" } : Jvm.MethodName)) ∈ lw_all := lw_g (lw_at lw_m8 199 rfl) rfl
theorem q1952 : (Jvm.Cond.lays "java/lang/IllegalStateException" "java/lang/Throwable" "depth" "I") ∈ lw_all := lw_g (lw_at lw_m8 200 rfl) rfl
theorem q1953 : (Jvm.Cond.superclass "java/lang/IllegalStateException" "java/lang/RuntimeException") ∈ lw_all := lw_g (lw_at lw_m8 201 rfl) rfl
theorem q2265 : (Jvm.Cond.instanceMethod ({ cls := "java/lang/IllegalStateException", name := "<init>", desc := "(Ljava/lang/String;)V" } : Jvm.MethodName)) ∈ lw_all := lw_g (lw_at lw_m10 33 rfl) rfl
theorem q2266 : (Jvm.Cond.code ({ cls := "java/lang/IllegalStateException", name := "<init>", desc := "(Ljava/lang/String;)V" } : Jvm.MethodName) prog_40_method_2_code (2 : Nat) (Option.none : Option Jvm.ClassFile.FieldType)) ∈ lw_all := lw_g (lw_at lw_m10 34 rfl) rfl
theorem q2267 : (Jvm.Cond.methodLink "java/lang/IllegalStateException" (7 : Nat) ({ cls := "java/lang/RuntimeException", name := "<init>", desc := "(Ljava/lang/String;)V" } : Jvm.MethodName)) ∈ lw_all := lw_g (lw_at lw_m10 35 rfl) rfl
theorem q2658 : (Jvm.Cond.selects "java/lang/IllegalStateException" ({ cls := "java/lang/Throwable", name := "getLocalizedMessage", desc := "()Ljava/lang/String;" } : Jvm.MethodName) ({ cls := "java/lang/Throwable", name := "getLocalizedMessage", desc := "()Ljava/lang/String;" } : Jvm.MethodName)) ∈ lw_all := lw_g (lw_at lw_m11 186 rfl) rfl
theorem q2673 : (Jvm.Cond.selects "java/lang/IllegalStateException" ({ cls := "java/lang/Throwable", name := "getMessage", desc := "()Ljava/lang/String;" } : Jvm.MethodName) ({ cls := "java/lang/Throwable", name := "getMessage", desc := "()Ljava/lang/String;" } : Jvm.MethodName)) ∈ lw_all := lw_g (lw_at lw_m11 201 rfl) rfl
theorem q2703 : (Jvm.Cond.selects "java/lang/IllegalStateException" ({ cls := "java/lang/Object", name := "toString", desc := "()Ljava/lang/String;" } : Jvm.MethodName) ({ cls := "java/lang/Throwable", name := "toString", desc := "()Ljava/lang/String;" } : Jvm.MethodName)) ∈ lw_all := lw_g (lw_at lw_m11 231 rfl) rfl
theorem q3703 : (Jvm.Cond.castable "java/lang/IllegalStateException" "java/lang/Object") ∈ lw_tbl := lw_at lw_m16 31 rfl
theorem in_J36 : ∀ w ∈ wsJ360, w ∈ lw_all := lw_in wsJ360 [1943, 1944, 1945, 1946, 1947, 1952] (by decide +kernel) (by decide +kernel)

/-! java/lang/ArithmeticException -/
set_option maxRecDepth 100000
def RJ39 : String := "java/lang/ArithmeticException"
def TJ39 : u_T := fun k => match k with
  | 0 => ("java/lang/Throwable", "backtrace", "Ljava/lang/Object;", false)
  | 1 => ("java/lang/Throwable", "detailMessage", "Ljava/lang/String;", false)
  | 2 => ("java/lang/Throwable", "cause", "Ljava/lang/Throwable;", false)
  | 3 => ("java/lang/Throwable", "stackTrace", "[Ljava/lang/StackTraceElement;", false)
  | 4 => ("java/lang/Throwable", "depth", "I", false)
  | _ => ("java/lang/Throwable", "suppressedExceptions", "Ljava/util/List;", false)
def tyJ39 : Nat → FieldType := fun k => match k with
  | 0 => .object "java/lang/Object"
  | 1 => .object "java/lang/String"
  | 2 => .object "java/lang/Throwable"
  | 3 => .array (.object "java/lang/StackTraceElement")
  | 4 => .int
  | _ => .object "java/util/List"
abbrev wsJ390 : List Cond := u_ws RJ39 TJ39 6
theorem nmJ39 : ∀ a, a < 6 → ∀ b, b < 6 → a ≠ b → (TJ39 a).2.1 ≠ (TJ39 b).2.1 := by decide +kernel
theorem tyJ39_ok : ∀ k, k < 6 → parseFieldDescriptor (TJ39 k).2.2.1 = some (tyJ39 k) := by decide +kernel
abbrev cJ39_init : ByteArray := prog_33_method_2_code
def yJ39_init : MethodName := ⟨RJ39, "<init>", "(Ljava/lang/String;)V"⟩
def dkwJ39_init_0 : List UInt8 := [42, 43, 183, 0, 7, 177]
abbrev dktJ39_init_0 : List UInt8 := dkwJ39_init_0 ++ []
theorem dksJ39_init_0 : cJ39_init.data.toList.drop 0 = dktJ39_init_0 := by decide +kernel
theorem dJ39_init_0 : decode cJ39_init 0 = .ok (.aload_n 0, 1) := dk_42 (dk_at dksJ39_init_0 0 rfl rfl)
theorem dJ39_init_1 : decode cJ39_init 1 = .ok (.aload_n 1, 1) := dk_43 (dk_at dksJ39_init_0 1 rfl rfl)
theorem dJ39_init_2 : decode cJ39_init 2 = .ok (.invokespecial 7, 3) := dk_183 0 7 (dk_at dksJ39_init_0 2 rfl rfl)
theorem dJ39_init_5 : decode cJ39_init 5 = .ok (.return_, 1) := dk_177 (dk_at dksJ39_init_0 5 rfl rfl)
abbrev cJ39_init_2 : ByteArray := prog_33_method_1_code
def yJ39_init_2 : MethodName := ⟨RJ39, "<init>", "()V"⟩
theorem dJ39_init_2_0 : decode cJ39_init_2 0 = .ok (.aload_n 0, 1) := by decide +kernel
theorem dJ39_init_2_1 : decode cJ39_init_2 1 = .ok (.invokespecial 1, 3) := by decide +kernel
theorem dJ39_init_2_4 : decode cJ39_init_2 4 = .ok (.return_, 1) := by decide +kernel
theorem q140 : (Jvm.Cond.initialized "java/lang/ArithmeticException") ∈ lw_all := lw_g (lw_at lw_m1 68 rfl) rfl
theorem q502 : (Jvm.Cond.selects "java/lang/ArithmeticException" ({ cls := "java/lang/Throwable", name := "fillInStackTrace", desc := "()Ljava/lang/Throwable;" } : Jvm.MethodName) ({ cls := "java/lang/Throwable", name := "fillInStackTrace", desc := "()Ljava/lang/Throwable;" } : Jvm.MethodName)) ∈ lw_all := lw_g (lw_at lw_m2 190 rfl) rfl
theorem q618 : (Jvm.Cond.selects "java/lang/ArithmeticException" ({ cls := "java/lang/Object", name := "getClass", desc := "()Ljava/lang/Class;" } : Jvm.MethodName) ({ cls := "java/lang/Object", name := "getClass", desc := "()Ljava/lang/Class;" } : Jvm.MethodName)) ∈ lw_all := lw_g (lw_at lw_m3 66 rfl) rfl
theorem q812 : (Jvm.Cond.selects "java/lang/ArithmeticException" ({ cls := "java/lang/Object", name := "hashCode", desc := "()I" } : Jvm.MethodName) ({ cls := "java/lang/Object", name := "hashCode", desc := "()I" } : Jvm.MethodName)) ∈ lw_all := lw_g (lw_at lw_m4 20 rfl) rfl
theorem q1138 : (Jvm.Cond.selects "java/lang/ArithmeticException" ({ cls := "java/lang/Object", name := "equals", desc := "(Ljava/lang/Object;)Z" } : Jvm.MethodName) ({ cls := "java/lang/Object", name := "equals", desc := "(Ljava/lang/Object;)Z" } : Jvm.MethodName)) ∈ lw_all := lw_g (lw_at lw_m5 106 rfl) rfl
theorem q2655 : (Jvm.Cond.selects "java/lang/ArithmeticException" ({ cls := "java/lang/Throwable", name := "getLocalizedMessage", desc := "()Ljava/lang/String;" } : Jvm.MethodName) ({ cls := "java/lang/Throwable", name := "getLocalizedMessage", desc := "()Ljava/lang/String;" } : Jvm.MethodName)) ∈ lw_all := lw_g (lw_at lw_m11 183 rfl) rfl
theorem q2670 : (Jvm.Cond.selects "java/lang/ArithmeticException" ({ cls := "java/lang/Throwable", name := "getMessage", desc := "()Ljava/lang/String;" } : Jvm.MethodName) ({ cls := "java/lang/Throwable", name := "getMessage", desc := "()Ljava/lang/String;" } : Jvm.MethodName)) ∈ lw_all := lw_g (lw_at lw_m11 198 rfl) rfl
theorem q2700 : (Jvm.Cond.selects "java/lang/ArithmeticException" ({ cls := "java/lang/Object", name := "toString", desc := "()Ljava/lang/String;" } : Jvm.MethodName) ({ cls := "java/lang/Throwable", name := "toString", desc := "()Ljava/lang/String;" } : Jvm.MethodName)) ∈ lw_all := lw_g (lw_at lw_m11 228 rfl) rfl
theorem q2877 : (Jvm.Cond.instantiable "java/lang/ArithmeticException" (6 : Nat)) ∈ lw_all := lw_g (lw_at lw_m12 165 rfl) rfl
theorem q2878 : (Jvm.Cond.instanceMethod ({ cls := "java/lang/ArithmeticException", name := "<init>", desc := "(Ljava/lang/String;)V" } : Jvm.MethodName)) ∈ lw_all := lw_g (lw_at lw_m12 166 rfl) rfl
theorem q2879 : (Jvm.Cond.code ({ cls := "java/lang/ArithmeticException", name := "<init>", desc := "(Ljava/lang/String;)V" } : Jvm.MethodName) prog_33_method_2_code (2 : Nat) (Option.none : Option Jvm.ClassFile.FieldType)) ∈ lw_all := lw_g (lw_at lw_m12 167 rfl) rfl
theorem q2880 : (Jvm.Cond.methodLink "java/lang/ArithmeticException" (7 : Nat) ({ cls := "java/lang/RuntimeException", name := "<init>", desc := "(Ljava/lang/String;)V" } : Jvm.MethodName)) ∈ lw_all := lw_g (lw_at lw_m12 168 rfl) rfl
theorem q2881 : (Jvm.Cond.lays "java/lang/ArithmeticException" "java/lang/Throwable" "backtrace" "Ljava/lang/Object;") ∈ lw_all := lw_g (lw_at lw_m12 169 rfl) rfl
theorem q2882 : (Jvm.Cond.lays "java/lang/ArithmeticException" "java/lang/Throwable" "detailMessage" "Ljava/lang/String;") ∈ lw_all := lw_g (lw_at lw_m12 170 rfl) rfl
theorem q2883 : (Jvm.Cond.lays "java/lang/ArithmeticException" "java/lang/Throwable" "cause" "Ljava/lang/Throwable;") ∈ lw_all := lw_g (lw_at lw_m12 171 rfl) rfl
theorem q2884 : (Jvm.Cond.lays "java/lang/ArithmeticException" "java/lang/Throwable" "stackTrace" "[Ljava/lang/StackTraceElement;") ∈ lw_all := lw_g (lw_at lw_m12 172 rfl) rfl
theorem q2885 : (Jvm.Cond.lays "java/lang/ArithmeticException" "java/lang/Throwable" "depth" "I") ∈ lw_all := lw_g (lw_at lw_m12 173 rfl) rfl
theorem q2886 : (Jvm.Cond.lays "java/lang/ArithmeticException" "java/lang/Throwable" "suppressedExceptions" "Ljava/util/List;") ∈ lw_all := lw_g (lw_at lw_m12 174 rfl) rfl
theorem q2887 : (Jvm.Cond.superclass "java/lang/ArithmeticException" "java/lang/RuntimeException") ∈ lw_all := lw_g (lw_at lw_m12 175 rfl) rfl
theorem q2888 : (Jvm.Cond.castable "java/lang/ArithmeticException" "java/lang/ArithmeticException") ∈ lw_tbl := lw_at lw_m12 176 rfl
theorem q2889 : (Jvm.Cond.selects "java/lang/ArithmeticException" ({ cls := "java/lang/Throwable", name := "fillInStackTrace", desc := "(I)Ljava/lang/Throwable;" } : Jvm.MethodName) ({ cls := "java/lang/Throwable", name := "fillInStackTrace", desc := "(I)Ljava/lang/Throwable;" } : Jvm.MethodName)) ∈ lw_all := lw_g (lw_at lw_m12 177 rfl) rfl
theorem q2896 : (Jvm.Cond.instanceMethod ({ cls := "java/lang/ArithmeticException", name := "<init>", desc := "()V" } : Jvm.MethodName)) ∈ lw_all := lw_g (lw_at lw_m12 184 rfl) rfl
theorem q2897 : (Jvm.Cond.code ({ cls := "java/lang/ArithmeticException", name := "<init>", desc := "()V" } : Jvm.MethodName) prog_33_method_1_code (1 : Nat) (Option.none : Option Jvm.ClassFile.FieldType)) ∈ lw_all := lw_g (lw_at lw_m12 185 rfl) rfl
theorem q2898 : (Jvm.Cond.methodLink "java/lang/ArithmeticException" (1 : Nat) ({ cls := "java/lang/RuntimeException", name := "<init>", desc := "()V" } : Jvm.MethodName)) ∈ lw_all := lw_g (lw_at lw_m12 186 rfl) rfl
theorem q3722 : (Jvm.Cond.castable "java/lang/ArithmeticException" "java/lang/Object") ∈ lw_tbl := lw_at lw_m16 50 rfl
theorem in_J39 : ∀ w ∈ wsJ390, w ∈ lw_all := lw_in wsJ390 [2881, 2882, 2883, 2884, 2885, 2886] (by decide +kernel) (by decide +kernel)

/-! java/lang/Object -/
set_option maxRecDepth 100000
def RJ41 : String := "java/lang/Object"
abbrev cJ41_init : ByteArray := object_method_1_code
def yJ41_init : MethodName := ⟨RJ41, "<init>", "()V"⟩
theorem dJ41_init_0 : decode cJ41_init 0 = .ok (.return_, 1) := by decide +kernel
abbrev cJ41_equals : ByteArray := object_method_4_code
def yJ41_equals : MethodName := ⟨RJ41, "equals", "(Ljava/lang/Object;)Z"⟩
def dkwJ41_equals_0 : List UInt8 := [42, 43, 166, 0, 7, 4, 167, 0, 4, 3, 172]
abbrev dktJ41_equals_0 : List UInt8 := dkwJ41_equals_0 ++ []
theorem dksJ41_equals_0 : cJ41_equals.data.toList.drop 0 = dktJ41_equals_0 := by decide +kernel
theorem dJ41_equals_0 : decode cJ41_equals 0 = .ok (.aload_n 0, 1) := dk_42 (dk_at dksJ41_equals_0 0 rfl rfl)
theorem dJ41_equals_1 : decode cJ41_equals 1 = .ok (.aload_n 1, 1) := dk_43 (dk_at dksJ41_equals_0 1 rfl rfl)
theorem dJ41_equals_2 : decode cJ41_equals 2 = .ok (.if_acmp .ne 7, 3) := dk_166 0 7 (dk_at dksJ41_equals_0 2 rfl rfl)
theorem dJ41_equals_5 : decode cJ41_equals 5 = .ok (.iconst 1, 1) := dk_4 (dk_at dksJ41_equals_0 5 rfl rfl)
theorem dJ41_equals_6 : decode cJ41_equals 6 = .ok (.goto 4, 3) := dk_167 0 4 (dk_at dksJ41_equals_0 6 rfl rfl)
theorem dJ41_equals_9 : decode cJ41_equals 9 = .ok (.iconst 0, 1) := dk_3 (dk_at dksJ41_equals_0 9 rfl rfl)
theorem dJ41_equals_10 : decode cJ41_equals 10 = .ok (.ireturn, 1) := dk_172 (dk_at dksJ41_equals_0 10 rfl rfl)
theorem q150 : (Jvm.Cond.instanceMethod ({ cls := "java/lang/Object", name := "<init>", desc := "()V" } : Jvm.MethodName)) ∈ lw_all := lw_g (lw_at lw_m1 78 rfl) rfl
theorem q151 : (Jvm.Cond.code ({ cls := "java/lang/Object", name := "<init>", desc := "()V" } : Jvm.MethodName) object_method_1_code (1 : Nat) (Option.none : Option Jvm.ClassFile.FieldType)) ∈ lw_all := lw_g (lw_at lw_m1 79 rfl) rfl
theorem q592 : (Jvm.Cond.instanceMethod ({ cls := "java/lang/Object", name := "getClass", desc := "()Ljava/lang/Class;" } : Jvm.MethodName)) ∈ lw_all := lw_g (lw_at lw_m3 40 rfl) rfl
theorem q593 : (Jvm.Cond.sameMethod "java/lang/Object" "java/lang/Object" "getClass" "()Ljava/lang/Class;") ∈ lw_all := lw_g (lw_at lw_m3 41 rfl) rfl
theorem q641 : (Jvm.Cond.native ({ cls := "java/lang/Object", name := "getClass", desc := "()Ljava/lang/Class;" } : Jvm.MethodName)) ∈ lw_all := lw_g (lw_at lw_m3 89 rfl) rfl
theorem q782 : (Jvm.Cond.declares ({ cls := "java/lang/Object", name := "hashCode", desc := "()I" } : Jvm.MethodName)) ∈ lw_tbl := lw_at lw_m3 230 rfl
theorem q784 : (Jvm.Cond.instanceMethod ({ cls := "java/lang/Object", name := "hashCode", desc := "()I" } : Jvm.MethodName)) ∈ lw_all := lw_g (lw_at lw_m3 232 rfl) rfl
theorem q785 : (Jvm.Cond.sameMethod "java/lang/Object" "java/lang/Object" "hashCode" "()I") ∈ lw_all := lw_g (lw_at lw_m3 233 rfl) rfl
theorem q921 : (Jvm.Cond.native ({ cls := "java/lang/Object", name := "clone", desc := "()Ljava/lang/Object;" } : Jvm.MethodName)) ∈ lw_all := lw_g (lw_at lw_m4 129 rfl) rfl
theorem q922 : (Jvm.Cond.instanceMethod ({ cls := "java/lang/Object", name := "clone", desc := "()Ljava/lang/Object;" } : Jvm.MethodName)) ∈ lw_all := lw_g (lw_at lw_m4 130 rfl) rfl
theorem q1106 : (Jvm.Cond.native ({ cls := "java/lang/Object", name := "hashCode", desc := "()I" } : Jvm.MethodName)) ∈ lw_all := lw_g (lw_at lw_m5 74 rfl) rfl
theorem q1107 : (Jvm.Cond.declares ({ cls := "java/lang/Object", name := "equals", desc := "(Ljava/lang/Object;)Z" } : Jvm.MethodName)) ∈ lw_tbl := lw_at lw_m5 75 rfl
theorem q1109 : (Jvm.Cond.instanceMethod ({ cls := "java/lang/Object", name := "equals", desc := "(Ljava/lang/Object;)Z" } : Jvm.MethodName)) ∈ lw_all := lw_g (lw_at lw_m5 77 rfl) rfl
theorem q1110 : (Jvm.Cond.sameMethod "java/lang/Object" "java/lang/Object" "equals" "(Ljava/lang/Object;)Z") ∈ lw_all := lw_g (lw_at lw_m5 78 rfl) rfl
theorem q1160 : (Jvm.Cond.code ({ cls := "java/lang/Object", name := "equals", desc := "(Ljava/lang/Object;)Z" } : Jvm.MethodName) object_method_4_code (2 : Nat) (Option.some Jvm.ClassFile.FieldType.boolean)) ∈ lw_all := lw_g (lw_at lw_m5 128 rfl) rfl
theorem q2634 : (Jvm.Cond.declares ({ cls := "java/lang/Object", name := "toString", desc := "()Ljava/lang/String;" } : Jvm.MethodName)) ∈ lw_tbl := lw_at lw_m11 162 rfl
theorem q2636 : (Jvm.Cond.instanceMethod ({ cls := "java/lang/Object", name := "toString", desc := "()Ljava/lang/String;" } : Jvm.MethodName)) ∈ lw_all := lw_g (lw_at lw_m11 164 rfl) rfl
theorem q2637 : (Jvm.Cond.sameMethod "java/lang/Object" "java/lang/Object" "toString" "()Ljava/lang/String;") ∈ lw_all := lw_g (lw_at lw_m11 165 rfl) rfl
theorem q3675 : (Jvm.Cond.initialized "java/lang/Object") ∈ lw_all := lw_g (lw_at lw_m16 3 rfl) rfl
theorem q3732 : (Jvm.Cond.declares ({ cls := "java/lang/Object", name := "getClass", desc := "()Ljava/lang/Class;" } : Jvm.MethodName)) ∈ lw_tbl := lw_at lw_m16 60 rfl

/-! BraidedFerryLaw -/
set_option maxRecDepth 100000
def RX0 : String := "BraidedFerryLaw"
abbrev cX0_channel : ByteArray := method_3_code
def yX0_channel : MethodName := ⟨RX0, "channel", "(LBraidedFerry;III[J)I"⟩
def dkwX0_channel_1 : List UInt8 := [172]
abbrev dktX0_channel_1 : List UInt8 := dkwX0_channel_1 ++ []
def dkwX0_channel_0 : List UInt8 := [25, 4, 3, 42, 27, 28, 29, 182, 0, 7, 133, 80, 167, 0, 11, 58, 5, 4, 172, 58, 5, 5, 172, 3]
abbrev dktX0_channel_0 : List UInt8 := dkwX0_channel_0 ++ dktX0_channel_1
theorem dksX0_channel_0 : cX0_channel.data.toList.drop 0 = dktX0_channel_0 := by decide +kernel
theorem dksX0_channel_1 : cX0_channel.data.toList.drop 24 = dktX0_channel_1 := dk_seg dksX0_channel_0 24 rfl rfl
theorem dX0_channel_0 : decode cX0_channel 0 = .ok (.aload 4, 2) := dk_25 4 (dk_at dksX0_channel_0 0 rfl rfl)
theorem dX0_channel_2 : decode cX0_channel 2 = .ok (.iconst 0, 1) := dk_3 (dk_at dksX0_channel_0 2 rfl rfl)
theorem dX0_channel_3 : decode cX0_channel 3 = .ok (.aload_n 0, 1) := dk_42 (dk_at dksX0_channel_0 3 rfl rfl)
theorem dX0_channel_4 : decode cX0_channel 4 = .ok (.iload_n 1, 1) := dk_27 (dk_at dksX0_channel_0 4 rfl rfl)
theorem dX0_channel_5 : decode cX0_channel 5 = .ok (.iload_n 2, 1) := dk_28 (dk_at dksX0_channel_0 5 rfl rfl)
theorem dX0_channel_6 : decode cX0_channel 6 = .ok (.iload_n 3, 1) := dk_29 (dk_at dksX0_channel_0 6 rfl rfl)
theorem dX0_channel_7 : decode cX0_channel 7 = .ok (.invokevirtual 7, 3) := dk_182 0 7 (dk_at dksX0_channel_0 7 rfl rfl)
theorem dX0_channel_10 : decode cX0_channel 10 = .ok (.i2l, 1) := dk_133 (dk_at dksX0_channel_0 10 rfl rfl)
theorem dX0_channel_11 : decode cX0_channel 11 = .ok (.lastore, 1) := dk_80 (dk_at dksX0_channel_0 11 rfl rfl)
theorem dX0_channel_12 : decode cX0_channel 12 = .ok (.goto 11, 3) := dk_167 0 11 (dk_at dksX0_channel_0 12 rfl rfl)
theorem dX0_channel_15 : decode cX0_channel 15 = .ok (.astore 5, 2) := dk_58 5 (dk_at dksX0_channel_0 15 rfl rfl)
theorem dX0_channel_17 : decode cX0_channel 17 = .ok (.iconst 1, 1) := dk_4 (dk_at dksX0_channel_0 17 rfl rfl)
theorem dX0_channel_18 : decode cX0_channel 18 = .ok (.ireturn, 1) := dk_172 (dk_at dksX0_channel_0 18 rfl rfl)
theorem dX0_channel_19 : decode cX0_channel 19 = .ok (.astore 5, 2) := dk_58 5 (dk_at dksX0_channel_0 19 rfl rfl)
theorem dX0_channel_21 : decode cX0_channel 21 = .ok (.iconst 2, 1) := dk_5 (dk_at dksX0_channel_0 21 rfl rfl)
theorem dX0_channel_22 : decode cX0_channel 22 = .ok (.ireturn, 1) := dk_172 (dk_at dksX0_channel_0 22 rfl rfl)
theorem dX0_channel_23 : decode cX0_channel 23 = .ok (.iconst 0, 1) := dk_3 (dk_at dksX0_channel_0 23 rfl rfl)
theorem dX0_channel_24 : decode cX0_channel 24 = .ok (.ireturn, 1) := dk_172 (dk_at dksX0_channel_1 0 rfl rfl)
abbrev cX0_split : ByteArray := method_4_code
def yX0_split : MethodName := ⟨RX0, "split", "(LBraidedFerry;II[J)I"⟩
def dkwX0_split_0 : List UInt8 := [45, 3, 42, 27, 28, 182, 0, 17, 133, 80, 167, 0, 11, 58, 4, 4, 172, 58, 4, 5, 172, 3, 172]
abbrev dktX0_split_0 : List UInt8 := dkwX0_split_0 ++ []
theorem dksX0_split_0 : cX0_split.data.toList.drop 0 = dktX0_split_0 := by decide +kernel
theorem dX0_split_0 : decode cX0_split 0 = .ok (.aload_n 3, 1) := dk_45 (dk_at dksX0_split_0 0 rfl rfl)
theorem dX0_split_1 : decode cX0_split 1 = .ok (.iconst 0, 1) := dk_3 (dk_at dksX0_split_0 1 rfl rfl)
theorem dX0_split_2 : decode cX0_split 2 = .ok (.aload_n 0, 1) := dk_42 (dk_at dksX0_split_0 2 rfl rfl)
theorem dX0_split_3 : decode cX0_split 3 = .ok (.iload_n 1, 1) := dk_27 (dk_at dksX0_split_0 3 rfl rfl)
theorem dX0_split_4 : decode cX0_split 4 = .ok (.iload_n 2, 1) := dk_28 (dk_at dksX0_split_0 4 rfl rfl)
theorem dX0_split_5 : decode cX0_split 5 = .ok (.invokevirtual 17, 3) := dk_182 0 17 (dk_at dksX0_split_0 5 rfl rfl)
theorem dX0_split_8 : decode cX0_split 8 = .ok (.i2l, 1) := dk_133 (dk_at dksX0_split_0 8 rfl rfl)
theorem dX0_split_9 : decode cX0_split 9 = .ok (.lastore, 1) := dk_80 (dk_at dksX0_split_0 9 rfl rfl)
theorem dX0_split_10 : decode cX0_split 10 = .ok (.goto 11, 3) := dk_167 0 11 (dk_at dksX0_split_0 10 rfl rfl)
theorem dX0_split_13 : decode cX0_split 13 = .ok (.astore 4, 2) := dk_58 4 (dk_at dksX0_split_0 13 rfl rfl)
theorem dX0_split_15 : decode cX0_split 15 = .ok (.iconst 1, 1) := dk_4 (dk_at dksX0_split_0 15 rfl rfl)
theorem dX0_split_16 : decode cX0_split 16 = .ok (.ireturn, 1) := dk_172 (dk_at dksX0_split_0 16 rfl rfl)
theorem dX0_split_17 : decode cX0_split 17 = .ok (.astore 4, 2) := dk_58 4 (dk_at dksX0_split_0 17 rfl rfl)
theorem dX0_split_19 : decode cX0_split 19 = .ok (.iconst 2, 1) := dk_5 (dk_at dksX0_split_0 19 rfl rfl)
theorem dX0_split_20 : decode cX0_split 20 = .ok (.ireturn, 1) := dk_172 (dk_at dksX0_split_0 20 rfl rfl)
theorem dX0_split_21 : decode cX0_split 21 = .ok (.iconst 0, 1) := dk_3 (dk_at dksX0_split_0 21 rfl rfl)
theorem dX0_split_22 : decode cX0_split 22 = .ok (.ireturn, 1) := dk_172 (dk_at dksX0_split_0 22 rfl rfl)
abbrev cX0_shift : ByteArray := method_5_code
def yX0_shift : MethodName := ⟨RX0, "shift", "(LBraidedFerry;II[J)I"⟩
def dkwX0_shift_1 : List UInt8 := [172, 3, 172]
abbrev dktX0_shift_1 : List UInt8 := dkwX0_shift_1 ++ []
def dkwX0_shift_0 : List UInt8 := [45, 3, 42, 27, 28, 182, 0, 23, 133, 80, 167, 0, 15, 58, 4, 4, 172, 58, 4, 5, 172, 58, 4, 6]
abbrev dktX0_shift_0 : List UInt8 := dkwX0_shift_0 ++ dktX0_shift_1
theorem dksX0_shift_0 : cX0_shift.data.toList.drop 0 = dktX0_shift_0 := by decide +kernel
theorem dksX0_shift_1 : cX0_shift.data.toList.drop 24 = dktX0_shift_1 := dk_seg dksX0_shift_0 24 rfl rfl
theorem dX0_shift_0 : decode cX0_shift 0 = .ok (.aload_n 3, 1) := dk_45 (dk_at dksX0_shift_0 0 rfl rfl)
theorem dX0_shift_1 : decode cX0_shift 1 = .ok (.iconst 0, 1) := dk_3 (dk_at dksX0_shift_0 1 rfl rfl)
theorem dX0_shift_2 : decode cX0_shift 2 = .ok (.aload_n 0, 1) := dk_42 (dk_at dksX0_shift_0 2 rfl rfl)
theorem dX0_shift_3 : decode cX0_shift 3 = .ok (.iload_n 1, 1) := dk_27 (dk_at dksX0_shift_0 3 rfl rfl)
theorem dX0_shift_4 : decode cX0_shift 4 = .ok (.iload_n 2, 1) := dk_28 (dk_at dksX0_shift_0 4 rfl rfl)
theorem dX0_shift_5 : decode cX0_shift 5 = .ok (.invokevirtual 23, 3) := dk_182 0 23 (dk_at dksX0_shift_0 5 rfl rfl)
theorem dX0_shift_8 : decode cX0_shift 8 = .ok (.i2l, 1) := dk_133 (dk_at dksX0_shift_0 8 rfl rfl)
theorem dX0_shift_9 : decode cX0_shift 9 = .ok (.lastore, 1) := dk_80 (dk_at dksX0_shift_0 9 rfl rfl)
theorem dX0_shift_10 : decode cX0_shift 10 = .ok (.goto 15, 3) := dk_167 0 15 (dk_at dksX0_shift_0 10 rfl rfl)
theorem dX0_shift_13 : decode cX0_shift 13 = .ok (.astore 4, 2) := dk_58 4 (dk_at dksX0_shift_0 13 rfl rfl)
theorem dX0_shift_15 : decode cX0_shift 15 = .ok (.iconst 1, 1) := dk_4 (dk_at dksX0_shift_0 15 rfl rfl)
theorem dX0_shift_16 : decode cX0_shift 16 = .ok (.ireturn, 1) := dk_172 (dk_at dksX0_shift_0 16 rfl rfl)
theorem dX0_shift_17 : decode cX0_shift 17 = .ok (.astore 4, 2) := dk_58 4 (dk_at dksX0_shift_0 17 rfl rfl)
theorem dX0_shift_19 : decode cX0_shift 19 = .ok (.iconst 2, 1) := dk_5 (dk_at dksX0_shift_0 19 rfl rfl)
theorem dX0_shift_20 : decode cX0_shift 20 = .ok (.ireturn, 1) := dk_172 (dk_at dksX0_shift_0 20 rfl rfl)
theorem dX0_shift_21 : decode cX0_shift 21 = .ok (.astore 4, 2) := dk_58 4 (dk_at dksX0_shift_0 21 rfl rfl)
theorem dX0_shift_23 : decode cX0_shift 23 = .ok (.iconst 3, 1) := dk_6 (dk_at dksX0_shift_0 23 rfl rfl)
theorem dX0_shift_24 : decode cX0_shift 24 = .ok (.ireturn, 1) := dk_172 (dk_at dksX0_shift_1 0 rfl rfl)
theorem dX0_shift_25 : decode cX0_shift 25 = .ok (.iconst 0, 1) := dk_3 (dk_at dksX0_shift_1 1 rfl rfl)
theorem dX0_shift_26 : decode cX0_shift 26 = .ok (.ireturn, 1) := dk_172 (dk_at dksX0_shift_1 2 rfl rfl)
abbrev cX0_channelOf : ByteArray := method_6_code
def yX0_channelOf : MethodName := ⟨RX0, "channelOf", "(LBraidedFerry;II[J)I"⟩
def dkwX0_channelOf_0 : List UInt8 := [45, 3, 42, 27, 28, 182, 0, 26, 133, 80, 167, 0, 11, 58, 4, 4, 172, 58, 4, 5, 172, 3, 172]
abbrev dktX0_channelOf_0 : List UInt8 := dkwX0_channelOf_0 ++ []
theorem dksX0_channelOf_0 : cX0_channelOf.data.toList.drop 0 = dktX0_channelOf_0 := by decide +kernel
theorem dX0_channelOf_0 : decode cX0_channelOf 0 = .ok (.aload_n 3, 1) := dk_45 (dk_at dksX0_channelOf_0 0 rfl rfl)
theorem dX0_channelOf_1 : decode cX0_channelOf 1 = .ok (.iconst 0, 1) := dk_3 (dk_at dksX0_channelOf_0 1 rfl rfl)
theorem dX0_channelOf_2 : decode cX0_channelOf 2 = .ok (.aload_n 0, 1) := dk_42 (dk_at dksX0_channelOf_0 2 rfl rfl)
theorem dX0_channelOf_3 : decode cX0_channelOf 3 = .ok (.iload_n 1, 1) := dk_27 (dk_at dksX0_channelOf_0 3 rfl rfl)
theorem dX0_channelOf_4 : decode cX0_channelOf 4 = .ok (.iload_n 2, 1) := dk_28 (dk_at dksX0_channelOf_0 4 rfl rfl)
theorem dX0_channelOf_5 : decode cX0_channelOf 5 = .ok (.invokevirtual 26, 3) := dk_182 0 26 (dk_at dksX0_channelOf_0 5 rfl rfl)
theorem dX0_channelOf_8 : decode cX0_channelOf 8 = .ok (.i2l, 1) := dk_133 (dk_at dksX0_channelOf_0 8 rfl rfl)
theorem dX0_channelOf_9 : decode cX0_channelOf 9 = .ok (.lastore, 1) := dk_80 (dk_at dksX0_channelOf_0 9 rfl rfl)
theorem dX0_channelOf_10 : decode cX0_channelOf 10 = .ok (.goto 11, 3) := dk_167 0 11 (dk_at dksX0_channelOf_0 10 rfl rfl)
theorem dX0_channelOf_13 : decode cX0_channelOf 13 = .ok (.astore 4, 2) := dk_58 4 (dk_at dksX0_channelOf_0 13 rfl rfl)
theorem dX0_channelOf_15 : decode cX0_channelOf 15 = .ok (.iconst 1, 1) := dk_4 (dk_at dksX0_channelOf_0 15 rfl rfl)
theorem dX0_channelOf_16 : decode cX0_channelOf 16 = .ok (.ireturn, 1) := dk_172 (dk_at dksX0_channelOf_0 16 rfl rfl)
theorem dX0_channelOf_17 : decode cX0_channelOf 17 = .ok (.astore 4, 2) := dk_58 4 (dk_at dksX0_channelOf_0 17 rfl rfl)
theorem dX0_channelOf_19 : decode cX0_channelOf 19 = .ok (.iconst 2, 1) := dk_5 (dk_at dksX0_channelOf_0 19 rfl rfl)
theorem dX0_channelOf_20 : decode cX0_channelOf 20 = .ok (.ireturn, 1) := dk_172 (dk_at dksX0_channelOf_0 20 rfl rfl)
theorem dX0_channelOf_21 : decode cX0_channelOf 21 = .ok (.iconst 0, 1) := dk_3 (dk_at dksX0_channelOf_0 21 rfl rfl)
theorem dX0_channelOf_22 : decode cX0_channelOf 22 = .ok (.ireturn, 1) := dk_172 (dk_at dksX0_channelOf_0 22 rfl rfl)
abbrev cX0_flood : ByteArray := method_7_code
def yX0_flood : MethodName := ⟨RX0, "flood", "(LBraidedFerry;III[J)I"⟩
def dkwX0_flood_1 : List UInt8 := [172]
abbrev dktX0_flood_1 : List UInt8 := dkwX0_flood_1 ++ []
def dkwX0_flood_0 : List UInt8 := [25, 4, 3, 42, 27, 28, 29, 182, 0, 29, 133, 80, 167, 0, 11, 58, 5, 4, 172, 58, 5, 5, 172, 3]
abbrev dktX0_flood_0 : List UInt8 := dkwX0_flood_0 ++ dktX0_flood_1
theorem dksX0_flood_0 : cX0_flood.data.toList.drop 0 = dktX0_flood_0 := by decide +kernel
theorem dksX0_flood_1 : cX0_flood.data.toList.drop 24 = dktX0_flood_1 := dk_seg dksX0_flood_0 24 rfl rfl
theorem dX0_flood_0 : decode cX0_flood 0 = .ok (.aload 4, 2) := dk_25 4 (dk_at dksX0_flood_0 0 rfl rfl)
theorem dX0_flood_2 : decode cX0_flood 2 = .ok (.iconst 0, 1) := dk_3 (dk_at dksX0_flood_0 2 rfl rfl)
theorem dX0_flood_3 : decode cX0_flood 3 = .ok (.aload_n 0, 1) := dk_42 (dk_at dksX0_flood_0 3 rfl rfl)
theorem dX0_flood_4 : decode cX0_flood 4 = .ok (.iload_n 1, 1) := dk_27 (dk_at dksX0_flood_0 4 rfl rfl)
theorem dX0_flood_5 : decode cX0_flood 5 = .ok (.iload_n 2, 1) := dk_28 (dk_at dksX0_flood_0 5 rfl rfl)
theorem dX0_flood_6 : decode cX0_flood 6 = .ok (.iload_n 3, 1) := dk_29 (dk_at dksX0_flood_0 6 rfl rfl)
theorem dX0_flood_7 : decode cX0_flood 7 = .ok (.invokevirtual 29, 3) := dk_182 0 29 (dk_at dksX0_flood_0 7 rfl rfl)
theorem dX0_flood_10 : decode cX0_flood 10 = .ok (.i2l, 1) := dk_133 (dk_at dksX0_flood_0 10 rfl rfl)
theorem dX0_flood_11 : decode cX0_flood 11 = .ok (.lastore, 1) := dk_80 (dk_at dksX0_flood_0 11 rfl rfl)
theorem dX0_flood_12 : decode cX0_flood 12 = .ok (.goto 11, 3) := dk_167 0 11 (dk_at dksX0_flood_0 12 rfl rfl)
theorem dX0_flood_15 : decode cX0_flood 15 = .ok (.astore 5, 2) := dk_58 5 (dk_at dksX0_flood_0 15 rfl rfl)
theorem dX0_flood_17 : decode cX0_flood 17 = .ok (.iconst 1, 1) := dk_4 (dk_at dksX0_flood_0 17 rfl rfl)
theorem dX0_flood_18 : decode cX0_flood 18 = .ok (.ireturn, 1) := dk_172 (dk_at dksX0_flood_0 18 rfl rfl)
theorem dX0_flood_19 : decode cX0_flood 19 = .ok (.astore 5, 2) := dk_58 5 (dk_at dksX0_flood_0 19 rfl rfl)
theorem dX0_flood_21 : decode cX0_flood 21 = .ok (.iconst 2, 1) := dk_5 (dk_at dksX0_flood_0 21 rfl rfl)
theorem dX0_flood_22 : decode cX0_flood 22 = .ok (.ireturn, 1) := dk_172 (dk_at dksX0_flood_0 22 rfl rfl)
theorem dX0_flood_23 : decode cX0_flood 23 = .ok (.iconst 0, 1) := dk_3 (dk_at dksX0_flood_0 23 rfl rfl)
theorem dX0_flood_24 : decode cX0_flood 24 = .ok (.ireturn, 1) := dk_172 (dk_at dksX0_flood_1 0 rfl rfl)
abbrev cX0_flow : ByteArray := method_8_code
def yX0_flow : MethodName := ⟨RX0, "flow", "(LBraidedFerry;II[J)I"⟩
def dkwX0_flow_0 : List UInt8 := [45, 3, 42, 27, 28, 182, 0, 32, 133, 80, 167, 0, 11, 58, 4, 4, 172, 58, 4, 5, 172, 3, 172]
abbrev dktX0_flow_0 : List UInt8 := dkwX0_flow_0 ++ []
theorem dksX0_flow_0 : cX0_flow.data.toList.drop 0 = dktX0_flow_0 := by decide +kernel
theorem dX0_flow_0 : decode cX0_flow 0 = .ok (.aload_n 3, 1) := dk_45 (dk_at dksX0_flow_0 0 rfl rfl)
theorem dX0_flow_1 : decode cX0_flow 1 = .ok (.iconst 0, 1) := dk_3 (dk_at dksX0_flow_0 1 rfl rfl)
theorem dX0_flow_2 : decode cX0_flow 2 = .ok (.aload_n 0, 1) := dk_42 (dk_at dksX0_flow_0 2 rfl rfl)
theorem dX0_flow_3 : decode cX0_flow 3 = .ok (.iload_n 1, 1) := dk_27 (dk_at dksX0_flow_0 3 rfl rfl)
theorem dX0_flow_4 : decode cX0_flow 4 = .ok (.iload_n 2, 1) := dk_28 (dk_at dksX0_flow_0 4 rfl rfl)
theorem dX0_flow_5 : decode cX0_flow 5 = .ok (.invokevirtual 32, 3) := dk_182 0 32 (dk_at dksX0_flow_0 5 rfl rfl)
theorem dX0_flow_8 : decode cX0_flow 8 = .ok (.i2l, 1) := dk_133 (dk_at dksX0_flow_0 8 rfl rfl)
theorem dX0_flow_9 : decode cX0_flow 9 = .ok (.lastore, 1) := dk_80 (dk_at dksX0_flow_0 9 rfl rfl)
theorem dX0_flow_10 : decode cX0_flow 10 = .ok (.goto 11, 3) := dk_167 0 11 (dk_at dksX0_flow_0 10 rfl rfl)
theorem dX0_flow_13 : decode cX0_flow 13 = .ok (.astore 4, 2) := dk_58 4 (dk_at dksX0_flow_0 13 rfl rfl)
theorem dX0_flow_15 : decode cX0_flow 15 = .ok (.iconst 1, 1) := dk_4 (dk_at dksX0_flow_0 15 rfl rfl)
theorem dX0_flow_16 : decode cX0_flow 16 = .ok (.ireturn, 1) := dk_172 (dk_at dksX0_flow_0 16 rfl rfl)
theorem dX0_flow_17 : decode cX0_flow 17 = .ok (.astore 4, 2) := dk_58 4 (dk_at dksX0_flow_0 17 rfl rfl)
theorem dX0_flow_19 : decode cX0_flow 19 = .ok (.iconst 2, 1) := dk_5 (dk_at dksX0_flow_0 19 rfl rfl)
theorem dX0_flow_20 : decode cX0_flow 20 = .ok (.ireturn, 1) := dk_172 (dk_at dksX0_flow_0 20 rfl rfl)
theorem dX0_flow_21 : decode cX0_flow 21 = .ok (.iconst 0, 1) := dk_3 (dk_at dksX0_flow_0 21 rfl rfl)
theorem dX0_flow_22 : decode cX0_flow 22 = .ok (.ireturn, 1) := dk_172 (dk_at dksX0_flow_0 22 rfl rfl)
abbrev cX0_anchor : ByteArray := method_9_code
def yX0_anchor : MethodName := ⟨RX0, "anchor", "(LBraidedFerry;II[J)I"⟩
def dkwX0_anchor_1 : List UInt8 := [172, 3, 172]
abbrev dktX0_anchor_1 : List UInt8 := dkwX0_anchor_1 ++ []
def dkwX0_anchor_0 : List UInt8 := [45, 3, 42, 27, 28, 182, 0, 35, 133, 80, 167, 0, 15, 58, 4, 4, 172, 58, 4, 5, 172, 58, 4, 6]
abbrev dktX0_anchor_0 : List UInt8 := dkwX0_anchor_0 ++ dktX0_anchor_1
theorem dksX0_anchor_0 : cX0_anchor.data.toList.drop 0 = dktX0_anchor_0 := by decide +kernel
theorem dksX0_anchor_1 : cX0_anchor.data.toList.drop 24 = dktX0_anchor_1 := dk_seg dksX0_anchor_0 24 rfl rfl
theorem dX0_anchor_0 : decode cX0_anchor 0 = .ok (.aload_n 3, 1) := dk_45 (dk_at dksX0_anchor_0 0 rfl rfl)
theorem dX0_anchor_1 : decode cX0_anchor 1 = .ok (.iconst 0, 1) := dk_3 (dk_at dksX0_anchor_0 1 rfl rfl)
theorem dX0_anchor_2 : decode cX0_anchor 2 = .ok (.aload_n 0, 1) := dk_42 (dk_at dksX0_anchor_0 2 rfl rfl)
theorem dX0_anchor_3 : decode cX0_anchor 3 = .ok (.iload_n 1, 1) := dk_27 (dk_at dksX0_anchor_0 3 rfl rfl)
theorem dX0_anchor_4 : decode cX0_anchor 4 = .ok (.iload_n 2, 1) := dk_28 (dk_at dksX0_anchor_0 4 rfl rfl)
theorem dX0_anchor_5 : decode cX0_anchor 5 = .ok (.invokevirtual 35, 3) := dk_182 0 35 (dk_at dksX0_anchor_0 5 rfl rfl)
theorem dX0_anchor_8 : decode cX0_anchor 8 = .ok (.i2l, 1) := dk_133 (dk_at dksX0_anchor_0 8 rfl rfl)
theorem dX0_anchor_9 : decode cX0_anchor 9 = .ok (.lastore, 1) := dk_80 (dk_at dksX0_anchor_0 9 rfl rfl)
theorem dX0_anchor_10 : decode cX0_anchor 10 = .ok (.goto 15, 3) := dk_167 0 15 (dk_at dksX0_anchor_0 10 rfl rfl)
theorem dX0_anchor_13 : decode cX0_anchor 13 = .ok (.astore 4, 2) := dk_58 4 (dk_at dksX0_anchor_0 13 rfl rfl)
theorem dX0_anchor_15 : decode cX0_anchor 15 = .ok (.iconst 1, 1) := dk_4 (dk_at dksX0_anchor_0 15 rfl rfl)
theorem dX0_anchor_16 : decode cX0_anchor 16 = .ok (.ireturn, 1) := dk_172 (dk_at dksX0_anchor_0 16 rfl rfl)
theorem dX0_anchor_17 : decode cX0_anchor 17 = .ok (.astore 4, 2) := dk_58 4 (dk_at dksX0_anchor_0 17 rfl rfl)
theorem dX0_anchor_19 : decode cX0_anchor 19 = .ok (.iconst 2, 1) := dk_5 (dk_at dksX0_anchor_0 19 rfl rfl)
theorem dX0_anchor_20 : decode cX0_anchor 20 = .ok (.ireturn, 1) := dk_172 (dk_at dksX0_anchor_0 20 rfl rfl)
theorem dX0_anchor_21 : decode cX0_anchor 21 = .ok (.astore 4, 2) := dk_58 4 (dk_at dksX0_anchor_0 21 rfl rfl)
theorem dX0_anchor_23 : decode cX0_anchor 23 = .ok (.iconst 3, 1) := dk_6 (dk_at dksX0_anchor_0 23 rfl rfl)
theorem dX0_anchor_24 : decode cX0_anchor 24 = .ok (.ireturn, 1) := dk_172 (dk_at dksX0_anchor_1 0 rfl rfl)
theorem dX0_anchor_25 : decode cX0_anchor 25 = .ok (.iconst 0, 1) := dk_3 (dk_at dksX0_anchor_1 1 rfl rfl)
theorem dX0_anchor_26 : decode cX0_anchor 26 = .ok (.ireturn, 1) := dk_172 (dk_at dksX0_anchor_1 2 rfl rfl)
abbrev cX0_weigh : ByteArray := method_10_code
def yX0_weigh : MethodName := ⟨RX0, "weigh", "(LBraidedFerry;I[J)I"⟩
def dkwX0_weigh_0 : List UInt8 := [44, 3, 42, 27, 182, 0, 38, 133, 80, 167, 0, 6, 78, 4, 172, 3, 172]
abbrev dktX0_weigh_0 : List UInt8 := dkwX0_weigh_0 ++ []
theorem dksX0_weigh_0 : cX0_weigh.data.toList.drop 0 = dktX0_weigh_0 := by decide +kernel
theorem dX0_weigh_0 : decode cX0_weigh 0 = .ok (.aload_n 2, 1) := dk_44 (dk_at dksX0_weigh_0 0 rfl rfl)
theorem dX0_weigh_1 : decode cX0_weigh 1 = .ok (.iconst 0, 1) := dk_3 (dk_at dksX0_weigh_0 1 rfl rfl)
theorem dX0_weigh_2 : decode cX0_weigh 2 = .ok (.aload_n 0, 1) := dk_42 (dk_at dksX0_weigh_0 2 rfl rfl)
theorem dX0_weigh_3 : decode cX0_weigh 3 = .ok (.iload_n 1, 1) := dk_27 (dk_at dksX0_weigh_0 3 rfl rfl)
theorem dX0_weigh_4 : decode cX0_weigh 4 = .ok (.invokevirtual 38, 3) := dk_182 0 38 (dk_at dksX0_weigh_0 4 rfl rfl)
theorem dX0_weigh_7 : decode cX0_weigh 7 = .ok (.i2l, 1) := dk_133 (dk_at dksX0_weigh_0 7 rfl rfl)
theorem dX0_weigh_8 : decode cX0_weigh 8 = .ok (.lastore, 1) := dk_80 (dk_at dksX0_weigh_0 8 rfl rfl)
theorem dX0_weigh_9 : decode cX0_weigh 9 = .ok (.goto 6, 3) := dk_167 0 6 (dk_at dksX0_weigh_0 9 rfl rfl)
theorem dX0_weigh_12 : decode cX0_weigh 12 = .ok (.astore_n 3, 1) := dk_78 (dk_at dksX0_weigh_0 12 rfl rfl)
theorem dX0_weigh_13 : decode cX0_weigh 13 = .ok (.iconst 1, 1) := dk_4 (dk_at dksX0_weigh_0 13 rfl rfl)
theorem dX0_weigh_14 : decode cX0_weigh 14 = .ok (.ireturn, 1) := dk_172 (dk_at dksX0_weigh_0 14 rfl rfl)
theorem dX0_weigh_15 : decode cX0_weigh 15 = .ok (.iconst 0, 1) := dk_3 (dk_at dksX0_weigh_0 15 rfl rfl)
theorem dX0_weigh_16 : decode cX0_weigh 16 = .ok (.ireturn, 1) := dk_172 (dk_at dksX0_weigh_0 16 rfl rfl)
abbrev cX0_anchorOf : ByteArray := method_11_code
def yX0_anchorOf : MethodName := ⟨RX0, "anchorOf", "(LBraidedFerry;II[J)I"⟩
def dkwX0_anchorOf_0 : List UInt8 := [45, 3, 42, 27, 28, 182, 0, 42, 133, 80, 167, 0, 11, 58, 4, 4, 172, 58, 4, 5, 172, 3, 172]
abbrev dktX0_anchorOf_0 : List UInt8 := dkwX0_anchorOf_0 ++ []
theorem dksX0_anchorOf_0 : cX0_anchorOf.data.toList.drop 0 = dktX0_anchorOf_0 := by decide +kernel
theorem dX0_anchorOf_0 : decode cX0_anchorOf 0 = .ok (.aload_n 3, 1) := dk_45 (dk_at dksX0_anchorOf_0 0 rfl rfl)
theorem dX0_anchorOf_1 : decode cX0_anchorOf 1 = .ok (.iconst 0, 1) := dk_3 (dk_at dksX0_anchorOf_0 1 rfl rfl)
theorem dX0_anchorOf_2 : decode cX0_anchorOf 2 = .ok (.aload_n 0, 1) := dk_42 (dk_at dksX0_anchorOf_0 2 rfl rfl)
theorem dX0_anchorOf_3 : decode cX0_anchorOf 3 = .ok (.iload_n 1, 1) := dk_27 (dk_at dksX0_anchorOf_0 3 rfl rfl)
theorem dX0_anchorOf_4 : decode cX0_anchorOf 4 = .ok (.iload_n 2, 1) := dk_28 (dk_at dksX0_anchorOf_0 4 rfl rfl)
theorem dX0_anchorOf_5 : decode cX0_anchorOf 5 = .ok (.invokevirtual 42, 3) := dk_182 0 42 (dk_at dksX0_anchorOf_0 5 rfl rfl)
theorem dX0_anchorOf_8 : decode cX0_anchorOf 8 = .ok (.i2l, 1) := dk_133 (dk_at dksX0_anchorOf_0 8 rfl rfl)
theorem dX0_anchorOf_9 : decode cX0_anchorOf 9 = .ok (.lastore, 1) := dk_80 (dk_at dksX0_anchorOf_0 9 rfl rfl)
theorem dX0_anchorOf_10 : decode cX0_anchorOf 10 = .ok (.goto 11, 3) := dk_167 0 11 (dk_at dksX0_anchorOf_0 10 rfl rfl)
theorem dX0_anchorOf_13 : decode cX0_anchorOf 13 = .ok (.astore 4, 2) := dk_58 4 (dk_at dksX0_anchorOf_0 13 rfl rfl)
theorem dX0_anchorOf_15 : decode cX0_anchorOf 15 = .ok (.iconst 1, 1) := dk_4 (dk_at dksX0_anchorOf_0 15 rfl rfl)
theorem dX0_anchorOf_16 : decode cX0_anchorOf 16 = .ok (.ireturn, 1) := dk_172 (dk_at dksX0_anchorOf_0 16 rfl rfl)
theorem dX0_anchorOf_17 : decode cX0_anchorOf 17 = .ok (.astore 4, 2) := dk_58 4 (dk_at dksX0_anchorOf_0 17 rfl rfl)
theorem dX0_anchorOf_19 : decode cX0_anchorOf 19 = .ok (.iconst 2, 1) := dk_5 (dk_at dksX0_anchorOf_0 19 rfl rfl)
theorem dX0_anchorOf_20 : decode cX0_anchorOf 20 = .ok (.ireturn, 1) := dk_172 (dk_at dksX0_anchorOf_0 20 rfl rfl)
theorem dX0_anchorOf_21 : decode cX0_anchorOf 21 = .ok (.iconst 0, 1) := dk_3 (dk_at dksX0_anchorOf_0 21 rfl rfl)
theorem dX0_anchorOf_22 : decode cX0_anchorOf 22 = .ok (.ireturn, 1) := dk_172 (dk_at dksX0_anchorOf_0 22 rfl rfl)
abbrev cX0_dragIn : ByteArray := method_12_code
def yX0_dragIn : MethodName := ⟨RX0, "dragIn", "(LBraidedFerry;II[J)I"⟩
def dkwX0_dragIn_0 : List UInt8 := [45, 3, 42, 27, 28, 182, 0, 45, 133, 80, 167, 0, 11, 58, 4, 4, 172, 58, 4, 5, 172, 3, 172]
abbrev dktX0_dragIn_0 : List UInt8 := dkwX0_dragIn_0 ++ []
theorem dksX0_dragIn_0 : cX0_dragIn.data.toList.drop 0 = dktX0_dragIn_0 := by decide +kernel
theorem dX0_dragIn_0 : decode cX0_dragIn 0 = .ok (.aload_n 3, 1) := dk_45 (dk_at dksX0_dragIn_0 0 rfl rfl)
theorem dX0_dragIn_1 : decode cX0_dragIn 1 = .ok (.iconst 0, 1) := dk_3 (dk_at dksX0_dragIn_0 1 rfl rfl)
theorem dX0_dragIn_2 : decode cX0_dragIn 2 = .ok (.aload_n 0, 1) := dk_42 (dk_at dksX0_dragIn_0 2 rfl rfl)
theorem dX0_dragIn_3 : decode cX0_dragIn 3 = .ok (.iload_n 1, 1) := dk_27 (dk_at dksX0_dragIn_0 3 rfl rfl)
theorem dX0_dragIn_4 : decode cX0_dragIn 4 = .ok (.iload_n 2, 1) := dk_28 (dk_at dksX0_dragIn_0 4 rfl rfl)
theorem dX0_dragIn_5 : decode cX0_dragIn 5 = .ok (.invokevirtual 45, 3) := dk_182 0 45 (dk_at dksX0_dragIn_0 5 rfl rfl)
theorem dX0_dragIn_8 : decode cX0_dragIn 8 = .ok (.i2l, 1) := dk_133 (dk_at dksX0_dragIn_0 8 rfl rfl)
theorem dX0_dragIn_9 : decode cX0_dragIn 9 = .ok (.lastore, 1) := dk_80 (dk_at dksX0_dragIn_0 9 rfl rfl)
theorem dX0_dragIn_10 : decode cX0_dragIn 10 = .ok (.goto 11, 3) := dk_167 0 11 (dk_at dksX0_dragIn_0 10 rfl rfl)
theorem dX0_dragIn_13 : decode cX0_dragIn 13 = .ok (.astore 4, 2) := dk_58 4 (dk_at dksX0_dragIn_0 13 rfl rfl)
theorem dX0_dragIn_15 : decode cX0_dragIn 15 = .ok (.iconst 1, 1) := dk_4 (dk_at dksX0_dragIn_0 15 rfl rfl)
theorem dX0_dragIn_16 : decode cX0_dragIn 16 = .ok (.ireturn, 1) := dk_172 (dk_at dksX0_dragIn_0 16 rfl rfl)
theorem dX0_dragIn_17 : decode cX0_dragIn 17 = .ok (.astore 4, 2) := dk_58 4 (dk_at dksX0_dragIn_0 17 rfl rfl)
theorem dX0_dragIn_19 : decode cX0_dragIn 19 = .ok (.iconst 2, 1) := dk_5 (dk_at dksX0_dragIn_0 19 rfl rfl)
theorem dX0_dragIn_20 : decode cX0_dragIn 20 = .ok (.ireturn, 1) := dk_172 (dk_at dksX0_dragIn_0 20 rfl rfl)
theorem dX0_dragIn_21 : decode cX0_dragIn 21 = .ok (.iconst 0, 1) := dk_3 (dk_at dksX0_dragIn_0 21 rfl rfl)
theorem dX0_dragIn_22 : decode cX0_dragIn 22 = .ok (.ireturn, 1) := dk_172 (dk_at dksX0_dragIn_0 22 rfl rfl)
abbrev cX0_dragAgain : ByteArray := method_13_code
def yX0_dragAgain : MethodName := ⟨RX0, "dragAgain", "(LBraidedFerry;II[J)I"⟩
def dkwX0_dragAgain_0 : List UInt8 := [45, 3, 42, 27, 28, 182, 0, 48, 133, 80, 167, 0, 11, 58, 4, 4, 172, 58, 4, 5, 172, 3, 172]
abbrev dktX0_dragAgain_0 : List UInt8 := dkwX0_dragAgain_0 ++ []
theorem dksX0_dragAgain_0 : cX0_dragAgain.data.toList.drop 0 = dktX0_dragAgain_0 := by decide +kernel
theorem dX0_dragAgain_0 : decode cX0_dragAgain 0 = .ok (.aload_n 3, 1) := dk_45 (dk_at dksX0_dragAgain_0 0 rfl rfl)
theorem dX0_dragAgain_1 : decode cX0_dragAgain 1 = .ok (.iconst 0, 1) := dk_3 (dk_at dksX0_dragAgain_0 1 rfl rfl)
theorem dX0_dragAgain_2 : decode cX0_dragAgain 2 = .ok (.aload_n 0, 1) := dk_42 (dk_at dksX0_dragAgain_0 2 rfl rfl)
theorem dX0_dragAgain_3 : decode cX0_dragAgain 3 = .ok (.iload_n 1, 1) := dk_27 (dk_at dksX0_dragAgain_0 3 rfl rfl)
theorem dX0_dragAgain_4 : decode cX0_dragAgain 4 = .ok (.iload_n 2, 1) := dk_28 (dk_at dksX0_dragAgain_0 4 rfl rfl)
theorem dX0_dragAgain_5 : decode cX0_dragAgain 5 = .ok (.invokevirtual 48, 3) := dk_182 0 48 (dk_at dksX0_dragAgain_0 5 rfl rfl)
theorem dX0_dragAgain_8 : decode cX0_dragAgain 8 = .ok (.i2l, 1) := dk_133 (dk_at dksX0_dragAgain_0 8 rfl rfl)
theorem dX0_dragAgain_9 : decode cX0_dragAgain 9 = .ok (.lastore, 1) := dk_80 (dk_at dksX0_dragAgain_0 9 rfl rfl)
theorem dX0_dragAgain_10 : decode cX0_dragAgain 10 = .ok (.goto 11, 3) := dk_167 0 11 (dk_at dksX0_dragAgain_0 10 rfl rfl)
theorem dX0_dragAgain_13 : decode cX0_dragAgain 13 = .ok (.astore 4, 2) := dk_58 4 (dk_at dksX0_dragAgain_0 13 rfl rfl)
theorem dX0_dragAgain_15 : decode cX0_dragAgain 15 = .ok (.iconst 1, 1) := dk_4 (dk_at dksX0_dragAgain_0 15 rfl rfl)
theorem dX0_dragAgain_16 : decode cX0_dragAgain 16 = .ok (.ireturn, 1) := dk_172 (dk_at dksX0_dragAgain_0 16 rfl rfl)
theorem dX0_dragAgain_17 : decode cX0_dragAgain 17 = .ok (.astore 4, 2) := dk_58 4 (dk_at dksX0_dragAgain_0 17 rfl rfl)
theorem dX0_dragAgain_19 : decode cX0_dragAgain 19 = .ok (.iconst 2, 1) := dk_5 (dk_at dksX0_dragAgain_0 19 rfl rfl)
theorem dX0_dragAgain_20 : decode cX0_dragAgain 20 = .ok (.ireturn, 1) := dk_172 (dk_at dksX0_dragAgain_0 20 rfl rfl)
theorem dX0_dragAgain_21 : decode cX0_dragAgain 21 = .ok (.iconst 0, 1) := dk_3 (dk_at dksX0_dragAgain_0 21 rfl rfl)
theorem dX0_dragAgain_22 : decode cX0_dragAgain 22 = .ok (.ireturn, 1) := dk_172 (dk_at dksX0_dragAgain_0 22 rfl rfl)
abbrev cX0_come : ByteArray := method_14_code
def yX0_come : MethodName := ⟨RX0, "come", "(LBraidedFerry;IIII[J)I"⟩
def dkwX0_come_1 : List UInt8 := [172, 58, 6, 6, 172, 3, 172]
abbrev dktX0_come_1 : List UInt8 := dkwX0_come_1 ++ []
def dkwX0_come_0 : List UInt8 := [25, 5, 3, 42, 27, 28, 29, 21, 4, 182, 0, 51, 133, 80, 167, 0, 15, 58, 6, 4, 172, 58, 6, 5]
abbrev dktX0_come_0 : List UInt8 := dkwX0_come_0 ++ dktX0_come_1
theorem dksX0_come_0 : cX0_come.data.toList.drop 0 = dktX0_come_0 := by decide +kernel
theorem dksX0_come_1 : cX0_come.data.toList.drop 24 = dktX0_come_1 := dk_seg dksX0_come_0 24 rfl rfl
theorem dX0_come_0 : decode cX0_come 0 = .ok (.aload 5, 2) := dk_25 5 (dk_at dksX0_come_0 0 rfl rfl)
theorem dX0_come_2 : decode cX0_come 2 = .ok (.iconst 0, 1) := dk_3 (dk_at dksX0_come_0 2 rfl rfl)
theorem dX0_come_3 : decode cX0_come 3 = .ok (.aload_n 0, 1) := dk_42 (dk_at dksX0_come_0 3 rfl rfl)
theorem dX0_come_4 : decode cX0_come 4 = .ok (.iload_n 1, 1) := dk_27 (dk_at dksX0_come_0 4 rfl rfl)
theorem dX0_come_5 : decode cX0_come 5 = .ok (.iload_n 2, 1) := dk_28 (dk_at dksX0_come_0 5 rfl rfl)
theorem dX0_come_6 : decode cX0_come 6 = .ok (.iload_n 3, 1) := dk_29 (dk_at dksX0_come_0 6 rfl rfl)
theorem dX0_come_7 : decode cX0_come 7 = .ok (.iload 4, 2) := dk_21 4 (dk_at dksX0_come_0 7 rfl rfl)
theorem dX0_come_9 : decode cX0_come 9 = .ok (.invokevirtual 51, 3) := dk_182 0 51 (dk_at dksX0_come_0 9 rfl rfl)
theorem dX0_come_12 : decode cX0_come 12 = .ok (.i2l, 1) := dk_133 (dk_at dksX0_come_0 12 rfl rfl)
theorem dX0_come_13 : decode cX0_come 13 = .ok (.lastore, 1) := dk_80 (dk_at dksX0_come_0 13 rfl rfl)
theorem dX0_come_14 : decode cX0_come 14 = .ok (.goto 15, 3) := dk_167 0 15 (dk_at dksX0_come_0 14 rfl rfl)
theorem dX0_come_17 : decode cX0_come 17 = .ok (.astore 6, 2) := dk_58 6 (dk_at dksX0_come_0 17 rfl rfl)
theorem dX0_come_19 : decode cX0_come 19 = .ok (.iconst 1, 1) := dk_4 (dk_at dksX0_come_0 19 rfl rfl)
theorem dX0_come_20 : decode cX0_come 20 = .ok (.ireturn, 1) := dk_172 (dk_at dksX0_come_0 20 rfl rfl)
theorem dX0_come_21 : decode cX0_come 21 = .ok (.astore 6, 2) := dk_58 6 (dk_at dksX0_come_0 21 rfl rfl)
theorem dX0_come_23 : decode cX0_come 23 = .ok (.iconst 2, 1) := dk_5 (dk_at dksX0_come_0 23 rfl rfl)
theorem dX0_come_24 : decode cX0_come 24 = .ok (.ireturn, 1) := dk_172 (dk_at dksX0_come_1 0 rfl rfl)
theorem dX0_come_25 : decode cX0_come 25 = .ok (.astore 6, 2) := dk_58 6 (dk_at dksX0_come_1 1 rfl rfl)
theorem dX0_come_27 : decode cX0_come 27 = .ok (.iconst 3, 1) := dk_6 (dk_at dksX0_come_1 3 rfl rfl)
theorem dX0_come_28 : decode cX0_come 28 = .ok (.ireturn, 1) := dk_172 (dk_at dksX0_come_1 4 rfl rfl)
theorem dX0_come_29 : decode cX0_come 29 = .ok (.iconst 0, 1) := dk_3 (dk_at dksX0_come_1 5 rfl rfl)
theorem dX0_come_30 : decode cX0_come 30 = .ok (.ireturn, 1) := dk_172 (dk_at dksX0_come_1 6 rfl rfl)
abbrev cX0_group : ByteArray := method_15_code
def yX0_group : MethodName := ⟨RX0, "group", "(LBraidedFerry;IIII[J)I"⟩
def dkwX0_group_1 : List UInt8 := [172, 3, 172]
abbrev dktX0_group_1 : List UInt8 := dkwX0_group_1 ++ []
def dkwX0_group_0 : List UInt8 := [25, 5, 3, 42, 27, 28, 29, 21, 4, 182, 0, 55, 133, 80, 167, 0, 11, 58, 6, 4, 172, 58, 6, 5]
abbrev dktX0_group_0 : List UInt8 := dkwX0_group_0 ++ dktX0_group_1
theorem dksX0_group_0 : cX0_group.data.toList.drop 0 = dktX0_group_0 := by decide +kernel
theorem dksX0_group_1 : cX0_group.data.toList.drop 24 = dktX0_group_1 := dk_seg dksX0_group_0 24 rfl rfl
theorem dX0_group_0 : decode cX0_group 0 = .ok (.aload 5, 2) := dk_25 5 (dk_at dksX0_group_0 0 rfl rfl)
theorem dX0_group_2 : decode cX0_group 2 = .ok (.iconst 0, 1) := dk_3 (dk_at dksX0_group_0 2 rfl rfl)
theorem dX0_group_3 : decode cX0_group 3 = .ok (.aload_n 0, 1) := dk_42 (dk_at dksX0_group_0 3 rfl rfl)
theorem dX0_group_4 : decode cX0_group 4 = .ok (.iload_n 1, 1) := dk_27 (dk_at dksX0_group_0 4 rfl rfl)
theorem dX0_group_5 : decode cX0_group 5 = .ok (.iload_n 2, 1) := dk_28 (dk_at dksX0_group_0 5 rfl rfl)
theorem dX0_group_6 : decode cX0_group 6 = .ok (.iload_n 3, 1) := dk_29 (dk_at dksX0_group_0 6 rfl rfl)
theorem dX0_group_7 : decode cX0_group 7 = .ok (.iload 4, 2) := dk_21 4 (dk_at dksX0_group_0 7 rfl rfl)
theorem dX0_group_9 : decode cX0_group 9 = .ok (.invokevirtual 55, 3) := dk_182 0 55 (dk_at dksX0_group_0 9 rfl rfl)
theorem dX0_group_12 : decode cX0_group 12 = .ok (.i2l, 1) := dk_133 (dk_at dksX0_group_0 12 rfl rfl)
theorem dX0_group_13 : decode cX0_group 13 = .ok (.lastore, 1) := dk_80 (dk_at dksX0_group_0 13 rfl rfl)
theorem dX0_group_14 : decode cX0_group 14 = .ok (.goto 11, 3) := dk_167 0 11 (dk_at dksX0_group_0 14 rfl rfl)
theorem dX0_group_17 : decode cX0_group 17 = .ok (.astore 6, 2) := dk_58 6 (dk_at dksX0_group_0 17 rfl rfl)
theorem dX0_group_19 : decode cX0_group 19 = .ok (.iconst 1, 1) := dk_4 (dk_at dksX0_group_0 19 rfl rfl)
theorem dX0_group_20 : decode cX0_group 20 = .ok (.ireturn, 1) := dk_172 (dk_at dksX0_group_0 20 rfl rfl)
theorem dX0_group_21 : decode cX0_group 21 = .ok (.astore 6, 2) := dk_58 6 (dk_at dksX0_group_0 21 rfl rfl)
theorem dX0_group_23 : decode cX0_group 23 = .ok (.iconst 2, 1) := dk_5 (dk_at dksX0_group_0 23 rfl rfl)
theorem dX0_group_24 : decode cX0_group 24 = .ok (.ireturn, 1) := dk_172 (dk_at dksX0_group_1 0 rfl rfl)
theorem dX0_group_25 : decode cX0_group 25 = .ok (.iconst 0, 1) := dk_3 (dk_at dksX0_group_1 1 rfl rfl)
theorem dX0_group_26 : decode cX0_group 26 = .ok (.ireturn, 1) := dk_172 (dk_at dksX0_group_1 2 rfl rfl)
abbrev cX0_board : ByteArray := method_16_code
def yX0_board : MethodName := ⟨RX0, "board", "(LBraidedFerry;IIIZ[J)I"⟩
def dkwX0_board_1 : List UInt8 := [172, 58, 6, 6, 172, 3, 172]
abbrev dktX0_board_1 : List UInt8 := dkwX0_board_1 ++ []
def dkwX0_board_0 : List UInt8 := [25, 5, 3, 42, 27, 28, 29, 21, 4, 182, 0, 58, 133, 80, 167, 0, 15, 58, 6, 4, 172, 58, 6, 5]
abbrev dktX0_board_0 : List UInt8 := dkwX0_board_0 ++ dktX0_board_1
theorem dksX0_board_0 : cX0_board.data.toList.drop 0 = dktX0_board_0 := by decide +kernel
theorem dksX0_board_1 : cX0_board.data.toList.drop 24 = dktX0_board_1 := dk_seg dksX0_board_0 24 rfl rfl
theorem dX0_board_0 : decode cX0_board 0 = .ok (.aload 5, 2) := dk_25 5 (dk_at dksX0_board_0 0 rfl rfl)
theorem dX0_board_2 : decode cX0_board 2 = .ok (.iconst 0, 1) := dk_3 (dk_at dksX0_board_0 2 rfl rfl)
theorem dX0_board_3 : decode cX0_board 3 = .ok (.aload_n 0, 1) := dk_42 (dk_at dksX0_board_0 3 rfl rfl)
theorem dX0_board_4 : decode cX0_board 4 = .ok (.iload_n 1, 1) := dk_27 (dk_at dksX0_board_0 4 rfl rfl)
theorem dX0_board_5 : decode cX0_board 5 = .ok (.iload_n 2, 1) := dk_28 (dk_at dksX0_board_0 5 rfl rfl)
theorem dX0_board_6 : decode cX0_board 6 = .ok (.iload_n 3, 1) := dk_29 (dk_at dksX0_board_0 6 rfl rfl)
theorem dX0_board_7 : decode cX0_board 7 = .ok (.iload 4, 2) := dk_21 4 (dk_at dksX0_board_0 7 rfl rfl)
theorem dX0_board_9 : decode cX0_board 9 = .ok (.invokevirtual 58, 3) := dk_182 0 58 (dk_at dksX0_board_0 9 rfl rfl)
theorem dX0_board_12 : decode cX0_board 12 = .ok (.i2l, 1) := dk_133 (dk_at dksX0_board_0 12 rfl rfl)
theorem dX0_board_13 : decode cX0_board 13 = .ok (.lastore, 1) := dk_80 (dk_at dksX0_board_0 13 rfl rfl)
theorem dX0_board_14 : decode cX0_board 14 = .ok (.goto 15, 3) := dk_167 0 15 (dk_at dksX0_board_0 14 rfl rfl)
theorem dX0_board_17 : decode cX0_board 17 = .ok (.astore 6, 2) := dk_58 6 (dk_at dksX0_board_0 17 rfl rfl)
theorem dX0_board_19 : decode cX0_board 19 = .ok (.iconst 1, 1) := dk_4 (dk_at dksX0_board_0 19 rfl rfl)
theorem dX0_board_20 : decode cX0_board 20 = .ok (.ireturn, 1) := dk_172 (dk_at dksX0_board_0 20 rfl rfl)
theorem dX0_board_21 : decode cX0_board 21 = .ok (.astore 6, 2) := dk_58 6 (dk_at dksX0_board_0 21 rfl rfl)
theorem dX0_board_23 : decode cX0_board 23 = .ok (.iconst 2, 1) := dk_5 (dk_at dksX0_board_0 23 rfl rfl)
theorem dX0_board_24 : decode cX0_board 24 = .ok (.ireturn, 1) := dk_172 (dk_at dksX0_board_1 0 rfl rfl)
theorem dX0_board_25 : decode cX0_board 25 = .ok (.astore 6, 2) := dk_58 6 (dk_at dksX0_board_1 1 rfl rfl)
theorem dX0_board_27 : decode cX0_board 27 = .ok (.iconst 3, 1) := dk_6 (dk_at dksX0_board_1 3 rfl rfl)
theorem dX0_board_28 : decode cX0_board 28 = .ok (.ireturn, 1) := dk_172 (dk_at dksX0_board_1 4 rfl rfl)
theorem dX0_board_29 : decode cX0_board 29 = .ok (.iconst 0, 1) := dk_3 (dk_at dksX0_board_1 5 rfl rfl)
theorem dX0_board_30 : decode cX0_board 30 = .ok (.ireturn, 1) := dk_172 (dk_at dksX0_board_1 6 rfl rfl)
abbrev cX0_fare : ByteArray := method_17_code
def yX0_fare : MethodName := ⟨RX0, "fare", "(LBraidedFerry;II[J)I"⟩
def dkwX0_fare_0 : List UInt8 := [45, 3, 42, 27, 28, 182, 0, 62, 133, 80, 167, 0, 7, 58, 4, 4, 172, 3, 172]
abbrev dktX0_fare_0 : List UInt8 := dkwX0_fare_0 ++ []
theorem dksX0_fare_0 : cX0_fare.data.toList.drop 0 = dktX0_fare_0 := by decide +kernel
theorem dX0_fare_0 : decode cX0_fare 0 = .ok (.aload_n 3, 1) := dk_45 (dk_at dksX0_fare_0 0 rfl rfl)
theorem dX0_fare_1 : decode cX0_fare 1 = .ok (.iconst 0, 1) := dk_3 (dk_at dksX0_fare_0 1 rfl rfl)
theorem dX0_fare_2 : decode cX0_fare 2 = .ok (.aload_n 0, 1) := dk_42 (dk_at dksX0_fare_0 2 rfl rfl)
theorem dX0_fare_3 : decode cX0_fare 3 = .ok (.iload_n 1, 1) := dk_27 (dk_at dksX0_fare_0 3 rfl rfl)
theorem dX0_fare_4 : decode cX0_fare 4 = .ok (.iload_n 2, 1) := dk_28 (dk_at dksX0_fare_0 4 rfl rfl)
theorem dX0_fare_5 : decode cX0_fare 5 = .ok (.invokevirtual 62, 3) := dk_182 0 62 (dk_at dksX0_fare_0 5 rfl rfl)
theorem dX0_fare_8 : decode cX0_fare 8 = .ok (.i2l, 1) := dk_133 (dk_at dksX0_fare_0 8 rfl rfl)
theorem dX0_fare_9 : decode cX0_fare 9 = .ok (.lastore, 1) := dk_80 (dk_at dksX0_fare_0 9 rfl rfl)
theorem dX0_fare_10 : decode cX0_fare 10 = .ok (.goto 7, 3) := dk_167 0 7 (dk_at dksX0_fare_0 10 rfl rfl)
theorem dX0_fare_13 : decode cX0_fare 13 = .ok (.astore 4, 2) := dk_58 4 (dk_at dksX0_fare_0 13 rfl rfl)
theorem dX0_fare_15 : decode cX0_fare 15 = .ok (.iconst 1, 1) := dk_4 (dk_at dksX0_fare_0 15 rfl rfl)
theorem dX0_fare_16 : decode cX0_fare 16 = .ok (.ireturn, 1) := dk_172 (dk_at dksX0_fare_0 16 rfl rfl)
theorem dX0_fare_17 : decode cX0_fare 17 = .ok (.iconst 0, 1) := dk_3 (dk_at dksX0_fare_0 17 rfl rfl)
theorem dX0_fare_18 : decode cX0_fare 18 = .ok (.ireturn, 1) := dk_172 (dk_at dksX0_fare_0 18 rfl rfl)
abbrev cX0_line : ByteArray := method_18_code
def yX0_line : MethodName := ⟨RX0, "line", "(LBraidedFerry;I[J)I"⟩
def dkwX0_line_0 : List UInt8 := [44, 3, 42, 27, 182, 0, 65, 133, 80, 167, 0, 6, 78, 4, 172, 3, 172]
abbrev dktX0_line_0 : List UInt8 := dkwX0_line_0 ++ []
theorem dksX0_line_0 : cX0_line.data.toList.drop 0 = dktX0_line_0 := by decide +kernel
theorem dX0_line_0 : decode cX0_line 0 = .ok (.aload_n 2, 1) := dk_44 (dk_at dksX0_line_0 0 rfl rfl)
theorem dX0_line_1 : decode cX0_line 1 = .ok (.iconst 0, 1) := dk_3 (dk_at dksX0_line_0 1 rfl rfl)
theorem dX0_line_2 : decode cX0_line 2 = .ok (.aload_n 0, 1) := dk_42 (dk_at dksX0_line_0 2 rfl rfl)
theorem dX0_line_3 : decode cX0_line 3 = .ok (.iload_n 1, 1) := dk_27 (dk_at dksX0_line_0 3 rfl rfl)
theorem dX0_line_4 : decode cX0_line 4 = .ok (.invokevirtual 65, 3) := dk_182 0 65 (dk_at dksX0_line_0 4 rfl rfl)
theorem dX0_line_7 : decode cX0_line 7 = .ok (.i2l, 1) := dk_133 (dk_at dksX0_line_0 7 rfl rfl)
theorem dX0_line_8 : decode cX0_line 8 = .ok (.lastore, 1) := dk_80 (dk_at dksX0_line_0 8 rfl rfl)
theorem dX0_line_9 : decode cX0_line 9 = .ok (.goto 6, 3) := dk_167 0 6 (dk_at dksX0_line_0 9 rfl rfl)
theorem dX0_line_12 : decode cX0_line 12 = .ok (.astore_n 3, 1) := dk_78 (dk_at dksX0_line_0 12 rfl rfl)
theorem dX0_line_13 : decode cX0_line 13 = .ok (.iconst 1, 1) := dk_4 (dk_at dksX0_line_0 13 rfl rfl)
theorem dX0_line_14 : decode cX0_line 14 = .ok (.ireturn, 1) := dk_172 (dk_at dksX0_line_0 14 rfl rfl)
theorem dX0_line_15 : decode cX0_line 15 = .ok (.iconst 0, 1) := dk_3 (dk_at dksX0_line_0 15 rfl rfl)
theorem dX0_line_16 : decode cX0_line 16 = .ok (.ireturn, 1) := dk_172 (dk_at dksX0_line_0 16 rfl rfl)
abbrev cX0_character : ByteArray := method_19_code
def yX0_character : MethodName := ⟨RX0, "character", "(LBraidedFerry;I[J)I"⟩
def dkwX0_character_0 : List UInt8 := [44, 3, 42, 27, 182, 0, 68, 133, 80, 167, 0, 6, 78, 4, 172, 3, 172]
abbrev dktX0_character_0 : List UInt8 := dkwX0_character_0 ++ []
theorem dksX0_character_0 : cX0_character.data.toList.drop 0 = dktX0_character_0 := by decide +kernel
theorem dX0_character_0 : decode cX0_character 0 = .ok (.aload_n 2, 1) := dk_44 (dk_at dksX0_character_0 0 rfl rfl)
theorem dX0_character_1 : decode cX0_character 1 = .ok (.iconst 0, 1) := dk_3 (dk_at dksX0_character_0 1 rfl rfl)
theorem dX0_character_2 : decode cX0_character 2 = .ok (.aload_n 0, 1) := dk_42 (dk_at dksX0_character_0 2 rfl rfl)
theorem dX0_character_3 : decode cX0_character 3 = .ok (.iload_n 1, 1) := dk_27 (dk_at dksX0_character_0 3 rfl rfl)
theorem dX0_character_4 : decode cX0_character 4 = .ok (.invokevirtual 68, 3) := dk_182 0 68 (dk_at dksX0_character_0 4 rfl rfl)
theorem dX0_character_7 : decode cX0_character 7 = .ok (.i2l, 1) := dk_133 (dk_at dksX0_character_0 7 rfl rfl)
theorem dX0_character_8 : decode cX0_character 8 = .ok (.lastore, 1) := dk_80 (dk_at dksX0_character_0 8 rfl rfl)
theorem dX0_character_9 : decode cX0_character 9 = .ok (.goto 6, 3) := dk_167 0 6 (dk_at dksX0_character_0 9 rfl rfl)
theorem dX0_character_12 : decode cX0_character 12 = .ok (.astore_n 3, 1) := dk_78 (dk_at dksX0_character_0 12 rfl rfl)
theorem dX0_character_13 : decode cX0_character 13 = .ok (.iconst 1, 1) := dk_4 (dk_at dksX0_character_0 13 rfl rfl)
theorem dX0_character_14 : decode cX0_character 14 = .ok (.ireturn, 1) := dk_172 (dk_at dksX0_character_0 14 rfl rfl)
theorem dX0_character_15 : decode cX0_character 15 = .ok (.iconst 0, 1) := dk_3 (dk_at dksX0_character_0 15 rfl rfl)
theorem dX0_character_16 : decode cX0_character 16 = .ok (.ireturn, 1) := dk_172 (dk_at dksX0_character_0 16 rfl rfl)
abbrev cX0_busiest : ByteArray := method_20_code
def yX0_busiest : MethodName := ⟨RX0, "busiest", "(LBraidedFerry;[J)I"⟩
def dkwX0_busiest_0 : List UInt8 := [43, 3, 42, 182, 0, 72, 133, 80, 167, 0, 6, 77, 4, 172, 3, 172]
abbrev dktX0_busiest_0 : List UInt8 := dkwX0_busiest_0 ++ []
theorem dksX0_busiest_0 : cX0_busiest.data.toList.drop 0 = dktX0_busiest_0 := by decide +kernel
theorem dX0_busiest_0 : decode cX0_busiest 0 = .ok (.aload_n 1, 1) := dk_43 (dk_at dksX0_busiest_0 0 rfl rfl)
theorem dX0_busiest_1 : decode cX0_busiest 1 = .ok (.iconst 0, 1) := dk_3 (dk_at dksX0_busiest_0 1 rfl rfl)
theorem dX0_busiest_2 : decode cX0_busiest 2 = .ok (.aload_n 0, 1) := dk_42 (dk_at dksX0_busiest_0 2 rfl rfl)
theorem dX0_busiest_3 : decode cX0_busiest 3 = .ok (.invokevirtual 72, 3) := dk_182 0 72 (dk_at dksX0_busiest_0 3 rfl rfl)
theorem dX0_busiest_6 : decode cX0_busiest 6 = .ok (.i2l, 1) := dk_133 (dk_at dksX0_busiest_0 6 rfl rfl)
theorem dX0_busiest_7 : decode cX0_busiest 7 = .ok (.lastore, 1) := dk_80 (dk_at dksX0_busiest_0 7 rfl rfl)
theorem dX0_busiest_8 : decode cX0_busiest 8 = .ok (.goto 6, 3) := dk_167 0 6 (dk_at dksX0_busiest_0 8 rfl rfl)
theorem dX0_busiest_11 : decode cX0_busiest 11 = .ok (.astore_n 2, 1) := dk_77 (dk_at dksX0_busiest_0 11 rfl rfl)
theorem dX0_busiest_12 : decode cX0_busiest 12 = .ok (.iconst 1, 1) := dk_4 (dk_at dksX0_busiest_0 12 rfl rfl)
theorem dX0_busiest_13 : decode cX0_busiest 13 = .ok (.ireturn, 1) := dk_172 (dk_at dksX0_busiest_0 13 rfl rfl)
theorem dX0_busiest_14 : decode cX0_busiest 14 = .ok (.iconst 0, 1) := dk_3 (dk_at dksX0_busiest_0 14 rfl rfl)
theorem dX0_busiest_15 : decode cX0_busiest 15 = .ok (.ireturn, 1) := dk_172 (dk_at dksX0_busiest_0 15 rfl rfl)
abbrev cX0_rope : ByteArray := method_21_code
def yX0_rope : MethodName := ⟨RX0, "rope", "(LBraidedFerry;I[J)I"⟩
def dkwX0_rope_0 : List UInt8 := [44, 3, 42, 27, 182, 0, 78, 133, 80, 167, 0, 6, 78, 4, 172, 3, 172]
abbrev dktX0_rope_0 : List UInt8 := dkwX0_rope_0 ++ []
theorem dksX0_rope_0 : cX0_rope.data.toList.drop 0 = dktX0_rope_0 := by decide +kernel
theorem dX0_rope_0 : decode cX0_rope 0 = .ok (.aload_n 2, 1) := dk_44 (dk_at dksX0_rope_0 0 rfl rfl)
theorem dX0_rope_1 : decode cX0_rope 1 = .ok (.iconst 0, 1) := dk_3 (dk_at dksX0_rope_0 1 rfl rfl)
theorem dX0_rope_2 : decode cX0_rope 2 = .ok (.aload_n 0, 1) := dk_42 (dk_at dksX0_rope_0 2 rfl rfl)
theorem dX0_rope_3 : decode cX0_rope 3 = .ok (.iload_n 1, 1) := dk_27 (dk_at dksX0_rope_0 3 rfl rfl)
theorem dX0_rope_4 : decode cX0_rope 4 = .ok (.invokevirtual 78, 3) := dk_182 0 78 (dk_at dksX0_rope_0 4 rfl rfl)
theorem dX0_rope_7 : decode cX0_rope 7 = .ok (.i2l, 1) := dk_133 (dk_at dksX0_rope_0 7 rfl rfl)
theorem dX0_rope_8 : decode cX0_rope 8 = .ok (.lastore, 1) := dk_80 (dk_at dksX0_rope_0 8 rfl rfl)
theorem dX0_rope_9 : decode cX0_rope 9 = .ok (.goto 6, 3) := dk_167 0 6 (dk_at dksX0_rope_0 9 rfl rfl)
theorem dX0_rope_12 : decode cX0_rope 12 = .ok (.astore_n 3, 1) := dk_78 (dk_at dksX0_rope_0 12 rfl rfl)
theorem dX0_rope_13 : decode cX0_rope 13 = .ok (.iconst 1, 1) := dk_4 (dk_at dksX0_rope_0 13 rfl rfl)
theorem dX0_rope_14 : decode cX0_rope 14 = .ok (.ireturn, 1) := dk_172 (dk_at dksX0_rope_0 14 rfl rfl)
theorem dX0_rope_15 : decode cX0_rope 15 = .ok (.iconst 0, 1) := dk_3 (dk_at dksX0_rope_0 15 rfl rfl)
theorem dX0_rope_16 : decode cX0_rope 16 = .ok (.ireturn, 1) := dk_172 (dk_at dksX0_rope_0 16 rfl rfl)
abbrev cX0_cross : ByteArray := method_22_code
def yX0_cross : MethodName := ⟨RX0, "cross", "(LBraidedFerry;Z[J)I"⟩
def dkwX0_cross_0 : List UInt8 := [44, 3, 42, 27, 182, 0, 81, 133, 80, 167, 0, 6, 78, 4, 172, 3, 172]
abbrev dktX0_cross_0 : List UInt8 := dkwX0_cross_0 ++ []
theorem dksX0_cross_0 : cX0_cross.data.toList.drop 0 = dktX0_cross_0 := by decide +kernel
theorem dX0_cross_0 : decode cX0_cross 0 = .ok (.aload_n 2, 1) := dk_44 (dk_at dksX0_cross_0 0 rfl rfl)
theorem dX0_cross_1 : decode cX0_cross 1 = .ok (.iconst 0, 1) := dk_3 (dk_at dksX0_cross_0 1 rfl rfl)
theorem dX0_cross_2 : decode cX0_cross 2 = .ok (.aload_n 0, 1) := dk_42 (dk_at dksX0_cross_0 2 rfl rfl)
theorem dX0_cross_3 : decode cX0_cross 3 = .ok (.iload_n 1, 1) := dk_27 (dk_at dksX0_cross_0 3 rfl rfl)
theorem dX0_cross_4 : decode cX0_cross 4 = .ok (.invokevirtual 81, 3) := dk_182 0 81 (dk_at dksX0_cross_0 4 rfl rfl)
theorem dX0_cross_7 : decode cX0_cross 7 = .ok (.i2l, 1) := dk_133 (dk_at dksX0_cross_0 7 rfl rfl)
theorem dX0_cross_8 : decode cX0_cross 8 = .ok (.lastore, 1) := dk_80 (dk_at dksX0_cross_0 8 rfl rfl)
theorem dX0_cross_9 : decode cX0_cross 9 = .ok (.goto 6, 3) := dk_167 0 6 (dk_at dksX0_cross_0 9 rfl rfl)
theorem dX0_cross_12 : decode cX0_cross 12 = .ok (.astore_n 3, 1) := dk_78 (dk_at dksX0_cross_0 12 rfl rfl)
theorem dX0_cross_13 : decode cX0_cross 13 = .ok (.iconst 1, 1) := dk_4 (dk_at dksX0_cross_0 13 rfl rfl)
theorem dX0_cross_14 : decode cX0_cross 14 = .ok (.ireturn, 1) := dk_172 (dk_at dksX0_cross_0 14 rfl rfl)
theorem dX0_cross_15 : decode cX0_cross 15 = .ok (.iconst 0, 1) := dk_3 (dk_at dksX0_cross_0 15 rfl rfl)
theorem dX0_cross_16 : decode cX0_cross 16 = .ok (.ireturn, 1) := dk_172 (dk_at dksX0_cross_0 16 rfl rfl)
abbrev cX0_pass : ByteArray := method_23_code
def yX0_pass : MethodName := ⟨RX0, "pass", "(LBraidedFerry;I[J)I"⟩
def dkwX0_pass_0 : List UInt8 := [44, 3, 42, 27, 182, 0, 85, 133, 80, 167, 0, 9, 78, 4, 172, 78, 5, 172, 3, 172]
abbrev dktX0_pass_0 : List UInt8 := dkwX0_pass_0 ++ []
theorem dksX0_pass_0 : cX0_pass.data.toList.drop 0 = dktX0_pass_0 := by decide +kernel
theorem dX0_pass_0 : decode cX0_pass 0 = .ok (.aload_n 2, 1) := dk_44 (dk_at dksX0_pass_0 0 rfl rfl)
theorem dX0_pass_1 : decode cX0_pass 1 = .ok (.iconst 0, 1) := dk_3 (dk_at dksX0_pass_0 1 rfl rfl)
theorem dX0_pass_2 : decode cX0_pass 2 = .ok (.aload_n 0, 1) := dk_42 (dk_at dksX0_pass_0 2 rfl rfl)
theorem dX0_pass_3 : decode cX0_pass 3 = .ok (.iload_n 1, 1) := dk_27 (dk_at dksX0_pass_0 3 rfl rfl)
theorem dX0_pass_4 : decode cX0_pass 4 = .ok (.invokevirtual 85, 3) := dk_182 0 85 (dk_at dksX0_pass_0 4 rfl rfl)
theorem dX0_pass_7 : decode cX0_pass 7 = .ok (.i2l, 1) := dk_133 (dk_at dksX0_pass_0 7 rfl rfl)
theorem dX0_pass_8 : decode cX0_pass 8 = .ok (.lastore, 1) := dk_80 (dk_at dksX0_pass_0 8 rfl rfl)
theorem dX0_pass_9 : decode cX0_pass 9 = .ok (.goto 9, 3) := dk_167 0 9 (dk_at dksX0_pass_0 9 rfl rfl)
theorem dX0_pass_12 : decode cX0_pass 12 = .ok (.astore_n 3, 1) := dk_78 (dk_at dksX0_pass_0 12 rfl rfl)
theorem dX0_pass_13 : decode cX0_pass 13 = .ok (.iconst 1, 1) := dk_4 (dk_at dksX0_pass_0 13 rfl rfl)
theorem dX0_pass_14 : decode cX0_pass 14 = .ok (.ireturn, 1) := dk_172 (dk_at dksX0_pass_0 14 rfl rfl)
theorem dX0_pass_15 : decode cX0_pass 15 = .ok (.astore_n 3, 1) := dk_78 (dk_at dksX0_pass_0 15 rfl rfl)
theorem dX0_pass_16 : decode cX0_pass 16 = .ok (.iconst 2, 1) := dk_5 (dk_at dksX0_pass_0 16 rfl rfl)
theorem dX0_pass_17 : decode cX0_pass 17 = .ok (.ireturn, 1) := dk_172 (dk_at dksX0_pass_0 17 rfl rfl)
theorem dX0_pass_18 : decode cX0_pass 18 = .ok (.iconst 0, 1) := dk_3 (dk_at dksX0_pass_0 18 rfl rfl)
theorem dX0_pass_19 : decode cX0_pass 19 = .ok (.ireturn, 1) := dk_172 (dk_at dksX0_pass_0 19 rfl rfl)
abbrev cX0_number : ByteArray := method_24_code
def yX0_number : MethodName := ⟨RX0, "number", "(LBraidedFerry;I[J)I"⟩
def dkwX0_number_0 : List UInt8 := [44, 3, 42, 27, 182, 0, 88, 133, 80, 167, 0, 6, 78, 4, 172, 3, 172]
abbrev dktX0_number_0 : List UInt8 := dkwX0_number_0 ++ []
theorem dksX0_number_0 : cX0_number.data.toList.drop 0 = dktX0_number_0 := by decide +kernel
theorem dX0_number_0 : decode cX0_number 0 = .ok (.aload_n 2, 1) := dk_44 (dk_at dksX0_number_0 0 rfl rfl)
theorem dX0_number_1 : decode cX0_number 1 = .ok (.iconst 0, 1) := dk_3 (dk_at dksX0_number_0 1 rfl rfl)
theorem dX0_number_2 : decode cX0_number 2 = .ok (.aload_n 0, 1) := dk_42 (dk_at dksX0_number_0 2 rfl rfl)
theorem dX0_number_3 : decode cX0_number 3 = .ok (.iload_n 1, 1) := dk_27 (dk_at dksX0_number_0 3 rfl rfl)
theorem dX0_number_4 : decode cX0_number 4 = .ok (.invokevirtual 88, 3) := dk_182 0 88 (dk_at dksX0_number_0 4 rfl rfl)
theorem dX0_number_7 : decode cX0_number 7 = .ok (.i2l, 1) := dk_133 (dk_at dksX0_number_0 7 rfl rfl)
theorem dX0_number_8 : decode cX0_number 8 = .ok (.lastore, 1) := dk_80 (dk_at dksX0_number_0 8 rfl rfl)
theorem dX0_number_9 : decode cX0_number 9 = .ok (.goto 6, 3) := dk_167 0 6 (dk_at dksX0_number_0 9 rfl rfl)
theorem dX0_number_12 : decode cX0_number 12 = .ok (.astore_n 3, 1) := dk_78 (dk_at dksX0_number_0 12 rfl rfl)
theorem dX0_number_13 : decode cX0_number 13 = .ok (.iconst 1, 1) := dk_4 (dk_at dksX0_number_0 13 rfl rfl)
theorem dX0_number_14 : decode cX0_number 14 = .ok (.ireturn, 1) := dk_172 (dk_at dksX0_number_0 14 rfl rfl)
theorem dX0_number_15 : decode cX0_number 15 = .ok (.iconst 0, 1) := dk_3 (dk_at dksX0_number_0 15 rfl rfl)
theorem dX0_number_16 : decode cX0_number 16 = .ok (.ireturn, 1) := dk_172 (dk_at dksX0_number_0 16 rfl rfl)
abbrev cX0_meanFare : ByteArray := method_25_code
def yX0_meanFare : MethodName := ⟨RX0, "meanFare", "(LBraidedFerry;[D)I"⟩
def dkwX0_meanFare_0 : List UInt8 := [43, 3, 42, 182, 0, 91, 82, 167, 0, 6, 77, 4, 172, 3, 172]
abbrev dktX0_meanFare_0 : List UInt8 := dkwX0_meanFare_0 ++ []
theorem dksX0_meanFare_0 : cX0_meanFare.data.toList.drop 0 = dktX0_meanFare_0 := by decide +kernel
theorem dX0_meanFare_0 : decode cX0_meanFare 0 = .ok (.aload_n 1, 1) := dk_43 (dk_at dksX0_meanFare_0 0 rfl rfl)
theorem dX0_meanFare_1 : decode cX0_meanFare 1 = .ok (.iconst 0, 1) := dk_3 (dk_at dksX0_meanFare_0 1 rfl rfl)
theorem dX0_meanFare_2 : decode cX0_meanFare 2 = .ok (.aload_n 0, 1) := dk_42 (dk_at dksX0_meanFare_0 2 rfl rfl)
theorem dX0_meanFare_3 : decode cX0_meanFare 3 = .ok (.invokevirtual 91, 3) := dk_182 0 91 (dk_at dksX0_meanFare_0 3 rfl rfl)
theorem dX0_meanFare_6 : decode cX0_meanFare 6 = .ok (.dastore, 1) := dk_82 (dk_at dksX0_meanFare_0 6 rfl rfl)
theorem dX0_meanFare_7 : decode cX0_meanFare 7 = .ok (.goto 6, 3) := dk_167 0 6 (dk_at dksX0_meanFare_0 7 rfl rfl)
theorem dX0_meanFare_10 : decode cX0_meanFare 10 = .ok (.astore_n 2, 1) := dk_77 (dk_at dksX0_meanFare_0 10 rfl rfl)
theorem dX0_meanFare_11 : decode cX0_meanFare 11 = .ok (.iconst 1, 1) := dk_4 (dk_at dksX0_meanFare_0 11 rfl rfl)
theorem dX0_meanFare_12 : decode cX0_meanFare 12 = .ok (.ireturn, 1) := dk_172 (dk_at dksX0_meanFare_0 12 rfl rfl)
theorem dX0_meanFare_13 : decode cX0_meanFare 13 = .ok (.iconst 0, 1) := dk_3 (dk_at dksX0_meanFare_0 13 rfl rfl)
theorem dX0_meanFare_14 : decode cX0_meanFare 14 = .ok (.ireturn, 1) := dk_172 (dk_at dksX0_meanFare_0 14 rfl rfl)
abbrev cX0_fore : ByteArray := method_26_code
def yX0_fore : MethodName := ⟨RX0, "fore", "(LBraidedFerry;[D)I"⟩
def dkwX0_fore_0 : List UInt8 := [43, 3, 42, 182, 0, 97, 141, 82, 167, 0, 6, 77, 4, 172, 3, 172]
abbrev dktX0_fore_0 : List UInt8 := dkwX0_fore_0 ++ []
theorem dksX0_fore_0 : cX0_fore.data.toList.drop 0 = dktX0_fore_0 := by decide +kernel
theorem dX0_fore_0 : decode cX0_fore 0 = .ok (.aload_n 1, 1) := dk_43 (dk_at dksX0_fore_0 0 rfl rfl)
theorem dX0_fore_1 : decode cX0_fore 1 = .ok (.iconst 0, 1) := dk_3 (dk_at dksX0_fore_0 1 rfl rfl)
theorem dX0_fore_2 : decode cX0_fore 2 = .ok (.aload_n 0, 1) := dk_42 (dk_at dksX0_fore_0 2 rfl rfl)
theorem dX0_fore_3 : decode cX0_fore 3 = .ok (.invokevirtual 97, 3) := dk_182 0 97 (dk_at dksX0_fore_0 3 rfl rfl)
theorem dX0_fore_6 : decode cX0_fore 6 = .ok (.f2d, 1) := dk_141 (dk_at dksX0_fore_0 6 rfl rfl)
theorem dX0_fore_7 : decode cX0_fore 7 = .ok (.dastore, 1) := dk_82 (dk_at dksX0_fore_0 7 rfl rfl)
theorem dX0_fore_8 : decode cX0_fore 8 = .ok (.goto 6, 3) := dk_167 0 6 (dk_at dksX0_fore_0 8 rfl rfl)
theorem dX0_fore_11 : decode cX0_fore 11 = .ok (.astore_n 2, 1) := dk_77 (dk_at dksX0_fore_0 11 rfl rfl)
theorem dX0_fore_12 : decode cX0_fore 12 = .ok (.iconst 1, 1) := dk_4 (dk_at dksX0_fore_0 12 rfl rfl)
theorem dX0_fore_13 : decode cX0_fore 13 = .ok (.ireturn, 1) := dk_172 (dk_at dksX0_fore_0 13 rfl rfl)
theorem dX0_fore_14 : decode cX0_fore 14 = .ok (.iconst 0, 1) := dk_3 (dk_at dksX0_fore_0 14 rfl rfl)
theorem dX0_fore_15 : decode cX0_fore 15 = .ok (.ireturn, 1) := dk_172 (dk_at dksX0_fore_0 15 rfl rfl)
abbrev cX0_feed : ByteArray := method_27_code
def yX0_feed : MethodName := ⟨RX0, "feed", "(LBraidedFerry;C[J)I"⟩
def dkwX0_feed_0 : List UInt8 := [44, 3, 42, 27, 182, 0, 101, 133, 80, 167, 0, 6, 78, 4, 172, 3, 172]
abbrev dktX0_feed_0 : List UInt8 := dkwX0_feed_0 ++ []
theorem dksX0_feed_0 : cX0_feed.data.toList.drop 0 = dktX0_feed_0 := by decide +kernel
theorem dX0_feed_0 : decode cX0_feed 0 = .ok (.aload_n 2, 1) := dk_44 (dk_at dksX0_feed_0 0 rfl rfl)
theorem dX0_feed_1 : decode cX0_feed 1 = .ok (.iconst 0, 1) := dk_3 (dk_at dksX0_feed_0 1 rfl rfl)
theorem dX0_feed_2 : decode cX0_feed 2 = .ok (.aload_n 0, 1) := dk_42 (dk_at dksX0_feed_0 2 rfl rfl)
theorem dX0_feed_3 : decode cX0_feed 3 = .ok (.iload_n 1, 1) := dk_27 (dk_at dksX0_feed_0 3 rfl rfl)
theorem dX0_feed_4 : decode cX0_feed 4 = .ok (.invokevirtual 101, 3) := dk_182 0 101 (dk_at dksX0_feed_0 4 rfl rfl)
theorem dX0_feed_7 : decode cX0_feed 7 = .ok (.i2l, 1) := dk_133 (dk_at dksX0_feed_0 7 rfl rfl)
theorem dX0_feed_8 : decode cX0_feed 8 = .ok (.lastore, 1) := dk_80 (dk_at dksX0_feed_0 8 rfl rfl)
theorem dX0_feed_9 : decode cX0_feed 9 = .ok (.goto 6, 3) := dk_167 0 6 (dk_at dksX0_feed_0 9 rfl rfl)
theorem dX0_feed_12 : decode cX0_feed 12 = .ok (.astore_n 3, 1) := dk_78 (dk_at dksX0_feed_0 12 rfl rfl)
theorem dX0_feed_13 : decode cX0_feed 13 = .ok (.iconst 1, 1) := dk_4 (dk_at dksX0_feed_0 13 rfl rfl)
theorem dX0_feed_14 : decode cX0_feed 14 = .ok (.ireturn, 1) := dk_172 (dk_at dksX0_feed_0 14 rfl rfl)
theorem dX0_feed_15 : decode cX0_feed 15 = .ok (.iconst 0, 1) := dk_3 (dk_at dksX0_feed_0 15 rfl rfl)
theorem dX0_feed_16 : decode cX0_feed 16 = .ok (.ireturn, 1) := dk_172 (dk_at dksX0_feed_0 16 rfl rfl)
abbrev cX0_read : ByteArray := method_28_code
def yX0_read : MethodName := ⟨RX0, "read", "(LBraidedFerry;[J)I"⟩
def dkwX0_read_0 : List UInt8 := [43, 3, 42, 182, 0, 107, 133, 80, 167, 0, 9, 77, 4, 172, 77, 5, 172, 3, 172]
abbrev dktX0_read_0 : List UInt8 := dkwX0_read_0 ++ []
theorem dksX0_read_0 : cX0_read.data.toList.drop 0 = dktX0_read_0 := by decide +kernel
theorem dX0_read_0 : decode cX0_read 0 = .ok (.aload_n 1, 1) := dk_43 (dk_at dksX0_read_0 0 rfl rfl)
theorem dX0_read_1 : decode cX0_read 1 = .ok (.iconst 0, 1) := dk_3 (dk_at dksX0_read_0 1 rfl rfl)
theorem dX0_read_2 : decode cX0_read 2 = .ok (.aload_n 0, 1) := dk_42 (dk_at dksX0_read_0 2 rfl rfl)
theorem dX0_read_3 : decode cX0_read 3 = .ok (.invokevirtual 107, 3) := dk_182 0 107 (dk_at dksX0_read_0 3 rfl rfl)
theorem dX0_read_6 : decode cX0_read 6 = .ok (.i2l, 1) := dk_133 (dk_at dksX0_read_0 6 rfl rfl)
theorem dX0_read_7 : decode cX0_read 7 = .ok (.lastore, 1) := dk_80 (dk_at dksX0_read_0 7 rfl rfl)
theorem dX0_read_8 : decode cX0_read 8 = .ok (.goto 9, 3) := dk_167 0 9 (dk_at dksX0_read_0 8 rfl rfl)
theorem dX0_read_11 : decode cX0_read 11 = .ok (.astore_n 2, 1) := dk_77 (dk_at dksX0_read_0 11 rfl rfl)
theorem dX0_read_12 : decode cX0_read 12 = .ok (.iconst 1, 1) := dk_4 (dk_at dksX0_read_0 12 rfl rfl)
theorem dX0_read_13 : decode cX0_read 13 = .ok (.ireturn, 1) := dk_172 (dk_at dksX0_read_0 13 rfl rfl)
theorem dX0_read_14 : decode cX0_read 14 = .ok (.astore_n 2, 1) := dk_77 (dk_at dksX0_read_0 14 rfl rfl)
theorem dX0_read_15 : decode cX0_read 15 = .ok (.iconst 2, 1) := dk_5 (dk_at dksX0_read_0 15 rfl rfl)
theorem dX0_read_16 : decode cX0_read 16 = .ok (.ireturn, 1) := dk_172 (dk_at dksX0_read_0 16 rfl rfl)
theorem dX0_read_17 : decode cX0_read 17 = .ok (.iconst 0, 1) := dk_3 (dk_at dksX0_read_0 17 rfl rfl)
theorem dX0_read_18 : decode cX0_read 18 = .ok (.ireturn, 1) := dk_172 (dk_at dksX0_read_0 18 rfl rfl)
abbrev cX0_faultPosition : ByteArray := method_29_code
def yX0_faultPosition : MethodName := ⟨RX0, "faultPosition", "(LBraidedFerry;[J)I"⟩
def dkwX0_faultPosition_0 : List UInt8 := [43, 3, 42, 182, 0, 110, 133, 80, 167, 0, 6, 77, 4, 172, 3, 172]
abbrev dktX0_faultPosition_0 : List UInt8 := dkwX0_faultPosition_0 ++ []
theorem dksX0_faultPosition_0 : cX0_faultPosition.data.toList.drop 0 = dktX0_faultPosition_0 := by decide +kernel
theorem dX0_faultPosition_0 : decode cX0_faultPosition 0 = .ok (.aload_n 1, 1) := dk_43 (dk_at dksX0_faultPosition_0 0 rfl rfl)
theorem dX0_faultPosition_1 : decode cX0_faultPosition 1 = .ok (.iconst 0, 1) := dk_3 (dk_at dksX0_faultPosition_0 1 rfl rfl)
theorem dX0_faultPosition_2 : decode cX0_faultPosition 2 = .ok (.aload_n 0, 1) := dk_42 (dk_at dksX0_faultPosition_0 2 rfl rfl)
theorem dX0_faultPosition_3 : decode cX0_faultPosition 3 = .ok (.invokevirtual 110, 3) := dk_182 0 110 (dk_at dksX0_faultPosition_0 3 rfl rfl)
theorem dX0_faultPosition_6 : decode cX0_faultPosition 6 = .ok (.i2l, 1) := dk_133 (dk_at dksX0_faultPosition_0 6 rfl rfl)
theorem dX0_faultPosition_7 : decode cX0_faultPosition 7 = .ok (.lastore, 1) := dk_80 (dk_at dksX0_faultPosition_0 7 rfl rfl)
theorem dX0_faultPosition_8 : decode cX0_faultPosition 8 = .ok (.goto 6, 3) := dk_167 0 6 (dk_at dksX0_faultPosition_0 8 rfl rfl)
theorem dX0_faultPosition_11 : decode cX0_faultPosition 11 = .ok (.astore_n 2, 1) := dk_77 (dk_at dksX0_faultPosition_0 11 rfl rfl)
theorem dX0_faultPosition_12 : decode cX0_faultPosition 12 = .ok (.iconst 1, 1) := dk_4 (dk_at dksX0_faultPosition_0 12 rfl rfl)
theorem dX0_faultPosition_13 : decode cX0_faultPosition 13 = .ok (.ireturn, 1) := dk_172 (dk_at dksX0_faultPosition_0 13 rfl rfl)
theorem dX0_faultPosition_14 : decode cX0_faultPosition 14 = .ok (.iconst 0, 1) := dk_3 (dk_at dksX0_faultPosition_0 14 rfl rfl)
theorem dX0_faultPosition_15 : decode cX0_faultPosition 15 = .ok (.ireturn, 1) := dk_172 (dk_at dksX0_faultPosition_0 15 rfl rfl)
abbrev cX0_refusal : ByteArray := method_30_code
def yX0_refusal : MethodName := ⟨RX0, "refusal", "(LBraidedFerry;Z[J)I"⟩
def dkwX0_refusal_0 : List UInt8 := [44, 3, 42, 27, 182, 0, 113, 133, 80, 167, 0, 6, 78, 4, 172, 3, 172]
abbrev dktX0_refusal_0 : List UInt8 := dkwX0_refusal_0 ++ []
theorem dksX0_refusal_0 : cX0_refusal.data.toList.drop 0 = dktX0_refusal_0 := by decide +kernel
theorem dX0_refusal_0 : decode cX0_refusal 0 = .ok (.aload_n 2, 1) := dk_44 (dk_at dksX0_refusal_0 0 rfl rfl)
theorem dX0_refusal_1 : decode cX0_refusal 1 = .ok (.iconst 0, 1) := dk_3 (dk_at dksX0_refusal_0 1 rfl rfl)
theorem dX0_refusal_2 : decode cX0_refusal 2 = .ok (.aload_n 0, 1) := dk_42 (dk_at dksX0_refusal_0 2 rfl rfl)
theorem dX0_refusal_3 : decode cX0_refusal 3 = .ok (.iload_n 1, 1) := dk_27 (dk_at dksX0_refusal_0 3 rfl rfl)
theorem dX0_refusal_4 : decode cX0_refusal 4 = .ok (.invokevirtual 113, 3) := dk_182 0 113 (dk_at dksX0_refusal_0 4 rfl rfl)
theorem dX0_refusal_7 : decode cX0_refusal 7 = .ok (.i2l, 1) := dk_133 (dk_at dksX0_refusal_0 7 rfl rfl)
theorem dX0_refusal_8 : decode cX0_refusal 8 = .ok (.lastore, 1) := dk_80 (dk_at dksX0_refusal_0 8 rfl rfl)
theorem dX0_refusal_9 : decode cX0_refusal 9 = .ok (.goto 6, 3) := dk_167 0 6 (dk_at dksX0_refusal_0 9 rfl rfl)
theorem dX0_refusal_12 : decode cX0_refusal 12 = .ok (.astore_n 3, 1) := dk_78 (dk_at dksX0_refusal_0 12 rfl rfl)
theorem dX0_refusal_13 : decode cX0_refusal 13 = .ok (.iconst 1, 1) := dk_4 (dk_at dksX0_refusal_0 13 rfl rfl)
theorem dX0_refusal_14 : decode cX0_refusal 14 = .ok (.ireturn, 1) := dk_172 (dk_at dksX0_refusal_0 14 rfl rfl)
theorem dX0_refusal_15 : decode cX0_refusal 15 = .ok (.iconst 0, 1) := dk_3 (dk_at dksX0_refusal_0 15 rfl rfl)
theorem dX0_refusal_16 : decode cX0_refusal 16 = .ok (.ireturn, 1) := dk_172 (dk_at dksX0_refusal_0 16 rfl rfl)
abbrev cX0_undo : ByteArray := method_31_code
def yX0_undo : MethodName := ⟨RX0, "undo", "(LBraidedFerry;[J)I"⟩
def dkwX0_undo_0 : List UInt8 := [43, 3, 42, 182, 0, 116, 133, 80, 167, 0, 6, 77, 4, 172, 3, 172]
abbrev dktX0_undo_0 : List UInt8 := dkwX0_undo_0 ++ []
theorem dksX0_undo_0 : cX0_undo.data.toList.drop 0 = dktX0_undo_0 := by decide +kernel
theorem dX0_undo_0 : decode cX0_undo 0 = .ok (.aload_n 1, 1) := dk_43 (dk_at dksX0_undo_0 0 rfl rfl)
theorem dX0_undo_1 : decode cX0_undo 1 = .ok (.iconst 0, 1) := dk_3 (dk_at dksX0_undo_0 1 rfl rfl)
theorem dX0_undo_2 : decode cX0_undo 2 = .ok (.aload_n 0, 1) := dk_42 (dk_at dksX0_undo_0 2 rfl rfl)
theorem dX0_undo_3 : decode cX0_undo 3 = .ok (.invokevirtual 116, 3) := dk_182 0 116 (dk_at dksX0_undo_0 3 rfl rfl)
theorem dX0_undo_6 : decode cX0_undo 6 = .ok (.i2l, 1) := dk_133 (dk_at dksX0_undo_0 6 rfl rfl)
theorem dX0_undo_7 : decode cX0_undo 7 = .ok (.lastore, 1) := dk_80 (dk_at dksX0_undo_0 7 rfl rfl)
theorem dX0_undo_8 : decode cX0_undo 8 = .ok (.goto 6, 3) := dk_167 0 6 (dk_at dksX0_undo_0 8 rfl rfl)
theorem dX0_undo_11 : decode cX0_undo 11 = .ok (.astore_n 2, 1) := dk_77 (dk_at dksX0_undo_0 11 rfl rfl)
theorem dX0_undo_12 : decode cX0_undo 12 = .ok (.iconst 1, 1) := dk_4 (dk_at dksX0_undo_0 12 rfl rfl)
theorem dX0_undo_13 : decode cX0_undo 13 = .ok (.ireturn, 1) := dk_172 (dk_at dksX0_undo_0 13 rfl rfl)
theorem dX0_undo_14 : decode cX0_undo 14 = .ok (.iconst 0, 1) := dk_3 (dk_at dksX0_undo_0 14 rfl rfl)
theorem dX0_undo_15 : decode cX0_undo 15 = .ok (.ireturn, 1) := dk_172 (dk_at dksX0_undo_0 15 rfl rfl)
abbrev cX0_restoreSnapshot : ByteArray := method_32_code
def yX0_restoreSnapshot : MethodName := ⟨RX0, "restoreSnapshot", "(LBraidedFerry;[J)I"⟩
def dkwX0_restoreSnapshot_0 : List UInt8 := [43, 3, 42, 182, 0, 119, 133, 80, 167, 0, 6, 77, 4, 172, 3, 172]
abbrev dktX0_restoreSnapshot_0 : List UInt8 := dkwX0_restoreSnapshot_0 ++ []
theorem dksX0_restoreSnapshot_0 : cX0_restoreSnapshot.data.toList.drop 0 = dktX0_restoreSnapshot_0 := by decide +kernel
theorem dX0_restoreSnapshot_0 : decode cX0_restoreSnapshot 0 = .ok (.aload_n 1, 1) := dk_43 (dk_at dksX0_restoreSnapshot_0 0 rfl rfl)
theorem dX0_restoreSnapshot_1 : decode cX0_restoreSnapshot 1 = .ok (.iconst 0, 1) := dk_3 (dk_at dksX0_restoreSnapshot_0 1 rfl rfl)
theorem dX0_restoreSnapshot_2 : decode cX0_restoreSnapshot 2 = .ok (.aload_n 0, 1) := dk_42 (dk_at dksX0_restoreSnapshot_0 2 rfl rfl)
theorem dX0_restoreSnapshot_3 : decode cX0_restoreSnapshot 3 = .ok (.invokevirtual 119, 3) := dk_182 0 119 (dk_at dksX0_restoreSnapshot_0 3 rfl rfl)
theorem dX0_restoreSnapshot_6 : decode cX0_restoreSnapshot 6 = .ok (.i2l, 1) := dk_133 (dk_at dksX0_restoreSnapshot_0 6 rfl rfl)
theorem dX0_restoreSnapshot_7 : decode cX0_restoreSnapshot 7 = .ok (.lastore, 1) := dk_80 (dk_at dksX0_restoreSnapshot_0 7 rfl rfl)
theorem dX0_restoreSnapshot_8 : decode cX0_restoreSnapshot 8 = .ok (.goto 6, 3) := dk_167 0 6 (dk_at dksX0_restoreSnapshot_0 8 rfl rfl)
theorem dX0_restoreSnapshot_11 : decode cX0_restoreSnapshot 11 = .ok (.astore_n 2, 1) := dk_77 (dk_at dksX0_restoreSnapshot_0 11 rfl rfl)
theorem dX0_restoreSnapshot_12 : decode cX0_restoreSnapshot 12 = .ok (.iconst 1, 1) := dk_4 (dk_at dksX0_restoreSnapshot_0 12 rfl rfl)
theorem dX0_restoreSnapshot_13 : decode cX0_restoreSnapshot 13 = .ok (.ireturn, 1) := dk_172 (dk_at dksX0_restoreSnapshot_0 13 rfl rfl)
theorem dX0_restoreSnapshot_14 : decode cX0_restoreSnapshot 14 = .ok (.iconst 0, 1) := dk_3 (dk_at dksX0_restoreSnapshot_0 14 rfl rfl)
theorem dX0_restoreSnapshot_15 : decode cX0_restoreSnapshot 15 = .ok (.ireturn, 1) := dk_172 (dk_at dksX0_restoreSnapshot_0 15 rfl rfl)
theorem q72 : (Jvm.Cond.initialized "BraidedFerryLaw") ∈ lw_all := lw_g (lw_at lw_m1 0 rfl) rfl
theorem q144 : (Jvm.Cond.classLink "BraidedFerryLaw" (8 : Nat) "BraidedFerry") ∈ lw_all := lw_g (lw_at lw_m1 72 rfl) rfl
theorem q146 : (Jvm.Cond.methodLink "BraidedFerryLaw" (122 : Nat) ({ cls := "BraidedFerry", name := "<init>", desc := "()V" } : Jvm.MethodName)) ∈ lw_all := lw_g (lw_at lw_m1 74 rfl) rfl
theorem q385 : (Jvm.Cond.methodLink "BraidedFerryLaw" (178 : Nat) ({ cls := "BraidedFerry", name := "land", desc := "()I" } : Jvm.MethodName)) ∈ lw_all := lw_g (lw_at lw_m2 73 rfl) rfl
theorem q2290 : (Jvm.Cond.methodLink "BraidedFerryLaw" (202 : Nat) ({ cls := "BraidedFerry", name := "why", desc := "(ZZ)I" } : Jvm.MethodName)) ∈ lw_all := lw_g (lw_at lw_m10 58 rfl) rfl
theorem q2295 : (Jvm.Cond.methodLink "BraidedFerryLaw" (236 : Nat) ({ cls := "BraidedFerry", name := "saveSnapshot", desc := "()I" } : Jvm.MethodName)) ∈ lw_all := lw_g (lw_at lw_m10 63 rfl) rfl
theorem q2301 : (Jvm.Cond.methodLink "BraidedFerryLaw" (126 : Nat) ({ cls := "BraidedFerryLaw", name := "channel", desc := "(LBraidedFerry;III[J)I" } : Jvm.MethodName)) ∈ lw_all := lw_g (lw_at lw_m10 69 rfl) rfl
theorem q2302 : (Jvm.Cond.static ({ cls := "BraidedFerryLaw", name := "channel", desc := "(LBraidedFerry;III[J)I" } : Jvm.MethodName)) ∈ lw_all := lw_g (lw_at lw_m10 70 rfl) rfl
theorem q2303 : (Jvm.Cond.codeWith ({ cls := "BraidedFerryLaw", name := "channel", desc := "(LBraidedFerry;III[J)I" } : Jvm.MethodName) method_3_code (6 : Nat) (Option.some Jvm.ClassFile.FieldType.int) [((0 : Nat), (12 : Nat), (15 : Nat), (13 : Nat)), ((0 : Nat), (12 : Nat), (19 : Nat), (15 : Nat))]) ∈ lw_all := lw_g (lw_at lw_m10 71 rfl) rfl
theorem q2304 : (Jvm.Cond.classLink "BraidedFerryLaw" (13 : Nat) "java/lang/IllegalArgumentException") ∈ lw_all := lw_g (lw_at lw_m10 72 rfl) rfl
theorem q2305 : (Jvm.Cond.classLink "BraidedFerryLaw" (15 : Nat) "java/lang/UnsupportedOperationException") ∈ lw_all := lw_g (lw_at lw_m10 73 rfl) rfl
theorem q2306 : (Jvm.Cond.methodLink "BraidedFerryLaw" (7 : Nat) ({ cls := "BraidedFerry", name := "channel", desc := "(III)I" } : Jvm.MethodName)) ∈ lw_all := lw_g (lw_at lw_m10 74 rfl) rfl
theorem q2324 : (Jvm.Cond.methodLink "BraidedFerryLaw" (135 : Nat) ({ cls := "BraidedFerryLaw", name := "split", desc := "(LBraidedFerry;II[J)I" } : Jvm.MethodName)) ∈ lw_all := lw_g (lw_at lw_m10 92 rfl) rfl
theorem q2325 : (Jvm.Cond.static ({ cls := "BraidedFerryLaw", name := "split", desc := "(LBraidedFerry;II[J)I" } : Jvm.MethodName)) ∈ lw_all := lw_g (lw_at lw_m10 93 rfl) rfl
theorem q2326 : (Jvm.Cond.codeWith ({ cls := "BraidedFerryLaw", name := "split", desc := "(LBraidedFerry;II[J)I" } : Jvm.MethodName) method_4_code (5 : Nat) (Option.some Jvm.ClassFile.FieldType.int) [((0 : Nat), (10 : Nat), (13 : Nat), (21 : Nat)), ((0 : Nat), (10 : Nat), (17 : Nat), (15 : Nat))]) ∈ lw_all := lw_g (lw_at lw_m10 94 rfl) rfl
theorem q2327 : (Jvm.Cond.classLink "BraidedFerryLaw" (21 : Nat) "java/lang/IndexOutOfBoundsException") ∈ lw_all := lw_g (lw_at lw_m10 95 rfl) rfl
theorem q2343 : (Jvm.Cond.methodLink "BraidedFerryLaw" (17 : Nat) ({ cls := "BraidedFerry", name := "split", desc := "(II)I" } : Jvm.MethodName)) ∈ lw_all := lw_g (lw_at lw_m10 111 rfl) rfl
theorem q2391 : (Jvm.Cond.methodLink "BraidedFerryLaw" (139 : Nat) ({ cls := "BraidedFerryLaw", name := "shift", desc := "(LBraidedFerry;II[J)I" } : Jvm.MethodName)) ∈ lw_all := lw_g (lw_at lw_m10 159 rfl) rfl
theorem q2392 : (Jvm.Cond.static ({ cls := "BraidedFerryLaw", name := "shift", desc := "(LBraidedFerry;II[J)I" } : Jvm.MethodName)) ∈ lw_all := lw_g (lw_at lw_m10 160 rfl) rfl
theorem q2393 : (Jvm.Cond.codeWith ({ cls := "BraidedFerryLaw", name := "shift", desc := "(LBraidedFerry;II[J)I" } : Jvm.MethodName) method_5_code (5 : Nat) (Option.some Jvm.ClassFile.FieldType.int) [((0 : Nat), (10 : Nat), (13 : Nat), (21 : Nat)), ((0 : Nat), (10 : Nat), (17 : Nat), (13 : Nat)), ((0 : Nat), (10 : Nat), (21 : Nat), (15 : Nat))]) ∈ lw_all := lw_g (lw_at lw_m10 161 rfl) rfl
theorem q2394 : (Jvm.Cond.methodLink "BraidedFerryLaw" (23 : Nat) ({ cls := "BraidedFerry", name := "shift", desc := "(II)I" } : Jvm.MethodName)) ∈ lw_all := lw_g (lw_at lw_m10 162 rfl) rfl
theorem q2407 : (Jvm.Cond.methodLink "BraidedFerryLaw" (142 : Nat) ({ cls := "BraidedFerryLaw", name := "channelOf", desc := "(LBraidedFerry;II[J)I" } : Jvm.MethodName)) ∈ lw_all := lw_g (lw_at lw_m10 175 rfl) rfl
theorem q2408 : (Jvm.Cond.static ({ cls := "BraidedFerryLaw", name := "channelOf", desc := "(LBraidedFerry;II[J)I" } : Jvm.MethodName)) ∈ lw_all := lw_g (lw_at lw_m10 176 rfl) rfl
theorem q2409 : (Jvm.Cond.codeWith ({ cls := "BraidedFerryLaw", name := "channelOf", desc := "(LBraidedFerry;II[J)I" } : Jvm.MethodName) method_6_code (5 : Nat) (Option.some Jvm.ClassFile.FieldType.int) [((0 : Nat), (10 : Nat), (13 : Nat), (21 : Nat)), ((0 : Nat), (10 : Nat), (17 : Nat), (13 : Nat))]) ∈ lw_all := lw_g (lw_at lw_m10 177 rfl) rfl
theorem q2410 : (Jvm.Cond.methodLink "BraidedFerryLaw" (26 : Nat) ({ cls := "BraidedFerry", name := "channelOf", desc := "(II)I" } : Jvm.MethodName)) ∈ lw_all := lw_g (lw_at lw_m10 178 rfl) rfl
theorem q2423 : (Jvm.Cond.methodLink "BraidedFerryLaw" (145 : Nat) ({ cls := "BraidedFerryLaw", name := "flood", desc := "(LBraidedFerry;III[J)I" } : Jvm.MethodName)) ∈ lw_all := lw_g (lw_at lw_m10 191 rfl) rfl
theorem q2424 : (Jvm.Cond.static ({ cls := "BraidedFerryLaw", name := "flood", desc := "(LBraidedFerry;III[J)I" } : Jvm.MethodName)) ∈ lw_all := lw_g (lw_at lw_m10 192 rfl) rfl
theorem q2425 : (Jvm.Cond.codeWith ({ cls := "BraidedFerryLaw", name := "flood", desc := "(LBraidedFerry;III[J)I" } : Jvm.MethodName) method_7_code (6 : Nat) (Option.some Jvm.ClassFile.FieldType.int) [((0 : Nat), (12 : Nat), (15 : Nat), (13 : Nat)), ((0 : Nat), (12 : Nat), (19 : Nat), (15 : Nat))]) ∈ lw_all := lw_g (lw_at lw_m10 193 rfl) rfl
theorem q2426 : (Jvm.Cond.methodLink "BraidedFerryLaw" (29 : Nat) ({ cls := "BraidedFerry", name := "flood", desc := "(III)I" } : Jvm.MethodName)) ∈ lw_all := lw_g (lw_at lw_m10 194 rfl) rfl
theorem q2444 : (Jvm.Cond.methodLink "BraidedFerryLaw" (148 : Nat) ({ cls := "BraidedFerryLaw", name := "flow", desc := "(LBraidedFerry;II[J)I" } : Jvm.MethodName)) ∈ lw_all := lw_g (lw_at lw_m10 212 rfl) rfl
theorem q2445 : (Jvm.Cond.static ({ cls := "BraidedFerryLaw", name := "flow", desc := "(LBraidedFerry;II[J)I" } : Jvm.MethodName)) ∈ lw_all := lw_g (lw_at lw_m10 213 rfl) rfl
theorem q2446 : (Jvm.Cond.codeWith ({ cls := "BraidedFerryLaw", name := "flow", desc := "(LBraidedFerry;II[J)I" } : Jvm.MethodName) method_8_code (5 : Nat) (Option.some Jvm.ClassFile.FieldType.int) [((0 : Nat), (10 : Nat), (13 : Nat), (21 : Nat)), ((0 : Nat), (10 : Nat), (17 : Nat), (13 : Nat))]) ∈ lw_all := lw_g (lw_at lw_m10 214 rfl) rfl
theorem q2447 : (Jvm.Cond.methodLink "BraidedFerryLaw" (32 : Nat) ({ cls := "BraidedFerry", name := "flow", desc := "(II)I" } : Jvm.MethodName)) ∈ lw_all := lw_g (lw_at lw_m10 215 rfl) rfl
theorem q2451 : (Jvm.Cond.methodLink "BraidedFerryLaw" (151 : Nat) ({ cls := "BraidedFerryLaw", name := "anchor", desc := "(LBraidedFerry;II[J)I" } : Jvm.MethodName)) ∈ lw_all := lw_g (lw_at lw_m10 219 rfl) rfl
theorem q2452 : (Jvm.Cond.static ({ cls := "BraidedFerryLaw", name := "anchor", desc := "(LBraidedFerry;II[J)I" } : Jvm.MethodName)) ∈ lw_all := lw_g (lw_at lw_m10 220 rfl) rfl
theorem q2453 : (Jvm.Cond.codeWith ({ cls := "BraidedFerryLaw", name := "anchor", desc := "(LBraidedFerry;II[J)I" } : Jvm.MethodName) method_9_code (5 : Nat) (Option.some Jvm.ClassFile.FieldType.int) [((0 : Nat), (10 : Nat), (13 : Nat), (21 : Nat)), ((0 : Nat), (10 : Nat), (17 : Nat), (13 : Nat)), ((0 : Nat), (10 : Nat), (21 : Nat), (15 : Nat))]) ∈ lw_all := lw_g (lw_at lw_m10 221 rfl) rfl
theorem q2454 : (Jvm.Cond.methodLink "BraidedFerryLaw" (35 : Nat) ({ cls := "BraidedFerry", name := "anchor", desc := "(II)I" } : Jvm.MethodName)) ∈ lw_all := lw_g (lw_at lw_m10 222 rfl) rfl
theorem q2467 : (Jvm.Cond.methodLink "BraidedFerryLaw" (154 : Nat) ({ cls := "BraidedFerryLaw", name := "weigh", desc := "(LBraidedFerry;I[J)I" } : Jvm.MethodName)) ∈ lw_all := lw_g (lw_at lw_m10 235 rfl) rfl
theorem q2468 : (Jvm.Cond.static ({ cls := "BraidedFerryLaw", name := "weigh", desc := "(LBraidedFerry;I[J)I" } : Jvm.MethodName)) ∈ lw_all := lw_g (lw_at lw_m10 236 rfl) rfl
theorem q2469 : (Jvm.Cond.codeWith ({ cls := "BraidedFerryLaw", name := "weigh", desc := "(LBraidedFerry;I[J)I" } : Jvm.MethodName) method_10_code (4 : Nat) (Option.some Jvm.ClassFile.FieldType.int) [((0 : Nat), (9 : Nat), (12 : Nat), (21 : Nat))]) ∈ lw_all := lw_g (lw_at lw_m10 237 rfl) rfl
theorem q2470 : (Jvm.Cond.methodLink "BraidedFerryLaw" (38 : Nat) ({ cls := "BraidedFerry", name := "weigh", desc := "(I)I" } : Jvm.MethodName)) ∈ lw_all := lw_g (lw_at lw_m10 238 rfl) rfl
theorem q2493 : (Jvm.Cond.methodLink "BraidedFerryLaw" (158 : Nat) ({ cls := "BraidedFerryLaw", name := "anchorOf", desc := "(LBraidedFerry;II[J)I" } : Jvm.MethodName)) ∈ lw_all := lw_g (lw_at lw_m11 21 rfl) rfl
theorem q2494 : (Jvm.Cond.static ({ cls := "BraidedFerryLaw", name := "anchorOf", desc := "(LBraidedFerry;II[J)I" } : Jvm.MethodName)) ∈ lw_all := lw_g (lw_at lw_m11 22 rfl) rfl
theorem q2495 : (Jvm.Cond.codeWith ({ cls := "BraidedFerryLaw", name := "anchorOf", desc := "(LBraidedFerry;II[J)I" } : Jvm.MethodName) method_11_code (5 : Nat) (Option.some Jvm.ClassFile.FieldType.int) [((0 : Nat), (10 : Nat), (13 : Nat), (21 : Nat)), ((0 : Nat), (10 : Nat), (17 : Nat), (13 : Nat))]) ∈ lw_all := lw_g (lw_at lw_m11 23 rfl) rfl
theorem q2496 : (Jvm.Cond.methodLink "BraidedFerryLaw" (42 : Nat) ({ cls := "BraidedFerry", name := "anchorOf", desc := "(II)I" } : Jvm.MethodName)) ∈ lw_all := lw_g (lw_at lw_m11 24 rfl) rfl
theorem q2504 : (Jvm.Cond.methodLink "BraidedFerryLaw" (161 : Nat) ({ cls := "BraidedFerryLaw", name := "dragIn", desc := "(LBraidedFerry;II[J)I" } : Jvm.MethodName)) ∈ lw_all := lw_g (lw_at lw_m11 32 rfl) rfl
theorem q2505 : (Jvm.Cond.static ({ cls := "BraidedFerryLaw", name := "dragIn", desc := "(LBraidedFerry;II[J)I" } : Jvm.MethodName)) ∈ lw_all := lw_g (lw_at lw_m11 33 rfl) rfl
theorem q2506 : (Jvm.Cond.codeWith ({ cls := "BraidedFerryLaw", name := "dragIn", desc := "(LBraidedFerry;II[J)I" } : Jvm.MethodName) method_12_code (5 : Nat) (Option.some Jvm.ClassFile.FieldType.int) [((0 : Nat), (10 : Nat), (13 : Nat), (21 : Nat)), ((0 : Nat), (10 : Nat), (17 : Nat), (13 : Nat))]) ∈ lw_all := lw_g (lw_at lw_m11 34 rfl) rfl
theorem q2507 : (Jvm.Cond.methodLink "BraidedFerryLaw" (45 : Nat) ({ cls := "BraidedFerry", name := "dragIn", desc := "(II)I" } : Jvm.MethodName)) ∈ lw_all := lw_g (lw_at lw_m11 35 rfl) rfl
theorem q2515 : (Jvm.Cond.methodLink "BraidedFerryLaw" (164 : Nat) ({ cls := "BraidedFerryLaw", name := "dragAgain", desc := "(LBraidedFerry;II[J)I" } : Jvm.MethodName)) ∈ lw_all := lw_g (lw_at lw_m11 43 rfl) rfl
theorem q2516 : (Jvm.Cond.static ({ cls := "BraidedFerryLaw", name := "dragAgain", desc := "(LBraidedFerry;II[J)I" } : Jvm.MethodName)) ∈ lw_all := lw_g (lw_at lw_m11 44 rfl) rfl
theorem q2517 : (Jvm.Cond.codeWith ({ cls := "BraidedFerryLaw", name := "dragAgain", desc := "(LBraidedFerry;II[J)I" } : Jvm.MethodName) method_13_code (5 : Nat) (Option.some Jvm.ClassFile.FieldType.int) [((0 : Nat), (10 : Nat), (13 : Nat), (21 : Nat)), ((0 : Nat), (10 : Nat), (17 : Nat), (13 : Nat))]) ∈ lw_all := lw_g (lw_at lw_m11 45 rfl) rfl
theorem q2518 : (Jvm.Cond.methodLink "BraidedFerryLaw" (48 : Nat) ({ cls := "BraidedFerry", name := "dragAgain", desc := "(II)I" } : Jvm.MethodName)) ∈ lw_all := lw_g (lw_at lw_m11 46 rfl) rfl
theorem q2530 : (Jvm.Cond.methodLink "BraidedFerryLaw" (167 : Nat) ({ cls := "BraidedFerryLaw", name := "come", desc := "(LBraidedFerry;IIII[J)I" } : Jvm.MethodName)) ∈ lw_all := lw_g (lw_at lw_m11 58 rfl) rfl
theorem q2531 : (Jvm.Cond.static ({ cls := "BraidedFerryLaw", name := "come", desc := "(LBraidedFerry;IIII[J)I" } : Jvm.MethodName)) ∈ lw_all := lw_g (lw_at lw_m11 59 rfl) rfl
theorem q2532 : (Jvm.Cond.codeWith ({ cls := "BraidedFerryLaw", name := "come", desc := "(LBraidedFerry;IIII[J)I" } : Jvm.MethodName) method_14_code (7 : Nat) (Option.some Jvm.ClassFile.FieldType.int) [((0 : Nat), (14 : Nat), (17 : Nat), (21 : Nat)), ((0 : Nat), (14 : Nat), (21 : Nat), (13 : Nat)), ((0 : Nat), (14 : Nat), (25 : Nat), (15 : Nat))]) ∈ lw_all := lw_g (lw_at lw_m11 60 rfl) rfl
theorem q2533 : (Jvm.Cond.methodLink "BraidedFerryLaw" (51 : Nat) ({ cls := "BraidedFerry", name := "come", desc := "(IIII)I" } : Jvm.MethodName)) ∈ lw_all := lw_g (lw_at lw_m11 61 rfl) rfl
theorem q2552 : (Jvm.Cond.methodLink "BraidedFerryLaw" (171 : Nat) ({ cls := "BraidedFerryLaw", name := "group", desc := "(LBraidedFerry;IIII[J)I" } : Jvm.MethodName)) ∈ lw_all := lw_g (lw_at lw_m11 80 rfl) rfl
theorem q2553 : (Jvm.Cond.static ({ cls := "BraidedFerryLaw", name := "group", desc := "(LBraidedFerry;IIII[J)I" } : Jvm.MethodName)) ∈ lw_all := lw_g (lw_at lw_m11 81 rfl) rfl
theorem q2554 : (Jvm.Cond.codeWith ({ cls := "BraidedFerryLaw", name := "group", desc := "(LBraidedFerry;IIII[J)I" } : Jvm.MethodName) method_15_code (7 : Nat) (Option.some Jvm.ClassFile.FieldType.int) [((0 : Nat), (14 : Nat), (17 : Nat), (21 : Nat)), ((0 : Nat), (14 : Nat), (21 : Nat), (13 : Nat))]) ∈ lw_all := lw_g (lw_at lw_m11 82 rfl) rfl
theorem q2555 : (Jvm.Cond.methodLink "BraidedFerryLaw" (55 : Nat) ({ cls := "BraidedFerry", name := "group", desc := "(IIII)I" } : Jvm.MethodName)) ∈ lw_all := lw_g (lw_at lw_m11 83 rfl) rfl
theorem q2563 : (Jvm.Cond.methodLink "BraidedFerryLaw" (174 : Nat) ({ cls := "BraidedFerryLaw", name := "board", desc := "(LBraidedFerry;IIIZ[J)I" } : Jvm.MethodName)) ∈ lw_all := lw_g (lw_at lw_m11 91 rfl) rfl
theorem q2564 : (Jvm.Cond.static ({ cls := "BraidedFerryLaw", name := "board", desc := "(LBraidedFerry;IIIZ[J)I" } : Jvm.MethodName)) ∈ lw_all := lw_g (lw_at lw_m11 92 rfl) rfl
theorem q2565 : (Jvm.Cond.codeWith ({ cls := "BraidedFerryLaw", name := "board", desc := "(LBraidedFerry;IIIZ[J)I" } : Jvm.MethodName) method_16_code (7 : Nat) (Option.some Jvm.ClassFile.FieldType.int) [((0 : Nat), (14 : Nat), (17 : Nat), (21 : Nat)), ((0 : Nat), (14 : Nat), (21 : Nat), (13 : Nat)), ((0 : Nat), (14 : Nat), (25 : Nat), (15 : Nat))]) ∈ lw_all := lw_g (lw_at lw_m11 93 rfl) rfl
theorem q2566 : (Jvm.Cond.methodLink "BraidedFerryLaw" (58 : Nat) ({ cls := "BraidedFerry", name := "board", desc := "(IIIZ)I" } : Jvm.MethodName)) ∈ lw_all := lw_g (lw_at lw_m11 94 rfl) rfl
theorem q2585 : (Jvm.Cond.methodLink "BraidedFerryLaw" (182 : Nat) ({ cls := "BraidedFerryLaw", name := "fare", desc := "(LBraidedFerry;II[J)I" } : Jvm.MethodName)) ∈ lw_all := lw_g (lw_at lw_m11 113 rfl) rfl
theorem q2586 : (Jvm.Cond.static ({ cls := "BraidedFerryLaw", name := "fare", desc := "(LBraidedFerry;II[J)I" } : Jvm.MethodName)) ∈ lw_all := lw_g (lw_at lw_m11 114 rfl) rfl
theorem q2587 : (Jvm.Cond.codeWith ({ cls := "BraidedFerryLaw", name := "fare", desc := "(LBraidedFerry;II[J)I" } : Jvm.MethodName) method_17_code (5 : Nat) (Option.some Jvm.ClassFile.FieldType.int) [((0 : Nat), (10 : Nat), (13 : Nat), (13 : Nat))]) ∈ lw_all := lw_g (lw_at lw_m11 115 rfl) rfl
theorem q2588 : (Jvm.Cond.methodLink "BraidedFerryLaw" (62 : Nat) ({ cls := "BraidedFerry", name := "fare", desc := "(II)I" } : Jvm.MethodName)) ∈ lw_all := lw_g (lw_at lw_m11 116 rfl) rfl
theorem q2606 : (Jvm.Cond.methodLink "BraidedFerryLaw" (185 : Nat) ({ cls := "BraidedFerryLaw", name := "line", desc := "(LBraidedFerry;I[J)I" } : Jvm.MethodName)) ∈ lw_all := lw_g (lw_at lw_m11 134 rfl) rfl
theorem q2607 : (Jvm.Cond.static ({ cls := "BraidedFerryLaw", name := "line", desc := "(LBraidedFerry;I[J)I" } : Jvm.MethodName)) ∈ lw_all := lw_g (lw_at lw_m11 135 rfl) rfl
theorem q2608 : (Jvm.Cond.codeWith ({ cls := "BraidedFerryLaw", name := "line", desc := "(LBraidedFerry;I[J)I" } : Jvm.MethodName) method_18_code (4 : Nat) (Option.some Jvm.ClassFile.FieldType.int) [((0 : Nat), (9 : Nat), (12 : Nat), (21 : Nat))]) ∈ lw_all := lw_g (lw_at lw_m11 136 rfl) rfl
theorem q2609 : (Jvm.Cond.methodLink "BraidedFerryLaw" (65 : Nat) ({ cls := "BraidedFerry", name := "line", desc := "(I)I" } : Jvm.MethodName)) ∈ lw_all := lw_g (lw_at lw_m11 137 rfl) rfl
theorem q2741 : (Jvm.Cond.methodLink "BraidedFerryLaw" (188 : Nat) ({ cls := "BraidedFerryLaw", name := "character", desc := "(LBraidedFerry;I[J)I" } : Jvm.MethodName)) ∈ lw_all := lw_g (lw_at lw_m12 29 rfl) rfl
theorem q2742 : (Jvm.Cond.static ({ cls := "BraidedFerryLaw", name := "character", desc := "(LBraidedFerry;I[J)I" } : Jvm.MethodName)) ∈ lw_all := lw_g (lw_at lw_m12 30 rfl) rfl
theorem q2743 : (Jvm.Cond.codeWith ({ cls := "BraidedFerryLaw", name := "character", desc := "(LBraidedFerry;I[J)I" } : Jvm.MethodName) method_19_code (4 : Nat) (Option.some Jvm.ClassFile.FieldType.int) [((0 : Nat), (9 : Nat), (12 : Nat), (21 : Nat))]) ∈ lw_all := lw_g (lw_at lw_m12 31 rfl) rfl
theorem q2744 : (Jvm.Cond.methodLink "BraidedFerryLaw" (68 : Nat) ({ cls := "BraidedFerry", name := "character", desc := "(I)C" } : Jvm.MethodName)) ∈ lw_all := lw_g (lw_at lw_m12 32 rfl) rfl
theorem q2783 : (Jvm.Cond.methodLink "BraidedFerryLaw" (191 : Nat) ({ cls := "BraidedFerryLaw", name := "busiest", desc := "(LBraidedFerry;[J)I" } : Jvm.MethodName)) ∈ lw_all := lw_g (lw_at lw_m12 71 rfl) rfl
theorem q2784 : (Jvm.Cond.static ({ cls := "BraidedFerryLaw", name := "busiest", desc := "(LBraidedFerry;[J)I" } : Jvm.MethodName)) ∈ lw_all := lw_g (lw_at lw_m12 72 rfl) rfl
theorem q2785 : (Jvm.Cond.codeWith ({ cls := "BraidedFerryLaw", name := "busiest", desc := "(LBraidedFerry;[J)I" } : Jvm.MethodName) method_20_code (3 : Nat) (Option.some Jvm.ClassFile.FieldType.int) [((0 : Nat), (8 : Nat), (11 : Nat), (76 : Nat))]) ∈ lw_all := lw_g (lw_at lw_m12 73 rfl) rfl
theorem q2786 : (Jvm.Cond.classLink "BraidedFerryLaw" (76 : Nat) "java/util/NoSuchElementException") ∈ lw_all := lw_g (lw_at lw_m12 74 rfl) rfl
theorem q2787 : (Jvm.Cond.methodLink "BraidedFerryLaw" (72 : Nat) ({ cls := "BraidedFerry", name := "busiest", desc := "()I" } : Jvm.MethodName)) ∈ lw_all := lw_g (lw_at lw_m12 75 rfl) rfl
theorem q2809 : (Jvm.Cond.methodLink "BraidedFerryLaw" (195 : Nat) ({ cls := "BraidedFerryLaw", name := "rope", desc := "(LBraidedFerry;I[J)I" } : Jvm.MethodName)) ∈ lw_all := lw_g (lw_at lw_m12 97 rfl) rfl
theorem q2810 : (Jvm.Cond.static ({ cls := "BraidedFerryLaw", name := "rope", desc := "(LBraidedFerry;I[J)I" } : Jvm.MethodName)) ∈ lw_all := lw_g (lw_at lw_m12 98 rfl) rfl
theorem q2811 : (Jvm.Cond.codeWith ({ cls := "BraidedFerryLaw", name := "rope", desc := "(LBraidedFerry;I[J)I" } : Jvm.MethodName) method_21_code (4 : Nat) (Option.some Jvm.ClassFile.FieldType.int) [((0 : Nat), (9 : Nat), (12 : Nat), (13 : Nat))]) ∈ lw_all := lw_g (lw_at lw_m12 99 rfl) rfl
theorem q2812 : (Jvm.Cond.methodLink "BraidedFerryLaw" (78 : Nat) ({ cls := "BraidedFerry", name := "rope", desc := "(I)I" } : Jvm.MethodName)) ∈ lw_all := lw_g (lw_at lw_m12 100 rfl) rfl
theorem q2826 : (Jvm.Cond.methodLink "BraidedFerryLaw" (198 : Nat) ({ cls := "BraidedFerryLaw", name := "cross", desc := "(LBraidedFerry;Z[J)I" } : Jvm.MethodName)) ∈ lw_all := lw_g (lw_at lw_m12 114 rfl) rfl
theorem q2827 : (Jvm.Cond.static ({ cls := "BraidedFerryLaw", name := "cross", desc := "(LBraidedFerry;Z[J)I" } : Jvm.MethodName)) ∈ lw_all := lw_g (lw_at lw_m12 115 rfl) rfl
theorem q2828 : (Jvm.Cond.codeWith ({ cls := "BraidedFerryLaw", name := "cross", desc := "(LBraidedFerry;Z[J)I" } : Jvm.MethodName) method_22_code (4 : Nat) (Option.some Jvm.ClassFile.FieldType.int) [((0 : Nat), (9 : Nat), (12 : Nat), (15 : Nat))]) ∈ lw_all := lw_g (lw_at lw_m12 116 rfl) rfl
theorem q2829 : (Jvm.Cond.methodLink "BraidedFerryLaw" (81 : Nat) ({ cls := "BraidedFerry", name := "cross", desc := "(Z)I" } : Jvm.MethodName)) ∈ lw_all := lw_g (lw_at lw_m12 117 rfl) rfl
theorem q2843 : (Jvm.Cond.methodLink "BraidedFerryLaw" (207 : Nat) ({ cls := "BraidedFerryLaw", name := "pass", desc := "(LBraidedFerry;I[J)I" } : Jvm.MethodName)) ∈ lw_all := lw_g (lw_at lw_m12 131 rfl) rfl
theorem q2844 : (Jvm.Cond.static ({ cls := "BraidedFerryLaw", name := "pass", desc := "(LBraidedFerry;I[J)I" } : Jvm.MethodName)) ∈ lw_all := lw_g (lw_at lw_m12 132 rfl) rfl
theorem q2845 : (Jvm.Cond.codeWith ({ cls := "BraidedFerryLaw", name := "pass", desc := "(LBraidedFerry;I[J)I" } : Jvm.MethodName) method_23_code (4 : Nat) (Option.some Jvm.ClassFile.FieldType.int) [((0 : Nat), (9 : Nat), (12 : Nat), (13 : Nat)), ((0 : Nat), (9 : Nat), (15 : Nat), (15 : Nat))]) ∈ lw_all := lw_g (lw_at lw_m12 133 rfl) rfl
theorem q2846 : (Jvm.Cond.methodLink "BraidedFerryLaw" (85 : Nat) ({ cls := "BraidedFerry", name := "pass", desc := "(I)I" } : Jvm.MethodName)) ∈ lw_all := lw_g (lw_at lw_m12 134 rfl) rfl
theorem q2858 : (Jvm.Cond.methodLink "BraidedFerryLaw" (210 : Nat) ({ cls := "BraidedFerryLaw", name := "number", desc := "(LBraidedFerry;I[J)I" } : Jvm.MethodName)) ∈ lw_all := lw_g (lw_at lw_m12 146 rfl) rfl
theorem q2859 : (Jvm.Cond.static ({ cls := "BraidedFerryLaw", name := "number", desc := "(LBraidedFerry;I[J)I" } : Jvm.MethodName)) ∈ lw_all := lw_g (lw_at lw_m12 147 rfl) rfl
theorem q2860 : (Jvm.Cond.codeWith ({ cls := "BraidedFerryLaw", name := "number", desc := "(LBraidedFerry;I[J)I" } : Jvm.MethodName) method_24_code (4 : Nat) (Option.some Jvm.ClassFile.FieldType.int) [((0 : Nat), (9 : Nat), (12 : Nat), (13 : Nat))]) ∈ lw_all := lw_g (lw_at lw_m12 148 rfl) rfl
theorem q2861 : (Jvm.Cond.methodLink "BraidedFerryLaw" (88 : Nat) ({ cls := "BraidedFerry", name := "number", desc := "(I)I" } : Jvm.MethodName)) ∈ lw_all := lw_g (lw_at lw_m12 149 rfl) rfl
theorem q2873 : (Jvm.Cond.methodLink "BraidedFerryLaw" (213 : Nat) ({ cls := "BraidedFerryLaw", name := "meanFare", desc := "(LBraidedFerry;[D)I" } : Jvm.MethodName)) ∈ lw_all := lw_g (lw_at lw_m12 161 rfl) rfl
theorem q2874 : (Jvm.Cond.static ({ cls := "BraidedFerryLaw", name := "meanFare", desc := "(LBraidedFerry;[D)I" } : Jvm.MethodName)) ∈ lw_all := lw_g (lw_at lw_m12 162 rfl) rfl
theorem q2875 : (Jvm.Cond.codeWith ({ cls := "BraidedFerryLaw", name := "meanFare", desc := "(LBraidedFerry;[D)I" } : Jvm.MethodName) method_25_code (3 : Nat) (Option.some Jvm.ClassFile.FieldType.int) [((0 : Nat), (7 : Nat), (10 : Nat), (95 : Nat))]) ∈ lw_all := lw_g (lw_at lw_m12 163 rfl) rfl
theorem q2876 : (Jvm.Cond.classLink "BraidedFerryLaw" (95 : Nat) "java/lang/ArithmeticException") ∈ lw_all := lw_g (lw_at lw_m12 164 rfl) rfl
theorem q2890 : (Jvm.Cond.methodLink "BraidedFerryLaw" (91 : Nat) ({ cls := "BraidedFerry", name := "meanFare", desc := "()D" } : Jvm.MethodName)) ∈ lw_all := lw_g (lw_at lw_m12 178 rfl) rfl
theorem q2899 : (Jvm.Cond.methodLink "BraidedFerryLaw" (217 : Nat) ({ cls := "BraidedFerryLaw", name := "fore", desc := "(LBraidedFerry;[D)I" } : Jvm.MethodName)) ∈ lw_all := lw_g (lw_at lw_m12 187 rfl) rfl
theorem q2900 : (Jvm.Cond.static ({ cls := "BraidedFerryLaw", name := "fore", desc := "(LBraidedFerry;[D)I" } : Jvm.MethodName)) ∈ lw_all := lw_g (lw_at lw_m12 188 rfl) rfl
theorem q2901 : (Jvm.Cond.codeWith ({ cls := "BraidedFerryLaw", name := "fore", desc := "(LBraidedFerry;[D)I" } : Jvm.MethodName) method_26_code (3 : Nat) (Option.some Jvm.ClassFile.FieldType.int) [((0 : Nat), (8 : Nat), (11 : Nat), (95 : Nat))]) ∈ lw_all := lw_g (lw_at lw_m12 189 rfl) rfl
theorem q2902 : (Jvm.Cond.methodLink "BraidedFerryLaw" (97 : Nat) ({ cls := "BraidedFerry", name := "fore", desc := "()F" } : Jvm.MethodName)) ∈ lw_all := lw_g (lw_at lw_m12 190 rfl) rfl
theorem q2907 : (Jvm.Cond.methodLink "BraidedFerryLaw" (220 : Nat) ({ cls := "BraidedFerryLaw", name := "feed", desc := "(LBraidedFerry;C[J)I" } : Jvm.MethodName)) ∈ lw_all := lw_g (lw_at lw_m12 195 rfl) rfl
theorem q2908 : (Jvm.Cond.static ({ cls := "BraidedFerryLaw", name := "feed", desc := "(LBraidedFerry;C[J)I" } : Jvm.MethodName)) ∈ lw_all := lw_g (lw_at lw_m12 196 rfl) rfl
theorem q2909 : (Jvm.Cond.codeWith ({ cls := "BraidedFerryLaw", name := "feed", desc := "(LBraidedFerry;C[J)I" } : Jvm.MethodName) method_27_code (4 : Nat) (Option.some Jvm.ClassFile.FieldType.int) [((0 : Nat), (9 : Nat), (12 : Nat), (105 : Nat))]) ∈ lw_all := lw_g (lw_at lw_m12 197 rfl) rfl
theorem q2910 : (Jvm.Cond.classLink "BraidedFerryLaw" (105 : Nat) "java/lang/IllegalStateException") ∈ lw_all := lw_g (lw_at lw_m12 198 rfl) rfl
theorem q2911 : (Jvm.Cond.methodLink "BraidedFerryLaw" (101 : Nat) ({ cls := "BraidedFerry", name := "feed", desc := "(C)I" } : Jvm.MethodName)) ∈ lw_all := lw_g (lw_at lw_m12 199 rfl) rfl
theorem q2933 : (Jvm.Cond.methodLink "BraidedFerryLaw" (224 : Nat) ({ cls := "BraidedFerryLaw", name := "read", desc := "(LBraidedFerry;[J)I" } : Jvm.MethodName)) ∈ lw_all := lw_g (lw_at lw_m12 221 rfl) rfl
theorem q2934 : (Jvm.Cond.static ({ cls := "BraidedFerryLaw", name := "read", desc := "(LBraidedFerry;[J)I" } : Jvm.MethodName)) ∈ lw_all := lw_g (lw_at lw_m12 222 rfl) rfl
theorem q2935 : (Jvm.Cond.codeWith ({ cls := "BraidedFerryLaw", name := "read", desc := "(LBraidedFerry;[J)I" } : Jvm.MethodName) method_28_code (3 : Nat) (Option.some Jvm.ClassFile.FieldType.int) [((0 : Nat), (8 : Nat), (11 : Nat), (13 : Nat)), ((0 : Nat), (8 : Nat), (14 : Nat), (15 : Nat))]) ∈ lw_all := lw_g (lw_at lw_m12 223 rfl) rfl
theorem q2936 : (Jvm.Cond.methodLink "BraidedFerryLaw" (107 : Nat) ({ cls := "BraidedFerry", name := "read", desc := "()I" } : Jvm.MethodName)) ∈ lw_all := lw_g (lw_at lw_m12 224 rfl) rfl
theorem q3203 : (Jvm.Cond.methodLink "BraidedFerryLaw" (227 : Nat) ({ cls := "BraidedFerryLaw", name := "faultPosition", desc := "(LBraidedFerry;[J)I" } : Jvm.MethodName)) ∈ lw_all := lw_g (lw_at lw_m14 11 rfl) rfl
theorem q3204 : (Jvm.Cond.static ({ cls := "BraidedFerryLaw", name := "faultPosition", desc := "(LBraidedFerry;[J)I" } : Jvm.MethodName)) ∈ lw_all := lw_g (lw_at lw_m14 12 rfl) rfl
theorem q3205 : (Jvm.Cond.codeWith ({ cls := "BraidedFerryLaw", name := "faultPosition", desc := "(LBraidedFerry;[J)I" } : Jvm.MethodName) method_29_code (3 : Nat) (Option.some Jvm.ClassFile.FieldType.int) [((0 : Nat), (8 : Nat), (11 : Nat), (76 : Nat))]) ∈ lw_all := lw_g (lw_at lw_m14 13 rfl) rfl
theorem q3206 : (Jvm.Cond.methodLink "BraidedFerryLaw" (110 : Nat) ({ cls := "BraidedFerry", name := "faultPosition", desc := "()I" } : Jvm.MethodName)) ∈ lw_all := lw_g (lw_at lw_m14 14 rfl) rfl
theorem q3210 : (Jvm.Cond.methodLink "BraidedFerryLaw" (230 : Nat) ({ cls := "BraidedFerryLaw", name := "refusal", desc := "(LBraidedFerry;Z[J)I" } : Jvm.MethodName)) ∈ lw_all := lw_g (lw_at lw_m14 18 rfl) rfl
theorem q3211 : (Jvm.Cond.static ({ cls := "BraidedFerryLaw", name := "refusal", desc := "(LBraidedFerry;Z[J)I" } : Jvm.MethodName)) ∈ lw_all := lw_g (lw_at lw_m14 19 rfl) rfl
theorem q3212 : (Jvm.Cond.codeWith ({ cls := "BraidedFerryLaw", name := "refusal", desc := "(LBraidedFerry;Z[J)I" } : Jvm.MethodName) method_30_code (4 : Nat) (Option.some Jvm.ClassFile.FieldType.int) [((0 : Nat), (9 : Nat), (12 : Nat), (76 : Nat))]) ∈ lw_all := lw_g (lw_at lw_m14 20 rfl) rfl
theorem q3213 : (Jvm.Cond.methodLink "BraidedFerryLaw" (113 : Nat) ({ cls := "BraidedFerry", name := "refusal", desc := "(Z)I" } : Jvm.MethodName)) ∈ lw_all := lw_g (lw_at lw_m14 21 rfl) rfl
theorem q3217 : (Jvm.Cond.methodLink "BraidedFerryLaw" (233 : Nat) ({ cls := "BraidedFerryLaw", name := "undo", desc := "(LBraidedFerry;[J)I" } : Jvm.MethodName)) ∈ lw_all := lw_g (lw_at lw_m14 25 rfl) rfl
theorem q3218 : (Jvm.Cond.static ({ cls := "BraidedFerryLaw", name := "undo", desc := "(LBraidedFerry;[J)I" } : Jvm.MethodName)) ∈ lw_all := lw_g (lw_at lw_m14 26 rfl) rfl
theorem q3219 : (Jvm.Cond.codeWith ({ cls := "BraidedFerryLaw", name := "undo", desc := "(LBraidedFerry;[J)I" } : Jvm.MethodName) method_31_code (3 : Nat) (Option.some Jvm.ClassFile.FieldType.int) [((0 : Nat), (8 : Nat), (11 : Nat), (105 : Nat))]) ∈ lw_all := lw_g (lw_at lw_m14 27 rfl) rfl
theorem q3220 : (Jvm.Cond.methodLink "BraidedFerryLaw" (116 : Nat) ({ cls := "BraidedFerry", name := "undo", desc := "()I" } : Jvm.MethodName)) ∈ lw_all := lw_g (lw_at lw_m14 28 rfl) rfl
theorem q3243 : (Jvm.Cond.methodLink "BraidedFerryLaw" (240 : Nat) ({ cls := "BraidedFerryLaw", name := "restoreSnapshot", desc := "(LBraidedFerry;[J)I" } : Jvm.MethodName)) ∈ lw_all := lw_g (lw_at lw_m14 51 rfl) rfl
theorem q3244 : (Jvm.Cond.static ({ cls := "BraidedFerryLaw", name := "restoreSnapshot", desc := "(LBraidedFerry;[J)I" } : Jvm.MethodName)) ∈ lw_all := lw_g (lw_at lw_m14 52 rfl) rfl
theorem q3245 : (Jvm.Cond.codeWith ({ cls := "BraidedFerryLaw", name := "restoreSnapshot", desc := "(LBraidedFerry;[J)I" } : Jvm.MethodName) method_32_code (3 : Nat) (Option.some Jvm.ClassFile.FieldType.int) [((0 : Nat), (8 : Nat), (11 : Nat), (105 : Nat))]) ∈ lw_all := lw_g (lw_at lw_m14 53 rfl) rfl
theorem q3246 : (Jvm.Cond.methodLink "BraidedFerryLaw" (119 : Nat) ({ cls := "BraidedFerry", name := "restoreSnapshot", desc := "()I" } : Jvm.MethodName)) ∈ lw_all := lw_g (lw_at lw_m14 54 rfl) rfl
theorem q3257 : (Jvm.Cond.classLink "BraidedFerryLaw" (123 : Nat) "BraidedFerryModel") ∈ lw_all := lw_g (lw_at lw_m14 65 rfl) rfl
theorem q3259 : (Jvm.Cond.methodLink "BraidedFerryLaw" (125 : Nat) ({ cls := "BraidedFerryModel", name := "<init>", desc := "()V" } : Jvm.MethodName)) ∈ lw_all := lw_g (lw_at lw_m14 67 rfl) rfl
theorem q3335 : (Jvm.Cond.methodLink "BraidedFerryLaw" (132 : Nat) ({ cls := "BraidedFerryModel", name := "thrown", desc := "()I" } : Jvm.MethodName)) ∈ lw_all := lw_g (lw_at lw_m14 143 rfl) rfl
theorem q3339 : (Jvm.Cond.methodLink "BraidedFerryLaw" (131 : Nat) ({ cls := "BraidedFerryModel", name := "channel", desc := "(III)I" } : Jvm.MethodName)) ∈ lw_all := lw_g (lw_at lw_m14 147 rfl) rfl
theorem q3366 : (Jvm.Cond.methodLink "BraidedFerryLaw" (138 : Nat) ({ cls := "BraidedFerryModel", name := "split", desc := "(II)I" } : Jvm.MethodName)) ∈ lw_all := lw_g (lw_at lw_m14 174 rfl) rfl
theorem q3381 : (Jvm.Cond.methodLink "BraidedFerryLaw" (141 : Nat) ({ cls := "BraidedFerryModel", name := "shift", desc := "(II)I" } : Jvm.MethodName)) ∈ lw_all := lw_g (lw_at lw_m14 189 rfl) rfl
theorem q3385 : (Jvm.Cond.methodLink "BraidedFerryLaw" (144 : Nat) ({ cls := "BraidedFerryModel", name := "channelOf", desc := "(II)I" } : Jvm.MethodName)) ∈ lw_all := lw_g (lw_at lw_m14 193 rfl) rfl
theorem q3406 : (Jvm.Cond.methodLink "BraidedFerryLaw" (147 : Nat) ({ cls := "BraidedFerryModel", name := "flood", desc := "(III)I" } : Jvm.MethodName)) ∈ lw_all := lw_g (lw_at lw_m14 214 rfl) rfl
theorem q3410 : (Jvm.Cond.methodLink "BraidedFerryLaw" (150 : Nat) ({ cls := "BraidedFerryModel", name := "flow", desc := "(II)I" } : Jvm.MethodName)) ∈ lw_all := lw_g (lw_at lw_m14 218 rfl) rfl
theorem q3414 : (Jvm.Cond.methodLink "BraidedFerryLaw" (153 : Nat) ({ cls := "BraidedFerryModel", name := "anchor", desc := "(II)I" } : Jvm.MethodName)) ∈ lw_all := lw_g (lw_at lw_m14 222 rfl) rfl
theorem q3426 : (Jvm.Cond.methodLink "BraidedFerryLaw" (157 : Nat) ({ cls := "BraidedFerryModel", name := "weigh", desc := "(I)I" } : Jvm.MethodName)) ∈ lw_all := lw_g (lw_at lw_m14 234 rfl) rfl
theorem q3438 : (Jvm.Cond.methodLink "BraidedFerryLaw" (160 : Nat) ({ cls := "BraidedFerryModel", name := "anchorOf", desc := "(II)I" } : Jvm.MethodName)) ∈ lw_all := lw_g (lw_at lw_m15 6 rfl) rfl
theorem q3461 : (Jvm.Cond.methodLink "BraidedFerryLaw" (163 : Nat) ({ cls := "BraidedFerryModel", name := "dragIn", desc := "(II)I" } : Jvm.MethodName)) ∈ lw_all := lw_g (lw_at lw_m15 29 rfl) rfl
theorem q3469 : (Jvm.Cond.methodLink "BraidedFerryLaw" (166 : Nat) ({ cls := "BraidedFerryModel", name := "dragAgain", desc := "(II)I" } : Jvm.MethodName)) ∈ lw_all := lw_g (lw_at lw_m15 37 rfl) rfl
theorem q3474 : (Jvm.Cond.methodLink "BraidedFerryLaw" (170 : Nat) ({ cls := "BraidedFerryModel", name := "come", desc := "(IIII)I" } : Jvm.MethodName)) ∈ lw_all := lw_g (lw_at lw_m15 42 rfl) rfl
theorem q3489 : (Jvm.Cond.methodLink "BraidedFerryLaw" (173 : Nat) ({ cls := "BraidedFerryModel", name := "group", desc := "(IIII)I" } : Jvm.MethodName)) ∈ lw_all := lw_g (lw_at lw_m15 57 rfl) rfl
theorem q3493 : (Jvm.Cond.methodLink "BraidedFerryLaw" (177 : Nat) ({ cls := "BraidedFerryModel", name := "board", desc := "(IIIZ)I" } : Jvm.MethodName)) ∈ lw_all := lw_g (lw_at lw_m15 61 rfl) rfl
theorem q3501 : (Jvm.Cond.methodLink "BraidedFerryLaw" (181 : Nat) ({ cls := "BraidedFerryModel", name := "land", desc := "()I" } : Jvm.MethodName)) ∈ lw_all := lw_g (lw_at lw_m15 69 rfl) rfl
theorem q3510 : (Jvm.Cond.methodLink "BraidedFerryLaw" (184 : Nat) ({ cls := "BraidedFerryModel", name := "fare", desc := "(II)I" } : Jvm.MethodName)) ∈ lw_all := lw_g (lw_at lw_m15 78 rfl) rfl
theorem q3514 : (Jvm.Cond.methodLink "BraidedFerryLaw" (187 : Nat) ({ cls := "BraidedFerryModel", name := "line", desc := "(I)I" } : Jvm.MethodName)) ∈ lw_all := lw_g (lw_at lw_m15 82 rfl) rfl
theorem q3536 : (Jvm.Cond.methodLink "BraidedFerryLaw" (190 : Nat) ({ cls := "BraidedFerryModel", name := "character", desc := "(I)C" } : Jvm.MethodName)) ∈ lw_all := lw_g (lw_at lw_m15 104 rfl) rfl
theorem q3540 : (Jvm.Cond.methodLink "BraidedFerryLaw" (194 : Nat) ({ cls := "BraidedFerryModel", name := "busiest", desc := "()I" } : Jvm.MethodName)) ∈ lw_all := lw_g (lw_at lw_m15 108 rfl) rfl
theorem q3544 : (Jvm.Cond.methodLink "BraidedFerryLaw" (197 : Nat) ({ cls := "BraidedFerryModel", name := "rope", desc := "(I)I" } : Jvm.MethodName)) ∈ lw_all := lw_g (lw_at lw_m15 112 rfl) rfl
theorem q3548 : (Jvm.Cond.methodLink "BraidedFerryLaw" (201 : Nat) ({ cls := "BraidedFerryModel", name := "cross", desc := "(Z)I" } : Jvm.MethodName)) ∈ lw_all := lw_g (lw_at lw_m15 116 rfl) rfl
theorem q3564 : (Jvm.Cond.methodLink "BraidedFerryLaw" (206 : Nat) ({ cls := "BraidedFerryModel", name := "why", desc := "(ZZ)I" } : Jvm.MethodName)) ∈ lw_all := lw_g (lw_at lw_m15 132 rfl) rfl
theorem q3568 : (Jvm.Cond.methodLink "BraidedFerryLaw" (209 : Nat) ({ cls := "BraidedFerryModel", name := "pass", desc := "(I)I" } : Jvm.MethodName)) ∈ lw_all := lw_g (lw_at lw_m15 136 rfl) rfl
theorem q3576 : (Jvm.Cond.methodLink "BraidedFerryLaw" (212 : Nat) ({ cls := "BraidedFerryModel", name := "number", desc := "(I)I" } : Jvm.MethodName)) ∈ lw_all := lw_g (lw_at lw_m15 144 rfl) rfl
theorem q3584 : (Jvm.Cond.methodLink "BraidedFerryLaw" (216 : Nat) ({ cls := "BraidedFerryModel", name := "meanFare", desc := "()D" } : Jvm.MethodName)) ∈ lw_all := lw_g (lw_at lw_m15 152 rfl) rfl
theorem q3588 : (Jvm.Cond.methodLink "BraidedFerryLaw" (219 : Nat) ({ cls := "BraidedFerryModel", name := "fore", desc := "()F" } : Jvm.MethodName)) ∈ lw_all := lw_g (lw_at lw_m15 156 rfl) rfl
theorem q3592 : (Jvm.Cond.methodLink "BraidedFerryLaw" (223 : Nat) ({ cls := "BraidedFerryModel", name := "feed", desc := "(C)I" } : Jvm.MethodName)) ∈ lw_all := lw_g (lw_at lw_m15 160 rfl) rfl
theorem q3596 : (Jvm.Cond.methodLink "BraidedFerryLaw" (226 : Nat) ({ cls := "BraidedFerryModel", name := "read", desc := "()I" } : Jvm.MethodName)) ∈ lw_all := lw_g (lw_at lw_m15 164 rfl) rfl
theorem q3633 : (Jvm.Cond.methodLink "BraidedFerryLaw" (229 : Nat) ({ cls := "BraidedFerryModel", name := "faultPosition", desc := "()I" } : Jvm.MethodName)) ∈ lw_all := lw_g (lw_at lw_m15 201 rfl) rfl
theorem q3637 : (Jvm.Cond.methodLink "BraidedFerryLaw" (232 : Nat) ({ cls := "BraidedFerryModel", name := "refusal", desc := "(Z)I" } : Jvm.MethodName)) ∈ lw_all := lw_g (lw_at lw_m15 205 rfl) rfl
theorem q3641 : (Jvm.Cond.methodLink "BraidedFerryLaw" (235 : Nat) ({ cls := "BraidedFerryModel", name := "undo", desc := "()I" } : Jvm.MethodName)) ∈ lw_all := lw_g (lw_at lw_m15 209 rfl) rfl
theorem q3645 : (Jvm.Cond.methodLink "BraidedFerryLaw" (239 : Nat) ({ cls := "BraidedFerryModel", name := "saveSnapshot", desc := "()I" } : Jvm.MethodName)) ∈ lw_all := lw_g (lw_at lw_m15 213 rfl) rfl
theorem q3649 : (Jvm.Cond.methodLink "BraidedFerryLaw" (242 : Nat) ({ cls := "BraidedFerryModel", name := "restoreSnapshot", desc := "()I" } : Jvm.MethodName)) ∈ lw_all := lw_g (lw_at lw_m15 217 rfl) rfl

