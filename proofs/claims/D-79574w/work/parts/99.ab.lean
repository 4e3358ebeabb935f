/-! jdk/internal/util/ArraysSupport -/
set_option maxRecDepth 100000
def RJ17 : String := "jdk/internal/util/ArraysSupport"
abbrev cJ17_newLength : ByteArray := prog_94_method_27_code
def yJ17_newLength : MethodName := ⟨RJ17, "newLength", "(III)I"⟩
def dkwJ17_newLength_1 : List UInt8 := [184, 0, 201, 172]
abbrev dktJ17_newLength_1 : List UInt8 := dkwJ17_newLength_1 ++ []
def dkwJ17_newLength_0 : List UInt8 := [26, 27, 28, 184, 0, 194, 96, 62, 3, 29, 162, 0, 11, 29, 18, 200, 163, 0, 5, 29, 172, 26, 27]
abbrev dktJ17_newLength_0 : List UInt8 := dkwJ17_newLength_0 ++ dktJ17_newLength_1
theorem dksJ17_newLength_0 : cJ17_newLength.data.toList.drop 0 = dktJ17_newLength_0 := by decide +kernel
theorem dksJ17_newLength_1 : cJ17_newLength.data.toList.drop 23 = dktJ17_newLength_1 := dk_seg dksJ17_newLength_0 23 rfl rfl
theorem dJ17_newLength_0 : decode cJ17_newLength 0 = .ok (.iload_n 0, 1) := dk_26 (dk_at dksJ17_newLength_0 0 rfl rfl)
theorem dJ17_newLength_1 : decode cJ17_newLength 1 = .ok (.iload_n 1, 1) := dk_27 (dk_at dksJ17_newLength_0 1 rfl rfl)
theorem dJ17_newLength_2 : decode cJ17_newLength 2 = .ok (.iload_n 2, 1) := dk_28 (dk_at dksJ17_newLength_0 2 rfl rfl)
theorem dJ17_newLength_3 : decode cJ17_newLength 3 = .ok (.invokestatic 194, 3) := dk_184 0 194 (dk_at dksJ17_newLength_0 3 rfl rfl)
theorem dJ17_newLength_6 : decode cJ17_newLength 6 = .ok (.iadd, 1) := dk_96 (dk_at dksJ17_newLength_0 6 rfl rfl)
theorem dJ17_newLength_7 : decode cJ17_newLength 7 = .ok (.istore_n 3, 1) := dk_62 (dk_at dksJ17_newLength_0 7 rfl rfl)
theorem dJ17_newLength_8 : decode cJ17_newLength 8 = .ok (.iconst 0, 1) := dk_3 (dk_at dksJ17_newLength_0 8 rfl rfl)
theorem dJ17_newLength_9 : decode cJ17_newLength 9 = .ok (.iload_n 3, 1) := dk_29 (dk_at dksJ17_newLength_0 9 rfl rfl)
theorem dJ17_newLength_10 : decode cJ17_newLength 10 = .ok (.if_icmp .ge 11, 3) := dk_162 0 11 (dk_at dksJ17_newLength_0 10 rfl rfl)
theorem dJ17_newLength_13 : decode cJ17_newLength 13 = .ok (.iload_n 3, 1) := dk_29 (dk_at dksJ17_newLength_0 13 rfl rfl)
theorem dJ17_newLength_14 : decode cJ17_newLength 14 = .ok (.ldc 200, 2) := dk_18 200 (dk_at dksJ17_newLength_0 14 rfl rfl)
theorem dJ17_newLength_16 : decode cJ17_newLength 16 = .ok (.if_icmp .gt 5, 3) := dk_163 0 5 (dk_at dksJ17_newLength_0 16 rfl rfl)
theorem dJ17_newLength_19 : decode cJ17_newLength 19 = .ok (.iload_n 3, 1) := dk_29 (dk_at dksJ17_newLength_0 19 rfl rfl)
theorem dJ17_newLength_20 : decode cJ17_newLength 20 = .ok (.ireturn, 1) := dk_172 (dk_at dksJ17_newLength_0 20 rfl rfl)
theorem dJ17_newLength_21 : decode cJ17_newLength 21 = .ok (.iload_n 0, 1) := dk_26 (dk_at dksJ17_newLength_0 21 rfl rfl)
theorem dJ17_newLength_22 : decode cJ17_newLength 22 = .ok (.iload_n 1, 1) := dk_27 (dk_at dksJ17_newLength_0 22 rfl rfl)
theorem dJ17_newLength_23 : decode cJ17_newLength 23 = .ok (.invokestatic 201, 3) := dk_184 0 201 (dk_at dksJ17_newLength_1 0 rfl rfl)
theorem dJ17_newLength_26 : decode cJ17_newLength 26 = .ok (.ireturn, 1) := dk_172 (dk_at dksJ17_newLength_1 3 rfl rfl)
abbrev cJ17_hugeLength : ByteArray := prog_94_method_28_code
def yJ17_hugeLength : MethodName := ⟨RJ17, "hugeLength", "(II)I"⟩
def dkwJ17_hugeLength_2 : List UInt8 := [191, 28, 18, 200, 163, 0, 6, 18, 200, 172, 28, 172]
abbrev dktJ17_hugeLength_2 : List UInt8 := dkwJ17_hugeLength_2 ++ []
def dkwJ17_hugeLength_1 : List UInt8 := [26, 182, 0, 98, 18, 208, 182, 0, 94, 27, 182, 0, 98, 18, 210, 182, 0, 94, 182, 0, 101, 183, 0, 212]
abbrev dktJ17_hugeLength_1 : List UInt8 := dkwJ17_hugeLength_1 ++ dktJ17_hugeLength_2
def dkwJ17_hugeLength_0 : List UInt8 := [26, 27, 96, 61, 28, 156, 0, 44, 187, 0, 204, 89, 187, 0, 89, 89, 183, 0, 91, 18, 206, 182, 0, 94]
abbrev dktJ17_hugeLength_0 : List UInt8 := dkwJ17_hugeLength_0 ++ dktJ17_hugeLength_1
theorem dksJ17_hugeLength_0 : cJ17_hugeLength.data.toList.drop 0 = dktJ17_hugeLength_0 := by decide +kernel
theorem dksJ17_hugeLength_1 : cJ17_hugeLength.data.toList.drop 24 = dktJ17_hugeLength_1 := dk_seg dksJ17_hugeLength_0 24 rfl rfl
theorem dksJ17_hugeLength_2 : cJ17_hugeLength.data.toList.drop 48 = dktJ17_hugeLength_2 := dk_seg dksJ17_hugeLength_1 24 rfl rfl
theorem dJ17_hugeLength_0 : decode cJ17_hugeLength 0 = .ok (.iload_n 0, 1) := dk_26 (dk_at dksJ17_hugeLength_0 0 rfl rfl)
theorem dJ17_hugeLength_1 : decode cJ17_hugeLength 1 = .ok (.iload_n 1, 1) := dk_27 (dk_at dksJ17_hugeLength_0 1 rfl rfl)
theorem dJ17_hugeLength_2 : decode cJ17_hugeLength 2 = .ok (.iadd, 1) := dk_96 (dk_at dksJ17_hugeLength_0 2 rfl rfl)
theorem dJ17_hugeLength_3 : decode cJ17_hugeLength 3 = .ok (.istore_n 2, 1) := dk_61 (dk_at dksJ17_hugeLength_0 3 rfl rfl)
theorem dJ17_hugeLength_4 : decode cJ17_hugeLength 4 = .ok (.iload_n 2, 1) := dk_28 (dk_at dksJ17_hugeLength_0 4 rfl rfl)
theorem dJ17_hugeLength_5 : decode cJ17_hugeLength 5 = .ok (.ifCond .ge 44, 3) := dk_156 0 44 (dk_at dksJ17_hugeLength_0 5 rfl rfl)
theorem dJ17_hugeLength_8 : decode cJ17_hugeLength 8 = .ok (.new 204, 3) := dk_187 0 204 (dk_at dksJ17_hugeLength_0 8 rfl rfl)
theorem dJ17_hugeLength_11 : decode cJ17_hugeLength 11 = .ok (.dup, 1) := dk_89 (dk_at dksJ17_hugeLength_0 11 rfl rfl)
theorem dJ17_hugeLength_12 : decode cJ17_hugeLength 12 = .ok (.new 89, 3) := dk_187 0 89 (dk_at dksJ17_hugeLength_0 12 rfl rfl)
theorem dJ17_hugeLength_15 : decode cJ17_hugeLength 15 = .ok (.dup, 1) := dk_89 (dk_at dksJ17_hugeLength_0 15 rfl rfl)
theorem dJ17_hugeLength_16 : decode cJ17_hugeLength 16 = .ok (.invokespecial 91, 3) := dk_183 0 91 (dk_at dksJ17_hugeLength_0 16 rfl rfl)
theorem dJ17_hugeLength_19 : decode cJ17_hugeLength 19 = .ok (.ldc 206, 2) := dk_18 206 (dk_at dksJ17_hugeLength_0 19 rfl rfl)
theorem dJ17_hugeLength_21 : decode cJ17_hugeLength 21 = .ok (.invokevirtual 94, 3) := dk_182 0 94 (dk_at dksJ17_hugeLength_0 21 rfl rfl)
theorem dJ17_hugeLength_24 : decode cJ17_hugeLength 24 = .ok (.iload_n 0, 1) := dk_26 (dk_at dksJ17_hugeLength_1 0 rfl rfl)
theorem dJ17_hugeLength_25 : decode cJ17_hugeLength 25 = .ok (.invokevirtual 98, 3) := dk_182 0 98 (dk_at dksJ17_hugeLength_1 1 rfl rfl)
theorem dJ17_hugeLength_28 : decode cJ17_hugeLength 28 = .ok (.ldc 208, 2) := dk_18 208 (dk_at dksJ17_hugeLength_1 4 rfl rfl)
theorem dJ17_hugeLength_30 : decode cJ17_hugeLength 30 = .ok (.invokevirtual 94, 3) := dk_182 0 94 (dk_at dksJ17_hugeLength_1 6 rfl rfl)
theorem dJ17_hugeLength_33 : decode cJ17_hugeLength 33 = .ok (.iload_n 1, 1) := dk_27 (dk_at dksJ17_hugeLength_1 9 rfl rfl)
theorem dJ17_hugeLength_34 : decode cJ17_hugeLength 34 = .ok (.invokevirtual 98, 3) := dk_182 0 98 (dk_at dksJ17_hugeLength_1 10 rfl rfl)
theorem dJ17_hugeLength_37 : decode cJ17_hugeLength 37 = .ok (.ldc 210, 2) := dk_18 210 (dk_at dksJ17_hugeLength_1 13 rfl rfl)
theorem dJ17_hugeLength_39 : decode cJ17_hugeLength 39 = .ok (.invokevirtual 94, 3) := dk_182 0 94 (dk_at dksJ17_hugeLength_1 15 rfl rfl)
theorem dJ17_hugeLength_42 : decode cJ17_hugeLength 42 = .ok (.invokevirtual 101, 3) := dk_182 0 101 (dk_at dksJ17_hugeLength_1 18 rfl rfl)
theorem dJ17_hugeLength_45 : decode cJ17_hugeLength 45 = .ok (.invokespecial 212, 3) := dk_183 0 212 (dk_at dksJ17_hugeLength_1 21 rfl rfl)
theorem dJ17_hugeLength_48 : decode cJ17_hugeLength 48 = .ok (.athrow, 1) := dk_191 (dk_at dksJ17_hugeLength_2 0 rfl rfl)
theorem dJ17_hugeLength_49 : decode cJ17_hugeLength 49 = .ok (.iload_n 2, 1) := dk_28 (dk_at dksJ17_hugeLength_2 1 rfl rfl)
theorem dJ17_hugeLength_50 : decode cJ17_hugeLength 50 = .ok (.ldc 200, 2) := dk_18 200 (dk_at dksJ17_hugeLength_2 2 rfl rfl)
theorem dJ17_hugeLength_52 : decode cJ17_hugeLength 52 = .ok (.if_icmp .gt 6, 3) := dk_163 0 6 (dk_at dksJ17_hugeLength_2 4 rfl rfl)
theorem dJ17_hugeLength_55 : decode cJ17_hugeLength 55 = .ok (.ldc 200, 2) := dk_18 200 (dk_at dksJ17_hugeLength_2 7 rfl rfl)
theorem dJ17_hugeLength_57 : decode cJ17_hugeLength 57 = .ok (.ireturn, 1) := dk_172 (dk_at dksJ17_hugeLength_2 9 rfl rfl)
theorem dJ17_hugeLength_58 : decode cJ17_hugeLength 58 = .ok (.iload_n 2, 1) := dk_28 (dk_at dksJ17_hugeLength_2 10 rfl rfl)
theorem dJ17_hugeLength_59 : decode cJ17_hugeLength 59 = .ok (.ireturn, 1) := dk_172 (dk_at dksJ17_hugeLength_2 11 rfl rfl)
abbrev cJ17_vectorizedHashCode : ByteArray := prog_94_method_4_code
def yJ17_vectorizedHashCode : MethodName := ⟨RJ17, "vectorizedHashCode", "(Ljava/lang/Object;IIII)I"⟩
def dkwJ17_vectorizedHashCode_6 : List UInt8 := [183, 0, 91, 18, 92, 182, 0, 94, 21, 4, 182, 0, 98, 182, 0, 101, 183, 0, 105, 191, 172]
abbrev dktJ17_vectorizedHashCode_6 : List UInt8 := dkwJ17_vectorizedHashCode_6 ++ []
def dkwJ17_vectorizedHashCode_5 : List UInt8 := [167, 0, 44, 29, 42, 192, 0, 82, 27, 28, 184, 0, 84, 167, 0, 31, 187, 0, 87, 89, 187, 0, 89, 89]
abbrev dktJ17_vectorizedHashCode_5 : List UInt8 := dkwJ17_vectorizedHashCode_5 ++ dktJ17_vectorizedHashCode_6
def dkwJ17_vectorizedHashCode_4 : List UInt8 := [29, 42, 192, 0, 60, 27, 28, 184, 0, 75, 167, 0, 57, 29, 42, 192, 0, 77, 27, 28, 184, 0, 79]
abbrev dktJ17_vectorizedHashCode_4 : List UInt8 := dkwJ17_vectorizedHashCode_4 ++ dktJ17_vectorizedHashCode_5
def dkwJ17_vectorizedHashCode_3 : List UInt8 := [192, 0, 60, 27, 28, 184, 0, 66, 167, 0, 83, 29, 42, 192, 0, 69, 27, 28, 184, 0, 71, 167, 0, 70]
abbrev dktJ17_vectorizedHashCode_3 : List UInt8 := dkwJ17_vectorizedHashCode_3 ++ dktJ17_vectorizedHashCode_4
def dkwJ17_vectorizedHashCode_2 : List UInt8 := [29, 42, 192, 0, 60, 27, 28, 184, 0, 62, 167, 0, 103, 42, 193, 0, 60, 153, 0, 16, 29, 42]
abbrev dktJ17_vectorizedHashCode_2 : List UInt8 := dkwJ17_vectorizedHashCode_2 ++ dktJ17_vectorizedHashCode_3
def dkwJ17_vectorizedHashCode_1 : List UInt8 := [170, 0, 0, 0, 0, 127, 0, 0, 0, 4, 0, 0, 0, 10, 0, 0, 0, 42, 0, 0, 0, 55, 0, 0, 0, 127, 0, 0, 0, 127, 0, 0, 0, 88, 0, 0, 0, 101, 0, 0, 0, 114]
abbrev dktJ17_vectorizedHashCode_1 : List UInt8 := dkwJ17_vectorizedHashCode_1 ++ dktJ17_vectorizedHashCode_2
def dkwJ17_vectorizedHashCode_0 : List UInt8 := [21, 4]
abbrev dktJ17_vectorizedHashCode_0 : List UInt8 := dkwJ17_vectorizedHashCode_0 ++ dktJ17_vectorizedHashCode_1
theorem dksJ17_vectorizedHashCode_0 : cJ17_vectorizedHashCode.data.toList.drop 0 = dktJ17_vectorizedHashCode_0 := by decide +kernel
theorem dksJ17_vectorizedHashCode_1 : cJ17_vectorizedHashCode.data.toList.drop 2 = dktJ17_vectorizedHashCode_1 := dk_seg dksJ17_vectorizedHashCode_0 2 rfl rfl
theorem dksJ17_vectorizedHashCode_2 : cJ17_vectorizedHashCode.data.toList.drop 44 = dktJ17_vectorizedHashCode_2 := dk_seg dksJ17_vectorizedHashCode_1 42 rfl rfl
theorem dksJ17_vectorizedHashCode_3 : cJ17_vectorizedHashCode.data.toList.drop 66 = dktJ17_vectorizedHashCode_3 := dk_seg dksJ17_vectorizedHashCode_2 22 rfl rfl
theorem dksJ17_vectorizedHashCode_4 : cJ17_vectorizedHashCode.data.toList.drop 90 = dktJ17_vectorizedHashCode_4 := dk_seg dksJ17_vectorizedHashCode_3 24 rfl rfl
theorem dksJ17_vectorizedHashCode_5 : cJ17_vectorizedHashCode.data.toList.drop 113 = dktJ17_vectorizedHashCode_5 := dk_seg dksJ17_vectorizedHashCode_4 23 rfl rfl
theorem dksJ17_vectorizedHashCode_6 : cJ17_vectorizedHashCode.data.toList.drop 137 = dktJ17_vectorizedHashCode_6 := dk_seg dksJ17_vectorizedHashCode_5 24 rfl rfl
theorem dJ17_vectorizedHashCode_0 : decode cJ17_vectorizedHashCode 0 = .ok (.iload 4, 2) := dk_21 4 (dk_at dksJ17_vectorizedHashCode_0 0 rfl rfl)
theorem dJ17_vectorizedHashCode_2 : decode cJ17_vectorizedHashCode 2 = .ok (.tableswitch 127 4 10 #[42, 55, 127, 127, 88, 101, 114], 42) := by decide +kernel
theorem dJ17_vectorizedHashCode_44 : decode cJ17_vectorizedHashCode 44 = .ok (.iload_n 3, 1) := dk_29 (dk_at dksJ17_vectorizedHashCode_2 0 rfl rfl)
theorem dJ17_vectorizedHashCode_45 : decode cJ17_vectorizedHashCode 45 = .ok (.aload_n 0, 1) := dk_42 (dk_at dksJ17_vectorizedHashCode_2 1 rfl rfl)
theorem dJ17_vectorizedHashCode_46 : decode cJ17_vectorizedHashCode 46 = .ok (.checkcast 60, 3) := dk_192 0 60 (dk_at dksJ17_vectorizedHashCode_2 2 rfl rfl)
theorem dJ17_vectorizedHashCode_49 : decode cJ17_vectorizedHashCode 49 = .ok (.iload_n 1, 1) := dk_27 (dk_at dksJ17_vectorizedHashCode_2 5 rfl rfl)
theorem dJ17_vectorizedHashCode_50 : decode cJ17_vectorizedHashCode 50 = .ok (.iload_n 2, 1) := dk_28 (dk_at dksJ17_vectorizedHashCode_2 6 rfl rfl)
theorem dJ17_vectorizedHashCode_51 : decode cJ17_vectorizedHashCode 51 = .ok (.invokestatic 62, 3) := dk_184 0 62 (dk_at dksJ17_vectorizedHashCode_2 7 rfl rfl)
theorem dJ17_vectorizedHashCode_54 : decode cJ17_vectorizedHashCode 54 = .ok (.goto 103, 3) := dk_167 0 103 (dk_at dksJ17_vectorizedHashCode_2 10 rfl rfl)
theorem dJ17_vectorizedHashCode_57 : decode cJ17_vectorizedHashCode 57 = .ok (.aload_n 0, 1) := dk_42 (dk_at dksJ17_vectorizedHashCode_2 13 rfl rfl)
theorem dJ17_vectorizedHashCode_58 : decode cJ17_vectorizedHashCode 58 = .ok (.instanceof 60, 3) := dk_193 0 60 (dk_at dksJ17_vectorizedHashCode_2 14 rfl rfl)
theorem dJ17_vectorizedHashCode_61 : decode cJ17_vectorizedHashCode 61 = .ok (.ifCond .eq 16, 3) := dk_153 0 16 (dk_at dksJ17_vectorizedHashCode_2 17 rfl rfl)
theorem dJ17_vectorizedHashCode_64 : decode cJ17_vectorizedHashCode 64 = .ok (.iload_n 3, 1) := dk_29 (dk_at dksJ17_vectorizedHashCode_2 20 rfl rfl)
theorem dJ17_vectorizedHashCode_65 : decode cJ17_vectorizedHashCode 65 = .ok (.aload_n 0, 1) := dk_42 (dk_at dksJ17_vectorizedHashCode_2 21 rfl rfl)
theorem dJ17_vectorizedHashCode_66 : decode cJ17_vectorizedHashCode 66 = .ok (.checkcast 60, 3) := dk_192 0 60 (dk_at dksJ17_vectorizedHashCode_3 0 rfl rfl)
theorem dJ17_vectorizedHashCode_69 : decode cJ17_vectorizedHashCode 69 = .ok (.iload_n 1, 1) := dk_27 (dk_at dksJ17_vectorizedHashCode_3 3 rfl rfl)
theorem dJ17_vectorizedHashCode_70 : decode cJ17_vectorizedHashCode 70 = .ok (.iload_n 2, 1) := dk_28 (dk_at dksJ17_vectorizedHashCode_3 4 rfl rfl)
theorem dJ17_vectorizedHashCode_71 : decode cJ17_vectorizedHashCode 71 = .ok (.invokestatic 66, 3) := dk_184 0 66 (dk_at dksJ17_vectorizedHashCode_3 5 rfl rfl)
theorem dJ17_vectorizedHashCode_74 : decode cJ17_vectorizedHashCode 74 = .ok (.goto 83, 3) := dk_167 0 83 (dk_at dksJ17_vectorizedHashCode_3 8 rfl rfl)
theorem dJ17_vectorizedHashCode_77 : decode cJ17_vectorizedHashCode 77 = .ok (.iload_n 3, 1) := dk_29 (dk_at dksJ17_vectorizedHashCode_3 11 rfl rfl)
theorem dJ17_vectorizedHashCode_78 : decode cJ17_vectorizedHashCode 78 = .ok (.aload_n 0, 1) := dk_42 (dk_at dksJ17_vectorizedHashCode_3 12 rfl rfl)
theorem dJ17_vectorizedHashCode_79 : decode cJ17_vectorizedHashCode 79 = .ok (.checkcast 69, 3) := dk_192 0 69 (dk_at dksJ17_vectorizedHashCode_3 13 rfl rfl)
theorem dJ17_vectorizedHashCode_82 : decode cJ17_vectorizedHashCode 82 = .ok (.iload_n 1, 1) := dk_27 (dk_at dksJ17_vectorizedHashCode_3 16 rfl rfl)
theorem dJ17_vectorizedHashCode_83 : decode cJ17_vectorizedHashCode 83 = .ok (.iload_n 2, 1) := dk_28 (dk_at dksJ17_vectorizedHashCode_3 17 rfl rfl)
theorem dJ17_vectorizedHashCode_84 : decode cJ17_vectorizedHashCode 84 = .ok (.invokestatic 71, 3) := dk_184 0 71 (dk_at dksJ17_vectorizedHashCode_3 18 rfl rfl)
theorem dJ17_vectorizedHashCode_87 : decode cJ17_vectorizedHashCode 87 = .ok (.goto 70, 3) := dk_167 0 70 (dk_at dksJ17_vectorizedHashCode_3 21 rfl rfl)
theorem dJ17_vectorizedHashCode_90 : decode cJ17_vectorizedHashCode 90 = .ok (.iload_n 3, 1) := dk_29 (dk_at dksJ17_vectorizedHashCode_4 0 rfl rfl)
theorem dJ17_vectorizedHashCode_91 : decode cJ17_vectorizedHashCode 91 = .ok (.aload_n 0, 1) := dk_42 (dk_at dksJ17_vectorizedHashCode_4 1 rfl rfl)
theorem dJ17_vectorizedHashCode_92 : decode cJ17_vectorizedHashCode 92 = .ok (.checkcast 60, 3) := dk_192 0 60 (dk_at dksJ17_vectorizedHashCode_4 2 rfl rfl)
theorem dJ17_vectorizedHashCode_95 : decode cJ17_vectorizedHashCode 95 = .ok (.iload_n 1, 1) := dk_27 (dk_at dksJ17_vectorizedHashCode_4 5 rfl rfl)
theorem dJ17_vectorizedHashCode_96 : decode cJ17_vectorizedHashCode 96 = .ok (.iload_n 2, 1) := dk_28 (dk_at dksJ17_vectorizedHashCode_4 6 rfl rfl)
theorem dJ17_vectorizedHashCode_97 : decode cJ17_vectorizedHashCode 97 = .ok (.invokestatic 75, 3) := dk_184 0 75 (dk_at dksJ17_vectorizedHashCode_4 7 rfl rfl)
theorem dJ17_vectorizedHashCode_100 : decode cJ17_vectorizedHashCode 100 = .ok (.goto 57, 3) := dk_167 0 57 (dk_at dksJ17_vectorizedHashCode_4 10 rfl rfl)
theorem dJ17_vectorizedHashCode_103 : decode cJ17_vectorizedHashCode 103 = .ok (.iload_n 3, 1) := dk_29 (dk_at dksJ17_vectorizedHashCode_4 13 rfl rfl)
theorem dJ17_vectorizedHashCode_104 : decode cJ17_vectorizedHashCode 104 = .ok (.aload_n 0, 1) := dk_42 (dk_at dksJ17_vectorizedHashCode_4 14 rfl rfl)
theorem dJ17_vectorizedHashCode_105 : decode cJ17_vectorizedHashCode 105 = .ok (.checkcast 77, 3) := dk_192 0 77 (dk_at dksJ17_vectorizedHashCode_4 15 rfl rfl)
theorem dJ17_vectorizedHashCode_108 : decode cJ17_vectorizedHashCode 108 = .ok (.iload_n 1, 1) := dk_27 (dk_at dksJ17_vectorizedHashCode_4 18 rfl rfl)
theorem dJ17_vectorizedHashCode_109 : decode cJ17_vectorizedHashCode 109 = .ok (.iload_n 2, 1) := dk_28 (dk_at dksJ17_vectorizedHashCode_4 19 rfl rfl)
theorem dJ17_vectorizedHashCode_110 : decode cJ17_vectorizedHashCode 110 = .ok (.invokestatic 79, 3) := dk_184 0 79 (dk_at dksJ17_vectorizedHashCode_4 20 rfl rfl)
theorem dJ17_vectorizedHashCode_113 : decode cJ17_vectorizedHashCode 113 = .ok (.goto 44, 3) := dk_167 0 44 (dk_at dksJ17_vectorizedHashCode_5 0 rfl rfl)
theorem dJ17_vectorizedHashCode_116 : decode cJ17_vectorizedHashCode 116 = .ok (.iload_n 3, 1) := dk_29 (dk_at dksJ17_vectorizedHashCode_5 3 rfl rfl)
theorem dJ17_vectorizedHashCode_117 : decode cJ17_vectorizedHashCode 117 = .ok (.aload_n 0, 1) := dk_42 (dk_at dksJ17_vectorizedHashCode_5 4 rfl rfl)
theorem dJ17_vectorizedHashCode_118 : decode cJ17_vectorizedHashCode 118 = .ok (.checkcast 82, 3) := dk_192 0 82 (dk_at dksJ17_vectorizedHashCode_5 5 rfl rfl)
theorem dJ17_vectorizedHashCode_121 : decode cJ17_vectorizedHashCode 121 = .ok (.iload_n 1, 1) := dk_27 (dk_at dksJ17_vectorizedHashCode_5 8 rfl rfl)
theorem dJ17_vectorizedHashCode_122 : decode cJ17_vectorizedHashCode 122 = .ok (.iload_n 2, 1) := dk_28 (dk_at dksJ17_vectorizedHashCode_5 9 rfl rfl)
theorem dJ17_vectorizedHashCode_123 : decode cJ17_vectorizedHashCode 123 = .ok (.invokestatic 84, 3) := dk_184 0 84 (dk_at dksJ17_vectorizedHashCode_5 10 rfl rfl)
theorem dJ17_vectorizedHashCode_126 : decode cJ17_vectorizedHashCode 126 = .ok (.goto 31, 3) := dk_167 0 31 (dk_at dksJ17_vectorizedHashCode_5 13 rfl rfl)
theorem dJ17_vectorizedHashCode_129 : decode cJ17_vectorizedHashCode 129 = .ok (.new 87, 3) := dk_187 0 87 (dk_at dksJ17_vectorizedHashCode_5 16 rfl rfl)
theorem dJ17_vectorizedHashCode_132 : decode cJ17_vectorizedHashCode 132 = .ok (.dup, 1) := dk_89 (dk_at dksJ17_vectorizedHashCode_5 19 rfl rfl)
theorem dJ17_vectorizedHashCode_133 : decode cJ17_vectorizedHashCode 133 = .ok (.new 89, 3) := dk_187 0 89 (dk_at dksJ17_vectorizedHashCode_5 20 rfl rfl)
theorem dJ17_vectorizedHashCode_136 : decode cJ17_vectorizedHashCode 136 = .ok (.dup, 1) := dk_89 (dk_at dksJ17_vectorizedHashCode_5 23 rfl rfl)
theorem dJ17_vectorizedHashCode_137 : decode cJ17_vectorizedHashCode 137 = .ok (.invokespecial 91, 3) := dk_183 0 91 (dk_at dksJ17_vectorizedHashCode_6 0 rfl rfl)
theorem dJ17_vectorizedHashCode_140 : decode cJ17_vectorizedHashCode 140 = .ok (.ldc 92, 2) := dk_18 92 (dk_at dksJ17_vectorizedHashCode_6 3 rfl rfl)
theorem dJ17_vectorizedHashCode_142 : decode cJ17_vectorizedHashCode 142 = .ok (.invokevirtual 94, 3) := dk_182 0 94 (dk_at dksJ17_vectorizedHashCode_6 5 rfl rfl)
theorem dJ17_vectorizedHashCode_145 : decode cJ17_vectorizedHashCode 145 = .ok (.iload 4, 2) := dk_21 4 (dk_at dksJ17_vectorizedHashCode_6 8 rfl rfl)
theorem dJ17_vectorizedHashCode_147 : decode cJ17_vectorizedHashCode 147 = .ok (.invokevirtual 98, 3) := dk_182 0 98 (dk_at dksJ17_vectorizedHashCode_6 10 rfl rfl)
theorem dJ17_vectorizedHashCode_150 : decode cJ17_vectorizedHashCode 150 = .ok (.invokevirtual 101, 3) := dk_182 0 101 (dk_at dksJ17_vectorizedHashCode_6 13 rfl rfl)
theorem dJ17_vectorizedHashCode_153 : decode cJ17_vectorizedHashCode 153 = .ok (.invokespecial 105, 3) := dk_183 0 105 (dk_at dksJ17_vectorizedHashCode_6 16 rfl rfl)
theorem dJ17_vectorizedHashCode_156 : decode cJ17_vectorizedHashCode 156 = .ok (.athrow, 1) := dk_191 (dk_at dksJ17_vectorizedHashCode_6 19 rfl rfl)
theorem dJ17_vectorizedHashCode_157 : decode cJ17_vectorizedHashCode 157 = .ok (.ireturn, 1) := dk_172 (dk_at dksJ17_vectorizedHashCode_6 20 rfl rfl)
abbrev cJ17_signedHashCode : ByteArray := prog_94_method_5_code
def yJ17_signedHashCode : MethodName := ⟨RJ17, "signedHashCode", "(I[BII)I"⟩
def dkwJ17_signedHashCode_1 : List UInt8 := [17, 0, 255, 126, 96, 59, 132, 5, 1, 167, 255, 232, 26, 172]
abbrev dktJ17_signedHashCode_1 : List UInt8 := dkwJ17_signedHashCode_1 ++ []
def dkwJ17_signedHashCode_0 : List UInt8 := [28, 29, 96, 54, 4, 28, 54, 5, 21, 5, 21, 4, 162, 0, 23, 16, 31, 26, 104, 43, 21, 5, 51]
abbrev dktJ17_signedHashCode_0 : List UInt8 := dkwJ17_signedHashCode_0 ++ dktJ17_signedHashCode_1
theorem dksJ17_signedHashCode_0 : cJ17_signedHashCode.data.toList.drop 0 = dktJ17_signedHashCode_0 := by decide +kernel
theorem dksJ17_signedHashCode_1 : cJ17_signedHashCode.data.toList.drop 23 = dktJ17_signedHashCode_1 := dk_seg dksJ17_signedHashCode_0 23 rfl rfl
theorem dJ17_signedHashCode_0 : decode cJ17_signedHashCode 0 = .ok (.iload_n 2, 1) := dk_28 (dk_at dksJ17_signedHashCode_0 0 rfl rfl)
theorem dJ17_signedHashCode_1 : decode cJ17_signedHashCode 1 = .ok (.iload_n 3, 1) := dk_29 (dk_at dksJ17_signedHashCode_0 1 rfl rfl)
theorem dJ17_signedHashCode_2 : decode cJ17_signedHashCode 2 = .ok (.iadd, 1) := dk_96 (dk_at dksJ17_signedHashCode_0 2 rfl rfl)
theorem dJ17_signedHashCode_3 : decode cJ17_signedHashCode 3 = .ok (.istore 4, 2) := dk_54 4 (dk_at dksJ17_signedHashCode_0 3 rfl rfl)
theorem dJ17_signedHashCode_5 : decode cJ17_signedHashCode 5 = .ok (.iload_n 2, 1) := dk_28 (dk_at dksJ17_signedHashCode_0 5 rfl rfl)
theorem dJ17_signedHashCode_6 : decode cJ17_signedHashCode 6 = .ok (.istore 5, 2) := dk_54 5 (dk_at dksJ17_signedHashCode_0 6 rfl rfl)
theorem dJ17_signedHashCode_8 : decode cJ17_signedHashCode 8 = .ok (.iload 5, 2) := dk_21 5 (dk_at dksJ17_signedHashCode_0 8 rfl rfl)
theorem dJ17_signedHashCode_10 : decode cJ17_signedHashCode 10 = .ok (.iload 4, 2) := dk_21 4 (dk_at dksJ17_signedHashCode_0 10 rfl rfl)
theorem dJ17_signedHashCode_12 : decode cJ17_signedHashCode 12 = .ok (.if_icmp .ge 23, 3) := dk_162 0 23 (dk_at dksJ17_signedHashCode_0 12 rfl rfl)
theorem dJ17_signedHashCode_15 : decode cJ17_signedHashCode 15 = .ok (.bipush 31, 2) := dk_16 31 (dk_at dksJ17_signedHashCode_0 15 rfl rfl)
theorem dJ17_signedHashCode_17 : decode cJ17_signedHashCode 17 = .ok (.iload_n 0, 1) := dk_26 (dk_at dksJ17_signedHashCode_0 17 rfl rfl)
theorem dJ17_signedHashCode_18 : decode cJ17_signedHashCode 18 = .ok (.imul, 1) := dk_104 (dk_at dksJ17_signedHashCode_0 18 rfl rfl)
theorem dJ17_signedHashCode_19 : decode cJ17_signedHashCode 19 = .ok (.aload_n 1, 1) := dk_43 (dk_at dksJ17_signedHashCode_0 19 rfl rfl)
theorem dJ17_signedHashCode_20 : decode cJ17_signedHashCode 20 = .ok (.iload 5, 2) := dk_21 5 (dk_at dksJ17_signedHashCode_0 20 rfl rfl)
theorem dJ17_signedHashCode_22 : decode cJ17_signedHashCode 22 = .ok (.baload, 1) := dk_51 (dk_at dksJ17_signedHashCode_0 22 rfl rfl)
theorem dJ17_signedHashCode_23 : decode cJ17_signedHashCode 23 = .ok (.sipush 255, 3) := dk_17 0 255 (dk_at dksJ17_signedHashCode_1 0 rfl rfl)
theorem dJ17_signedHashCode_26 : decode cJ17_signedHashCode 26 = .ok (.iand, 1) := dk_126 (dk_at dksJ17_signedHashCode_1 3 rfl rfl)
theorem dJ17_signedHashCode_27 : decode cJ17_signedHashCode 27 = .ok (.iadd, 1) := dk_96 (dk_at dksJ17_signedHashCode_1 4 rfl rfl)
theorem dJ17_signedHashCode_28 : decode cJ17_signedHashCode 28 = .ok (.istore_n 0, 1) := dk_59 (dk_at dksJ17_signedHashCode_1 5 rfl rfl)
theorem dJ17_signedHashCode_29 : decode cJ17_signedHashCode 29 = .ok (.iinc 5 1, 3) := dk_132 5 1 (dk_at dksJ17_signedHashCode_1 6 rfl rfl)
theorem dJ17_signedHashCode_32 : decode cJ17_signedHashCode 32 = .ok (.goto (-24), 3) := dk_167 255 232 (dk_at dksJ17_signedHashCode_1 9 rfl rfl)
theorem dJ17_signedHashCode_35 : decode cJ17_signedHashCode 35 = .ok (.iload_n 0, 1) := dk_26 (dk_at dksJ17_signedHashCode_1 12 rfl rfl)
theorem dJ17_signedHashCode_36 : decode cJ17_signedHashCode 36 = .ok (.ireturn, 1) := dk_172 (dk_at dksJ17_signedHashCode_1 13 rfl rfl)
abbrev cJ17_utf16hashCode : ByteArray := prog_94_method_10_code
def yJ17_utf16hashCode : MethodName := ⟨RJ17, "utf16hashCode", "(I[BII)I"⟩
def dkwJ17_utf16hashCode_1 : List UInt8 := [21, 5, 185, 0, 110, 3, 0, 96, 59, 132, 5, 1, 167, 255, 229, 26, 172]
abbrev dktJ17_utf16hashCode_1 : List UInt8 := dkwJ17_utf16hashCode_1 ++ []
def dkwJ17_utf16hashCode_0 : List UInt8 := [28, 29, 96, 54, 4, 28, 54, 5, 21, 5, 21, 4, 162, 0, 26, 16, 31, 26, 104, 178, 0, 106, 43]
abbrev dktJ17_utf16hashCode_0 : List UInt8 := dkwJ17_utf16hashCode_0 ++ dktJ17_utf16hashCode_1
theorem dksJ17_utf16hashCode_0 : cJ17_utf16hashCode.data.toList.drop 0 = dktJ17_utf16hashCode_0 := by decide +kernel
theorem dksJ17_utf16hashCode_1 : cJ17_utf16hashCode.data.toList.drop 23 = dktJ17_utf16hashCode_1 := dk_seg dksJ17_utf16hashCode_0 23 rfl rfl
theorem dJ17_utf16hashCode_0 : decode cJ17_utf16hashCode 0 = .ok (.iload_n 2, 1) := dk_28 (dk_at dksJ17_utf16hashCode_0 0 rfl rfl)
theorem dJ17_utf16hashCode_1 : decode cJ17_utf16hashCode 1 = .ok (.iload_n 3, 1) := dk_29 (dk_at dksJ17_utf16hashCode_0 1 rfl rfl)
theorem dJ17_utf16hashCode_2 : decode cJ17_utf16hashCode 2 = .ok (.iadd, 1) := dk_96 (dk_at dksJ17_utf16hashCode_0 2 rfl rfl)
theorem dJ17_utf16hashCode_3 : decode cJ17_utf16hashCode 3 = .ok (.istore 4, 2) := dk_54 4 (dk_at dksJ17_utf16hashCode_0 3 rfl rfl)
theorem dJ17_utf16hashCode_5 : decode cJ17_utf16hashCode 5 = .ok (.iload_n 2, 1) := dk_28 (dk_at dksJ17_utf16hashCode_0 5 rfl rfl)
theorem dJ17_utf16hashCode_6 : decode cJ17_utf16hashCode 6 = .ok (.istore 5, 2) := dk_54 5 (dk_at dksJ17_utf16hashCode_0 6 rfl rfl)
theorem dJ17_utf16hashCode_8 : decode cJ17_utf16hashCode 8 = .ok (.iload 5, 2) := dk_21 5 (dk_at dksJ17_utf16hashCode_0 8 rfl rfl)
theorem dJ17_utf16hashCode_10 : decode cJ17_utf16hashCode 10 = .ok (.iload 4, 2) := dk_21 4 (dk_at dksJ17_utf16hashCode_0 10 rfl rfl)
theorem dJ17_utf16hashCode_12 : decode cJ17_utf16hashCode 12 = .ok (.if_icmp .ge 26, 3) := dk_162 0 26 (dk_at dksJ17_utf16hashCode_0 12 rfl rfl)
theorem dJ17_utf16hashCode_15 : decode cJ17_utf16hashCode 15 = .ok (.bipush 31, 2) := dk_16 31 (dk_at dksJ17_utf16hashCode_0 15 rfl rfl)
theorem dJ17_utf16hashCode_17 : decode cJ17_utf16hashCode 17 = .ok (.iload_n 0, 1) := dk_26 (dk_at dksJ17_utf16hashCode_0 17 rfl rfl)
theorem dJ17_utf16hashCode_18 : decode cJ17_utf16hashCode 18 = .ok (.imul, 1) := dk_104 (dk_at dksJ17_utf16hashCode_0 18 rfl rfl)
theorem dJ17_utf16hashCode_19 : decode cJ17_utf16hashCode 19 = .ok (.getstatic 106, 3) := dk_178 0 106 (dk_at dksJ17_utf16hashCode_0 19 rfl rfl)
theorem dJ17_utf16hashCode_22 : decode cJ17_utf16hashCode 22 = .ok (.aload_n 1, 1) := dk_43 (dk_at dksJ17_utf16hashCode_0 22 rfl rfl)
theorem dJ17_utf16hashCode_23 : decode cJ17_utf16hashCode 23 = .ok (.iload 5, 2) := dk_21 5 (dk_at dksJ17_utf16hashCode_1 0 rfl rfl)
theorem dJ17_utf16hashCode_25 : decode cJ17_utf16hashCode 25 = .ok (.invokeinterface 110 3, 5) := by decide +kernel
theorem dJ17_utf16hashCode_30 : decode cJ17_utf16hashCode 30 = .ok (.iadd, 1) := dk_96 (dk_at dksJ17_utf16hashCode_1 7 rfl rfl)
theorem dJ17_utf16hashCode_31 : decode cJ17_utf16hashCode 31 = .ok (.istore_n 0, 1) := dk_59 (dk_at dksJ17_utf16hashCode_1 8 rfl rfl)
theorem dJ17_utf16hashCode_32 : decode cJ17_utf16hashCode 32 = .ok (.iinc 5 1, 3) := dk_132 5 1 (dk_at dksJ17_utf16hashCode_1 9 rfl rfl)
theorem dJ17_utf16hashCode_35 : decode cJ17_utf16hashCode 35 = .ok (.goto (-27), 3) := dk_167 255 229 (dk_at dksJ17_utf16hashCode_1 12 rfl rfl)
theorem dJ17_utf16hashCode_38 : decode cJ17_utf16hashCode 38 = .ok (.iload_n 0, 1) := dk_26 (dk_at dksJ17_utf16hashCode_1 15 rfl rfl)
theorem dJ17_utf16hashCode_39 : decode cJ17_utf16hashCode 39 = .ok (.ireturn, 1) := dk_172 (dk_at dksJ17_utf16hashCode_1 16 rfl rfl)
abbrev cJ17_hashCode : ByteArray := prog_94_method_7_code
def yJ17_hashCode : MethodName := ⟨RJ17, "hashCode", "(I[CII)I"⟩
def dkwJ17_hashCode_1 : List UInt8 := [59, 132, 5, 1, 167, 255, 236, 26, 172]
abbrev dktJ17_hashCode_1 : List UInt8 := dkwJ17_hashCode_1 ++ []
def dkwJ17_hashCode_0 : List UInt8 := [28, 29, 96, 54, 4, 28, 54, 5, 21, 5, 21, 4, 162, 0, 19, 16, 31, 26, 104, 43, 21, 5, 52, 96]
abbrev dktJ17_hashCode_0 : List UInt8 := dkwJ17_hashCode_0 ++ dktJ17_hashCode_1
theorem dksJ17_hashCode_0 : cJ17_hashCode.data.toList.drop 0 = dktJ17_hashCode_0 := by decide +kernel
theorem dksJ17_hashCode_1 : cJ17_hashCode.data.toList.drop 24 = dktJ17_hashCode_1 := dk_seg dksJ17_hashCode_0 24 rfl rfl
theorem dJ17_hashCode_0 : decode cJ17_hashCode 0 = .ok (.iload_n 2, 1) := dk_28 (dk_at dksJ17_hashCode_0 0 rfl rfl)
theorem dJ17_hashCode_1 : decode cJ17_hashCode 1 = .ok (.iload_n 3, 1) := dk_29 (dk_at dksJ17_hashCode_0 1 rfl rfl)
theorem dJ17_hashCode_2 : decode cJ17_hashCode 2 = .ok (.iadd, 1) := dk_96 (dk_at dksJ17_hashCode_0 2 rfl rfl)
theorem dJ17_hashCode_3 : decode cJ17_hashCode 3 = .ok (.istore 4, 2) := dk_54 4 (dk_at dksJ17_hashCode_0 3 rfl rfl)
theorem dJ17_hashCode_5 : decode cJ17_hashCode 5 = .ok (.iload_n 2, 1) := dk_28 (dk_at dksJ17_hashCode_0 5 rfl rfl)
theorem dJ17_hashCode_6 : decode cJ17_hashCode 6 = .ok (.istore 5, 2) := dk_54 5 (dk_at dksJ17_hashCode_0 6 rfl rfl)
theorem dJ17_hashCode_8 : decode cJ17_hashCode 8 = .ok (.iload 5, 2) := dk_21 5 (dk_at dksJ17_hashCode_0 8 rfl rfl)
theorem dJ17_hashCode_10 : decode cJ17_hashCode 10 = .ok (.iload 4, 2) := dk_21 4 (dk_at dksJ17_hashCode_0 10 rfl rfl)
theorem dJ17_hashCode_12 : decode cJ17_hashCode 12 = .ok (.if_icmp .ge 19, 3) := dk_162 0 19 (dk_at dksJ17_hashCode_0 12 rfl rfl)
theorem dJ17_hashCode_15 : decode cJ17_hashCode 15 = .ok (.bipush 31, 2) := dk_16 31 (dk_at dksJ17_hashCode_0 15 rfl rfl)
theorem dJ17_hashCode_17 : decode cJ17_hashCode 17 = .ok (.iload_n 0, 1) := dk_26 (dk_at dksJ17_hashCode_0 17 rfl rfl)
theorem dJ17_hashCode_18 : decode cJ17_hashCode 18 = .ok (.imul, 1) := dk_104 (dk_at dksJ17_hashCode_0 18 rfl rfl)
theorem dJ17_hashCode_19 : decode cJ17_hashCode 19 = .ok (.aload_n 1, 1) := dk_43 (dk_at dksJ17_hashCode_0 19 rfl rfl)
theorem dJ17_hashCode_20 : decode cJ17_hashCode 20 = .ok (.iload 5, 2) := dk_21 5 (dk_at dksJ17_hashCode_0 20 rfl rfl)
theorem dJ17_hashCode_22 : decode cJ17_hashCode 22 = .ok (.caload, 1) := dk_52 (dk_at dksJ17_hashCode_0 22 rfl rfl)
theorem dJ17_hashCode_23 : decode cJ17_hashCode 23 = .ok (.iadd, 1) := dk_96 (dk_at dksJ17_hashCode_0 23 rfl rfl)
theorem dJ17_hashCode_24 : decode cJ17_hashCode 24 = .ok (.istore_n 0, 1) := dk_59 (dk_at dksJ17_hashCode_1 0 rfl rfl)
theorem dJ17_hashCode_25 : decode cJ17_hashCode 25 = .ok (.iinc 5 1, 3) := dk_132 5 1 (dk_at dksJ17_hashCode_1 1 rfl rfl)
theorem dJ17_hashCode_28 : decode cJ17_hashCode 28 = .ok (.goto (-20), 3) := dk_167 255 236 (dk_at dksJ17_hashCode_1 4 rfl rfl)
theorem dJ17_hashCode_31 : decode cJ17_hashCode 31 = .ok (.iload_n 0, 1) := dk_26 (dk_at dksJ17_hashCode_1 7 rfl rfl)
theorem dJ17_hashCode_32 : decode cJ17_hashCode 32 = .ok (.ireturn, 1) := dk_172 (dk_at dksJ17_hashCode_1 8 rfl rfl)
abbrev cJ17_hashCode_2 : ByteArray := prog_94_method_6_code
def yJ17_hashCode_2 : MethodName := ⟨RJ17, "hashCode", "(I[BII)I"⟩
def dkwJ17_hashCode_2_1 : List UInt8 := [59, 132, 5, 1, 167, 255, 236, 26, 172]
abbrev dktJ17_hashCode_2_1 : List UInt8 := dkwJ17_hashCode_2_1 ++ []
def dkwJ17_hashCode_2_0 : List UInt8 := [28, 29, 96, 54, 4, 28, 54, 5, 21, 5, 21, 4, 162, 0, 19, 16, 31, 26, 104, 43, 21, 5, 51, 96]
abbrev dktJ17_hashCode_2_0 : List UInt8 := dkwJ17_hashCode_2_0 ++ dktJ17_hashCode_2_1
theorem dksJ17_hashCode_2_0 : cJ17_hashCode_2.data.toList.drop 0 = dktJ17_hashCode_2_0 := by decide +kernel
theorem dksJ17_hashCode_2_1 : cJ17_hashCode_2.data.toList.drop 24 = dktJ17_hashCode_2_1 := dk_seg dksJ17_hashCode_2_0 24 rfl rfl
theorem dJ17_hashCode_2_0 : decode cJ17_hashCode_2 0 = .ok (.iload_n 2, 1) := dk_28 (dk_at dksJ17_hashCode_2_0 0 rfl rfl)
theorem dJ17_hashCode_2_1 : decode cJ17_hashCode_2 1 = .ok (.iload_n 3, 1) := dk_29 (dk_at dksJ17_hashCode_2_0 1 rfl rfl)
theorem dJ17_hashCode_2_2 : decode cJ17_hashCode_2 2 = .ok (.iadd, 1) := dk_96 (dk_at dksJ17_hashCode_2_0 2 rfl rfl)
theorem dJ17_hashCode_2_3 : decode cJ17_hashCode_2 3 = .ok (.istore 4, 2) := dk_54 4 (dk_at dksJ17_hashCode_2_0 3 rfl rfl)
theorem dJ17_hashCode_2_5 : decode cJ17_hashCode_2 5 = .ok (.iload_n 2, 1) := dk_28 (dk_at dksJ17_hashCode_2_0 5 rfl rfl)
theorem dJ17_hashCode_2_6 : decode cJ17_hashCode_2 6 = .ok (.istore 5, 2) := dk_54 5 (dk_at dksJ17_hashCode_2_0 6 rfl rfl)
theorem dJ17_hashCode_2_8 : decode cJ17_hashCode_2 8 = .ok (.iload 5, 2) := dk_21 5 (dk_at dksJ17_hashCode_2_0 8 rfl rfl)
theorem dJ17_hashCode_2_10 : decode cJ17_hashCode_2 10 = .ok (.iload 4, 2) := dk_21 4 (dk_at dksJ17_hashCode_2_0 10 rfl rfl)
theorem dJ17_hashCode_2_12 : decode cJ17_hashCode_2 12 = .ok (.if_icmp .ge 19, 3) := dk_162 0 19 (dk_at dksJ17_hashCode_2_0 12 rfl rfl)
theorem dJ17_hashCode_2_15 : decode cJ17_hashCode_2 15 = .ok (.bipush 31, 2) := dk_16 31 (dk_at dksJ17_hashCode_2_0 15 rfl rfl)
theorem dJ17_hashCode_2_17 : decode cJ17_hashCode_2 17 = .ok (.iload_n 0, 1) := dk_26 (dk_at dksJ17_hashCode_2_0 17 rfl rfl)
theorem dJ17_hashCode_2_18 : decode cJ17_hashCode_2 18 = .ok (.imul, 1) := dk_104 (dk_at dksJ17_hashCode_2_0 18 rfl rfl)
theorem dJ17_hashCode_2_19 : decode cJ17_hashCode_2 19 = .ok (.aload_n 1, 1) := dk_43 (dk_at dksJ17_hashCode_2_0 19 rfl rfl)
theorem dJ17_hashCode_2_20 : decode cJ17_hashCode_2 20 = .ok (.iload 5, 2) := dk_21 5 (dk_at dksJ17_hashCode_2_0 20 rfl rfl)
theorem dJ17_hashCode_2_22 : decode cJ17_hashCode_2 22 = .ok (.baload, 1) := dk_51 (dk_at dksJ17_hashCode_2_0 22 rfl rfl)
theorem dJ17_hashCode_2_23 : decode cJ17_hashCode_2 23 = .ok (.iadd, 1) := dk_96 (dk_at dksJ17_hashCode_2_0 23 rfl rfl)
theorem dJ17_hashCode_2_24 : decode cJ17_hashCode_2 24 = .ok (.istore_n 0, 1) := dk_59 (dk_at dksJ17_hashCode_2_1 0 rfl rfl)
theorem dJ17_hashCode_2_25 : decode cJ17_hashCode_2 25 = .ok (.iinc 5 1, 3) := dk_132 5 1 (dk_at dksJ17_hashCode_2_1 1 rfl rfl)
theorem dJ17_hashCode_2_28 : decode cJ17_hashCode_2 28 = .ok (.goto (-20), 3) := dk_167 255 236 (dk_at dksJ17_hashCode_2_1 4 rfl rfl)
theorem dJ17_hashCode_2_31 : decode cJ17_hashCode_2 31 = .ok (.iload_n 0, 1) := dk_26 (dk_at dksJ17_hashCode_2_1 7 rfl rfl)
theorem dJ17_hashCode_2_32 : decode cJ17_hashCode_2 32 = .ok (.ireturn, 1) := dk_172 (dk_at dksJ17_hashCode_2_1 8 rfl rfl)
abbrev cJ17_hashCode_3 : ByteArray := prog_94_method_8_code
def yJ17_hashCode_3 : MethodName := ⟨RJ17, "hashCode", "(I[SII)I"⟩
def dkwJ17_hashCode_3_1 : List UInt8 := [59, 132, 5, 1, 167, 255, 236, 26, 172]
abbrev dktJ17_hashCode_3_1 : List UInt8 := dkwJ17_hashCode_3_1 ++ []
def dkwJ17_hashCode_3_0 : List UInt8 := [28, 29, 96, 54, 4, 28, 54, 5, 21, 5, 21, 4, 162, 0, 19, 16, 31, 26, 104, 43, 21, 5, 53, 96]
abbrev dktJ17_hashCode_3_0 : List UInt8 := dkwJ17_hashCode_3_0 ++ dktJ17_hashCode_3_1
theorem dksJ17_hashCode_3_0 : cJ17_hashCode_3.data.toList.drop 0 = dktJ17_hashCode_3_0 := by decide +kernel
theorem dksJ17_hashCode_3_1 : cJ17_hashCode_3.data.toList.drop 24 = dktJ17_hashCode_3_1 := dk_seg dksJ17_hashCode_3_0 24 rfl rfl
theorem dJ17_hashCode_3_0 : decode cJ17_hashCode_3 0 = .ok (.iload_n 2, 1) := dk_28 (dk_at dksJ17_hashCode_3_0 0 rfl rfl)
theorem dJ17_hashCode_3_1 : decode cJ17_hashCode_3 1 = .ok (.iload_n 3, 1) := dk_29 (dk_at dksJ17_hashCode_3_0 1 rfl rfl)
theorem dJ17_hashCode_3_2 : decode cJ17_hashCode_3 2 = .ok (.iadd, 1) := dk_96 (dk_at dksJ17_hashCode_3_0 2 rfl rfl)
theorem dJ17_hashCode_3_3 : decode cJ17_hashCode_3 3 = .ok (.istore 4, 2) := dk_54 4 (dk_at dksJ17_hashCode_3_0 3 rfl rfl)
theorem dJ17_hashCode_3_5 : decode cJ17_hashCode_3 5 = .ok (.iload_n 2, 1) := dk_28 (dk_at dksJ17_hashCode_3_0 5 rfl rfl)
theorem dJ17_hashCode_3_6 : decode cJ17_hashCode_3 6 = .ok (.istore 5, 2) := dk_54 5 (dk_at dksJ17_hashCode_3_0 6 rfl rfl)
theorem dJ17_hashCode_3_8 : decode cJ17_hashCode_3 8 = .ok (.iload 5, 2) := dk_21 5 (dk_at dksJ17_hashCode_3_0 8 rfl rfl)
theorem dJ17_hashCode_3_10 : decode cJ17_hashCode_3 10 = .ok (.iload 4, 2) := dk_21 4 (dk_at dksJ17_hashCode_3_0 10 rfl rfl)
theorem dJ17_hashCode_3_12 : decode cJ17_hashCode_3 12 = .ok (.if_icmp .ge 19, 3) := dk_162 0 19 (dk_at dksJ17_hashCode_3_0 12 rfl rfl)
theorem dJ17_hashCode_3_15 : decode cJ17_hashCode_3 15 = .ok (.bipush 31, 2) := dk_16 31 (dk_at dksJ17_hashCode_3_0 15 rfl rfl)
theorem dJ17_hashCode_3_17 : decode cJ17_hashCode_3 17 = .ok (.iload_n 0, 1) := dk_26 (dk_at dksJ17_hashCode_3_0 17 rfl rfl)
theorem dJ17_hashCode_3_18 : decode cJ17_hashCode_3 18 = .ok (.imul, 1) := dk_104 (dk_at dksJ17_hashCode_3_0 18 rfl rfl)
theorem dJ17_hashCode_3_19 : decode cJ17_hashCode_3 19 = .ok (.aload_n 1, 1) := dk_43 (dk_at dksJ17_hashCode_3_0 19 rfl rfl)
theorem dJ17_hashCode_3_20 : decode cJ17_hashCode_3 20 = .ok (.iload 5, 2) := dk_21 5 (dk_at dksJ17_hashCode_3_0 20 rfl rfl)
theorem dJ17_hashCode_3_22 : decode cJ17_hashCode_3 22 = .ok (.saload, 1) := dk_53 (dk_at dksJ17_hashCode_3_0 22 rfl rfl)
theorem dJ17_hashCode_3_23 : decode cJ17_hashCode_3 23 = .ok (.iadd, 1) := dk_96 (dk_at dksJ17_hashCode_3_0 23 rfl rfl)
theorem dJ17_hashCode_3_24 : decode cJ17_hashCode_3 24 = .ok (.istore_n 0, 1) := dk_59 (dk_at dksJ17_hashCode_3_1 0 rfl rfl)
theorem dJ17_hashCode_3_25 : decode cJ17_hashCode_3 25 = .ok (.iinc 5 1, 3) := dk_132 5 1 (dk_at dksJ17_hashCode_3_1 1 rfl rfl)
theorem dJ17_hashCode_3_28 : decode cJ17_hashCode_3 28 = .ok (.goto (-20), 3) := dk_167 255 236 (dk_at dksJ17_hashCode_3_1 4 rfl rfl)
theorem dJ17_hashCode_3_31 : decode cJ17_hashCode_3 31 = .ok (.iload_n 0, 1) := dk_26 (dk_at dksJ17_hashCode_3_1 7 rfl rfl)
theorem dJ17_hashCode_3_32 : decode cJ17_hashCode_3 32 = .ok (.ireturn, 1) := dk_172 (dk_at dksJ17_hashCode_3_1 8 rfl rfl)
abbrev cJ17_hashCode_4 : ByteArray := prog_94_method_9_code
def yJ17_hashCode_4 : MethodName := ⟨RJ17, "hashCode", "(I[III)I"⟩
def dkwJ17_hashCode_4_1 : List UInt8 := [59, 132, 5, 1, 167, 255, 236, 26, 172]
abbrev dktJ17_hashCode_4_1 : List UInt8 := dkwJ17_hashCode_4_1 ++ []
def dkwJ17_hashCode_4_0 : List UInt8 := [28, 29, 96, 54, 4, 28, 54, 5, 21, 5, 21, 4, 162, 0, 19, 16, 31, 26, 104, 43, 21, 5, 46, 96]
abbrev dktJ17_hashCode_4_0 : List UInt8 := dkwJ17_hashCode_4_0 ++ dktJ17_hashCode_4_1
theorem dksJ17_hashCode_4_0 : cJ17_hashCode_4.data.toList.drop 0 = dktJ17_hashCode_4_0 := by decide +kernel
theorem dksJ17_hashCode_4_1 : cJ17_hashCode_4.data.toList.drop 24 = dktJ17_hashCode_4_1 := dk_seg dksJ17_hashCode_4_0 24 rfl rfl
theorem dJ17_hashCode_4_0 : decode cJ17_hashCode_4 0 = .ok (.iload_n 2, 1) := dk_28 (dk_at dksJ17_hashCode_4_0 0 rfl rfl)
theorem dJ17_hashCode_4_1 : decode cJ17_hashCode_4 1 = .ok (.iload_n 3, 1) := dk_29 (dk_at dksJ17_hashCode_4_0 1 rfl rfl)
theorem dJ17_hashCode_4_2 : decode cJ17_hashCode_4 2 = .ok (.iadd, 1) := dk_96 (dk_at dksJ17_hashCode_4_0 2 rfl rfl)
theorem dJ17_hashCode_4_3 : decode cJ17_hashCode_4 3 = .ok (.istore 4, 2) := dk_54 4 (dk_at dksJ17_hashCode_4_0 3 rfl rfl)
theorem dJ17_hashCode_4_5 : decode cJ17_hashCode_4 5 = .ok (.iload_n 2, 1) := dk_28 (dk_at dksJ17_hashCode_4_0 5 rfl rfl)
theorem dJ17_hashCode_4_6 : decode cJ17_hashCode_4 6 = .ok (.istore 5, 2) := dk_54 5 (dk_at dksJ17_hashCode_4_0 6 rfl rfl)
theorem dJ17_hashCode_4_8 : decode cJ17_hashCode_4 8 = .ok (.iload 5, 2) := dk_21 5 (dk_at dksJ17_hashCode_4_0 8 rfl rfl)
theorem dJ17_hashCode_4_10 : decode cJ17_hashCode_4 10 = .ok (.iload 4, 2) := dk_21 4 (dk_at dksJ17_hashCode_4_0 10 rfl rfl)
theorem dJ17_hashCode_4_12 : decode cJ17_hashCode_4 12 = .ok (.if_icmp .ge 19, 3) := dk_162 0 19 (dk_at dksJ17_hashCode_4_0 12 rfl rfl)
theorem dJ17_hashCode_4_15 : decode cJ17_hashCode_4 15 = .ok (.bipush 31, 2) := dk_16 31 (dk_at dksJ17_hashCode_4_0 15 rfl rfl)
theorem dJ17_hashCode_4_17 : decode cJ17_hashCode_4 17 = .ok (.iload_n 0, 1) := dk_26 (dk_at dksJ17_hashCode_4_0 17 rfl rfl)
theorem dJ17_hashCode_4_18 : decode cJ17_hashCode_4 18 = .ok (.imul, 1) := dk_104 (dk_at dksJ17_hashCode_4_0 18 rfl rfl)
theorem dJ17_hashCode_4_19 : decode cJ17_hashCode_4 19 = .ok (.aload_n 1, 1) := dk_43 (dk_at dksJ17_hashCode_4_0 19 rfl rfl)
theorem dJ17_hashCode_4_20 : decode cJ17_hashCode_4 20 = .ok (.iload 5, 2) := dk_21 5 (dk_at dksJ17_hashCode_4_0 20 rfl rfl)
theorem dJ17_hashCode_4_22 : decode cJ17_hashCode_4 22 = .ok (.iaload, 1) := dk_46 (dk_at dksJ17_hashCode_4_0 22 rfl rfl)
theorem dJ17_hashCode_4_23 : decode cJ17_hashCode_4 23 = .ok (.iadd, 1) := dk_96 (dk_at dksJ17_hashCode_4_0 23 rfl rfl)
theorem dJ17_hashCode_4_24 : decode cJ17_hashCode_4 24 = .ok (.istore_n 0, 1) := dk_59 (dk_at dksJ17_hashCode_4_1 0 rfl rfl)
theorem dJ17_hashCode_4_25 : decode cJ17_hashCode_4 25 = .ok (.iinc 5 1, 3) := dk_132 5 1 (dk_at dksJ17_hashCode_4_1 1 rfl rfl)
theorem dJ17_hashCode_4_28 : decode cJ17_hashCode_4 28 = .ok (.goto (-20), 3) := dk_167 255 236 (dk_at dksJ17_hashCode_4_1 4 rfl rfl)
theorem dJ17_hashCode_4_31 : decode cJ17_hashCode_4 31 = .ok (.iload_n 0, 1) := dk_26 (dk_at dksJ17_hashCode_4_1 7 rfl rfl)
theorem dJ17_hashCode_4_32 : decode cJ17_hashCode_4 32 = .ok (.ireturn, 1) := dk_172 (dk_at dksJ17_hashCode_4_1 8 rfl rfl)
abbrev cJ17_mismatch : ByteArray := prog_94_method_13_code
def yJ17_mismatch : MethodName := ⟨RJ17, "mismatch", "([B[BI)I"⟩
def dkwJ17_mismatch_3 : List UInt8 := [172]
abbrev dktJ17_mismatch_3 : List UInt8 := dkwJ17_mismatch_3 ++ []
def dkwJ17_mismatch_2 : List UInt8 := [62, 29, 28, 162, 0, 20, 42, 29, 51, 43, 29, 51, 159, 0, 5, 29, 172, 132, 3, 1, 167, 255, 237, 2]
abbrev dktJ17_mismatch_2 : List UInt8 := dkwJ17_mismatch_2 ++ dktJ17_mismatch_3
def dkwJ17_mismatch_1 : List UInt8 := [43, 178, 0, 126, 133, 28, 178, 0, 129, 184, 0, 122, 62, 29, 155, 0, 5, 29, 172, 28, 29, 2, 130, 100]
abbrev dktJ17_mismatch_1 : List UInt8 := dkwJ17_mismatch_1 ++ dktJ17_mismatch_2
def dkwJ17_mismatch_0 : List UInt8 := [3, 62, 28, 16, 7, 164, 0, 44, 42, 3, 51, 43, 3, 51, 159, 0, 5, 3, 172, 42, 178, 0, 126, 133]
abbrev dktJ17_mismatch_0 : List UInt8 := dkwJ17_mismatch_0 ++ dktJ17_mismatch_1
theorem dksJ17_mismatch_0 : cJ17_mismatch.data.toList.drop 0 = dktJ17_mismatch_0 := by decide +kernel
theorem dksJ17_mismatch_1 : cJ17_mismatch.data.toList.drop 24 = dktJ17_mismatch_1 := dk_seg dksJ17_mismatch_0 24 rfl rfl
theorem dksJ17_mismatch_2 : cJ17_mismatch.data.toList.drop 48 = dktJ17_mismatch_2 := dk_seg dksJ17_mismatch_1 24 rfl rfl
theorem dksJ17_mismatch_3 : cJ17_mismatch.data.toList.drop 72 = dktJ17_mismatch_3 := dk_seg dksJ17_mismatch_2 24 rfl rfl
theorem dJ17_mismatch_0 : decode cJ17_mismatch 0 = .ok (.iconst 0, 1) := dk_3 (dk_at dksJ17_mismatch_0 0 rfl rfl)
theorem dJ17_mismatch_1 : decode cJ17_mismatch 1 = .ok (.istore_n 3, 1) := dk_62 (dk_at dksJ17_mismatch_0 1 rfl rfl)
theorem dJ17_mismatch_2 : decode cJ17_mismatch 2 = .ok (.iload_n 2, 1) := dk_28 (dk_at dksJ17_mismatch_0 2 rfl rfl)
theorem dJ17_mismatch_3 : decode cJ17_mismatch 3 = .ok (.bipush 7, 2) := dk_16 7 (dk_at dksJ17_mismatch_0 3 rfl rfl)
theorem dJ17_mismatch_5 : decode cJ17_mismatch 5 = .ok (.if_icmp .le 44, 3) := dk_164 0 44 (dk_at dksJ17_mismatch_0 5 rfl rfl)
theorem dJ17_mismatch_8 : decode cJ17_mismatch 8 = .ok (.aload_n 0, 1) := dk_42 (dk_at dksJ17_mismatch_0 8 rfl rfl)
theorem dJ17_mismatch_9 : decode cJ17_mismatch 9 = .ok (.iconst 0, 1) := dk_3 (dk_at dksJ17_mismatch_0 9 rfl rfl)
theorem dJ17_mismatch_10 : decode cJ17_mismatch 10 = .ok (.baload, 1) := dk_51 (dk_at dksJ17_mismatch_0 10 rfl rfl)
theorem dJ17_mismatch_11 : decode cJ17_mismatch 11 = .ok (.aload_n 1, 1) := dk_43 (dk_at dksJ17_mismatch_0 11 rfl rfl)
theorem dJ17_mismatch_12 : decode cJ17_mismatch 12 = .ok (.iconst 0, 1) := dk_3 (dk_at dksJ17_mismatch_0 12 rfl rfl)
theorem dJ17_mismatch_13 : decode cJ17_mismatch 13 = .ok (.baload, 1) := dk_51 (dk_at dksJ17_mismatch_0 13 rfl rfl)
theorem dJ17_mismatch_14 : decode cJ17_mismatch 14 = .ok (.if_icmp .eq 5, 3) := dk_159 0 5 (dk_at dksJ17_mismatch_0 14 rfl rfl)
theorem dJ17_mismatch_17 : decode cJ17_mismatch 17 = .ok (.iconst 0, 1) := dk_3 (dk_at dksJ17_mismatch_0 17 rfl rfl)
theorem dJ17_mismatch_18 : decode cJ17_mismatch 18 = .ok (.ireturn, 1) := dk_172 (dk_at dksJ17_mismatch_0 18 rfl rfl)
theorem dJ17_mismatch_19 : decode cJ17_mismatch 19 = .ok (.aload_n 0, 1) := dk_42 (dk_at dksJ17_mismatch_0 19 rfl rfl)
theorem dJ17_mismatch_20 : decode cJ17_mismatch 20 = .ok (.getstatic 126, 3) := dk_178 0 126 (dk_at dksJ17_mismatch_0 20 rfl rfl)
theorem dJ17_mismatch_23 : decode cJ17_mismatch 23 = .ok (.i2l, 1) := dk_133 (dk_at dksJ17_mismatch_0 23 rfl rfl)
theorem dJ17_mismatch_24 : decode cJ17_mismatch 24 = .ok (.aload_n 1, 1) := dk_43 (dk_at dksJ17_mismatch_1 0 rfl rfl)
theorem dJ17_mismatch_25 : decode cJ17_mismatch 25 = .ok (.getstatic 126, 3) := dk_178 0 126 (dk_at dksJ17_mismatch_1 1 rfl rfl)
theorem dJ17_mismatch_28 : decode cJ17_mismatch 28 = .ok (.i2l, 1) := dk_133 (dk_at dksJ17_mismatch_1 4 rfl rfl)
theorem dJ17_mismatch_29 : decode cJ17_mismatch 29 = .ok (.iload_n 2, 1) := dk_28 (dk_at dksJ17_mismatch_1 5 rfl rfl)
theorem dJ17_mismatch_30 : decode cJ17_mismatch 30 = .ok (.getstatic 129, 3) := dk_178 0 129 (dk_at dksJ17_mismatch_1 6 rfl rfl)
theorem dJ17_mismatch_33 : decode cJ17_mismatch 33 = .ok (.invokestatic 122, 3) := dk_184 0 122 (dk_at dksJ17_mismatch_1 9 rfl rfl)
theorem dJ17_mismatch_36 : decode cJ17_mismatch 36 = .ok (.istore_n 3, 1) := dk_62 (dk_at dksJ17_mismatch_1 12 rfl rfl)
theorem dJ17_mismatch_37 : decode cJ17_mismatch 37 = .ok (.iload_n 3, 1) := dk_29 (dk_at dksJ17_mismatch_1 13 rfl rfl)
theorem dJ17_mismatch_38 : decode cJ17_mismatch 38 = .ok (.ifCond .lt 5, 3) := dk_155 0 5 (dk_at dksJ17_mismatch_1 14 rfl rfl)
theorem dJ17_mismatch_41 : decode cJ17_mismatch 41 = .ok (.iload_n 3, 1) := dk_29 (dk_at dksJ17_mismatch_1 17 rfl rfl)
theorem dJ17_mismatch_42 : decode cJ17_mismatch 42 = .ok (.ireturn, 1) := dk_172 (dk_at dksJ17_mismatch_1 18 rfl rfl)
theorem dJ17_mismatch_43 : decode cJ17_mismatch 43 = .ok (.iload_n 2, 1) := dk_28 (dk_at dksJ17_mismatch_1 19 rfl rfl)
theorem dJ17_mismatch_44 : decode cJ17_mismatch 44 = .ok (.iload_n 3, 1) := dk_29 (dk_at dksJ17_mismatch_1 20 rfl rfl)
theorem dJ17_mismatch_45 : decode cJ17_mismatch 45 = .ok (.iconst (-1), 1) := dk_2 (dk_at dksJ17_mismatch_1 21 rfl rfl)
theorem dJ17_mismatch_46 : decode cJ17_mismatch 46 = .ok (.ixor, 1) := dk_130 (dk_at dksJ17_mismatch_1 22 rfl rfl)
theorem dJ17_mismatch_47 : decode cJ17_mismatch 47 = .ok (.isub, 1) := dk_100 (dk_at dksJ17_mismatch_1 23 rfl rfl)
theorem dJ17_mismatch_48 : decode cJ17_mismatch 48 = .ok (.istore_n 3, 1) := dk_62 (dk_at dksJ17_mismatch_2 0 rfl rfl)
theorem dJ17_mismatch_49 : decode cJ17_mismatch 49 = .ok (.iload_n 3, 1) := dk_29 (dk_at dksJ17_mismatch_2 1 rfl rfl)
theorem dJ17_mismatch_50 : decode cJ17_mismatch 50 = .ok (.iload_n 2, 1) := dk_28 (dk_at dksJ17_mismatch_2 2 rfl rfl)
theorem dJ17_mismatch_51 : decode cJ17_mismatch 51 = .ok (.if_icmp .ge 20, 3) := dk_162 0 20 (dk_at dksJ17_mismatch_2 3 rfl rfl)
theorem dJ17_mismatch_54 : decode cJ17_mismatch 54 = .ok (.aload_n 0, 1) := dk_42 (dk_at dksJ17_mismatch_2 6 rfl rfl)
theorem dJ17_mismatch_55 : decode cJ17_mismatch 55 = .ok (.iload_n 3, 1) := dk_29 (dk_at dksJ17_mismatch_2 7 rfl rfl)
theorem dJ17_mismatch_56 : decode cJ17_mismatch 56 = .ok (.baload, 1) := dk_51 (dk_at dksJ17_mismatch_2 8 rfl rfl)
theorem dJ17_mismatch_57 : decode cJ17_mismatch 57 = .ok (.aload_n 1, 1) := dk_43 (dk_at dksJ17_mismatch_2 9 rfl rfl)
theorem dJ17_mismatch_58 : decode cJ17_mismatch 58 = .ok (.iload_n 3, 1) := dk_29 (dk_at dksJ17_mismatch_2 10 rfl rfl)
theorem dJ17_mismatch_59 : decode cJ17_mismatch 59 = .ok (.baload, 1) := dk_51 (dk_at dksJ17_mismatch_2 11 rfl rfl)
theorem dJ17_mismatch_60 : decode cJ17_mismatch 60 = .ok (.if_icmp .eq 5, 3) := dk_159 0 5 (dk_at dksJ17_mismatch_2 12 rfl rfl)
theorem dJ17_mismatch_63 : decode cJ17_mismatch 63 = .ok (.iload_n 3, 1) := dk_29 (dk_at dksJ17_mismatch_2 15 rfl rfl)
theorem dJ17_mismatch_64 : decode cJ17_mismatch 64 = .ok (.ireturn, 1) := dk_172 (dk_at dksJ17_mismatch_2 16 rfl rfl)
theorem dJ17_mismatch_65 : decode cJ17_mismatch 65 = .ok (.iinc 3 1, 3) := dk_132 3 1 (dk_at dksJ17_mismatch_2 17 rfl rfl)
theorem dJ17_mismatch_68 : decode cJ17_mismatch 68 = .ok (.goto (-19), 3) := dk_167 255 237 (dk_at dksJ17_mismatch_2 20 rfl rfl)
theorem dJ17_mismatch_71 : decode cJ17_mismatch 71 = .ok (.iconst (-1), 1) := dk_2 (dk_at dksJ17_mismatch_2 23 rfl rfl)
theorem dJ17_mismatch_72 : decode cJ17_mismatch 72 = .ok (.ireturn, 1) := dk_172 (dk_at dksJ17_mismatch_3 0 rfl rfl)
abbrev cJ17_vectorizedMismatch : ByteArray := prog_94_method_3_code
def yJ17_vectorizedMismatch : MethodName := ⟨RJ17, "vectorizedMismatch", "(Ljava/lang/Object;JLjava/lang/Object;JII)I"⟩
def dkwJ17_vectorizedMismatch_11 : List UInt8 := [54, 10, 21, 10, 2, 130, 172, 21, 10, 2, 130, 172]
abbrev dktJ17_vectorizedMismatch_11 : List UInt8 := dkwJ17_vectorizedMismatch_11 ++ []
def dkwJ17_vectorizedMismatch_10 : List UInt8 := [178, 0, 46, 21, 7, 96, 122, 54, 17, 21, 9, 21, 8, 120, 21, 17, 96, 172, 21, 10, 21, 11, 100]
abbrev dktJ17_vectorizedMismatch_10 : List UInt8 := dkwJ17_vectorizedMismatch_10 ++ dktJ17_vectorizedMismatch_11
def dkwJ17_vectorizedMismatch_9 : List UInt8 := [153, 0, 18, 21, 16, 184, 0, 58, 178, 0, 46, 21, 7, 96, 122, 167, 0, 15, 21, 16, 184, 0, 11]
abbrev dktJ17_vectorizedMismatch_9 : List UInt8 := dkwJ17_vectorizedMismatch_9 ++ dktJ17_vectorizedMismatch_10
def dkwJ17_vectorizedMismatch_8 : List UInt8 := [182, 0, 54, 54, 15, 21, 14, 21, 15, 159, 0, 54, 21, 14, 21, 15, 130, 54, 16, 178, 0, 36]
abbrev dktJ17_vectorizedMismatch_8 : List UInt8 := dkwJ17_vectorizedMismatch_8 ++ dktJ17_vectorizedMismatch_9
def dkwJ17_vectorizedMismatch_7 : List UInt8 := [55, 12, 178, 0, 26, 42, 31, 22, 12, 97, 182, 0, 54, 54, 14, 178, 0, 26, 45, 22, 4, 22, 12, 97]
abbrev dktJ17_vectorizedMismatch_7 : List UInt8 := dkwJ17_vectorizedMismatch_7 ++ dktJ17_vectorizedMismatch_8
def dkwJ17_vectorizedMismatch_6 : List UInt8 := [4, 178, 0, 51, 21, 7, 100, 120, 54, 11, 21, 10, 21, 11, 161, 0, 104, 21, 9, 133, 178, 0, 20, 121]
abbrev dktJ17_vectorizedMismatch_6 : List UInt8 := dkwJ17_vectorizedMismatch_6 ++ dktJ17_vectorizedMismatch_7
def dkwJ17_vectorizedMismatch_5 : List UInt8 := [132, 9, 1, 167, 255, 148, 21, 6, 21, 9, 21, 8, 120, 100, 54, 10, 21, 7, 178, 0, 51, 162, 0, 126]
abbrev dktJ17_vectorizedMismatch_5 : List UInt8 := dkwJ17_vectorizedMismatch_5 ++ dktJ17_vectorizedMismatch_6
def dkwJ17_vectorizedMismatch_4 : List UInt8 := [22, 16, 184, 0, 49, 178, 0, 46, 21, 7, 96, 122, 54, 18, 21, 9, 21, 8, 120, 21, 18, 96, 172]
abbrev dktJ17_vectorizedMismatch_4 : List UInt8 := dkwJ17_vectorizedMismatch_4 ++ dktJ17_vectorizedMismatch_5
def dkwJ17_vectorizedMismatch_3 : List UInt8 := [55, 16, 178, 0, 36, 153, 0, 18, 22, 16, 184, 0, 40, 178, 0, 46, 21, 7, 96, 122, 167, 0, 15]
abbrev dktJ17_vectorizedMismatch_3 : List UInt8 := dkwJ17_vectorizedMismatch_3 ++ dktJ17_vectorizedMismatch_4
def dkwJ17_vectorizedMismatch_2 : List UInt8 := [22, 4, 22, 10, 97, 182, 0, 30, 55, 14, 22, 12, 22, 14, 148, 153, 0, 54, 22, 12, 22, 14, 131]
abbrev dktJ17_vectorizedMismatch_2 : List UInt8 := dkwJ17_vectorizedMismatch_2 ++ dktJ17_vectorizedMismatch_3
def dkwJ17_vectorizedMismatch_1 : List UInt8 := [178, 0, 20, 121, 55, 10, 178, 0, 26, 42, 31, 22, 10, 97, 182, 0, 30, 55, 12, 178, 0, 26, 45]
abbrev dktJ17_vectorizedMismatch_1 : List UInt8 := dkwJ17_vectorizedMismatch_1 ++ dktJ17_vectorizedMismatch_2
def dkwJ17_vectorizedMismatch_0 : List UInt8 := [178, 0, 20, 21, 7, 100, 54, 8, 3, 54, 9, 21, 9, 21, 6, 21, 8, 122, 162, 0, 104, 21, 9, 133]
abbrev dktJ17_vectorizedMismatch_0 : List UInt8 := dkwJ17_vectorizedMismatch_0 ++ dktJ17_vectorizedMismatch_1
theorem dksJ17_vectorizedMismatch_0 : cJ17_vectorizedMismatch.data.toList.drop 0 = dktJ17_vectorizedMismatch_0 := by decide +kernel
theorem dksJ17_vectorizedMismatch_1 : cJ17_vectorizedMismatch.data.toList.drop 24 = dktJ17_vectorizedMismatch_1 := dk_seg dksJ17_vectorizedMismatch_0 24 rfl rfl
theorem dksJ17_vectorizedMismatch_2 : cJ17_vectorizedMismatch.data.toList.drop 47 = dktJ17_vectorizedMismatch_2 := dk_seg dksJ17_vectorizedMismatch_1 23 rfl rfl
theorem dksJ17_vectorizedMismatch_3 : cJ17_vectorizedMismatch.data.toList.drop 70 = dktJ17_vectorizedMismatch_3 := dk_seg dksJ17_vectorizedMismatch_2 23 rfl rfl
theorem dksJ17_vectorizedMismatch_4 : cJ17_vectorizedMismatch.data.toList.drop 93 = dktJ17_vectorizedMismatch_4 := dk_seg dksJ17_vectorizedMismatch_3 23 rfl rfl
theorem dksJ17_vectorizedMismatch_5 : cJ17_vectorizedMismatch.data.toList.drop 116 = dktJ17_vectorizedMismatch_5 := dk_seg dksJ17_vectorizedMismatch_4 23 rfl rfl
theorem dksJ17_vectorizedMismatch_6 : cJ17_vectorizedMismatch.data.toList.drop 140 = dktJ17_vectorizedMismatch_6 := dk_seg dksJ17_vectorizedMismatch_5 24 rfl rfl
theorem dksJ17_vectorizedMismatch_7 : cJ17_vectorizedMismatch.data.toList.drop 164 = dktJ17_vectorizedMismatch_7 := dk_seg dksJ17_vectorizedMismatch_6 24 rfl rfl
theorem dksJ17_vectorizedMismatch_8 : cJ17_vectorizedMismatch.data.toList.drop 188 = dktJ17_vectorizedMismatch_8 := dk_seg dksJ17_vectorizedMismatch_7 24 rfl rfl
theorem dksJ17_vectorizedMismatch_9 : cJ17_vectorizedMismatch.data.toList.drop 210 = dktJ17_vectorizedMismatch_9 := dk_seg dksJ17_vectorizedMismatch_8 22 rfl rfl
theorem dksJ17_vectorizedMismatch_10 : cJ17_vectorizedMismatch.data.toList.drop 233 = dktJ17_vectorizedMismatch_10 := dk_seg dksJ17_vectorizedMismatch_9 23 rfl rfl
theorem dksJ17_vectorizedMismatch_11 : cJ17_vectorizedMismatch.data.toList.drop 256 = dktJ17_vectorizedMismatch_11 := dk_seg dksJ17_vectorizedMismatch_10 23 rfl rfl
theorem dJ17_vectorizedMismatch_0 : decode cJ17_vectorizedMismatch 0 = .ok (.getstatic 20, 3) := dk_178 0 20 (dk_at dksJ17_vectorizedMismatch_0 0 rfl rfl)
theorem dJ17_vectorizedMismatch_3 : decode cJ17_vectorizedMismatch 3 = .ok (.iload 7, 2) := dk_21 7 (dk_at dksJ17_vectorizedMismatch_0 3 rfl rfl)
theorem dJ17_vectorizedMismatch_5 : decode cJ17_vectorizedMismatch 5 = .ok (.isub, 1) := dk_100 (dk_at dksJ17_vectorizedMismatch_0 5 rfl rfl)
theorem dJ17_vectorizedMismatch_6 : decode cJ17_vectorizedMismatch 6 = .ok (.istore 8, 2) := dk_54 8 (dk_at dksJ17_vectorizedMismatch_0 6 rfl rfl)
theorem dJ17_vectorizedMismatch_8 : decode cJ17_vectorizedMismatch 8 = .ok (.iconst 0, 1) := dk_3 (dk_at dksJ17_vectorizedMismatch_0 8 rfl rfl)
theorem dJ17_vectorizedMismatch_9 : decode cJ17_vectorizedMismatch 9 = .ok (.istore 9, 2) := dk_54 9 (dk_at dksJ17_vectorizedMismatch_0 9 rfl rfl)
theorem dJ17_vectorizedMismatch_11 : decode cJ17_vectorizedMismatch 11 = .ok (.iload 9, 2) := dk_21 9 (dk_at dksJ17_vectorizedMismatch_0 11 rfl rfl)
theorem dJ17_vectorizedMismatch_13 : decode cJ17_vectorizedMismatch 13 = .ok (.iload 6, 2) := dk_21 6 (dk_at dksJ17_vectorizedMismatch_0 13 rfl rfl)
theorem dJ17_vectorizedMismatch_15 : decode cJ17_vectorizedMismatch 15 = .ok (.iload 8, 2) := dk_21 8 (dk_at dksJ17_vectorizedMismatch_0 15 rfl rfl)
theorem dJ17_vectorizedMismatch_17 : decode cJ17_vectorizedMismatch 17 = .ok (.ishr, 1) := dk_122 (dk_at dksJ17_vectorizedMismatch_0 17 rfl rfl)
theorem dJ17_vectorizedMismatch_18 : decode cJ17_vectorizedMismatch 18 = .ok (.if_icmp .ge 104, 3) := dk_162 0 104 (dk_at dksJ17_vectorizedMismatch_0 18 rfl rfl)
theorem dJ17_vectorizedMismatch_21 : decode cJ17_vectorizedMismatch 21 = .ok (.iload 9, 2) := dk_21 9 (dk_at dksJ17_vectorizedMismatch_0 21 rfl rfl)
theorem dJ17_vectorizedMismatch_23 : decode cJ17_vectorizedMismatch 23 = .ok (.i2l, 1) := dk_133 (dk_at dksJ17_vectorizedMismatch_0 23 rfl rfl)
theorem dJ17_vectorizedMismatch_24 : decode cJ17_vectorizedMismatch 24 = .ok (.getstatic 20, 3) := dk_178 0 20 (dk_at dksJ17_vectorizedMismatch_1 0 rfl rfl)
theorem dJ17_vectorizedMismatch_27 : decode cJ17_vectorizedMismatch 27 = .ok (.lshl, 1) := dk_121 (dk_at dksJ17_vectorizedMismatch_1 3 rfl rfl)
theorem dJ17_vectorizedMismatch_28 : decode cJ17_vectorizedMismatch 28 = .ok (.lstore 10, 2) := dk_55 10 (dk_at dksJ17_vectorizedMismatch_1 4 rfl rfl)
theorem dJ17_vectorizedMismatch_30 : decode cJ17_vectorizedMismatch 30 = .ok (.getstatic 26, 3) := dk_178 0 26 (dk_at dksJ17_vectorizedMismatch_1 6 rfl rfl)
theorem dJ17_vectorizedMismatch_33 : decode cJ17_vectorizedMismatch 33 = .ok (.aload_n 0, 1) := dk_42 (dk_at dksJ17_vectorizedMismatch_1 9 rfl rfl)
theorem dJ17_vectorizedMismatch_34 : decode cJ17_vectorizedMismatch 34 = .ok (.lload_n 1, 1) := dk_31 (dk_at dksJ17_vectorizedMismatch_1 10 rfl rfl)
theorem dJ17_vectorizedMismatch_35 : decode cJ17_vectorizedMismatch 35 = .ok (.lload 10, 2) := dk_22 10 (dk_at dksJ17_vectorizedMismatch_1 11 rfl rfl)
theorem dJ17_vectorizedMismatch_37 : decode cJ17_vectorizedMismatch 37 = .ok (.ladd, 1) := dk_97 (dk_at dksJ17_vectorizedMismatch_1 13 rfl rfl)
theorem dJ17_vectorizedMismatch_38 : decode cJ17_vectorizedMismatch 38 = .ok (.invokevirtual 30, 3) := dk_182 0 30 (dk_at dksJ17_vectorizedMismatch_1 14 rfl rfl)
theorem dJ17_vectorizedMismatch_41 : decode cJ17_vectorizedMismatch 41 = .ok (.lstore 12, 2) := dk_55 12 (dk_at dksJ17_vectorizedMismatch_1 17 rfl rfl)
theorem dJ17_vectorizedMismatch_43 : decode cJ17_vectorizedMismatch 43 = .ok (.getstatic 26, 3) := dk_178 0 26 (dk_at dksJ17_vectorizedMismatch_1 19 rfl rfl)
theorem dJ17_vectorizedMismatch_46 : decode cJ17_vectorizedMismatch 46 = .ok (.aload_n 3, 1) := dk_45 (dk_at dksJ17_vectorizedMismatch_1 22 rfl rfl)
theorem dJ17_vectorizedMismatch_47 : decode cJ17_vectorizedMismatch 47 = .ok (.lload 4, 2) := dk_22 4 (dk_at dksJ17_vectorizedMismatch_2 0 rfl rfl)
theorem dJ17_vectorizedMismatch_49 : decode cJ17_vectorizedMismatch 49 = .ok (.lload 10, 2) := dk_22 10 (dk_at dksJ17_vectorizedMismatch_2 2 rfl rfl)
theorem dJ17_vectorizedMismatch_51 : decode cJ17_vectorizedMismatch 51 = .ok (.ladd, 1) := dk_97 (dk_at dksJ17_vectorizedMismatch_2 4 rfl rfl)
theorem dJ17_vectorizedMismatch_52 : decode cJ17_vectorizedMismatch 52 = .ok (.invokevirtual 30, 3) := dk_182 0 30 (dk_at dksJ17_vectorizedMismatch_2 5 rfl rfl)
theorem dJ17_vectorizedMismatch_55 : decode cJ17_vectorizedMismatch 55 = .ok (.lstore 14, 2) := dk_55 14 (dk_at dksJ17_vectorizedMismatch_2 8 rfl rfl)
theorem dJ17_vectorizedMismatch_57 : decode cJ17_vectorizedMismatch 57 = .ok (.lload 12, 2) := dk_22 12 (dk_at dksJ17_vectorizedMismatch_2 10 rfl rfl)
theorem dJ17_vectorizedMismatch_59 : decode cJ17_vectorizedMismatch 59 = .ok (.lload 14, 2) := dk_22 14 (dk_at dksJ17_vectorizedMismatch_2 12 rfl rfl)
theorem dJ17_vectorizedMismatch_61 : decode cJ17_vectorizedMismatch 61 = .ok (.lcmp, 1) := dk_148 (dk_at dksJ17_vectorizedMismatch_2 14 rfl rfl)
theorem dJ17_vectorizedMismatch_62 : decode cJ17_vectorizedMismatch 62 = .ok (.ifCond .eq 54, 3) := dk_153 0 54 (dk_at dksJ17_vectorizedMismatch_2 15 rfl rfl)
theorem dJ17_vectorizedMismatch_65 : decode cJ17_vectorizedMismatch 65 = .ok (.lload 12, 2) := dk_22 12 (dk_at dksJ17_vectorizedMismatch_2 18 rfl rfl)
theorem dJ17_vectorizedMismatch_67 : decode cJ17_vectorizedMismatch 67 = .ok (.lload 14, 2) := dk_22 14 (dk_at dksJ17_vectorizedMismatch_2 20 rfl rfl)
theorem dJ17_vectorizedMismatch_69 : decode cJ17_vectorizedMismatch 69 = .ok (.lxor, 1) := dk_131 (dk_at dksJ17_vectorizedMismatch_2 22 rfl rfl)
theorem dJ17_vectorizedMismatch_70 : decode cJ17_vectorizedMismatch 70 = .ok (.lstore 16, 2) := dk_55 16 (dk_at dksJ17_vectorizedMismatch_3 0 rfl rfl)
theorem dJ17_vectorizedMismatch_72 : decode cJ17_vectorizedMismatch 72 = .ok (.getstatic 36, 3) := dk_178 0 36 (dk_at dksJ17_vectorizedMismatch_3 2 rfl rfl)
theorem dJ17_vectorizedMismatch_75 : decode cJ17_vectorizedMismatch 75 = .ok (.ifCond .eq 18, 3) := dk_153 0 18 (dk_at dksJ17_vectorizedMismatch_3 5 rfl rfl)
theorem dJ17_vectorizedMismatch_78 : decode cJ17_vectorizedMismatch 78 = .ok (.lload 16, 2) := dk_22 16 (dk_at dksJ17_vectorizedMismatch_3 8 rfl rfl)
theorem dJ17_vectorizedMismatch_80 : decode cJ17_vectorizedMismatch 80 = .ok (.invokestatic 40, 3) := dk_184 0 40 (dk_at dksJ17_vectorizedMismatch_3 10 rfl rfl)
theorem dJ17_vectorizedMismatch_83 : decode cJ17_vectorizedMismatch 83 = .ok (.getstatic 46, 3) := dk_178 0 46 (dk_at dksJ17_vectorizedMismatch_3 13 rfl rfl)
theorem dJ17_vectorizedMismatch_86 : decode cJ17_vectorizedMismatch 86 = .ok (.iload 7, 2) := dk_21 7 (dk_at dksJ17_vectorizedMismatch_3 16 rfl rfl)
theorem dJ17_vectorizedMismatch_88 : decode cJ17_vectorizedMismatch 88 = .ok (.iadd, 1) := dk_96 (dk_at dksJ17_vectorizedMismatch_3 18 rfl rfl)
theorem dJ17_vectorizedMismatch_89 : decode cJ17_vectorizedMismatch 89 = .ok (.ishr, 1) := dk_122 (dk_at dksJ17_vectorizedMismatch_3 19 rfl rfl)
theorem dJ17_vectorizedMismatch_90 : decode cJ17_vectorizedMismatch 90 = .ok (.goto 15, 3) := dk_167 0 15 (dk_at dksJ17_vectorizedMismatch_3 20 rfl rfl)
theorem dJ17_vectorizedMismatch_93 : decode cJ17_vectorizedMismatch 93 = .ok (.lload 16, 2) := dk_22 16 (dk_at dksJ17_vectorizedMismatch_4 0 rfl rfl)
theorem dJ17_vectorizedMismatch_95 : decode cJ17_vectorizedMismatch 95 = .ok (.invokestatic 49, 3) := dk_184 0 49 (dk_at dksJ17_vectorizedMismatch_4 2 rfl rfl)
theorem dJ17_vectorizedMismatch_98 : decode cJ17_vectorizedMismatch 98 = .ok (.getstatic 46, 3) := dk_178 0 46 (dk_at dksJ17_vectorizedMismatch_4 5 rfl rfl)
theorem dJ17_vectorizedMismatch_101 : decode cJ17_vectorizedMismatch 101 = .ok (.iload 7, 2) := dk_21 7 (dk_at dksJ17_vectorizedMismatch_4 8 rfl rfl)
theorem dJ17_vectorizedMismatch_103 : decode cJ17_vectorizedMismatch 103 = .ok (.iadd, 1) := dk_96 (dk_at dksJ17_vectorizedMismatch_4 10 rfl rfl)
theorem dJ17_vectorizedMismatch_104 : decode cJ17_vectorizedMismatch 104 = .ok (.ishr, 1) := dk_122 (dk_at dksJ17_vectorizedMismatch_4 11 rfl rfl)
theorem dJ17_vectorizedMismatch_105 : decode cJ17_vectorizedMismatch 105 = .ok (.istore 18, 2) := dk_54 18 (dk_at dksJ17_vectorizedMismatch_4 12 rfl rfl)
theorem dJ17_vectorizedMismatch_107 : decode cJ17_vectorizedMismatch 107 = .ok (.iload 9, 2) := dk_21 9 (dk_at dksJ17_vectorizedMismatch_4 14 rfl rfl)
theorem dJ17_vectorizedMismatch_109 : decode cJ17_vectorizedMismatch 109 = .ok (.iload 8, 2) := dk_21 8 (dk_at dksJ17_vectorizedMismatch_4 16 rfl rfl)
theorem dJ17_vectorizedMismatch_111 : decode cJ17_vectorizedMismatch 111 = .ok (.ishl, 1) := dk_120 (dk_at dksJ17_vectorizedMismatch_4 18 rfl rfl)
theorem dJ17_vectorizedMismatch_112 : decode cJ17_vectorizedMismatch 112 = .ok (.iload 18, 2) := dk_21 18 (dk_at dksJ17_vectorizedMismatch_4 19 rfl rfl)
theorem dJ17_vectorizedMismatch_114 : decode cJ17_vectorizedMismatch 114 = .ok (.iadd, 1) := dk_96 (dk_at dksJ17_vectorizedMismatch_4 21 rfl rfl)
theorem dJ17_vectorizedMismatch_115 : decode cJ17_vectorizedMismatch 115 = .ok (.ireturn, 1) := dk_172 (dk_at dksJ17_vectorizedMismatch_4 22 rfl rfl)
theorem dJ17_vectorizedMismatch_116 : decode cJ17_vectorizedMismatch 116 = .ok (.iinc 9 1, 3) := dk_132 9 1 (dk_at dksJ17_vectorizedMismatch_5 0 rfl rfl)
theorem dJ17_vectorizedMismatch_119 : decode cJ17_vectorizedMismatch 119 = .ok (.goto (-108), 3) := dk_167 255 148 (dk_at dksJ17_vectorizedMismatch_5 3 rfl rfl)
theorem dJ17_vectorizedMismatch_122 : decode cJ17_vectorizedMismatch 122 = .ok (.iload 6, 2) := dk_21 6 (dk_at dksJ17_vectorizedMismatch_5 6 rfl rfl)
theorem dJ17_vectorizedMismatch_124 : decode cJ17_vectorizedMismatch 124 = .ok (.iload 9, 2) := dk_21 9 (dk_at dksJ17_vectorizedMismatch_5 8 rfl rfl)
theorem dJ17_vectorizedMismatch_126 : decode cJ17_vectorizedMismatch 126 = .ok (.iload 8, 2) := dk_21 8 (dk_at dksJ17_vectorizedMismatch_5 10 rfl rfl)
theorem dJ17_vectorizedMismatch_128 : decode cJ17_vectorizedMismatch 128 = .ok (.ishl, 1) := dk_120 (dk_at dksJ17_vectorizedMismatch_5 12 rfl rfl)
theorem dJ17_vectorizedMismatch_129 : decode cJ17_vectorizedMismatch 129 = .ok (.isub, 1) := dk_100 (dk_at dksJ17_vectorizedMismatch_5 13 rfl rfl)
theorem dJ17_vectorizedMismatch_130 : decode cJ17_vectorizedMismatch 130 = .ok (.istore 10, 2) := dk_54 10 (dk_at dksJ17_vectorizedMismatch_5 14 rfl rfl)
theorem dJ17_vectorizedMismatch_132 : decode cJ17_vectorizedMismatch 132 = .ok (.iload 7, 2) := dk_21 7 (dk_at dksJ17_vectorizedMismatch_5 16 rfl rfl)
theorem dJ17_vectorizedMismatch_134 : decode cJ17_vectorizedMismatch 134 = .ok (.getstatic 51, 3) := dk_178 0 51 (dk_at dksJ17_vectorizedMismatch_5 18 rfl rfl)
theorem dJ17_vectorizedMismatch_137 : decode cJ17_vectorizedMismatch 137 = .ok (.if_icmp .ge 126, 3) := dk_162 0 126 (dk_at dksJ17_vectorizedMismatch_5 21 rfl rfl)
theorem dJ17_vectorizedMismatch_140 : decode cJ17_vectorizedMismatch 140 = .ok (.iconst 1, 1) := dk_4 (dk_at dksJ17_vectorizedMismatch_6 0 rfl rfl)
theorem dJ17_vectorizedMismatch_141 : decode cJ17_vectorizedMismatch 141 = .ok (.getstatic 51, 3) := dk_178 0 51 (dk_at dksJ17_vectorizedMismatch_6 1 rfl rfl)
theorem dJ17_vectorizedMismatch_144 : decode cJ17_vectorizedMismatch 144 = .ok (.iload 7, 2) := dk_21 7 (dk_at dksJ17_vectorizedMismatch_6 4 rfl rfl)
theorem dJ17_vectorizedMismatch_146 : decode cJ17_vectorizedMismatch 146 = .ok (.isub, 1) := dk_100 (dk_at dksJ17_vectorizedMismatch_6 6 rfl rfl)
theorem dJ17_vectorizedMismatch_147 : decode cJ17_vectorizedMismatch 147 = .ok (.ishl, 1) := dk_120 (dk_at dksJ17_vectorizedMismatch_6 7 rfl rfl)
theorem dJ17_vectorizedMismatch_148 : decode cJ17_vectorizedMismatch 148 = .ok (.istore 11, 2) := dk_54 11 (dk_at dksJ17_vectorizedMismatch_6 8 rfl rfl)
theorem dJ17_vectorizedMismatch_150 : decode cJ17_vectorizedMismatch 150 = .ok (.iload 10, 2) := dk_21 10 (dk_at dksJ17_vectorizedMismatch_6 10 rfl rfl)
theorem dJ17_vectorizedMismatch_152 : decode cJ17_vectorizedMismatch 152 = .ok (.iload 11, 2) := dk_21 11 (dk_at dksJ17_vectorizedMismatch_6 12 rfl rfl)
theorem dJ17_vectorizedMismatch_154 : decode cJ17_vectorizedMismatch 154 = .ok (.if_icmp .lt 104, 3) := dk_161 0 104 (dk_at dksJ17_vectorizedMismatch_6 14 rfl rfl)
theorem dJ17_vectorizedMismatch_157 : decode cJ17_vectorizedMismatch 157 = .ok (.iload 9, 2) := dk_21 9 (dk_at dksJ17_vectorizedMismatch_6 17 rfl rfl)
theorem dJ17_vectorizedMismatch_159 : decode cJ17_vectorizedMismatch 159 = .ok (.i2l, 1) := dk_133 (dk_at dksJ17_vectorizedMismatch_6 19 rfl rfl)
theorem dJ17_vectorizedMismatch_160 : decode cJ17_vectorizedMismatch 160 = .ok (.getstatic 20, 3) := dk_178 0 20 (dk_at dksJ17_vectorizedMismatch_6 20 rfl rfl)
theorem dJ17_vectorizedMismatch_163 : decode cJ17_vectorizedMismatch 163 = .ok (.lshl, 1) := dk_121 (dk_at dksJ17_vectorizedMismatch_6 23 rfl rfl)
theorem dJ17_vectorizedMismatch_164 : decode cJ17_vectorizedMismatch 164 = .ok (.lstore 12, 2) := dk_55 12 (dk_at dksJ17_vectorizedMismatch_7 0 rfl rfl)
theorem dJ17_vectorizedMismatch_166 : decode cJ17_vectorizedMismatch 166 = .ok (.getstatic 26, 3) := dk_178 0 26 (dk_at dksJ17_vectorizedMismatch_7 2 rfl rfl)
theorem dJ17_vectorizedMismatch_169 : decode cJ17_vectorizedMismatch 169 = .ok (.aload_n 0, 1) := dk_42 (dk_at dksJ17_vectorizedMismatch_7 5 rfl rfl)
theorem dJ17_vectorizedMismatch_170 : decode cJ17_vectorizedMismatch 170 = .ok (.lload_n 1, 1) := dk_31 (dk_at dksJ17_vectorizedMismatch_7 6 rfl rfl)
theorem dJ17_vectorizedMismatch_171 : decode cJ17_vectorizedMismatch 171 = .ok (.lload 12, 2) := dk_22 12 (dk_at dksJ17_vectorizedMismatch_7 7 rfl rfl)
theorem dJ17_vectorizedMismatch_173 : decode cJ17_vectorizedMismatch 173 = .ok (.ladd, 1) := dk_97 (dk_at dksJ17_vectorizedMismatch_7 9 rfl rfl)
theorem dJ17_vectorizedMismatch_174 : decode cJ17_vectorizedMismatch 174 = .ok (.invokevirtual 54, 3) := dk_182 0 54 (dk_at dksJ17_vectorizedMismatch_7 10 rfl rfl)
theorem dJ17_vectorizedMismatch_177 : decode cJ17_vectorizedMismatch 177 = .ok (.istore 14, 2) := dk_54 14 (dk_at dksJ17_vectorizedMismatch_7 13 rfl rfl)
theorem dJ17_vectorizedMismatch_179 : decode cJ17_vectorizedMismatch 179 = .ok (.getstatic 26, 3) := dk_178 0 26 (dk_at dksJ17_vectorizedMismatch_7 15 rfl rfl)
theorem dJ17_vectorizedMismatch_182 : decode cJ17_vectorizedMismatch 182 = .ok (.aload_n 3, 1) := dk_45 (dk_at dksJ17_vectorizedMismatch_7 18 rfl rfl)
theorem dJ17_vectorizedMismatch_183 : decode cJ17_vectorizedMismatch 183 = .ok (.lload 4, 2) := dk_22 4 (dk_at dksJ17_vectorizedMismatch_7 19 rfl rfl)
theorem dJ17_vectorizedMismatch_185 : decode cJ17_vectorizedMismatch 185 = .ok (.lload 12, 2) := dk_22 12 (dk_at dksJ17_vectorizedMismatch_7 21 rfl rfl)
theorem dJ17_vectorizedMismatch_187 : decode cJ17_vectorizedMismatch 187 = .ok (.ladd, 1) := dk_97 (dk_at dksJ17_vectorizedMismatch_7 23 rfl rfl)
theorem dJ17_vectorizedMismatch_188 : decode cJ17_vectorizedMismatch 188 = .ok (.invokevirtual 54, 3) := dk_182 0 54 (dk_at dksJ17_vectorizedMismatch_8 0 rfl rfl)
theorem dJ17_vectorizedMismatch_191 : decode cJ17_vectorizedMismatch 191 = .ok (.istore 15, 2) := dk_54 15 (dk_at dksJ17_vectorizedMismatch_8 3 rfl rfl)
theorem dJ17_vectorizedMismatch_193 : decode cJ17_vectorizedMismatch 193 = .ok (.iload 14, 2) := dk_21 14 (dk_at dksJ17_vectorizedMismatch_8 5 rfl rfl)
theorem dJ17_vectorizedMismatch_195 : decode cJ17_vectorizedMismatch 195 = .ok (.iload 15, 2) := dk_21 15 (dk_at dksJ17_vectorizedMismatch_8 7 rfl rfl)
theorem dJ17_vectorizedMismatch_197 : decode cJ17_vectorizedMismatch 197 = .ok (.if_icmp .eq 54, 3) := dk_159 0 54 (dk_at dksJ17_vectorizedMismatch_8 9 rfl rfl)
theorem dJ17_vectorizedMismatch_200 : decode cJ17_vectorizedMismatch 200 = .ok (.iload 14, 2) := dk_21 14 (dk_at dksJ17_vectorizedMismatch_8 12 rfl rfl)
theorem dJ17_vectorizedMismatch_202 : decode cJ17_vectorizedMismatch 202 = .ok (.iload 15, 2) := dk_21 15 (dk_at dksJ17_vectorizedMismatch_8 14 rfl rfl)
theorem dJ17_vectorizedMismatch_204 : decode cJ17_vectorizedMismatch 204 = .ok (.ixor, 1) := dk_130 (dk_at dksJ17_vectorizedMismatch_8 16 rfl rfl)
theorem dJ17_vectorizedMismatch_205 : decode cJ17_vectorizedMismatch 205 = .ok (.istore 16, 2) := dk_54 16 (dk_at dksJ17_vectorizedMismatch_8 17 rfl rfl)
theorem dJ17_vectorizedMismatch_207 : decode cJ17_vectorizedMismatch 207 = .ok (.getstatic 36, 3) := dk_178 0 36 (dk_at dksJ17_vectorizedMismatch_8 19 rfl rfl)
theorem dJ17_vectorizedMismatch_210 : decode cJ17_vectorizedMismatch 210 = .ok (.ifCond .eq 18, 3) := dk_153 0 18 (dk_at dksJ17_vectorizedMismatch_9 0 rfl rfl)
theorem dJ17_vectorizedMismatch_213 : decode cJ17_vectorizedMismatch 213 = .ok (.iload 16, 2) := dk_21 16 (dk_at dksJ17_vectorizedMismatch_9 3 rfl rfl)
theorem dJ17_vectorizedMismatch_215 : decode cJ17_vectorizedMismatch 215 = .ok (.invokestatic 58, 3) := dk_184 0 58 (dk_at dksJ17_vectorizedMismatch_9 5 rfl rfl)
theorem dJ17_vectorizedMismatch_218 : decode cJ17_vectorizedMismatch 218 = .ok (.getstatic 46, 3) := dk_178 0 46 (dk_at dksJ17_vectorizedMismatch_9 8 rfl rfl)
theorem dJ17_vectorizedMismatch_221 : decode cJ17_vectorizedMismatch 221 = .ok (.iload 7, 2) := dk_21 7 (dk_at dksJ17_vectorizedMismatch_9 11 rfl rfl)
theorem dJ17_vectorizedMismatch_223 : decode cJ17_vectorizedMismatch 223 = .ok (.iadd, 1) := dk_96 (dk_at dksJ17_vectorizedMismatch_9 13 rfl rfl)
theorem dJ17_vectorizedMismatch_224 : decode cJ17_vectorizedMismatch 224 = .ok (.ishr, 1) := dk_122 (dk_at dksJ17_vectorizedMismatch_9 14 rfl rfl)
theorem dJ17_vectorizedMismatch_225 : decode cJ17_vectorizedMismatch 225 = .ok (.goto 15, 3) := dk_167 0 15 (dk_at dksJ17_vectorizedMismatch_9 15 rfl rfl)
theorem dJ17_vectorizedMismatch_228 : decode cJ17_vectorizedMismatch 228 = .ok (.iload 16, 2) := dk_21 16 (dk_at dksJ17_vectorizedMismatch_9 18 rfl rfl)
theorem dJ17_vectorizedMismatch_230 : decode cJ17_vectorizedMismatch 230 = .ok (.invokestatic 11, 3) := dk_184 0 11 (dk_at dksJ17_vectorizedMismatch_9 20 rfl rfl)
theorem dJ17_vectorizedMismatch_233 : decode cJ17_vectorizedMismatch 233 = .ok (.getstatic 46, 3) := dk_178 0 46 (dk_at dksJ17_vectorizedMismatch_10 0 rfl rfl)
theorem dJ17_vectorizedMismatch_236 : decode cJ17_vectorizedMismatch 236 = .ok (.iload 7, 2) := dk_21 7 (dk_at dksJ17_vectorizedMismatch_10 3 rfl rfl)
theorem dJ17_vectorizedMismatch_238 : decode cJ17_vectorizedMismatch 238 = .ok (.iadd, 1) := dk_96 (dk_at dksJ17_vectorizedMismatch_10 5 rfl rfl)
theorem dJ17_vectorizedMismatch_239 : decode cJ17_vectorizedMismatch 239 = .ok (.ishr, 1) := dk_122 (dk_at dksJ17_vectorizedMismatch_10 6 rfl rfl)
theorem dJ17_vectorizedMismatch_240 : decode cJ17_vectorizedMismatch 240 = .ok (.istore 17, 2) := dk_54 17 (dk_at dksJ17_vectorizedMismatch_10 7 rfl rfl)
theorem dJ17_vectorizedMismatch_242 : decode cJ17_vectorizedMismatch 242 = .ok (.iload 9, 2) := dk_21 9 (dk_at dksJ17_vectorizedMismatch_10 9 rfl rfl)
theorem dJ17_vectorizedMismatch_244 : decode cJ17_vectorizedMismatch 244 = .ok (.iload 8, 2) := dk_21 8 (dk_at dksJ17_vectorizedMismatch_10 11 rfl rfl)
theorem dJ17_vectorizedMismatch_246 : decode cJ17_vectorizedMismatch 246 = .ok (.ishl, 1) := dk_120 (dk_at dksJ17_vectorizedMismatch_10 13 rfl rfl)
theorem dJ17_vectorizedMismatch_247 : decode cJ17_vectorizedMismatch 247 = .ok (.iload 17, 2) := dk_21 17 (dk_at dksJ17_vectorizedMismatch_10 14 rfl rfl)
theorem dJ17_vectorizedMismatch_249 : decode cJ17_vectorizedMismatch 249 = .ok (.iadd, 1) := dk_96 (dk_at dksJ17_vectorizedMismatch_10 16 rfl rfl)
theorem dJ17_vectorizedMismatch_250 : decode cJ17_vectorizedMismatch 250 = .ok (.ireturn, 1) := dk_172 (dk_at dksJ17_vectorizedMismatch_10 17 rfl rfl)
theorem dJ17_vectorizedMismatch_251 : decode cJ17_vectorizedMismatch 251 = .ok (.iload 10, 2) := dk_21 10 (dk_at dksJ17_vectorizedMismatch_10 18 rfl rfl)
theorem dJ17_vectorizedMismatch_253 : decode cJ17_vectorizedMismatch 253 = .ok (.iload 11, 2) := dk_21 11 (dk_at dksJ17_vectorizedMismatch_10 20 rfl rfl)
theorem dJ17_vectorizedMismatch_255 : decode cJ17_vectorizedMismatch 255 = .ok (.isub, 1) := dk_100 (dk_at dksJ17_vectorizedMismatch_10 22 rfl rfl)
theorem dJ17_vectorizedMismatch_256 : decode cJ17_vectorizedMismatch 256 = .ok (.istore 10, 2) := dk_54 10 (dk_at dksJ17_vectorizedMismatch_11 0 rfl rfl)
theorem dJ17_vectorizedMismatch_258 : decode cJ17_vectorizedMismatch 258 = .ok (.iload 10, 2) := dk_21 10 (dk_at dksJ17_vectorizedMismatch_11 2 rfl rfl)
theorem dJ17_vectorizedMismatch_260 : decode cJ17_vectorizedMismatch 260 = .ok (.iconst (-1), 1) := dk_2 (dk_at dksJ17_vectorizedMismatch_11 4 rfl rfl)
theorem dJ17_vectorizedMismatch_261 : decode cJ17_vectorizedMismatch 261 = .ok (.ixor, 1) := dk_130 (dk_at dksJ17_vectorizedMismatch_11 5 rfl rfl)
theorem dJ17_vectorizedMismatch_262 : decode cJ17_vectorizedMismatch 262 = .ok (.ireturn, 1) := dk_172 (dk_at dksJ17_vectorizedMismatch_11 6 rfl rfl)
theorem dJ17_vectorizedMismatch_263 : decode cJ17_vectorizedMismatch 263 = .ok (.iload 10, 2) := dk_21 10 (dk_at dksJ17_vectorizedMismatch_11 7 rfl rfl)
theorem dJ17_vectorizedMismatch_265 : decode cJ17_vectorizedMismatch 265 = .ok (.iconst (-1), 1) := dk_2 (dk_at dksJ17_vectorizedMismatch_11 9 rfl rfl)
theorem dJ17_vectorizedMismatch_266 : decode cJ17_vectorizedMismatch 266 = .ok (.ixor, 1) := dk_130 (dk_at dksJ17_vectorizedMismatch_11 10 rfl rfl)
theorem dJ17_vectorizedMismatch_267 : decode cJ17_vectorizedMismatch 267 = .ok (.ireturn, 1) := dk_172 (dk_at dksJ17_vectorizedMismatch_11 11 rfl rfl)
abbrev cJ17_mismatch_2 : ByteArray := prog_94_method_14_code
def yJ17_mismatch_2 : MethodName := ⟨RJ17, "mismatch", "([BI[BII)I"⟩
def dkwJ17_mismatch_2_4 : List UInt8 := [132, 5, 1, 167, 255, 228, 2, 172]
abbrev dktJ17_mismatch_2_4 : List UInt8 := dkwJ17_mismatch_2_4 ++ []
def dkwJ17_mismatch_2_3 : List UInt8 := [21, 4, 162, 0, 27, 42, 27, 21, 5, 96, 51, 44, 29, 21, 5, 96, 51, 159, 0, 6, 21, 5, 172]
abbrev dktJ17_mismatch_2_3 : List UInt8 := dkwJ17_mismatch_2_3 ++ dktJ17_mismatch_2_4
def dkwJ17_mismatch_2_2 : List UInt8 := [184, 0, 122, 54, 5, 21, 5, 155, 0, 6, 21, 5, 172, 21, 4, 21, 5, 2, 130, 100, 54, 5, 21, 5]
abbrev dktJ17_mismatch_2_2 : List UInt8 := dkwJ17_mismatch_2_2 ++ dktJ17_mismatch_2_3
def dkwJ17_mismatch_2_1 : List UInt8 := [27, 96, 54, 6, 178, 0, 126, 29, 96, 54, 7, 42, 21, 6, 133, 44, 21, 7, 133, 21, 4, 178, 0, 129]
abbrev dktJ17_mismatch_2_1 : List UInt8 := dkwJ17_mismatch_2_1 ++ dktJ17_mismatch_2_2
def dkwJ17_mismatch_2_0 : List UInt8 := [3, 54, 5, 21, 4, 16, 7, 164, 0, 63, 42, 27, 51, 44, 29, 51, 159, 0, 5, 3, 172, 178, 0, 126]
abbrev dktJ17_mismatch_2_0 : List UInt8 := dkwJ17_mismatch_2_0 ++ dktJ17_mismatch_2_1
theorem dksJ17_mismatch_2_0 : cJ17_mismatch_2.data.toList.drop 0 = dktJ17_mismatch_2_0 := by decide +kernel
theorem dksJ17_mismatch_2_1 : cJ17_mismatch_2.data.toList.drop 24 = dktJ17_mismatch_2_1 := dk_seg dksJ17_mismatch_2_0 24 rfl rfl
theorem dksJ17_mismatch_2_2 : cJ17_mismatch_2.data.toList.drop 48 = dktJ17_mismatch_2_2 := dk_seg dksJ17_mismatch_2_1 24 rfl rfl
theorem dksJ17_mismatch_2_3 : cJ17_mismatch_2.data.toList.drop 72 = dktJ17_mismatch_2_3 := dk_seg dksJ17_mismatch_2_2 24 rfl rfl
theorem dksJ17_mismatch_2_4 : cJ17_mismatch_2.data.toList.drop 95 = dktJ17_mismatch_2_4 := dk_seg dksJ17_mismatch_2_3 23 rfl rfl
theorem dJ17_mismatch_2_0 : decode cJ17_mismatch_2 0 = .ok (.iconst 0, 1) := dk_3 (dk_at dksJ17_mismatch_2_0 0 rfl rfl)
theorem dJ17_mismatch_2_1 : decode cJ17_mismatch_2 1 = .ok (.istore 5, 2) := dk_54 5 (dk_at dksJ17_mismatch_2_0 1 rfl rfl)
theorem dJ17_mismatch_2_3 : decode cJ17_mismatch_2 3 = .ok (.iload 4, 2) := dk_21 4 (dk_at dksJ17_mismatch_2_0 3 rfl rfl)
theorem dJ17_mismatch_2_5 : decode cJ17_mismatch_2 5 = .ok (.bipush 7, 2) := dk_16 7 (dk_at dksJ17_mismatch_2_0 5 rfl rfl)
theorem dJ17_mismatch_2_7 : decode cJ17_mismatch_2 7 = .ok (.if_icmp .le 63, 3) := dk_164 0 63 (dk_at dksJ17_mismatch_2_0 7 rfl rfl)
theorem dJ17_mismatch_2_10 : decode cJ17_mismatch_2 10 = .ok (.aload_n 0, 1) := dk_42 (dk_at dksJ17_mismatch_2_0 10 rfl rfl)
theorem dJ17_mismatch_2_11 : decode cJ17_mismatch_2 11 = .ok (.iload_n 1, 1) := dk_27 (dk_at dksJ17_mismatch_2_0 11 rfl rfl)
theorem dJ17_mismatch_2_12 : decode cJ17_mismatch_2 12 = .ok (.baload, 1) := dk_51 (dk_at dksJ17_mismatch_2_0 12 rfl rfl)
theorem dJ17_mismatch_2_13 : decode cJ17_mismatch_2 13 = .ok (.aload_n 2, 1) := dk_44 (dk_at dksJ17_mismatch_2_0 13 rfl rfl)
theorem dJ17_mismatch_2_14 : decode cJ17_mismatch_2 14 = .ok (.iload_n 3, 1) := dk_29 (dk_at dksJ17_mismatch_2_0 14 rfl rfl)
theorem dJ17_mismatch_2_15 : decode cJ17_mismatch_2 15 = .ok (.baload, 1) := dk_51 (dk_at dksJ17_mismatch_2_0 15 rfl rfl)
theorem dJ17_mismatch_2_16 : decode cJ17_mismatch_2 16 = .ok (.if_icmp .eq 5, 3) := dk_159 0 5 (dk_at dksJ17_mismatch_2_0 16 rfl rfl)
theorem dJ17_mismatch_2_19 : decode cJ17_mismatch_2 19 = .ok (.iconst 0, 1) := dk_3 (dk_at dksJ17_mismatch_2_0 19 rfl rfl)
theorem dJ17_mismatch_2_20 : decode cJ17_mismatch_2 20 = .ok (.ireturn, 1) := dk_172 (dk_at dksJ17_mismatch_2_0 20 rfl rfl)
theorem dJ17_mismatch_2_21 : decode cJ17_mismatch_2 21 = .ok (.getstatic 126, 3) := dk_178 0 126 (dk_at dksJ17_mismatch_2_0 21 rfl rfl)
theorem dJ17_mismatch_2_24 : decode cJ17_mismatch_2 24 = .ok (.iload_n 1, 1) := dk_27 (dk_at dksJ17_mismatch_2_1 0 rfl rfl)
theorem dJ17_mismatch_2_25 : decode cJ17_mismatch_2 25 = .ok (.iadd, 1) := dk_96 (dk_at dksJ17_mismatch_2_1 1 rfl rfl)
theorem dJ17_mismatch_2_26 : decode cJ17_mismatch_2 26 = .ok (.istore 6, 2) := dk_54 6 (dk_at dksJ17_mismatch_2_1 2 rfl rfl)
theorem dJ17_mismatch_2_28 : decode cJ17_mismatch_2 28 = .ok (.getstatic 126, 3) := dk_178 0 126 (dk_at dksJ17_mismatch_2_1 4 rfl rfl)
theorem dJ17_mismatch_2_31 : decode cJ17_mismatch_2 31 = .ok (.iload_n 3, 1) := dk_29 (dk_at dksJ17_mismatch_2_1 7 rfl rfl)
theorem dJ17_mismatch_2_32 : decode cJ17_mismatch_2 32 = .ok (.iadd, 1) := dk_96 (dk_at dksJ17_mismatch_2_1 8 rfl rfl)
theorem dJ17_mismatch_2_33 : decode cJ17_mismatch_2 33 = .ok (.istore 7, 2) := dk_54 7 (dk_at dksJ17_mismatch_2_1 9 rfl rfl)
theorem dJ17_mismatch_2_35 : decode cJ17_mismatch_2 35 = .ok (.aload_n 0, 1) := dk_42 (dk_at dksJ17_mismatch_2_1 11 rfl rfl)
theorem dJ17_mismatch_2_36 : decode cJ17_mismatch_2 36 = .ok (.iload 6, 2) := dk_21 6 (dk_at dksJ17_mismatch_2_1 12 rfl rfl)
theorem dJ17_mismatch_2_38 : decode cJ17_mismatch_2 38 = .ok (.i2l, 1) := dk_133 (dk_at dksJ17_mismatch_2_1 14 rfl rfl)
theorem dJ17_mismatch_2_39 : decode cJ17_mismatch_2 39 = .ok (.aload_n 2, 1) := dk_44 (dk_at dksJ17_mismatch_2_1 15 rfl rfl)
theorem dJ17_mismatch_2_40 : decode cJ17_mismatch_2 40 = .ok (.iload 7, 2) := dk_21 7 (dk_at dksJ17_mismatch_2_1 16 rfl rfl)
theorem dJ17_mismatch_2_42 : decode cJ17_mismatch_2 42 = .ok (.i2l, 1) := dk_133 (dk_at dksJ17_mismatch_2_1 18 rfl rfl)
theorem dJ17_mismatch_2_43 : decode cJ17_mismatch_2 43 = .ok (.iload 4, 2) := dk_21 4 (dk_at dksJ17_mismatch_2_1 19 rfl rfl)
theorem dJ17_mismatch_2_45 : decode cJ17_mismatch_2 45 = .ok (.getstatic 129, 3) := dk_178 0 129 (dk_at dksJ17_mismatch_2_1 21 rfl rfl)
theorem dJ17_mismatch_2_48 : decode cJ17_mismatch_2 48 = .ok (.invokestatic 122, 3) := dk_184 0 122 (dk_at dksJ17_mismatch_2_2 0 rfl rfl)
theorem dJ17_mismatch_2_51 : decode cJ17_mismatch_2 51 = .ok (.istore 5, 2) := dk_54 5 (dk_at dksJ17_mismatch_2_2 3 rfl rfl)
theorem dJ17_mismatch_2_53 : decode cJ17_mismatch_2 53 = .ok (.iload 5, 2) := dk_21 5 (dk_at dksJ17_mismatch_2_2 5 rfl rfl)
theorem dJ17_mismatch_2_55 : decode cJ17_mismatch_2 55 = .ok (.ifCond .lt 6, 3) := dk_155 0 6 (dk_at dksJ17_mismatch_2_2 7 rfl rfl)
theorem dJ17_mismatch_2_58 : decode cJ17_mismatch_2 58 = .ok (.iload 5, 2) := dk_21 5 (dk_at dksJ17_mismatch_2_2 10 rfl rfl)
theorem dJ17_mismatch_2_60 : decode cJ17_mismatch_2 60 = .ok (.ireturn, 1) := dk_172 (dk_at dksJ17_mismatch_2_2 12 rfl rfl)
theorem dJ17_mismatch_2_61 : decode cJ17_mismatch_2 61 = .ok (.iload 4, 2) := dk_21 4 (dk_at dksJ17_mismatch_2_2 13 rfl rfl)
theorem dJ17_mismatch_2_63 : decode cJ17_mismatch_2 63 = .ok (.iload 5, 2) := dk_21 5 (dk_at dksJ17_mismatch_2_2 15 rfl rfl)
theorem dJ17_mismatch_2_65 : decode cJ17_mismatch_2 65 = .ok (.iconst (-1), 1) := dk_2 (dk_at dksJ17_mismatch_2_2 17 rfl rfl)
theorem dJ17_mismatch_2_66 : decode cJ17_mismatch_2 66 = .ok (.ixor, 1) := dk_130 (dk_at dksJ17_mismatch_2_2 18 rfl rfl)
theorem dJ17_mismatch_2_67 : decode cJ17_mismatch_2 67 = .ok (.isub, 1) := dk_100 (dk_at dksJ17_mismatch_2_2 19 rfl rfl)
theorem dJ17_mismatch_2_68 : decode cJ17_mismatch_2 68 = .ok (.istore 5, 2) := dk_54 5 (dk_at dksJ17_mismatch_2_2 20 rfl rfl)
theorem dJ17_mismatch_2_70 : decode cJ17_mismatch_2 70 = .ok (.iload 5, 2) := dk_21 5 (dk_at dksJ17_mismatch_2_2 22 rfl rfl)
theorem dJ17_mismatch_2_72 : decode cJ17_mismatch_2 72 = .ok (.iload 4, 2) := dk_21 4 (dk_at dksJ17_mismatch_2_3 0 rfl rfl)
theorem dJ17_mismatch_2_74 : decode cJ17_mismatch_2 74 = .ok (.if_icmp .ge 27, 3) := dk_162 0 27 (dk_at dksJ17_mismatch_2_3 2 rfl rfl)
theorem dJ17_mismatch_2_77 : decode cJ17_mismatch_2 77 = .ok (.aload_n 0, 1) := dk_42 (dk_at dksJ17_mismatch_2_3 5 rfl rfl)
theorem dJ17_mismatch_2_78 : decode cJ17_mismatch_2 78 = .ok (.iload_n 1, 1) := dk_27 (dk_at dksJ17_mismatch_2_3 6 rfl rfl)
theorem dJ17_mismatch_2_79 : decode cJ17_mismatch_2 79 = .ok (.iload 5, 2) := dk_21 5 (dk_at dksJ17_mismatch_2_3 7 rfl rfl)
theorem dJ17_mismatch_2_81 : decode cJ17_mismatch_2 81 = .ok (.iadd, 1) := dk_96 (dk_at dksJ17_mismatch_2_3 9 rfl rfl)
theorem dJ17_mismatch_2_82 : decode cJ17_mismatch_2 82 = .ok (.baload, 1) := dk_51 (dk_at dksJ17_mismatch_2_3 10 rfl rfl)
theorem dJ17_mismatch_2_83 : decode cJ17_mismatch_2 83 = .ok (.aload_n 2, 1) := dk_44 (dk_at dksJ17_mismatch_2_3 11 rfl rfl)
theorem dJ17_mismatch_2_84 : decode cJ17_mismatch_2 84 = .ok (.iload_n 3, 1) := dk_29 (dk_at dksJ17_mismatch_2_3 12 rfl rfl)
theorem dJ17_mismatch_2_85 : decode cJ17_mismatch_2 85 = .ok (.iload 5, 2) := dk_21 5 (dk_at dksJ17_mismatch_2_3 13 rfl rfl)
theorem dJ17_mismatch_2_87 : decode cJ17_mismatch_2 87 = .ok (.iadd, 1) := dk_96 (dk_at dksJ17_mismatch_2_3 15 rfl rfl)
theorem dJ17_mismatch_2_88 : decode cJ17_mismatch_2 88 = .ok (.baload, 1) := dk_51 (dk_at dksJ17_mismatch_2_3 16 rfl rfl)
theorem dJ17_mismatch_2_89 : decode cJ17_mismatch_2 89 = .ok (.if_icmp .eq 6, 3) := dk_159 0 6 (dk_at dksJ17_mismatch_2_3 17 rfl rfl)
theorem dJ17_mismatch_2_92 : decode cJ17_mismatch_2 92 = .ok (.iload 5, 2) := dk_21 5 (dk_at dksJ17_mismatch_2_3 20 rfl rfl)
theorem dJ17_mismatch_2_94 : decode cJ17_mismatch_2 94 = .ok (.ireturn, 1) := dk_172 (dk_at dksJ17_mismatch_2_3 22 rfl rfl)
theorem dJ17_mismatch_2_95 : decode cJ17_mismatch_2 95 = .ok (.iinc 5 1, 3) := dk_132 5 1 (dk_at dksJ17_mismatch_2_4 0 rfl rfl)
theorem dJ17_mismatch_2_98 : decode cJ17_mismatch_2 98 = .ok (.goto (-28), 3) := dk_167 255 228 (dk_at dksJ17_mismatch_2_4 3 rfl rfl)
theorem dJ17_mismatch_2_101 : decode cJ17_mismatch_2 101 = .ok (.iconst (-1), 1) := dk_2 (dk_at dksJ17_mismatch_2_4 6 rfl rfl)
theorem dJ17_mismatch_2_102 : decode cJ17_mismatch_2 102 = .ok (.ireturn, 1) := dk_172 (dk_at dksJ17_mismatch_2_4 7 rfl rfl)
theorem q96 : (Jvm.Cond.initialized "jdk/internal/util/ArraysSupport") ∈ lw_all := lw_g (lw_at lw_m1 24 rfl) rfl
theorem q579 : (Jvm.Cond.static ({ cls := "jdk/internal/util/ArraysSupport", name := "newLength", desc := "(III)I" } : Jvm.MethodName)) ∈ lw_all := lw_g (lw_at lw_m3 27 rfl) rfl
theorem q580 : (Jvm.Cond.code ({ cls := "jdk/internal/util/ArraysSupport", name := "newLength", desc := "(III)I" } : Jvm.MethodName) prog_94_method_27_code (4 : Nat) (Option.some Jvm.ClassFile.FieldType.int)) ∈ lw_all := lw_g (lw_at lw_m3 28 rfl) rfl
theorem q581 : (Jvm.Cond.methodLink "jdk/internal/util/ArraysSupport" (194 : Nat) ({ cls := "java/lang/Math", name := "max", desc := "(II)I" } : Jvm.MethodName)) ∈ lw_all := lw_g (lw_at lw_m3 29 rfl) rfl
theorem q584 : (Jvm.Cond.constant "jdk/internal/util/ArraysSupport" (200 : Nat) (2147483639 : Int32)) ∈ lw_all := lw_g (lw_at lw_m3 32 rfl) rfl
theorem q585 : (Jvm.Cond.methodLink "jdk/internal/util/ArraysSupport" (201 : Nat) ({ cls := "jdk/internal/util/ArraysSupport", name := "hugeLength", desc := "(II)I" } : Jvm.MethodName)) ∈ lw_all := lw_g (lw_at lw_m3 33 rfl) rfl
theorem q586 : (Jvm.Cond.static ({ cls := "jdk/internal/util/ArraysSupport", name := "hugeLength", desc := "(II)I" } : Jvm.MethodName)) ∈ lw_all := lw_g (lw_at lw_m3 34 rfl) rfl
theorem q587 : (Jvm.Cond.code ({ cls := "jdk/internal/util/ArraysSupport", name := "hugeLength", desc := "(II)I" } : Jvm.MethodName) prog_94_method_28_code (3 : Nat) (Option.some Jvm.ClassFile.FieldType.int)) ∈ lw_all := lw_g (lw_at lw_m3 35 rfl) rfl
theorem q835 : (Jvm.Cond.static ({ cls := "jdk/internal/util/ArraysSupport", name := "vectorizedHashCode", desc := "(Ljava/lang/Object;IIII)I" } : Jvm.MethodName)) ∈ lw_all := lw_g (lw_at lw_m4 43 rfl) rfl
theorem q836 : (Jvm.Cond.code ({ cls := "jdk/internal/util/ArraysSupport", name := "vectorizedHashCode", desc := "(Ljava/lang/Object;IIII)I" } : Jvm.MethodName) prog_94_method_4_code (5 : Nat) (Option.some Jvm.ClassFile.FieldType.int)) ∈ lw_all := lw_g (lw_at lw_m4 44 rfl) rfl
theorem q837 : (Jvm.Cond.classLink "jdk/internal/util/ArraysSupport" (60 : Nat) "[B") ∈ lw_all := lw_g (lw_at lw_m4 45 rfl) rfl
theorem q838 : (Jvm.Cond.methodLink "jdk/internal/util/ArraysSupport" (62 : Nat) ({ cls := "jdk/internal/util/ArraysSupport", name := "signedHashCode", desc := "(I[BII)I" } : Jvm.MethodName)) ∈ lw_all := lw_g (lw_at lw_m4 46 rfl) rfl
theorem q839 : (Jvm.Cond.static ({ cls := "jdk/internal/util/ArraysSupport", name := "signedHashCode", desc := "(I[BII)I" } : Jvm.MethodName)) ∈ lw_all := lw_g (lw_at lw_m4 47 rfl) rfl
theorem q840 : (Jvm.Cond.code ({ cls := "jdk/internal/util/ArraysSupport", name := "signedHashCode", desc := "(I[BII)I" } : Jvm.MethodName) prog_94_method_5_code (6 : Nat) (Option.some Jvm.ClassFile.FieldType.int)) ∈ lw_all := lw_g (lw_at lw_m4 48 rfl) rfl
theorem q841 : (Jvm.Cond.methodLink "jdk/internal/util/ArraysSupport" (66 : Nat) ({ cls := "jdk/internal/util/ArraysSupport", name := "utf16hashCode", desc := "(I[BII)I" } : Jvm.MethodName)) ∈ lw_all := lw_g (lw_at lw_m4 49 rfl) rfl
theorem q842 : (Jvm.Cond.static ({ cls := "jdk/internal/util/ArraysSupport", name := "utf16hashCode", desc := "(I[BII)I" } : Jvm.MethodName)) ∈ lw_all := lw_g (lw_at lw_m4 50 rfl) rfl
theorem q843 : (Jvm.Cond.code ({ cls := "jdk/internal/util/ArraysSupport", name := "utf16hashCode", desc := "(I[BII)I" } : Jvm.MethodName) prog_94_method_10_code (6 : Nat) (Option.some Jvm.ClassFile.FieldType.int)) ∈ lw_all := lw_g (lw_at lw_m4 51 rfl) rfl
theorem q844 : (Jvm.Cond.fieldLink "jdk/internal/util/ArraysSupport" (106 : Nat) "jdk/internal/util/ArraysSupport" "JLA" "Ljdk/internal/access/JavaLangAccess;") ∈ lw_all := lw_g (lw_at lw_m4 52 rfl) rfl
theorem q845 : (Jvm.Cond.laysStatic "jdk/internal/util/ArraysSupport" "JLA" "Ljdk/internal/access/JavaLangAccess;") ∈ lw_tbl := lw_at lw_m4 53 rfl
theorem q846 : (Jvm.Cond.interfaceEntry "jdk/internal/util/ArraysSupport" (110 : Nat)) ∈ lw_tbl := lw_at lw_m4 54 rfl
theorem q847 : (Jvm.Cond.methodLink "jdk/internal/util/ArraysSupport" (110 : Nat) ({ cls := "jdk/internal/access/JavaLangAccess", name := "getUTF16Char", desc := "([BI)C" } : Jvm.MethodName)) ∈ lw_all := lw_g (lw_at lw_m4 55 rfl) rfl
theorem q868 : (Jvm.Cond.classLink "jdk/internal/util/ArraysSupport" (69 : Nat) "[C") ∈ lw_all := lw_g (lw_at lw_m4 76 rfl) rfl
theorem q869 : (Jvm.Cond.methodLink "jdk/internal/util/ArraysSupport" (71 : Nat) ({ cls := "jdk/internal/util/ArraysSupport", name := "hashCode", desc := "(I[CII)I" } : Jvm.MethodName)) ∈ lw_all := lw_g (lw_at lw_m4 77 rfl) rfl
theorem q870 : (Jvm.Cond.static ({ cls := "jdk/internal/util/ArraysSupport", name := "hashCode", desc := "(I[CII)I" } : Jvm.MethodName)) ∈ lw_all := lw_g (lw_at lw_m4 78 rfl) rfl
theorem q871 : (Jvm.Cond.code ({ cls := "jdk/internal/util/ArraysSupport", name := "hashCode", desc := "(I[CII)I" } : Jvm.MethodName) prog_94_method_7_code (6 : Nat) (Option.some Jvm.ClassFile.FieldType.int)) ∈ lw_all := lw_g (lw_at lw_m4 79 rfl) rfl
theorem q872 : (Jvm.Cond.methodLink "jdk/internal/util/ArraysSupport" (75 : Nat) ({ cls := "jdk/internal/util/ArraysSupport", name := "hashCode", desc := "(I[BII)I" } : Jvm.MethodName)) ∈ lw_all := lw_g (lw_at lw_m4 80 rfl) rfl
theorem q873 : (Jvm.Cond.static ({ cls := "jdk/internal/util/ArraysSupport", name := "hashCode", desc := "(I[BII)I" } : Jvm.MethodName)) ∈ lw_all := lw_g (lw_at lw_m4 81 rfl) rfl
theorem q874 : (Jvm.Cond.code ({ cls := "jdk/internal/util/ArraysSupport", name := "hashCode", desc := "(I[BII)I" } : Jvm.MethodName) prog_94_method_6_code (6 : Nat) (Option.some Jvm.ClassFile.FieldType.int)) ∈ lw_all := lw_g (lw_at lw_m4 82 rfl) rfl
theorem q875 : (Jvm.Cond.classLink "jdk/internal/util/ArraysSupport" (77 : Nat) "[S") ∈ lw_all := lw_g (lw_at lw_m4 83 rfl) rfl
theorem q876 : (Jvm.Cond.methodLink "jdk/internal/util/ArraysSupport" (79 : Nat) ({ cls := "jdk/internal/util/ArraysSupport", name := "hashCode", desc := "(I[SII)I" } : Jvm.MethodName)) ∈ lw_all := lw_g (lw_at lw_m4 84 rfl) rfl
theorem q877 : (Jvm.Cond.static ({ cls := "jdk/internal/util/ArraysSupport", name := "hashCode", desc := "(I[SII)I" } : Jvm.MethodName)) ∈ lw_all := lw_g (lw_at lw_m4 85 rfl) rfl
theorem q878 : (Jvm.Cond.code ({ cls := "jdk/internal/util/ArraysSupport", name := "hashCode", desc := "(I[SII)I" } : Jvm.MethodName) prog_94_method_8_code (6 : Nat) (Option.some Jvm.ClassFile.FieldType.int)) ∈ lw_all := lw_g (lw_at lw_m4 86 rfl) rfl
theorem q879 : (Jvm.Cond.classLink "jdk/internal/util/ArraysSupport" (82 : Nat) "[I") ∈ lw_all := lw_g (lw_at lw_m4 87 rfl) rfl
theorem q880 : (Jvm.Cond.methodLink "jdk/internal/util/ArraysSupport" (84 : Nat) ({ cls := "jdk/internal/util/ArraysSupport", name := "hashCode", desc := "(I[III)I" } : Jvm.MethodName)) ∈ lw_all := lw_g (lw_at lw_m4 88 rfl) rfl
theorem q881 : (Jvm.Cond.static ({ cls := "jdk/internal/util/ArraysSupport", name := "hashCode", desc := "(I[III)I" } : Jvm.MethodName)) ∈ lw_all := lw_g (lw_at lw_m4 89 rfl) rfl
theorem q882 : (Jvm.Cond.code ({ cls := "jdk/internal/util/ArraysSupport", name := "hashCode", desc := "(I[III)I" } : Jvm.MethodName) prog_94_method_9_code (6 : Nat) (Option.some Jvm.ClassFile.FieldType.int)) ∈ lw_all := lw_g (lw_at lw_m4 90 rfl) rfl
theorem q883 : (Jvm.Cond.classLink "jdk/internal/util/ArraysSupport" (87 : Nat) "java/lang/IllegalArgumentException") ∈ lw_all := lw_g (lw_at lw_m4 91 rfl) rfl
theorem q892 : (Jvm.Cond.classLink "jdk/internal/util/ArraysSupport" (89 : Nat) "java/lang/StringBuilder") ∈ lw_all := lw_g (lw_at lw_m4 100 rfl) rfl
theorem q893 : (Jvm.Cond.methodLink "jdk/internal/util/ArraysSupport" (91 : Nat) ({ cls := "java/lang/StringBuilder", name := "<init>", desc := "()V" } : Jvm.MethodName)) ∈ lw_all := lw_g (lw_at lw_m4 101 rfl) rfl
theorem q894 : (Jvm.Cond.stringRef "jdk/internal/util/ArraysSupport" (92 : Nat) "unrecognized basic type: ") ∈ lw_tbl := lw_at lw_m4 102 rfl
theorem q895 : (Jvm.Cond.methodLink "jdk/internal/util/ArraysSupport" (94 : Nat) ({ cls := "java/lang/StringBuilder", name := "append", desc := "(Ljava/lang/String;)Ljava/lang/StringBuilder;" } : Jvm.MethodName)) ∈ lw_all := lw_g (lw_at lw_m4 103 rfl) rfl
theorem q990 : (Jvm.Cond.methodLink "jdk/internal/util/ArraysSupport" (98 : Nat) ({ cls := "java/lang/StringBuilder", name := "append", desc := "(I)Ljava/lang/StringBuilder;" } : Jvm.MethodName)) ∈ lw_all := lw_g (lw_at lw_m4 198 rfl) rfl
theorem q1015 : (Jvm.Cond.methodLink "jdk/internal/util/ArraysSupport" (101 : Nat) ({ cls := "java/lang/StringBuilder", name := "toString", desc := "()Ljava/lang/String;" } : Jvm.MethodName)) ∈ lw_all := lw_g (lw_at lw_m4 223 rfl) rfl
theorem q1096 : (Jvm.Cond.methodLink "jdk/internal/util/ArraysSupport" (105 : Nat) ({ cls := "java/lang/IllegalArgumentException", name := "<init>", desc := "(Ljava/lang/String;)V" } : Jvm.MethodName)) ∈ lw_all := lw_g (lw_at lw_m5 64 rfl) rfl
theorem q1219 : (Jvm.Cond.static ({ cls := "jdk/internal/util/ArraysSupport", name := "mismatch", desc := "([B[BI)I" } : Jvm.MethodName)) ∈ lw_all := lw_g (lw_at lw_m5 187 rfl) rfl
theorem q1220 : (Jvm.Cond.code ({ cls := "jdk/internal/util/ArraysSupport", name := "mismatch", desc := "([B[BI)I" } : Jvm.MethodName) prog_94_method_13_code (4 : Nat) (Option.some Jvm.ClassFile.FieldType.int)) ∈ lw_all := lw_g (lw_at lw_m5 188 rfl) rfl
theorem q1221 : (Jvm.Cond.fieldLink "jdk/internal/util/ArraysSupport" (126 : Nat) "jdk/internal/misc/Unsafe" "ARRAY_BYTE_BASE_OFFSET" "I") ∈ lw_all := lw_g (lw_at lw_m5 189 rfl) rfl
theorem q1223 : (Jvm.Cond.fieldLink "jdk/internal/util/ArraysSupport" (129 : Nat) "jdk/internal/util/ArraysSupport" "LOG2_ARRAY_BYTE_INDEX_SCALE" "I") ∈ lw_all := lw_g (lw_at lw_m5 191 rfl) rfl
theorem q1224 : (Jvm.Cond.laysStatic "jdk/internal/util/ArraysSupport" "LOG2_ARRAY_BYTE_INDEX_SCALE" "I") ∈ lw_tbl := lw_at lw_m5 192 rfl
theorem q1225 : (Jvm.Cond.methodLink "jdk/internal/util/ArraysSupport" (122 : Nat) ({ cls := "jdk/internal/util/ArraysSupport", name := "vectorizedMismatch", desc := "(Ljava/lang/Object;JLjava/lang/Object;JII)I" } : Jvm.MethodName)) ∈ lw_all := lw_g (lw_at lw_m5 193 rfl) rfl
theorem q1226 : (Jvm.Cond.static ({ cls := "jdk/internal/util/ArraysSupport", name := "vectorizedMismatch", desc := "(Ljava/lang/Object;JLjava/lang/Object;JII)I" } : Jvm.MethodName)) ∈ lw_all := lw_g (lw_at lw_m5 194 rfl) rfl
theorem q1227 : (Jvm.Cond.code ({ cls := "jdk/internal/util/ArraysSupport", name := "vectorizedMismatch", desc := "(Ljava/lang/Object;JLjava/lang/Object;JII)I" } : Jvm.MethodName) prog_94_method_3_code (19 : Nat) (Option.some Jvm.ClassFile.FieldType.int)) ∈ lw_all := lw_g (lw_at lw_m5 195 rfl) rfl
theorem q1228 : (Jvm.Cond.fieldLink "jdk/internal/util/ArraysSupport" (20 : Nat) "jdk/internal/util/ArraysSupport" "LOG2_ARRAY_LONG_INDEX_SCALE" "I") ∈ lw_all := lw_g (lw_at lw_m5 196 rfl) rfl
theorem q1229 : (Jvm.Cond.laysStatic "jdk/internal/util/ArraysSupport" "LOG2_ARRAY_LONG_INDEX_SCALE" "I") ∈ lw_tbl := lw_at lw_m5 197 rfl
theorem q1230 : (Jvm.Cond.fieldLink "jdk/internal/util/ArraysSupport" (26 : Nat) "jdk/internal/util/ArraysSupport" "U" "Ljdk/internal/misc/Unsafe;") ∈ lw_all := lw_g (lw_at lw_m5 198 rfl) rfl
theorem q1231 : (Jvm.Cond.laysStatic "jdk/internal/util/ArraysSupport" "U" "Ljdk/internal/misc/Unsafe;") ∈ lw_tbl := lw_at lw_m5 199 rfl
theorem q1232 : (Jvm.Cond.methodLink "jdk/internal/util/ArraysSupport" (30 : Nat) ({ cls := "jdk/internal/misc/Unsafe", name := "getLongUnaligned", desc := "(Ljava/lang/Object;J)J" } : Jvm.MethodName)) ∈ lw_all := lw_g (lw_at lw_m5 200 rfl) rfl
theorem q1284 : (Jvm.Cond.fieldLink "jdk/internal/util/ArraysSupport" (36 : Nat) "jdk/internal/util/ArraysSupport" "BIG_ENDIAN" "Z") ∈ lw_all := lw_g (lw_at lw_m6 12 rfl) rfl
theorem q1285 : (Jvm.Cond.laysStatic "jdk/internal/util/ArraysSupport" "BIG_ENDIAN" "Z") ∈ lw_tbl := lw_at lw_m6 13 rfl
theorem q1286 : (Jvm.Cond.methodLink "jdk/internal/util/ArraysSupport" (40 : Nat) ({ cls := "java/lang/Long", name := "numberOfLeadingZeros", desc := "(J)I" } : Jvm.MethodName)) ∈ lw_all := lw_g (lw_at lw_m6 14 rfl) rfl
theorem q1293 : (Jvm.Cond.fieldLink "jdk/internal/util/ArraysSupport" (46 : Nat) "jdk/internal/util/ArraysSupport" "LOG2_BYTE_BIT_SIZE" "I") ∈ lw_all := lw_g (lw_at lw_m6 21 rfl) rfl
theorem q1294 : (Jvm.Cond.laysStatic "jdk/internal/util/ArraysSupport" "LOG2_BYTE_BIT_SIZE" "I") ∈ lw_tbl := lw_at lw_m6 22 rfl
theorem q1295 : (Jvm.Cond.methodLink "jdk/internal/util/ArraysSupport" (49 : Nat) ({ cls := "java/lang/Long", name := "numberOfTrailingZeros", desc := "(J)I" } : Jvm.MethodName)) ∈ lw_all := lw_g (lw_at lw_m6 23 rfl) rfl
theorem q1301 : (Jvm.Cond.fieldLink "jdk/internal/util/ArraysSupport" (51 : Nat) "jdk/internal/util/ArraysSupport" "LOG2_ARRAY_INT_INDEX_SCALE" "I") ∈ lw_all := lw_g (lw_at lw_m6 29 rfl) rfl
theorem q1302 : (Jvm.Cond.laysStatic "jdk/internal/util/ArraysSupport" "LOG2_ARRAY_INT_INDEX_SCALE" "I") ∈ lw_tbl := lw_at lw_m6 30 rfl
theorem q1303 : (Jvm.Cond.methodLink "jdk/internal/util/ArraysSupport" (54 : Nat) ({ cls := "jdk/internal/misc/Unsafe", name := "getIntUnaligned", desc := "(Ljava/lang/Object;J)I" } : Jvm.MethodName)) ∈ lw_all := lw_g (lw_at lw_m6 31 rfl) rfl
theorem q1320 : (Jvm.Cond.methodLink "jdk/internal/util/ArraysSupport" (58 : Nat) ({ cls := "java/lang/Integer", name := "numberOfLeadingZeros", desc := "(I)I" } : Jvm.MethodName)) ∈ lw_all := lw_g (lw_at lw_m6 48 rfl) rfl
theorem q1321 : (Jvm.Cond.methodLink "jdk/internal/util/ArraysSupport" (11 : Nat) ({ cls := "java/lang/Integer", name := "numberOfTrailingZeros", desc := "(I)I" } : Jvm.MethodName)) ∈ lw_all := lw_g (lw_at lw_m6 49 rfl) rfl
theorem q3013 : (Jvm.Cond.static ({ cls := "jdk/internal/util/ArraysSupport", name := "mismatch", desc := "([BI[BII)I" } : Jvm.MethodName)) ∈ lw_all := lw_g (lw_at lw_m13 61 rfl) rfl
theorem q3014 : (Jvm.Cond.code ({ cls := "jdk/internal/util/ArraysSupport", name := "mismatch", desc := "([BI[BII)I" } : Jvm.MethodName) prog_94_method_14_code (8 : Nat) (Option.some Jvm.ClassFile.FieldType.int)) ∈ lw_all := lw_g (lw_at lw_m13 62 rfl) rfl

/-! java/util/Arrays -/
set_option maxRecDepth 100000
def RJ19 : String := "java/util/Arrays"
abbrev cJ19_copyOf : ByteArray := prog_67_method_119_code
def yJ19_copyOf : MethodName := ⟨RJ19, "copyOf", "([Ljava/lang/Object;I)[Ljava/lang/Object;"⟩
def dkwJ19_copyOf_0 : List UInt8 := [42, 27, 42, 182, 0, 86, 184, 1, 44, 176]
abbrev dktJ19_copyOf_0 : List UInt8 := dkwJ19_copyOf_0 ++ []
theorem dksJ19_copyOf_0 : cJ19_copyOf.data.toList.drop 0 = dktJ19_copyOf_0 := by decide +kernel
theorem dJ19_copyOf_0 : decode cJ19_copyOf 0 = .ok (.aload_n 0, 1) := dk_42 (dk_at dksJ19_copyOf_0 0 rfl rfl)
theorem dJ19_copyOf_1 : decode cJ19_copyOf 1 = .ok (.iload_n 1, 1) := dk_27 (dk_at dksJ19_copyOf_0 1 rfl rfl)
theorem dJ19_copyOf_2 : decode cJ19_copyOf 2 = .ok (.aload_n 0, 1) := dk_42 (dk_at dksJ19_copyOf_0 2 rfl rfl)
theorem dJ19_copyOf_3 : decode cJ19_copyOf 3 = .ok (.invokevirtual 86, 3) := dk_182 0 86 (dk_at dksJ19_copyOf_0 3 rfl rfl)
theorem dJ19_copyOf_6 : decode cJ19_copyOf 6 = .ok (.invokestatic 300, 3) := dk_184 1 44 (dk_at dksJ19_copyOf_0 6 rfl rfl)
theorem dJ19_copyOf_9 : decode cJ19_copyOf 9 = .ok (.areturn, 1) := dk_176 (dk_at dksJ19_copyOf_0 9 rfl rfl)
abbrev cJ19_copyOf_2 : ByteArray := prog_67_method_120_code
def yJ19_copyOf_2 : MethodName := ⟨RJ19, "copyOf", "([Ljava/lang/Object;ILjava/lang/Class;)[Ljava/lang/Object;"⟩
def dkwJ19_copyOf_2_1 : List UInt8 := [78, 42, 3, 45, 3, 42, 190, 27, 184, 1, 48, 184, 0, 150, 45, 176]
abbrev dktJ19_copyOf_2_1 : List UInt8 := dkwJ19_copyOf_2_1 ++ []
def dkwJ19_copyOf_2_0 : List UInt8 := [44, 18, 110, 166, 0, 10, 27, 189, 0, 2, 167, 0, 14, 44, 182, 0, 90, 27, 184, 0, 95, 192, 0, 110]
abbrev dktJ19_copyOf_2_0 : List UInt8 := dkwJ19_copyOf_2_0 ++ dktJ19_copyOf_2_1
theorem dksJ19_copyOf_2_0 : cJ19_copyOf_2.data.toList.drop 0 = dktJ19_copyOf_2_0 := by decide +kernel
theorem dksJ19_copyOf_2_1 : cJ19_copyOf_2.data.toList.drop 24 = dktJ19_copyOf_2_1 := dk_seg dksJ19_copyOf_2_0 24 rfl rfl
theorem dJ19_copyOf_2_0 : decode cJ19_copyOf_2 0 = .ok (.aload_n 2, 1) := dk_44 (dk_at dksJ19_copyOf_2_0 0 rfl rfl)
theorem dJ19_copyOf_2_1 : decode cJ19_copyOf_2 1 = .ok (.ldc 110, 2) := dk_18 110 (dk_at dksJ19_copyOf_2_0 1 rfl rfl)
theorem dJ19_copyOf_2_3 : decode cJ19_copyOf_2 3 = .ok (.if_acmp .ne 10, 3) := dk_166 0 10 (dk_at dksJ19_copyOf_2_0 3 rfl rfl)
theorem dJ19_copyOf_2_6 : decode cJ19_copyOf_2 6 = .ok (.iload_n 1, 1) := dk_27 (dk_at dksJ19_copyOf_2_0 6 rfl rfl)
theorem dJ19_copyOf_2_7 : decode cJ19_copyOf_2 7 = .ok (.anewarray 2, 3) := dk_189 0 2 (dk_at dksJ19_copyOf_2_0 7 rfl rfl)
theorem dJ19_copyOf_2_10 : decode cJ19_copyOf_2 10 = .ok (.goto 14, 3) := dk_167 0 14 (dk_at dksJ19_copyOf_2_0 10 rfl rfl)
theorem dJ19_copyOf_2_13 : decode cJ19_copyOf_2 13 = .ok (.aload_n 2, 1) := dk_44 (dk_at dksJ19_copyOf_2_0 13 rfl rfl)
theorem dJ19_copyOf_2_14 : decode cJ19_copyOf_2 14 = .ok (.invokevirtual 90, 3) := dk_182 0 90 (dk_at dksJ19_copyOf_2_0 14 rfl rfl)
theorem dJ19_copyOf_2_17 : decode cJ19_copyOf_2 17 = .ok (.iload_n 1, 1) := dk_27 (dk_at dksJ19_copyOf_2_0 17 rfl rfl)
theorem dJ19_copyOf_2_18 : decode cJ19_copyOf_2 18 = .ok (.invokestatic 95, 3) := dk_184 0 95 (dk_at dksJ19_copyOf_2_0 18 rfl rfl)
theorem dJ19_copyOf_2_21 : decode cJ19_copyOf_2 21 = .ok (.checkcast 110, 3) := dk_192 0 110 (dk_at dksJ19_copyOf_2_0 21 rfl rfl)
theorem dJ19_copyOf_2_24 : decode cJ19_copyOf_2 24 = .ok (.astore_n 3, 1) := dk_78 (dk_at dksJ19_copyOf_2_1 0 rfl rfl)
theorem dJ19_copyOf_2_25 : decode cJ19_copyOf_2 25 = .ok (.aload_n 0, 1) := dk_42 (dk_at dksJ19_copyOf_2_1 1 rfl rfl)
theorem dJ19_copyOf_2_26 : decode cJ19_copyOf_2 26 = .ok (.iconst 0, 1) := dk_3 (dk_at dksJ19_copyOf_2_1 2 rfl rfl)
theorem dJ19_copyOf_2_27 : decode cJ19_copyOf_2 27 = .ok (.aload_n 3, 1) := dk_45 (dk_at dksJ19_copyOf_2_1 3 rfl rfl)
theorem dJ19_copyOf_2_28 : decode cJ19_copyOf_2 28 = .ok (.iconst 0, 1) := dk_3 (dk_at dksJ19_copyOf_2_1 4 rfl rfl)
theorem dJ19_copyOf_2_29 : decode cJ19_copyOf_2 29 = .ok (.aload_n 0, 1) := dk_42 (dk_at dksJ19_copyOf_2_1 5 rfl rfl)
theorem dJ19_copyOf_2_30 : decode cJ19_copyOf_2 30 = .ok (.arraylength, 1) := dk_190 (dk_at dksJ19_copyOf_2_1 6 rfl rfl)
theorem dJ19_copyOf_2_31 : decode cJ19_copyOf_2 31 = .ok (.iload_n 1, 1) := dk_27 (dk_at dksJ19_copyOf_2_1 7 rfl rfl)
theorem dJ19_copyOf_2_32 : decode cJ19_copyOf_2 32 = .ok (.invokestatic 304, 3) := dk_184 1 48 (dk_at dksJ19_copyOf_2_1 8 rfl rfl)
theorem dJ19_copyOf_2_35 : decode cJ19_copyOf_2 35 = .ok (.invokestatic 150, 3) := dk_184 0 150 (dk_at dksJ19_copyOf_2_1 11 rfl rfl)
theorem dJ19_copyOf_2_38 : decode cJ19_copyOf_2 38 = .ok (.aload_n 3, 1) := dk_45 (dk_at dksJ19_copyOf_2_1 14 rfl rfl)
theorem dJ19_copyOf_2_39 : decode cJ19_copyOf_2 39 = .ok (.areturn, 1) := dk_176 (dk_at dksJ19_copyOf_2_1 15 rfl rfl)
abbrev cJ19_copyOf_3 : ByteArray := prog_67_method_121_code
def yJ19_copyOf_3 : MethodName := ⟨RJ19, "copyOf", "([BI)[B"⟩
def dkwJ19_copyOf_3_1 : List UInt8 := [27, 184, 1, 48, 184, 0, 150, 44, 176]
abbrev dktJ19_copyOf_3_1 : List UInt8 := dkwJ19_copyOf_3_1 ++ []
def dkwJ19_copyOf_3_0 : List UInt8 := [27, 42, 190, 160, 0, 11, 42, 182, 1, 54, 192, 1, 55, 176, 27, 188, 8, 77, 42, 3, 44, 3, 42, 190]
abbrev dktJ19_copyOf_3_0 : List UInt8 := dkwJ19_copyOf_3_0 ++ dktJ19_copyOf_3_1
theorem dksJ19_copyOf_3_0 : cJ19_copyOf_3.data.toList.drop 0 = dktJ19_copyOf_3_0 := by decide +kernel
theorem dksJ19_copyOf_3_1 : cJ19_copyOf_3.data.toList.drop 24 = dktJ19_copyOf_3_1 := dk_seg dksJ19_copyOf_3_0 24 rfl rfl
theorem dJ19_copyOf_3_0 : decode cJ19_copyOf_3 0 = .ok (.iload_n 1, 1) := dk_27 (dk_at dksJ19_copyOf_3_0 0 rfl rfl)
theorem dJ19_copyOf_3_1 : decode cJ19_copyOf_3 1 = .ok (.aload_n 0, 1) := dk_42 (dk_at dksJ19_copyOf_3_0 1 rfl rfl)
theorem dJ19_copyOf_3_2 : decode cJ19_copyOf_3 2 = .ok (.arraylength, 1) := dk_190 (dk_at dksJ19_copyOf_3_0 2 rfl rfl)
theorem dJ19_copyOf_3_3 : decode cJ19_copyOf_3 3 = .ok (.if_icmp .ne 11, 3) := dk_160 0 11 (dk_at dksJ19_copyOf_3_0 3 rfl rfl)
theorem dJ19_copyOf_3_6 : decode cJ19_copyOf_3 6 = .ok (.aload_n 0, 1) := dk_42 (dk_at dksJ19_copyOf_3_0 6 rfl rfl)
theorem dJ19_copyOf_3_7 : decode cJ19_copyOf_3 7 = .ok (.invokevirtual 310, 3) := dk_182 1 54 (dk_at dksJ19_copyOf_3_0 7 rfl rfl)
theorem dJ19_copyOf_3_10 : decode cJ19_copyOf_3 10 = .ok (.checkcast 311, 3) := dk_192 1 55 (dk_at dksJ19_copyOf_3_0 10 rfl rfl)
theorem dJ19_copyOf_3_13 : decode cJ19_copyOf_3 13 = .ok (.areturn, 1) := dk_176 (dk_at dksJ19_copyOf_3_0 13 rfl rfl)
theorem dJ19_copyOf_3_14 : decode cJ19_copyOf_3 14 = .ok (.iload_n 1, 1) := dk_27 (dk_at dksJ19_copyOf_3_0 14 rfl rfl)
theorem dJ19_copyOf_3_15 : decode cJ19_copyOf_3 15 = .ok (.newarray .byte, 2) := dk_188_8 (dk_at dksJ19_copyOf_3_0 15 rfl rfl)
theorem dJ19_copyOf_3_17 : decode cJ19_copyOf_3 17 = .ok (.astore_n 2, 1) := dk_77 (dk_at dksJ19_copyOf_3_0 17 rfl rfl)
theorem dJ19_copyOf_3_18 : decode cJ19_copyOf_3 18 = .ok (.aload_n 0, 1) := dk_42 (dk_at dksJ19_copyOf_3_0 18 rfl rfl)
theorem dJ19_copyOf_3_19 : decode cJ19_copyOf_3 19 = .ok (.iconst 0, 1) := dk_3 (dk_at dksJ19_copyOf_3_0 19 rfl rfl)
theorem dJ19_copyOf_3_20 : decode cJ19_copyOf_3 20 = .ok (.aload_n 2, 1) := dk_44 (dk_at dksJ19_copyOf_3_0 20 rfl rfl)
theorem dJ19_copyOf_3_21 : decode cJ19_copyOf_3 21 = .ok (.iconst 0, 1) := dk_3 (dk_at dksJ19_copyOf_3_0 21 rfl rfl)
theorem dJ19_copyOf_3_22 : decode cJ19_copyOf_3 22 = .ok (.aload_n 0, 1) := dk_42 (dk_at dksJ19_copyOf_3_0 22 rfl rfl)
theorem dJ19_copyOf_3_23 : decode cJ19_copyOf_3 23 = .ok (.arraylength, 1) := dk_190 (dk_at dksJ19_copyOf_3_0 23 rfl rfl)
theorem dJ19_copyOf_3_24 : decode cJ19_copyOf_3 24 = .ok (.iload_n 1, 1) := dk_27 (dk_at dksJ19_copyOf_3_1 0 rfl rfl)
theorem dJ19_copyOf_3_25 : decode cJ19_copyOf_3 25 = .ok (.invokestatic 304, 3) := dk_184 1 48 (dk_at dksJ19_copyOf_3_1 1 rfl rfl)
theorem dJ19_copyOf_3_28 : decode cJ19_copyOf_3 28 = .ok (.invokestatic 150, 3) := dk_184 0 150 (dk_at dksJ19_copyOf_3_1 4 rfl rfl)
theorem dJ19_copyOf_3_31 : decode cJ19_copyOf_3 31 = .ok (.aload_n 2, 1) := dk_44 (dk_at dksJ19_copyOf_3_1 7 rfl rfl)
theorem dJ19_copyOf_3_32 : decode cJ19_copyOf_3 32 = .ok (.areturn, 1) := dk_176 (dk_at dksJ19_copyOf_3_1 8 rfl rfl)
abbrev cJ19_copyOfRange : ByteArray := prog_67_method_132_code
def yJ19_copyOfRange : MethodName := ⟨RJ19, "copyOfRange", "([BII)[B"⟩
def dkwJ19_copyOfRange_1 : List UInt8 := [176]
abbrev dktJ19_copyOfRange_1 : List UInt8 := dkwJ19_copyOfRange_1 ++ []
def dkwJ19_copyOfRange_0 : List UInt8 := [27, 154, 0, 9, 28, 42, 190, 159, 0, 10, 42, 27, 28, 184, 1, 83, 176, 42, 182, 1, 54, 192, 1, 55]
abbrev dktJ19_copyOfRange_0 : List UInt8 := dkwJ19_copyOfRange_0 ++ dktJ19_copyOfRange_1
theorem dksJ19_copyOfRange_0 : cJ19_copyOfRange.data.toList.drop 0 = dktJ19_copyOfRange_0 := by decide +kernel
theorem dksJ19_copyOfRange_1 : cJ19_copyOfRange.data.toList.drop 24 = dktJ19_copyOfRange_1 := dk_seg dksJ19_copyOfRange_0 24 rfl rfl
theorem dJ19_copyOfRange_0 : decode cJ19_copyOfRange 0 = .ok (.iload_n 1, 1) := dk_27 (dk_at dksJ19_copyOfRange_0 0 rfl rfl)
theorem dJ19_copyOfRange_1 : decode cJ19_copyOfRange 1 = .ok (.ifCond .ne 9, 3) := dk_154 0 9 (dk_at dksJ19_copyOfRange_0 1 rfl rfl)
theorem dJ19_copyOfRange_4 : decode cJ19_copyOfRange 4 = .ok (.iload_n 2, 1) := dk_28 (dk_at dksJ19_copyOfRange_0 4 rfl rfl)
theorem dJ19_copyOfRange_5 : decode cJ19_copyOfRange 5 = .ok (.aload_n 0, 1) := dk_42 (dk_at dksJ19_copyOfRange_0 5 rfl rfl)
theorem dJ19_copyOfRange_6 : decode cJ19_copyOfRange 6 = .ok (.arraylength, 1) := dk_190 (dk_at dksJ19_copyOfRange_0 6 rfl rfl)
theorem dJ19_copyOfRange_7 : decode cJ19_copyOfRange 7 = .ok (.if_icmp .eq 10, 3) := dk_159 0 10 (dk_at dksJ19_copyOfRange_0 7 rfl rfl)
theorem dJ19_copyOfRange_10 : decode cJ19_copyOfRange 10 = .ok (.aload_n 0, 1) := dk_42 (dk_at dksJ19_copyOfRange_0 10 rfl rfl)
theorem dJ19_copyOfRange_11 : decode cJ19_copyOfRange 11 = .ok (.iload_n 1, 1) := dk_27 (dk_at dksJ19_copyOfRange_0 11 rfl rfl)
theorem dJ19_copyOfRange_12 : decode cJ19_copyOfRange 12 = .ok (.iload_n 2, 1) := dk_28 (dk_at dksJ19_copyOfRange_0 12 rfl rfl)
theorem dJ19_copyOfRange_13 : decode cJ19_copyOfRange 13 = .ok (.invokestatic 339, 3) := dk_184 1 83 (dk_at dksJ19_copyOfRange_0 13 rfl rfl)
theorem dJ19_copyOfRange_16 : decode cJ19_copyOfRange 16 = .ok (.areturn, 1) := dk_176 (dk_at dksJ19_copyOfRange_0 16 rfl rfl)
theorem dJ19_copyOfRange_17 : decode cJ19_copyOfRange 17 = .ok (.aload_n 0, 1) := dk_42 (dk_at dksJ19_copyOfRange_0 17 rfl rfl)
theorem dJ19_copyOfRange_18 : decode cJ19_copyOfRange 18 = .ok (.invokevirtual 310, 3) := dk_182 1 54 (dk_at dksJ19_copyOfRange_0 18 rfl rfl)
theorem dJ19_copyOfRange_21 : decode cJ19_copyOfRange 21 = .ok (.checkcast 311, 3) := dk_192 1 55 (dk_at dksJ19_copyOfRange_0 21 rfl rfl)
theorem dJ19_copyOfRange_24 : decode cJ19_copyOfRange 24 = .ok (.areturn, 1) := dk_176 (dk_at dksJ19_copyOfRange_1 0 rfl rfl)
abbrev cJ19_copyOfRangeByte : ByteArray := prog_67_method_133_code
def yJ19_copyOfRangeByte : MethodName := ⟨RJ19, "copyOfRangeByte", "([BII)[B"⟩
def dkwJ19_copyOfRangeByte_1 : List UInt8 := [184, 1, 48, 184, 0, 150, 25, 4, 176]
abbrev dktJ19_copyOfRangeByte_1 : List UInt8 := dkwJ19_copyOfRangeByte_1 ++ []
def dkwJ19_copyOfRangeByte_0 : List UInt8 := [27, 28, 184, 1, 87, 28, 27, 100, 62, 29, 188, 8, 58, 4, 42, 27, 25, 4, 3, 42, 190, 27, 100, 29]
abbrev dktJ19_copyOfRangeByte_0 : List UInt8 := dkwJ19_copyOfRangeByte_0 ++ dktJ19_copyOfRangeByte_1
theorem dksJ19_copyOfRangeByte_0 : cJ19_copyOfRangeByte.data.toList.drop 0 = dktJ19_copyOfRangeByte_0 := by decide +kernel
theorem dksJ19_copyOfRangeByte_1 : cJ19_copyOfRangeByte.data.toList.drop 24 = dktJ19_copyOfRangeByte_1 := dk_seg dksJ19_copyOfRangeByte_0 24 rfl rfl
theorem dJ19_copyOfRangeByte_0 : decode cJ19_copyOfRangeByte 0 = .ok (.iload_n 1, 1) := dk_27 (dk_at dksJ19_copyOfRangeByte_0 0 rfl rfl)
theorem dJ19_copyOfRangeByte_1 : decode cJ19_copyOfRangeByte 1 = .ok (.iload_n 2, 1) := dk_28 (dk_at dksJ19_copyOfRangeByte_0 1 rfl rfl)
theorem dJ19_copyOfRangeByte_2 : decode cJ19_copyOfRangeByte 2 = .ok (.invokestatic 343, 3) := dk_184 1 87 (dk_at dksJ19_copyOfRangeByte_0 2 rfl rfl)
theorem dJ19_copyOfRangeByte_5 : decode cJ19_copyOfRangeByte 5 = .ok (.iload_n 2, 1) := dk_28 (dk_at dksJ19_copyOfRangeByte_0 5 rfl rfl)
theorem dJ19_copyOfRangeByte_6 : decode cJ19_copyOfRangeByte 6 = .ok (.iload_n 1, 1) := dk_27 (dk_at dksJ19_copyOfRangeByte_0 6 rfl rfl)
theorem dJ19_copyOfRangeByte_7 : decode cJ19_copyOfRangeByte 7 = .ok (.isub, 1) := dk_100 (dk_at dksJ19_copyOfRangeByte_0 7 rfl rfl)
theorem dJ19_copyOfRangeByte_8 : decode cJ19_copyOfRangeByte 8 = .ok (.istore_n 3, 1) := dk_62 (dk_at dksJ19_copyOfRangeByte_0 8 rfl rfl)
theorem dJ19_copyOfRangeByte_9 : decode cJ19_copyOfRangeByte 9 = .ok (.iload_n 3, 1) := dk_29 (dk_at dksJ19_copyOfRangeByte_0 9 rfl rfl)
theorem dJ19_copyOfRangeByte_10 : decode cJ19_copyOfRangeByte 10 = .ok (.newarray .byte, 2) := dk_188_8 (dk_at dksJ19_copyOfRangeByte_0 10 rfl rfl)
theorem dJ19_copyOfRangeByte_12 : decode cJ19_copyOfRangeByte 12 = .ok (.astore 4, 2) := dk_58 4 (dk_at dksJ19_copyOfRangeByte_0 12 rfl rfl)
theorem dJ19_copyOfRangeByte_14 : decode cJ19_copyOfRangeByte 14 = .ok (.aload_n 0, 1) := dk_42 (dk_at dksJ19_copyOfRangeByte_0 14 rfl rfl)
theorem dJ19_copyOfRangeByte_15 : decode cJ19_copyOfRangeByte 15 = .ok (.iload_n 1, 1) := dk_27 (dk_at dksJ19_copyOfRangeByte_0 15 rfl rfl)
theorem dJ19_copyOfRangeByte_16 : decode cJ19_copyOfRangeByte 16 = .ok (.aload 4, 2) := dk_25 4 (dk_at dksJ19_copyOfRangeByte_0 16 rfl rfl)
theorem dJ19_copyOfRangeByte_18 : decode cJ19_copyOfRangeByte 18 = .ok (.iconst 0, 1) := dk_3 (dk_at dksJ19_copyOfRangeByte_0 18 rfl rfl)
theorem dJ19_copyOfRangeByte_19 : decode cJ19_copyOfRangeByte 19 = .ok (.aload_n 0, 1) := dk_42 (dk_at dksJ19_copyOfRangeByte_0 19 rfl rfl)
theorem dJ19_copyOfRangeByte_20 : decode cJ19_copyOfRangeByte 20 = .ok (.arraylength, 1) := dk_190 (dk_at dksJ19_copyOfRangeByte_0 20 rfl rfl)
theorem dJ19_copyOfRangeByte_21 : decode cJ19_copyOfRangeByte 21 = .ok (.iload_n 1, 1) := dk_27 (dk_at dksJ19_copyOfRangeByte_0 21 rfl rfl)
theorem dJ19_copyOfRangeByte_22 : decode cJ19_copyOfRangeByte 22 = .ok (.isub, 1) := dk_100 (dk_at dksJ19_copyOfRangeByte_0 22 rfl rfl)
theorem dJ19_copyOfRangeByte_23 : decode cJ19_copyOfRangeByte 23 = .ok (.iload_n 3, 1) := dk_29 (dk_at dksJ19_copyOfRangeByte_0 23 rfl rfl)
theorem dJ19_copyOfRangeByte_24 : decode cJ19_copyOfRangeByte 24 = .ok (.invokestatic 304, 3) := dk_184 1 48 (dk_at dksJ19_copyOfRangeByte_1 0 rfl rfl)
theorem dJ19_copyOfRangeByte_27 : decode cJ19_copyOfRangeByte 27 = .ok (.invokestatic 150, 3) := dk_184 0 150 (dk_at dksJ19_copyOfRangeByte_1 3 rfl rfl)
theorem dJ19_copyOfRangeByte_30 : decode cJ19_copyOfRangeByte 30 = .ok (.aload 4, 2) := dk_25 4 (dk_at dksJ19_copyOfRangeByte_1 6 rfl rfl)
theorem dJ19_copyOfRangeByte_32 : decode cJ19_copyOfRangeByte 32 = .ok (.areturn, 1) := dk_176 (dk_at dksJ19_copyOfRangeByte_1 8 rfl rfl)
abbrev cJ19_checkLength : ByteArray := prog_67_method_131_code
def yJ19_checkLength : MethodName := ⟨RJ19, "checkLength", "(II)V"⟩
def dkwJ19_checkLength_1 : List UInt8 := [182, 0, 50, 27, 182, 0, 54, 182, 0, 61, 183, 0, 65, 191, 177]
abbrev dktJ19_checkLength_1 : List UInt8 := dkwJ19_checkLength_1 ++ []
def dkwJ19_checkLength_0 : List UInt8 := [27, 26, 162, 0, 35, 187, 0, 43, 89, 187, 0, 45, 89, 183, 0, 47, 26, 182, 0, 54, 19, 1, 81]
abbrev dktJ19_checkLength_0 : List UInt8 := dkwJ19_checkLength_0 ++ dktJ19_checkLength_1
theorem dksJ19_checkLength_0 : cJ19_checkLength.data.toList.drop 0 = dktJ19_checkLength_0 := by decide +kernel
theorem dksJ19_checkLength_1 : cJ19_checkLength.data.toList.drop 23 = dktJ19_checkLength_1 := dk_seg dksJ19_checkLength_0 23 rfl rfl
theorem dJ19_checkLength_0 : decode cJ19_checkLength 0 = .ok (.iload_n 1, 1) := dk_27 (dk_at dksJ19_checkLength_0 0 rfl rfl)
theorem dJ19_checkLength_1 : decode cJ19_checkLength 1 = .ok (.iload_n 0, 1) := dk_26 (dk_at dksJ19_checkLength_0 1 rfl rfl)
theorem dJ19_checkLength_2 : decode cJ19_checkLength 2 = .ok (.if_icmp .ge 35, 3) := dk_162 0 35 (dk_at dksJ19_checkLength_0 2 rfl rfl)
theorem dJ19_checkLength_5 : decode cJ19_checkLength 5 = .ok (.new 43, 3) := dk_187 0 43 (dk_at dksJ19_checkLength_0 5 rfl rfl)
theorem dJ19_checkLength_8 : decode cJ19_checkLength 8 = .ok (.dup, 1) := dk_89 (dk_at dksJ19_checkLength_0 8 rfl rfl)
theorem dJ19_checkLength_9 : decode cJ19_checkLength 9 = .ok (.new 45, 3) := dk_187 0 45 (dk_at dksJ19_checkLength_0 9 rfl rfl)
theorem dJ19_checkLength_12 : decode cJ19_checkLength 12 = .ok (.dup, 1) := dk_89 (dk_at dksJ19_checkLength_0 12 rfl rfl)
theorem dJ19_checkLength_13 : decode cJ19_checkLength 13 = .ok (.invokespecial 47, 3) := dk_183 0 47 (dk_at dksJ19_checkLength_0 13 rfl rfl)
theorem dJ19_checkLength_16 : decode cJ19_checkLength 16 = .ok (.iload_n 0, 1) := dk_26 (dk_at dksJ19_checkLength_0 16 rfl rfl)
theorem dJ19_checkLength_17 : decode cJ19_checkLength 17 = .ok (.invokevirtual 54, 3) := dk_182 0 54 (dk_at dksJ19_checkLength_0 17 rfl rfl)
theorem dJ19_checkLength_20 : decode cJ19_checkLength 20 = .ok (.ldc_w 337, 3) := dk_19 1 81 (dk_at dksJ19_checkLength_0 20 rfl rfl)
theorem dJ19_checkLength_23 : decode cJ19_checkLength 23 = .ok (.invokevirtual 50, 3) := dk_182 0 50 (dk_at dksJ19_checkLength_1 0 rfl rfl)
theorem dJ19_checkLength_26 : decode cJ19_checkLength 26 = .ok (.iload_n 1, 1) := dk_27 (dk_at dksJ19_checkLength_1 3 rfl rfl)
theorem dJ19_checkLength_27 : decode cJ19_checkLength 27 = .ok (.invokevirtual 54, 3) := dk_182 0 54 (dk_at dksJ19_checkLength_1 4 rfl rfl)
theorem dJ19_checkLength_30 : decode cJ19_checkLength 30 = .ok (.invokevirtual 61, 3) := dk_182 0 61 (dk_at dksJ19_checkLength_1 7 rfl rfl)
theorem dJ19_checkLength_33 : decode cJ19_checkLength 33 = .ok (.invokespecial 65, 3) := dk_183 0 65 (dk_at dksJ19_checkLength_1 10 rfl rfl)
theorem dJ19_checkLength_36 : decode cJ19_checkLength 36 = .ok (.athrow, 1) := dk_191 (dk_at dksJ19_checkLength_1 13 rfl rfl)
theorem dJ19_checkLength_37 : decode cJ19_checkLength 37 = .ok (.return_, 1) := dk_177 (dk_at dksJ19_checkLength_1 14 rfl rfl)
abbrev cJ19_fill : ByteArray := prog_67_method_110_code
def yJ19_fill : MethodName := ⟨RJ19, "fill", "([BIIB)V"⟩
def dkwJ19_fill_1 : List UInt8 := [167, 255, 242, 177]
abbrev dktJ19_fill_1 : List UInt8 := dkwJ19_fill_1 ++ []
def dkwJ19_fill_0 : List UInt8 := [42, 190, 27, 28, 184, 0, 13, 27, 54, 4, 21, 4, 28, 162, 0, 14, 42, 21, 4, 29, 84, 132, 4, 1]
abbrev dktJ19_fill_0 : List UInt8 := dkwJ19_fill_0 ++ dktJ19_fill_1
theorem dksJ19_fill_0 : cJ19_fill.data.toList.drop 0 = dktJ19_fill_0 := by decide +kernel
theorem dksJ19_fill_1 : cJ19_fill.data.toList.drop 24 = dktJ19_fill_1 := dk_seg dksJ19_fill_0 24 rfl rfl
theorem dJ19_fill_0 : decode cJ19_fill 0 = .ok (.aload_n 0, 1) := dk_42 (dk_at dksJ19_fill_0 0 rfl rfl)
theorem dJ19_fill_1 : decode cJ19_fill 1 = .ok (.arraylength, 1) := dk_190 (dk_at dksJ19_fill_0 1 rfl rfl)
theorem dJ19_fill_2 : decode cJ19_fill 2 = .ok (.iload_n 1, 1) := dk_27 (dk_at dksJ19_fill_0 2 rfl rfl)
theorem dJ19_fill_3 : decode cJ19_fill 3 = .ok (.iload_n 2, 1) := dk_28 (dk_at dksJ19_fill_0 3 rfl rfl)
theorem dJ19_fill_4 : decode cJ19_fill 4 = .ok (.invokestatic 13, 3) := dk_184 0 13 (dk_at dksJ19_fill_0 4 rfl rfl)
theorem dJ19_fill_7 : decode cJ19_fill 7 = .ok (.iload_n 1, 1) := dk_27 (dk_at dksJ19_fill_0 7 rfl rfl)
theorem dJ19_fill_8 : decode cJ19_fill 8 = .ok (.istore 4, 2) := dk_54 4 (dk_at dksJ19_fill_0 8 rfl rfl)
theorem dJ19_fill_10 : decode cJ19_fill 10 = .ok (.iload 4, 2) := dk_21 4 (dk_at dksJ19_fill_0 10 rfl rfl)
theorem dJ19_fill_12 : decode cJ19_fill 12 = .ok (.iload_n 2, 1) := dk_28 (dk_at dksJ19_fill_0 12 rfl rfl)
theorem dJ19_fill_13 : decode cJ19_fill 13 = .ok (.if_icmp .ge 14, 3) := dk_162 0 14 (dk_at dksJ19_fill_0 13 rfl rfl)
theorem dJ19_fill_16 : decode cJ19_fill 16 = .ok (.aload_n 0, 1) := dk_42 (dk_at dksJ19_fill_0 16 rfl rfl)
theorem dJ19_fill_17 : decode cJ19_fill 17 = .ok (.iload 4, 2) := dk_21 4 (dk_at dksJ19_fill_0 17 rfl rfl)
theorem dJ19_fill_19 : decode cJ19_fill 19 = .ok (.iload_n 3, 1) := dk_29 (dk_at dksJ19_fill_0 19 rfl rfl)
theorem dJ19_fill_20 : decode cJ19_fill 20 = .ok (.bastore, 1) := dk_84 (dk_at dksJ19_fill_0 20 rfl rfl)
theorem dJ19_fill_21 : decode cJ19_fill 21 = .ok (.iinc 4 1, 3) := dk_132 4 1 (dk_at dksJ19_fill_0 21 rfl rfl)
theorem dJ19_fill_24 : decode cJ19_fill 24 = .ok (.goto (-14), 3) := dk_167 255 242 (dk_at dksJ19_fill_1 0 rfl rfl)
theorem dJ19_fill_27 : decode cJ19_fill 27 = .ok (.return_, 1) := dk_177 (dk_at dksJ19_fill_1 3 rfl rfl)
abbrev cJ19_rangeCheck : ByteArray := prog_67_method_30_code
def yJ19_rangeCheck : MethodName := ⟨RJ19, "rangeCheck", "(III)V"⟩
def dkwJ19_rangeCheck_3 : List UInt8 := [183, 0, 70, 191, 177]
abbrev dktJ19_rangeCheck_3 : List UInt8 := dkwJ19_rangeCheck_3 ++ []
def dkwJ19_rangeCheck_2 : List UInt8 := [27, 156, 0, 12, 187, 0, 68, 89, 27, 183, 0, 70, 191, 28, 26, 164, 0, 12, 187, 0, 68, 89, 28]
abbrev dktJ19_rangeCheck_2 : List UInt8 := dkwJ19_rangeCheck_2 ++ dktJ19_rangeCheck_3
def dkwJ19_rangeCheck_1 : List UInt8 := [182, 0, 54, 18, 57, 182, 0, 50, 28, 182, 0, 54, 18, 59, 182, 0, 50, 182, 0, 61, 183, 0, 65, 191]
abbrev dktJ19_rangeCheck_1 : List UInt8 := dkwJ19_rangeCheck_1 ++ dktJ19_rangeCheck_2
def dkwJ19_rangeCheck_0 : List UInt8 := [27, 28, 164, 0, 44, 187, 0, 43, 89, 187, 0, 45, 89, 183, 0, 47, 18, 48, 182, 0, 50, 27]
abbrev dktJ19_rangeCheck_0 : List UInt8 := dkwJ19_rangeCheck_0 ++ dktJ19_rangeCheck_1
theorem dksJ19_rangeCheck_0 : cJ19_rangeCheck.data.toList.drop 0 = dktJ19_rangeCheck_0 := by decide +kernel
theorem dksJ19_rangeCheck_1 : cJ19_rangeCheck.data.toList.drop 22 = dktJ19_rangeCheck_1 := dk_seg dksJ19_rangeCheck_0 22 rfl rfl
theorem dksJ19_rangeCheck_2 : cJ19_rangeCheck.data.toList.drop 46 = dktJ19_rangeCheck_2 := dk_seg dksJ19_rangeCheck_1 24 rfl rfl
theorem dksJ19_rangeCheck_3 : cJ19_rangeCheck.data.toList.drop 69 = dktJ19_rangeCheck_3 := dk_seg dksJ19_rangeCheck_2 23 rfl rfl
theorem dJ19_rangeCheck_0 : decode cJ19_rangeCheck 0 = .ok (.iload_n 1, 1) := dk_27 (dk_at dksJ19_rangeCheck_0 0 rfl rfl)
theorem dJ19_rangeCheck_1 : decode cJ19_rangeCheck 1 = .ok (.iload_n 2, 1) := dk_28 (dk_at dksJ19_rangeCheck_0 1 rfl rfl)
theorem dJ19_rangeCheck_2 : decode cJ19_rangeCheck 2 = .ok (.if_icmp .le 44, 3) := dk_164 0 44 (dk_at dksJ19_rangeCheck_0 2 rfl rfl)
theorem dJ19_rangeCheck_5 : decode cJ19_rangeCheck 5 = .ok (.new 43, 3) := dk_187 0 43 (dk_at dksJ19_rangeCheck_0 5 rfl rfl)
theorem dJ19_rangeCheck_8 : decode cJ19_rangeCheck 8 = .ok (.dup, 1) := dk_89 (dk_at dksJ19_rangeCheck_0 8 rfl rfl)
theorem dJ19_rangeCheck_9 : decode cJ19_rangeCheck 9 = .ok (.new 45, 3) := dk_187 0 45 (dk_at dksJ19_rangeCheck_0 9 rfl rfl)
theorem dJ19_rangeCheck_12 : decode cJ19_rangeCheck 12 = .ok (.dup, 1) := dk_89 (dk_at dksJ19_rangeCheck_0 12 rfl rfl)
theorem dJ19_rangeCheck_13 : decode cJ19_rangeCheck 13 = .ok (.invokespecial 47, 3) := dk_183 0 47 (dk_at dksJ19_rangeCheck_0 13 rfl rfl)
theorem dJ19_rangeCheck_16 : decode cJ19_rangeCheck 16 = .ok (.ldc 48, 2) := dk_18 48 (dk_at dksJ19_rangeCheck_0 16 rfl rfl)
theorem dJ19_rangeCheck_18 : decode cJ19_rangeCheck 18 = .ok (.invokevirtual 50, 3) := dk_182 0 50 (dk_at dksJ19_rangeCheck_0 18 rfl rfl)
theorem dJ19_rangeCheck_21 : decode cJ19_rangeCheck 21 = .ok (.iload_n 1, 1) := dk_27 (dk_at dksJ19_rangeCheck_0 21 rfl rfl)
theorem dJ19_rangeCheck_22 : decode cJ19_rangeCheck 22 = .ok (.invokevirtual 54, 3) := dk_182 0 54 (dk_at dksJ19_rangeCheck_1 0 rfl rfl)
theorem dJ19_rangeCheck_25 : decode cJ19_rangeCheck 25 = .ok (.ldc 57, 2) := dk_18 57 (dk_at dksJ19_rangeCheck_1 3 rfl rfl)
theorem dJ19_rangeCheck_27 : decode cJ19_rangeCheck 27 = .ok (.invokevirtual 50, 3) := dk_182 0 50 (dk_at dksJ19_rangeCheck_1 5 rfl rfl)
theorem dJ19_rangeCheck_30 : decode cJ19_rangeCheck 30 = .ok (.iload_n 2, 1) := dk_28 (dk_at dksJ19_rangeCheck_1 8 rfl rfl)
theorem dJ19_rangeCheck_31 : decode cJ19_rangeCheck 31 = .ok (.invokevirtual 54, 3) := dk_182 0 54 (dk_at dksJ19_rangeCheck_1 9 rfl rfl)
theorem dJ19_rangeCheck_34 : decode cJ19_rangeCheck 34 = .ok (.ldc 59, 2) := dk_18 59 (dk_at dksJ19_rangeCheck_1 12 rfl rfl)
theorem dJ19_rangeCheck_36 : decode cJ19_rangeCheck 36 = .ok (.invokevirtual 50, 3) := dk_182 0 50 (dk_at dksJ19_rangeCheck_1 14 rfl rfl)
theorem dJ19_rangeCheck_39 : decode cJ19_rangeCheck 39 = .ok (.invokevirtual 61, 3) := dk_182 0 61 (dk_at dksJ19_rangeCheck_1 17 rfl rfl)
theorem dJ19_rangeCheck_42 : decode cJ19_rangeCheck 42 = .ok (.invokespecial 65, 3) := dk_183 0 65 (dk_at dksJ19_rangeCheck_1 20 rfl rfl)
theorem dJ19_rangeCheck_45 : decode cJ19_rangeCheck 45 = .ok (.athrow, 1) := dk_191 (dk_at dksJ19_rangeCheck_1 23 rfl rfl)
theorem dJ19_rangeCheck_46 : decode cJ19_rangeCheck 46 = .ok (.iload_n 1, 1) := dk_27 (dk_at dksJ19_rangeCheck_2 0 rfl rfl)
theorem dJ19_rangeCheck_47 : decode cJ19_rangeCheck 47 = .ok (.ifCond .ge 12, 3) := dk_156 0 12 (dk_at dksJ19_rangeCheck_2 1 rfl rfl)
theorem dJ19_rangeCheck_50 : decode cJ19_rangeCheck 50 = .ok (.new 68, 3) := dk_187 0 68 (dk_at dksJ19_rangeCheck_2 4 rfl rfl)
theorem dJ19_rangeCheck_53 : decode cJ19_rangeCheck 53 = .ok (.dup, 1) := dk_89 (dk_at dksJ19_rangeCheck_2 7 rfl rfl)
theorem dJ19_rangeCheck_54 : decode cJ19_rangeCheck 54 = .ok (.iload_n 1, 1) := dk_27 (dk_at dksJ19_rangeCheck_2 8 rfl rfl)
theorem dJ19_rangeCheck_55 : decode cJ19_rangeCheck 55 = .ok (.invokespecial 70, 3) := dk_183 0 70 (dk_at dksJ19_rangeCheck_2 9 rfl rfl)
theorem dJ19_rangeCheck_58 : decode cJ19_rangeCheck 58 = .ok (.athrow, 1) := dk_191 (dk_at dksJ19_rangeCheck_2 12 rfl rfl)
theorem dJ19_rangeCheck_59 : decode cJ19_rangeCheck 59 = .ok (.iload_n 2, 1) := dk_28 (dk_at dksJ19_rangeCheck_2 13 rfl rfl)
theorem dJ19_rangeCheck_60 : decode cJ19_rangeCheck 60 = .ok (.iload_n 0, 1) := dk_26 (dk_at dksJ19_rangeCheck_2 14 rfl rfl)
theorem dJ19_rangeCheck_61 : decode cJ19_rangeCheck 61 = .ok (.if_icmp .le 12, 3) := dk_164 0 12 (dk_at dksJ19_rangeCheck_2 15 rfl rfl)
theorem dJ19_rangeCheck_64 : decode cJ19_rangeCheck 64 = .ok (.new 68, 3) := dk_187 0 68 (dk_at dksJ19_rangeCheck_2 18 rfl rfl)
theorem dJ19_rangeCheck_67 : decode cJ19_rangeCheck 67 = .ok (.dup, 1) := dk_89 (dk_at dksJ19_rangeCheck_2 21 rfl rfl)
theorem dJ19_rangeCheck_68 : decode cJ19_rangeCheck 68 = .ok (.iload_n 2, 1) := dk_28 (dk_at dksJ19_rangeCheck_2 22 rfl rfl)
theorem dJ19_rangeCheck_69 : decode cJ19_rangeCheck 69 = .ok (.invokespecial 70, 3) := dk_183 0 70 (dk_at dksJ19_rangeCheck_3 0 rfl rfl)
theorem dJ19_rangeCheck_72 : decode cJ19_rangeCheck 72 = .ok (.athrow, 1) := dk_191 (dk_at dksJ19_rangeCheck_3 3 rfl rfl)
theorem dJ19_rangeCheck_73 : decode cJ19_rangeCheck 73 = .ok (.return_, 1) := dk_177 (dk_at dksJ19_rangeCheck_3 4 rfl rfl)
theorem q98 : (Jvm.Cond.initialized "java/util/Arrays") ∈ lw_all := lw_g (lw_at lw_m1 26 rfl) rfl
theorem q589 : (Jvm.Cond.static ({ cls := "java/util/Arrays", name := "copyOf", desc := "([Ljava/lang/Object;I)[Ljava/lang/Object;" } : Jvm.MethodName)) ∈ lw_all := lw_g (lw_at lw_m3 37 rfl) rfl
theorem q590 : (Jvm.Cond.code ({ cls := "java/util/Arrays", name := "copyOf", desc := "([Ljava/lang/Object;I)[Ljava/lang/Object;" } : Jvm.MethodName) prog_67_method_119_code (2 : Nat) (Option.some (Jvm.ClassFile.FieldType.array (Jvm.ClassFile.FieldType.object "java/lang/Object")))) ∈ lw_all := lw_g (lw_at lw_m3 38 rfl) rfl
theorem q591 : (Jvm.Cond.methodLink "java/util/Arrays" (86 : Nat) ({ cls := "java/lang/Object", name := "getClass", desc := "()Ljava/lang/Class;" } : Jvm.MethodName)) ∈ lw_all := lw_g (lw_at lw_m3 39 rfl) rfl
theorem q642 : (Jvm.Cond.methodLink "java/util/Arrays" (300 : Nat) ({ cls := "java/util/Arrays", name := "copyOf", desc := "([Ljava/lang/Object;ILjava/lang/Class;)[Ljava/lang/Object;" } : Jvm.MethodName)) ∈ lw_all := lw_g (lw_at lw_m3 90 rfl) rfl
theorem q643 : (Jvm.Cond.static ({ cls := "java/util/Arrays", name := "copyOf", desc := "([Ljava/lang/Object;ILjava/lang/Class;)[Ljava/lang/Object;" } : Jvm.MethodName)) ∈ lw_all := lw_g (lw_at lw_m3 91 rfl) rfl
theorem q644 : (Jvm.Cond.code ({ cls := "java/util/Arrays", name := "copyOf", desc := "([Ljava/lang/Object;ILjava/lang/Class;)[Ljava/lang/Object;" } : Jvm.MethodName) prog_67_method_120_code (4 : Nat) (Option.some (Jvm.ClassFile.FieldType.array (Jvm.ClassFile.FieldType.object "java/lang/Object")))) ∈ lw_all := lw_g (lw_at lw_m3 92 rfl) rfl
theorem q645 : (Jvm.Cond.classLink "java/util/Arrays" (110 : Nat) "[Ljava/lang/Object;") ∈ lw_all := lw_g (lw_at lw_m3 93 rfl) rfl
theorem q646 : (Jvm.Cond.classLink "java/util/Arrays" (2 : Nat) "java/lang/Object") ∈ lw_all := lw_g (lw_at lw_m3 94 rfl) rfl
theorem q647 : (Jvm.Cond.methodLink "java/util/Arrays" (304 : Nat) ({ cls := "java/lang/Math", name := "min", desc := "(II)I" } : Jvm.MethodName)) ∈ lw_all := lw_g (lw_at lw_m3 95 rfl) rfl
theorem q650 : (Jvm.Cond.methodLink "java/util/Arrays" (150 : Nat) ({ cls := "java/lang/System", name := "arraycopy", desc := "(Ljava/lang/Object;ILjava/lang/Object;II)V" } : Jvm.MethodName)) ∈ lw_all := lw_g (lw_at lw_m3 98 rfl) rfl
theorem q917 : (Jvm.Cond.static ({ cls := "java/util/Arrays", name := "copyOf", desc := "([BI)[B" } : Jvm.MethodName)) ∈ lw_all := lw_g (lw_at lw_m4 125 rfl) rfl
theorem q918 : (Jvm.Cond.code ({ cls := "java/util/Arrays", name := "copyOf", desc := "([BI)[B" } : Jvm.MethodName) prog_67_method_121_code (3 : Nat) (Option.some (Jvm.ClassFile.FieldType.array Jvm.ClassFile.FieldType.byte))) ∈ lw_all := lw_g (lw_at lw_m4 126 rfl) rfl
theorem q919 : (Jvm.Cond.methodLink "java/util/Arrays" (310 : Nat) ({ cls := "[B", name := "clone", desc := "()Ljava/lang/Object;" } : Jvm.MethodName)) ∈ lw_all := lw_g (lw_at lw_m4 127 rfl) rfl
theorem q925 : (Jvm.Cond.classLink "java/util/Arrays" (311 : Nat) "[B") ∈ lw_all := lw_g (lw_at lw_m4 133 rfl) rfl
theorem q1043 : (Jvm.Cond.static ({ cls := "java/util/Arrays", name := "copyOfRange", desc := "([BII)[B" } : Jvm.MethodName)) ∈ lw_all := lw_g (lw_at lw_m5 11 rfl) rfl
theorem q1044 : (Jvm.Cond.code ({ cls := "java/util/Arrays", name := "copyOfRange", desc := "([BII)[B" } : Jvm.MethodName) prog_67_method_132_code (3 : Nat) (Option.some (Jvm.ClassFile.FieldType.array Jvm.ClassFile.FieldType.byte))) ∈ lw_all := lw_g (lw_at lw_m5 12 rfl) rfl
theorem q1045 : (Jvm.Cond.methodLink "java/util/Arrays" (339 : Nat) ({ cls := "java/util/Arrays", name := "copyOfRangeByte", desc := "([BII)[B" } : Jvm.MethodName)) ∈ lw_all := lw_g (lw_at lw_m5 13 rfl) rfl
theorem q1046 : (Jvm.Cond.static ({ cls := "java/util/Arrays", name := "copyOfRangeByte", desc := "([BII)[B" } : Jvm.MethodName)) ∈ lw_all := lw_g (lw_at lw_m5 14 rfl) rfl
theorem q1047 : (Jvm.Cond.code ({ cls := "java/util/Arrays", name := "copyOfRangeByte", desc := "([BII)[B" } : Jvm.MethodName) prog_67_method_133_code (5 : Nat) (Option.some (Jvm.ClassFile.FieldType.array Jvm.ClassFile.FieldType.byte))) ∈ lw_all := lw_g (lw_at lw_m5 15 rfl) rfl
theorem q1048 : (Jvm.Cond.methodLink "java/util/Arrays" (343 : Nat) ({ cls := "java/util/Arrays", name := "checkLength", desc := "(II)V" } : Jvm.MethodName)) ∈ lw_all := lw_g (lw_at lw_m5 16 rfl) rfl
theorem q1049 : (Jvm.Cond.static ({ cls := "java/util/Arrays", name := "checkLength", desc := "(II)V" } : Jvm.MethodName)) ∈ lw_all := lw_g (lw_at lw_m5 17 rfl) rfl
theorem q1050 : (Jvm.Cond.code ({ cls := "java/util/Arrays", name := "checkLength", desc := "(II)V" } : Jvm.MethodName) prog_67_method_131_code (2 : Nat) (Option.none : Option Jvm.ClassFile.FieldType)) ∈ lw_all := lw_g (lw_at lw_m5 18 rfl) rfl
theorem q1051 : (Jvm.Cond.classLink "java/util/Arrays" (43 : Nat) "java/lang/IllegalArgumentException") ∈ lw_all := lw_g (lw_at lw_m5 19 rfl) rfl
theorem q1052 : (Jvm.Cond.classLink "java/util/Arrays" (45 : Nat) "java/lang/StringBuilder") ∈ lw_all := lw_g (lw_at lw_m5 20 rfl) rfl
theorem q1053 : (Jvm.Cond.methodLink "java/util/Arrays" (47 : Nat) ({ cls := "java/lang/StringBuilder", name := "<init>", desc := "()V" } : Jvm.MethodName)) ∈ lw_all := lw_g (lw_at lw_m5 21 rfl) rfl
theorem q1054 : (Jvm.Cond.methodLink "java/util/Arrays" (54 : Nat) ({ cls := "java/lang/StringBuilder", name := "append", desc := "(I)Ljava/lang/StringBuilder;" } : Jvm.MethodName)) ∈ lw_all := lw_g (lw_at lw_m5 22 rfl) rfl
theorem q1055 : (Jvm.Cond.stringRef "java/util/Arrays" (337 : Nat) " > ") ∈ lw_tbl := lw_at lw_m5 23 rfl
theorem q1056 : (Jvm.Cond.methodLink "java/util/Arrays" (50 : Nat) ({ cls := "java/lang/StringBuilder", name := "append", desc := "(Ljava/lang/String;)Ljava/lang/StringBuilder;" } : Jvm.MethodName)) ∈ lw_all := lw_g (lw_at lw_m5 24 rfl) rfl
theorem q1057 : (Jvm.Cond.methodLink "java/util/Arrays" (61 : Nat) ({ cls := "java/lang/StringBuilder", name := "toString", desc := "()Ljava/lang/String;" } : Jvm.MethodName)) ∈ lw_all := lw_g (lw_at lw_m5 25 rfl) rfl
theorem q1058 : (Jvm.Cond.methodLink "java/util/Arrays" (65 : Nat) ({ cls := "java/lang/IllegalArgumentException", name := "<init>", desc := "(Ljava/lang/String;)V" } : Jvm.MethodName)) ∈ lw_all := lw_g (lw_at lw_m5 26 rfl) rfl
theorem q3177 : (Jvm.Cond.static ({ cls := "java/util/Arrays", name := "fill", desc := "([BIIB)V" } : Jvm.MethodName)) ∈ lw_all := lw_g (lw_at lw_m13 225 rfl) rfl
theorem q3178 : (Jvm.Cond.code ({ cls := "java/util/Arrays", name := "fill", desc := "([BIIB)V" } : Jvm.MethodName) prog_67_method_110_code (5 : Nat) (Option.none : Option Jvm.ClassFile.FieldType)) ∈ lw_all := lw_g (lw_at lw_m13 226 rfl) rfl
theorem q3179 : (Jvm.Cond.methodLink "java/util/Arrays" (13 : Nat) ({ cls := "java/util/Arrays", name := "rangeCheck", desc := "(III)V" } : Jvm.MethodName)) ∈ lw_all := lw_g (lw_at lw_m13 227 rfl) rfl
theorem q3180 : (Jvm.Cond.static ({ cls := "java/util/Arrays", name := "rangeCheck", desc := "(III)V" } : Jvm.MethodName)) ∈ lw_all := lw_g (lw_at lw_m13 228 rfl) rfl
theorem q3181 : (Jvm.Cond.code ({ cls := "java/util/Arrays", name := "rangeCheck", desc := "(III)V" } : Jvm.MethodName) prog_67_method_30_code (3 : Nat) (Option.none : Option Jvm.ClassFile.FieldType)) ∈ lw_all := lw_g (lw_at lw_m13 229 rfl) rfl
theorem q3182 : (Jvm.Cond.stringRef "java/util/Arrays" (48 : Nat) "fromIndex(") ∈ lw_tbl := lw_at lw_m13 230 rfl
theorem q3183 : (Jvm.Cond.stringRef "java/util/Arrays" (57 : Nat) ") > toIndex(") ∈ lw_tbl := lw_at lw_m13 231 rfl
theorem q3184 : (Jvm.Cond.stringRef "java/util/Arrays" (59 : Nat) ")") ∈ lw_tbl := lw_at lw_m13 232 rfl
theorem q3185 : (Jvm.Cond.classLink "java/util/Arrays" (68 : Nat) "java/lang/ArrayIndexOutOfBoundsException") ∈ lw_all := lw_g (lw_at lw_m13 233 rfl) rfl
theorem q3186 : (Jvm.Cond.methodLink "java/util/Arrays" (70 : Nat) ({ cls := "java/lang/ArrayIndexOutOfBoundsException", name := "<init>", desc := "(I)V" } : Jvm.MethodName)) ∈ lw_all := lw_g (lw_at lw_m13 234 rfl) rfl

