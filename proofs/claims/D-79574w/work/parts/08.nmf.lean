/-! BraidedFerryModel -/
set_option maxRecDepth 100000
def RX4 : String := "BraidedFerryModel"
def TX4 : u_T := fun k => match k with
  | 0 => ("BraidedFerryModel", "names", "[Ljava/lang/String;", true)
  | 1 => ("BraidedFerryModel", "now", "[I", true)
  | 2 => ("BraidedFerryModel", "tried", "[I", true)
  | 3 => ("BraidedFerryModel", "kept", "[I", true)
  | 4 => ("BraidedFerryModel", "undos", "I", false)
  | 5 => ("BraidedFerryModel", "saved", "[I", true)
  | 6 => ("BraidedFerryModel", "isSaved", "Z", false)
  | 7 => ("BraidedFerryModel", "moved", "[I", true)
  | 8 => ("BraidedFerryModel", "ways", "[Ljava/lang/String;", true)
  | 9 => ("BraidedFerryModel", "line", "[C", true)
  | 10 => ("BraidedFerryModel", "lined", "I", false)
  | 11 => ("BraidedFerryModel", "text", "[C", true)
  | 12 => ("BraidedFerryModel", "length", "I", false)
  | 13 => ("BraidedFerryModel", "at", "I", false)
  | 14 => ("BraidedFerryModel", "told", "[I", true)
  | 15 => ("BraidedFerryModel", "command", "I", false)
  | 16 => ("BraidedFerryModel", "fault", "I", false)
  | 17 => ("BraidedFerryModel", "reason", "I", false)
  | 18 => ("BraidedFerryModel", "detail", "I", false)
  | 19 => ("BraidedFerryModel", "answer", "I", false)
  | _ => ("BraidedFerryModel", "thrown", "I", false)
def tyX4 : Nat → FieldType := fun k => match k with
  | 0 => .array (.object "java/lang/String")
  | 1 => .array .int
  | 2 => .array .int
  | 3 => .array .int
  | 4 => .int
  | 5 => .array .int
  | 6 => .boolean
  | 7 => .array .int
  | 8 => .array (.object "java/lang/String")
  | 9 => .array .char
  | 10 => .int
  | 11 => .array .char
  | 12 => .int
  | 13 => .int
  | 14 => .array .int
  | 15 => .int
  | 16 => .int
  | 17 => .int
  | 18 => .int
  | 19 => .int
  | _ => .int
abbrev wsX40 : List Cond := u_ws RX4 TX4 21
set_option maxRecDepth 100000 in
theorem nmX4 : ∀ a, a < 21 → ∀ b, b < 21 → a ≠ b → (TX4 a).2.1 ≠ (TX4 b).2.1 := by decide +kernel
set_option maxRecDepth 100000 in
theorem tyX4_ok : ∀ k, k < 21 → parseFieldDescriptor (TX4 k).2.2.1 = some (tyX4 k) := by decide +kernel
abbrev cX4_init : ByteArray := prog_29_method_1_code
def yX4_init : MethodName := ⟨RX4, "<init>", "()V"⟩
def dkwX4_init_6 : List UInt8 := [16, 11, 6, 79, 42, 180, 0, 21, 16, 12, 16, 7, 79, 177]
abbrev dktX4_init_6 : List UInt8 := dkwX4_init_6 ++ []
def dkwX4_init_5 : List UInt8 := [2, 181, 0, 54, 42, 180, 0, 21, 8, 16, 100, 79, 42, 180, 0, 21, 16, 10, 4, 79, 42, 180, 0, 21]
abbrev dktX4_init_5 : List UInt8 := dkwX4_init_5 ++ dktX4_init_6
def dkwX4_init_4 : List UInt8 := [17, 1, 144, 188, 5, 181, 0, 44, 42, 16, 60, 188, 5, 181, 0, 48, 42, 8, 188, 10, 181, 0, 51, 42]
abbrev dktX4_init_4 : List UInt8 := dkwX4_init_4 ++ dktX4_init_5
def dkwX4_init_3 : List UInt8 := [181, 0, 34, 42, 5, 189, 0, 9, 89, 3, 18, 37, 83, 89, 4, 18, 39, 83, 181, 0, 41, 42]
abbrev dktX4_init_3 : List UInt8 := dkwX4_init_3 ++ dktX4_init_4
def dkwX4_init_2 : List UInt8 := [17, 20, 96, 188, 10, 181, 0, 28, 42, 17, 2, 140, 188, 10, 181, 0, 31, 42, 17, 0, 147, 188, 10]
abbrev dktX4_init_2 : List UInt8 := dkwX4_init_2 ++ dktX4_init_3
def dkwX4_init_1 : List UInt8 := [181, 0, 17, 42, 17, 2, 140, 188, 10, 181, 0, 21, 42, 17, 2, 140, 188, 10, 181, 0, 25, 42]
abbrev dktX4_init_1 : List UInt8 := dkwX4_init_1 ++ dktX4_init_2
def dkwX4_init_0 : List UInt8 := [42, 183, 0, 3, 42, 6, 189, 0, 9, 89, 3, 18, 11, 83, 89, 4, 18, 13, 83, 89, 5, 18, 15, 83]
abbrev dktX4_init_0 : List UInt8 := dkwX4_init_0 ++ dktX4_init_1
theorem dksX4_init_0 : cX4_init.data.toList.drop 0 = dktX4_init_0 := by decide +kernel
theorem dksX4_init_1 : cX4_init.data.toList.drop 24 = dktX4_init_1 := dk_seg dksX4_init_0 24 rfl rfl
theorem dksX4_init_2 : cX4_init.data.toList.drop 46 = dktX4_init_2 := dk_seg dksX4_init_1 22 rfl rfl
theorem dksX4_init_3 : cX4_init.data.toList.drop 69 = dktX4_init_3 := dk_seg dksX4_init_2 23 rfl rfl
theorem dksX4_init_4 : cX4_init.data.toList.drop 91 = dktX4_init_4 := dk_seg dksX4_init_3 22 rfl rfl
theorem dksX4_init_5 : cX4_init.data.toList.drop 115 = dktX4_init_5 := dk_seg dksX4_init_4 24 rfl rfl
theorem dksX4_init_6 : cX4_init.data.toList.drop 139 = dktX4_init_6 := dk_seg dksX4_init_5 24 rfl rfl
theorem dX4_init_0 : decode cX4_init 0 = .ok (.aload_n 0, 1) := dk_42 (dk_at dksX4_init_0 0 rfl rfl)
theorem dX4_init_1 : decode cX4_init 1 = .ok (.invokespecial 3, 3) := dk_183 0 3 (dk_at dksX4_init_0 1 rfl rfl)
theorem dX4_init_4 : decode cX4_init 4 = .ok (.aload_n 0, 1) := dk_42 (dk_at dksX4_init_0 4 rfl rfl)
theorem dX4_init_5 : decode cX4_init 5 = .ok (.iconst 3, 1) := dk_6 (dk_at dksX4_init_0 5 rfl rfl)
theorem dX4_init_6 : decode cX4_init 6 = .ok (.anewarray 9, 3) := dk_189 0 9 (dk_at dksX4_init_0 6 rfl rfl)
theorem dX4_init_9 : decode cX4_init 9 = .ok (.dup, 1) := dk_89 (dk_at dksX4_init_0 9 rfl rfl)
theorem dX4_init_10 : decode cX4_init 10 = .ok (.iconst 0, 1) := dk_3 (dk_at dksX4_init_0 10 rfl rfl)
theorem dX4_init_11 : decode cX4_init 11 = .ok (.ldc 11, 2) := dk_18 11 (dk_at dksX4_init_0 11 rfl rfl)
theorem dX4_init_13 : decode cX4_init 13 = .ok (.aastore, 1) := dk_83 (dk_at dksX4_init_0 13 rfl rfl)
theorem dX4_init_14 : decode cX4_init 14 = .ok (.dup, 1) := dk_89 (dk_at dksX4_init_0 14 rfl rfl)
theorem dX4_init_15 : decode cX4_init 15 = .ok (.iconst 1, 1) := dk_4 (dk_at dksX4_init_0 15 rfl rfl)
theorem dX4_init_16 : decode cX4_init 16 = .ok (.ldc 13, 2) := dk_18 13 (dk_at dksX4_init_0 16 rfl rfl)
theorem dX4_init_18 : decode cX4_init 18 = .ok (.aastore, 1) := dk_83 (dk_at dksX4_init_0 18 rfl rfl)
theorem dX4_init_19 : decode cX4_init 19 = .ok (.dup, 1) := dk_89 (dk_at dksX4_init_0 19 rfl rfl)
theorem dX4_init_20 : decode cX4_init 20 = .ok (.iconst 2, 1) := dk_5 (dk_at dksX4_init_0 20 rfl rfl)
theorem dX4_init_21 : decode cX4_init 21 = .ok (.ldc 15, 2) := dk_18 15 (dk_at dksX4_init_0 21 rfl rfl)
theorem dX4_init_23 : decode cX4_init 23 = .ok (.aastore, 1) := dk_83 (dk_at dksX4_init_0 23 rfl rfl)
theorem dX4_init_24 : decode cX4_init 24 = .ok (.putfield 17, 3) := dk_181 0 17 (dk_at dksX4_init_1 0 rfl rfl)
theorem dX4_init_27 : decode cX4_init 27 = .ok (.aload_n 0, 1) := dk_42 (dk_at dksX4_init_1 3 rfl rfl)
theorem dX4_init_28 : decode cX4_init 28 = .ok (.sipush 652, 3) := dk_17 2 140 (dk_at dksX4_init_1 4 rfl rfl)
theorem dX4_init_31 : decode cX4_init 31 = .ok (.newarray .int, 2) := dk_188_10 (dk_at dksX4_init_1 7 rfl rfl)
theorem dX4_init_33 : decode cX4_init 33 = .ok (.putfield 21, 3) := dk_181 0 21 (dk_at dksX4_init_1 9 rfl rfl)
theorem dX4_init_36 : decode cX4_init 36 = .ok (.aload_n 0, 1) := dk_42 (dk_at dksX4_init_1 12 rfl rfl)
theorem dX4_init_37 : decode cX4_init 37 = .ok (.sipush 652, 3) := dk_17 2 140 (dk_at dksX4_init_1 13 rfl rfl)
theorem dX4_init_40 : decode cX4_init 40 = .ok (.newarray .int, 2) := dk_188_10 (dk_at dksX4_init_1 16 rfl rfl)
theorem dX4_init_42 : decode cX4_init 42 = .ok (.putfield 25, 3) := dk_181 0 25 (dk_at dksX4_init_1 18 rfl rfl)
theorem dX4_init_45 : decode cX4_init 45 = .ok (.aload_n 0, 1) := dk_42 (dk_at dksX4_init_1 21 rfl rfl)
theorem dX4_init_46 : decode cX4_init 46 = .ok (.sipush 5216, 3) := dk_17 20 96 (dk_at dksX4_init_2 0 rfl rfl)
theorem dX4_init_49 : decode cX4_init 49 = .ok (.newarray .int, 2) := dk_188_10 (dk_at dksX4_init_2 3 rfl rfl)
theorem dX4_init_51 : decode cX4_init 51 = .ok (.putfield 28, 3) := dk_181 0 28 (dk_at dksX4_init_2 5 rfl rfl)
theorem dX4_init_54 : decode cX4_init 54 = .ok (.aload_n 0, 1) := dk_42 (dk_at dksX4_init_2 8 rfl rfl)
theorem dX4_init_55 : decode cX4_init 55 = .ok (.sipush 652, 3) := dk_17 2 140 (dk_at dksX4_init_2 9 rfl rfl)
theorem dX4_init_58 : decode cX4_init 58 = .ok (.newarray .int, 2) := dk_188_10 (dk_at dksX4_init_2 12 rfl rfl)
theorem dX4_init_60 : decode cX4_init 60 = .ok (.putfield 31, 3) := dk_181 0 31 (dk_at dksX4_init_2 14 rfl rfl)
theorem dX4_init_63 : decode cX4_init 63 = .ok (.aload_n 0, 1) := dk_42 (dk_at dksX4_init_2 17 rfl rfl)
theorem dX4_init_64 : decode cX4_init 64 = .ok (.sipush 147, 3) := dk_17 0 147 (dk_at dksX4_init_2 18 rfl rfl)
theorem dX4_init_67 : decode cX4_init 67 = .ok (.newarray .int, 2) := dk_188_10 (dk_at dksX4_init_2 21 rfl rfl)
theorem dX4_init_69 : decode cX4_init 69 = .ok (.putfield 34, 3) := dk_181 0 34 (dk_at dksX4_init_3 0 rfl rfl)
theorem dX4_init_72 : decode cX4_init 72 = .ok (.aload_n 0, 1) := dk_42 (dk_at dksX4_init_3 3 rfl rfl)
theorem dX4_init_73 : decode cX4_init 73 = .ok (.iconst 2, 1) := dk_5 (dk_at dksX4_init_3 4 rfl rfl)
theorem dX4_init_74 : decode cX4_init 74 = .ok (.anewarray 9, 3) := dk_189 0 9 (dk_at dksX4_init_3 5 rfl rfl)
theorem dX4_init_77 : decode cX4_init 77 = .ok (.dup, 1) := dk_89 (dk_at dksX4_init_3 8 rfl rfl)
theorem dX4_init_78 : decode cX4_init 78 = .ok (.iconst 0, 1) := dk_3 (dk_at dksX4_init_3 9 rfl rfl)
theorem dX4_init_79 : decode cX4_init 79 = .ok (.ldc 37, 2) := dk_18 37 (dk_at dksX4_init_3 10 rfl rfl)
theorem dX4_init_81 : decode cX4_init 81 = .ok (.aastore, 1) := dk_83 (dk_at dksX4_init_3 12 rfl rfl)
theorem dX4_init_82 : decode cX4_init 82 = .ok (.dup, 1) := dk_89 (dk_at dksX4_init_3 13 rfl rfl)
theorem dX4_init_83 : decode cX4_init 83 = .ok (.iconst 1, 1) := dk_4 (dk_at dksX4_init_3 14 rfl rfl)
theorem dX4_init_84 : decode cX4_init 84 = .ok (.ldc 39, 2) := dk_18 39 (dk_at dksX4_init_3 15 rfl rfl)
theorem dX4_init_86 : decode cX4_init 86 = .ok (.aastore, 1) := dk_83 (dk_at dksX4_init_3 17 rfl rfl)
theorem dX4_init_87 : decode cX4_init 87 = .ok (.putfield 41, 3) := dk_181 0 41 (dk_at dksX4_init_3 18 rfl rfl)
theorem dX4_init_90 : decode cX4_init 90 = .ok (.aload_n 0, 1) := dk_42 (dk_at dksX4_init_3 21 rfl rfl)
theorem dX4_init_91 : decode cX4_init 91 = .ok (.sipush 400, 3) := dk_17 1 144 (dk_at dksX4_init_4 0 rfl rfl)
theorem dX4_init_94 : decode cX4_init 94 = .ok (.newarray .char, 2) := dk_188_5 (dk_at dksX4_init_4 3 rfl rfl)
theorem dX4_init_96 : decode cX4_init 96 = .ok (.putfield 44, 3) := dk_181 0 44 (dk_at dksX4_init_4 5 rfl rfl)
theorem dX4_init_99 : decode cX4_init 99 = .ok (.aload_n 0, 1) := dk_42 (dk_at dksX4_init_4 8 rfl rfl)
theorem dX4_init_100 : decode cX4_init 100 = .ok (.bipush 60, 2) := dk_16 60 (dk_at dksX4_init_4 9 rfl rfl)
theorem dX4_init_102 : decode cX4_init 102 = .ok (.newarray .char, 2) := dk_188_5 (dk_at dksX4_init_4 11 rfl rfl)
theorem dX4_init_104 : decode cX4_init 104 = .ok (.putfield 48, 3) := dk_181 0 48 (dk_at dksX4_init_4 13 rfl rfl)
theorem dX4_init_107 : decode cX4_init 107 = .ok (.aload_n 0, 1) := dk_42 (dk_at dksX4_init_4 16 rfl rfl)
theorem dX4_init_108 : decode cX4_init 108 = .ok (.iconst 5, 1) := dk_8 (dk_at dksX4_init_4 17 rfl rfl)
theorem dX4_init_109 : decode cX4_init 109 = .ok (.newarray .int, 2) := dk_188_10 (dk_at dksX4_init_4 18 rfl rfl)
theorem dX4_init_111 : decode cX4_init 111 = .ok (.putfield 51, 3) := dk_181 0 51 (dk_at dksX4_init_4 20 rfl rfl)
theorem dX4_init_114 : decode cX4_init 114 = .ok (.aload_n 0, 1) := dk_42 (dk_at dksX4_init_4 23 rfl rfl)
theorem dX4_init_115 : decode cX4_init 115 = .ok (.iconst (-1), 1) := dk_2 (dk_at dksX4_init_5 0 rfl rfl)
theorem dX4_init_116 : decode cX4_init 116 = .ok (.putfield 54, 3) := dk_181 0 54 (dk_at dksX4_init_5 1 rfl rfl)
theorem dX4_init_119 : decode cX4_init 119 = .ok (.aload_n 0, 1) := dk_42 (dk_at dksX4_init_5 4 rfl rfl)
theorem dX4_init_120 : decode cX4_init 120 = .ok (.getfield 21, 3) := dk_180 0 21 (dk_at dksX4_init_5 5 rfl rfl)
theorem dX4_init_123 : decode cX4_init 123 = .ok (.iconst 5, 1) := dk_8 (dk_at dksX4_init_5 8 rfl rfl)
theorem dX4_init_124 : decode cX4_init 124 = .ok (.bipush 100, 2) := dk_16 100 (dk_at dksX4_init_5 9 rfl rfl)
theorem dX4_init_126 : decode cX4_init 126 = .ok (.iastore, 1) := dk_79 (dk_at dksX4_init_5 11 rfl rfl)
theorem dX4_init_127 : decode cX4_init 127 = .ok (.aload_n 0, 1) := dk_42 (dk_at dksX4_init_5 12 rfl rfl)
theorem dX4_init_128 : decode cX4_init 128 = .ok (.getfield 21, 3) := dk_180 0 21 (dk_at dksX4_init_5 13 rfl rfl)
theorem dX4_init_131 : decode cX4_init 131 = .ok (.bipush 10, 2) := dk_16 10 (dk_at dksX4_init_5 16 rfl rfl)
theorem dX4_init_133 : decode cX4_init 133 = .ok (.iconst 1, 1) := dk_4 (dk_at dksX4_init_5 18 rfl rfl)
theorem dX4_init_134 : decode cX4_init 134 = .ok (.iastore, 1) := dk_79 (dk_at dksX4_init_5 19 rfl rfl)
theorem dX4_init_135 : decode cX4_init 135 = .ok (.aload_n 0, 1) := dk_42 (dk_at dksX4_init_5 20 rfl rfl)
theorem dX4_init_136 : decode cX4_init 136 = .ok (.getfield 21, 3) := dk_180 0 21 (dk_at dksX4_init_5 21 rfl rfl)
theorem dX4_init_139 : decode cX4_init 139 = .ok (.bipush 11, 2) := dk_16 11 (dk_at dksX4_init_6 0 rfl rfl)
theorem dX4_init_141 : decode cX4_init 141 = .ok (.iconst 3, 1) := dk_6 (dk_at dksX4_init_6 2 rfl rfl)
theorem dX4_init_142 : decode cX4_init 142 = .ok (.iastore, 1) := dk_79 (dk_at dksX4_init_6 3 rfl rfl)
theorem dX4_init_143 : decode cX4_init 143 = .ok (.aload_n 0, 1) := dk_42 (dk_at dksX4_init_6 4 rfl rfl)
theorem dX4_init_144 : decode cX4_init 144 = .ok (.getfield 21, 3) := dk_180 0 21 (dk_at dksX4_init_6 5 rfl rfl)
theorem dX4_init_147 : decode cX4_init 147 = .ok (.bipush 12, 2) := dk_16 12 (dk_at dksX4_init_6 8 rfl rfl)
theorem dX4_init_149 : decode cX4_init 149 = .ok (.bipush 7, 2) := dk_16 7 (dk_at dksX4_init_6 10 rfl rfl)
theorem dX4_init_151 : decode cX4_init 151 = .ok (.iastore, 1) := dk_79 (dk_at dksX4_init_6 12 rfl rfl)
theorem dX4_init_152 : decode cX4_init 152 = .ok (.return_, 1) := dk_177 (dk_at dksX4_init_6 13 rfl rfl)
abbrev cX4_thrown : ByteArray := prog_29_method_2_code
def yX4_thrown : MethodName := ⟨RX4, "thrown", "()I"⟩
theorem dX4_thrown_0 : decode cX4_thrown 0 = .ok (.aload_n 0, 1) := by decide +kernel
theorem dX4_thrown_1 : decode cX4_thrown 1 = .ok (.getfield 58, 3) := by decide +kernel
theorem dX4_thrown_4 : decode cX4_thrown 4 = .ok (.ireturn, 1) := by decide +kernel
abbrev cX4_channel : ByteArray := prog_29_method_17_code
def yX4_channel : MethodName := ⟨RX4, "channel", "(III)I"⟩
def dkwX4_channel_5 : List UInt8 := [3, 46, 4, 100, 182, 0, 73, 172]
abbrev dktX4_channel_5 : List UInt8 := dkwX4_channel_5 ++ []
def dkwX4_channel_4 : List UInt8 := [180, 0, 21, 21, 4, 4, 96, 28, 79, 42, 180, 0, 21, 21, 4, 5, 96, 29, 79, 42, 42, 180, 0, 21]
abbrev dktX4_channel_4 : List UInt8 := dkwX4_channel_4 ++ dktX4_channel_5
def dkwX4_channel_3 : List UInt8 := [180, 0, 21, 3, 92, 46, 91, 4, 96, 79, 104, 96, 54, 4, 42, 180, 0, 21, 21, 4, 27, 79, 42]
abbrev dktX4_channel_3 : List UInt8 := dkwX4_channel_3 ++ dktX4_channel_4
def dkwX4_channel_2 : List UInt8 := [46, 16, 6, 160, 0, 16, 42, 42, 4, 16, 6, 182, 0, 87, 5, 182, 0, 91, 172, 16, 13, 6, 42]
abbrev dktX4_channel_2 : List UInt8 := dkwX4_channel_2 ++ dktX4_channel_3
def dkwX4_channel_1 : List UInt8 := [153, 0, 13, 29, 4, 16, 9, 184, 0, 80, 154, 0, 9, 42, 4, 182, 0, 77, 172, 42, 180, 0, 21, 3]
abbrev dktX4_channel_1 : List UInt8 := dkwX4_channel_1 ++ dktX4_channel_2
def dkwX4_channel_0 : List UInt8 := [42, 182, 0, 84, 27, 16, 10, 16, 99, 184, 0, 80, 153, 0, 23, 28, 3, 16, 9, 184, 0, 80]
abbrev dktX4_channel_0 : List UInt8 := dkwX4_channel_0 ++ dktX4_channel_1
theorem dksX4_channel_0 : cX4_channel.data.toList.drop 0 = dktX4_channel_0 := by decide +kernel
theorem dksX4_channel_1 : cX4_channel.data.toList.drop 22 = dktX4_channel_1 := dk_seg dksX4_channel_0 22 rfl rfl
theorem dksX4_channel_2 : cX4_channel.data.toList.drop 46 = dktX4_channel_2 := dk_seg dksX4_channel_1 24 rfl rfl
theorem dksX4_channel_3 : cX4_channel.data.toList.drop 69 = dktX4_channel_3 := dk_seg dksX4_channel_2 23 rfl rfl
theorem dksX4_channel_4 : cX4_channel.data.toList.drop 92 = dktX4_channel_4 := dk_seg dksX4_channel_3 23 rfl rfl
theorem dksX4_channel_5 : cX4_channel.data.toList.drop 116 = dktX4_channel_5 := dk_seg dksX4_channel_4 24 rfl rfl
theorem dX4_channel_0 : decode cX4_channel 0 = .ok (.aload_n 0, 1) := dk_42 (dk_at dksX4_channel_0 0 rfl rfl)
theorem dX4_channel_1 : decode cX4_channel 1 = .ok (.invokevirtual 84, 3) := dk_182 0 84 (dk_at dksX4_channel_0 1 rfl rfl)
theorem dX4_channel_4 : decode cX4_channel 4 = .ok (.iload_n 1, 1) := dk_27 (dk_at dksX4_channel_0 4 rfl rfl)
theorem dX4_channel_5 : decode cX4_channel 5 = .ok (.bipush 10, 2) := dk_16 10 (dk_at dksX4_channel_0 5 rfl rfl)
theorem dX4_channel_7 : decode cX4_channel 7 = .ok (.bipush 99, 2) := dk_16 99 (dk_at dksX4_channel_0 7 rfl rfl)
theorem dX4_channel_9 : decode cX4_channel 9 = .ok (.invokestatic 80, 3) := dk_184 0 80 (dk_at dksX4_channel_0 9 rfl rfl)
theorem dX4_channel_12 : decode cX4_channel 12 = .ok (.ifCond .eq 23, 3) := dk_153 0 23 (dk_at dksX4_channel_0 12 rfl rfl)
theorem dX4_channel_15 : decode cX4_channel 15 = .ok (.iload_n 2, 1) := dk_28 (dk_at dksX4_channel_0 15 rfl rfl)
theorem dX4_channel_16 : decode cX4_channel 16 = .ok (.iconst 0, 1) := dk_3 (dk_at dksX4_channel_0 16 rfl rfl)
theorem dX4_channel_17 : decode cX4_channel 17 = .ok (.bipush 9, 2) := dk_16 9 (dk_at dksX4_channel_0 17 rfl rfl)
theorem dX4_channel_19 : decode cX4_channel 19 = .ok (.invokestatic 80, 3) := dk_184 0 80 (dk_at dksX4_channel_0 19 rfl rfl)
theorem dX4_channel_22 : decode cX4_channel 22 = .ok (.ifCond .eq 13, 3) := dk_153 0 13 (dk_at dksX4_channel_1 0 rfl rfl)
theorem dX4_channel_25 : decode cX4_channel 25 = .ok (.iload_n 3, 1) := dk_29 (dk_at dksX4_channel_1 3 rfl rfl)
theorem dX4_channel_26 : decode cX4_channel 26 = .ok (.iconst 1, 1) := dk_4 (dk_at dksX4_channel_1 4 rfl rfl)
theorem dX4_channel_27 : decode cX4_channel 27 = .ok (.bipush 9, 2) := dk_16 9 (dk_at dksX4_channel_1 5 rfl rfl)
theorem dX4_channel_29 : decode cX4_channel 29 = .ok (.invokestatic 80, 3) := dk_184 0 80 (dk_at dksX4_channel_1 7 rfl rfl)
theorem dX4_channel_32 : decode cX4_channel 32 = .ok (.ifCond .ne 9, 3) := dk_154 0 9 (dk_at dksX4_channel_1 10 rfl rfl)
theorem dX4_channel_35 : decode cX4_channel 35 = .ok (.aload_n 0, 1) := dk_42 (dk_at dksX4_channel_1 13 rfl rfl)
theorem dX4_channel_36 : decode cX4_channel 36 = .ok (.iconst 1, 1) := dk_4 (dk_at dksX4_channel_1 14 rfl rfl)
theorem dX4_channel_37 : decode cX4_channel 37 = .ok (.invokevirtual 77, 3) := dk_182 0 77 (dk_at dksX4_channel_1 15 rfl rfl)
theorem dX4_channel_40 : decode cX4_channel 40 = .ok (.ireturn, 1) := dk_172 (dk_at dksX4_channel_1 18 rfl rfl)
theorem dX4_channel_41 : decode cX4_channel 41 = .ok (.aload_n 0, 1) := dk_42 (dk_at dksX4_channel_1 19 rfl rfl)
theorem dX4_channel_42 : decode cX4_channel 42 = .ok (.getfield 21, 3) := dk_180 0 21 (dk_at dksX4_channel_1 20 rfl rfl)
theorem dX4_channel_45 : decode cX4_channel 45 = .ok (.iconst 0, 1) := dk_3 (dk_at dksX4_channel_1 23 rfl rfl)
theorem dX4_channel_46 : decode cX4_channel 46 = .ok (.iaload, 1) := dk_46 (dk_at dksX4_channel_2 0 rfl rfl)
theorem dX4_channel_47 : decode cX4_channel 47 = .ok (.bipush 6, 2) := dk_16 6 (dk_at dksX4_channel_2 1 rfl rfl)
theorem dX4_channel_49 : decode cX4_channel 49 = .ok (.if_icmp .ne 16, 3) := dk_160 0 16 (dk_at dksX4_channel_2 3 rfl rfl)
theorem dX4_channel_52 : decode cX4_channel 52 = .ok (.aload_n 0, 1) := dk_42 (dk_at dksX4_channel_2 6 rfl rfl)
theorem dX4_channel_53 : decode cX4_channel 53 = .ok (.aload_n 0, 1) := dk_42 (dk_at dksX4_channel_2 7 rfl rfl)
theorem dX4_channel_54 : decode cX4_channel 54 = .ok (.iconst 1, 1) := dk_4 (dk_at dksX4_channel_2 8 rfl rfl)
theorem dX4_channel_55 : decode cX4_channel 55 = .ok (.bipush 6, 2) := dk_16 6 (dk_at dksX4_channel_2 9 rfl rfl)
theorem dX4_channel_57 : decode cX4_channel 57 = .ok (.invokevirtual 87, 3) := dk_182 0 87 (dk_at dksX4_channel_2 11 rfl rfl)
theorem dX4_channel_60 : decode cX4_channel 60 = .ok (.iconst 2, 1) := dk_5 (dk_at dksX4_channel_2 14 rfl rfl)
theorem dX4_channel_61 : decode cX4_channel 61 = .ok (.invokevirtual 91, 3) := dk_182 0 91 (dk_at dksX4_channel_2 15 rfl rfl)
theorem dX4_channel_64 : decode cX4_channel 64 = .ok (.ireturn, 1) := dk_172 (dk_at dksX4_channel_2 18 rfl rfl)
theorem dX4_channel_65 : decode cX4_channel 65 = .ok (.bipush 13, 2) := dk_16 13 (dk_at dksX4_channel_2 19 rfl rfl)
theorem dX4_channel_67 : decode cX4_channel 67 = .ok (.iconst 3, 1) := dk_6 (dk_at dksX4_channel_2 21 rfl rfl)
theorem dX4_channel_68 : decode cX4_channel 68 = .ok (.aload_n 0, 1) := dk_42 (dk_at dksX4_channel_2 22 rfl rfl)
theorem dX4_channel_69 : decode cX4_channel 69 = .ok (.getfield 21, 3) := dk_180 0 21 (dk_at dksX4_channel_3 0 rfl rfl)
theorem dX4_channel_72 : decode cX4_channel 72 = .ok (.iconst 0, 1) := dk_3 (dk_at dksX4_channel_3 3 rfl rfl)
theorem dX4_channel_73 : decode cX4_channel 73 = .ok (.dup2, 1) := dk_92 (dk_at dksX4_channel_3 4 rfl rfl)
theorem dX4_channel_74 : decode cX4_channel 74 = .ok (.iaload, 1) := dk_46 (dk_at dksX4_channel_3 5 rfl rfl)
theorem dX4_channel_75 : decode cX4_channel 75 = .ok (.dup_x2, 1) := dk_91 (dk_at dksX4_channel_3 6 rfl rfl)
theorem dX4_channel_76 : decode cX4_channel 76 = .ok (.iconst 1, 1) := dk_4 (dk_at dksX4_channel_3 7 rfl rfl)
theorem dX4_channel_77 : decode cX4_channel 77 = .ok (.iadd, 1) := dk_96 (dk_at dksX4_channel_3 8 rfl rfl)
theorem dX4_channel_78 : decode cX4_channel 78 = .ok (.iastore, 1) := dk_79 (dk_at dksX4_channel_3 9 rfl rfl)
theorem dX4_channel_79 : decode cX4_channel 79 = .ok (.imul, 1) := dk_104 (dk_at dksX4_channel_3 10 rfl rfl)
theorem dX4_channel_80 : decode cX4_channel 80 = .ok (.iadd, 1) := dk_96 (dk_at dksX4_channel_3 11 rfl rfl)
theorem dX4_channel_81 : decode cX4_channel 81 = .ok (.istore 4, 2) := dk_54 4 (dk_at dksX4_channel_3 12 rfl rfl)
theorem dX4_channel_83 : decode cX4_channel 83 = .ok (.aload_n 0, 1) := dk_42 (dk_at dksX4_channel_3 14 rfl rfl)
theorem dX4_channel_84 : decode cX4_channel 84 = .ok (.getfield 21, 3) := dk_180 0 21 (dk_at dksX4_channel_3 15 rfl rfl)
theorem dX4_channel_87 : decode cX4_channel 87 = .ok (.iload 4, 2) := dk_21 4 (dk_at dksX4_channel_3 18 rfl rfl)
theorem dX4_channel_89 : decode cX4_channel 89 = .ok (.iload_n 1, 1) := dk_27 (dk_at dksX4_channel_3 20 rfl rfl)
theorem dX4_channel_90 : decode cX4_channel 90 = .ok (.iastore, 1) := dk_79 (dk_at dksX4_channel_3 21 rfl rfl)
theorem dX4_channel_91 : decode cX4_channel 91 = .ok (.aload_n 0, 1) := dk_42 (dk_at dksX4_channel_3 22 rfl rfl)
theorem dX4_channel_92 : decode cX4_channel 92 = .ok (.getfield 21, 3) := dk_180 0 21 (dk_at dksX4_channel_4 0 rfl rfl)
theorem dX4_channel_95 : decode cX4_channel 95 = .ok (.iload 4, 2) := dk_21 4 (dk_at dksX4_channel_4 3 rfl rfl)
theorem dX4_channel_97 : decode cX4_channel 97 = .ok (.iconst 1, 1) := dk_4 (dk_at dksX4_channel_4 5 rfl rfl)
theorem dX4_channel_98 : decode cX4_channel 98 = .ok (.iadd, 1) := dk_96 (dk_at dksX4_channel_4 6 rfl rfl)
theorem dX4_channel_99 : decode cX4_channel 99 = .ok (.iload_n 2, 1) := dk_28 (dk_at dksX4_channel_4 7 rfl rfl)
theorem dX4_channel_100 : decode cX4_channel 100 = .ok (.iastore, 1) := dk_79 (dk_at dksX4_channel_4 8 rfl rfl)
theorem dX4_channel_101 : decode cX4_channel 101 = .ok (.aload_n 0, 1) := dk_42 (dk_at dksX4_channel_4 9 rfl rfl)
theorem dX4_channel_102 : decode cX4_channel 102 = .ok (.getfield 21, 3) := dk_180 0 21 (dk_at dksX4_channel_4 10 rfl rfl)
theorem dX4_channel_105 : decode cX4_channel 105 = .ok (.iload 4, 2) := dk_21 4 (dk_at dksX4_channel_4 13 rfl rfl)
theorem dX4_channel_107 : decode cX4_channel 107 = .ok (.iconst 2, 1) := dk_5 (dk_at dksX4_channel_4 15 rfl rfl)
theorem dX4_channel_108 : decode cX4_channel 108 = .ok (.iadd, 1) := dk_96 (dk_at dksX4_channel_4 16 rfl rfl)
theorem dX4_channel_109 : decode cX4_channel 109 = .ok (.iload_n 3, 1) := dk_29 (dk_at dksX4_channel_4 17 rfl rfl)
theorem dX4_channel_110 : decode cX4_channel 110 = .ok (.iastore, 1) := dk_79 (dk_at dksX4_channel_4 18 rfl rfl)
theorem dX4_channel_111 : decode cX4_channel 111 = .ok (.aload_n 0, 1) := dk_42 (dk_at dksX4_channel_4 19 rfl rfl)
theorem dX4_channel_112 : decode cX4_channel 112 = .ok (.aload_n 0, 1) := dk_42 (dk_at dksX4_channel_4 20 rfl rfl)
theorem dX4_channel_113 : decode cX4_channel 113 = .ok (.getfield 21, 3) := dk_180 0 21 (dk_at dksX4_channel_4 21 rfl rfl)
theorem dX4_channel_116 : decode cX4_channel 116 = .ok (.iconst 0, 1) := dk_3 (dk_at dksX4_channel_5 0 rfl rfl)
theorem dX4_channel_117 : decode cX4_channel 117 = .ok (.iaload, 1) := dk_46 (dk_at dksX4_channel_5 1 rfl rfl)
theorem dX4_channel_118 : decode cX4_channel 118 = .ok (.iconst 1, 1) := dk_4 (dk_at dksX4_channel_5 2 rfl rfl)
theorem dX4_channel_119 : decode cX4_channel 119 = .ok (.isub, 1) := dk_100 (dk_at dksX4_channel_5 3 rfl rfl)
theorem dX4_channel_120 : decode cX4_channel 120 = .ok (.invokevirtual 73, 3) := dk_182 0 73 (dk_at dksX4_channel_5 4 rfl rfl)
theorem dX4_channel_123 : decode cX4_channel 123 = .ok (.ireturn, 1) := dk_172 (dk_at dksX4_channel_5 7 rfl rfl)
abbrev cX4_tries : ByteArray := prog_29_method_5_code
def yX4_tries : MethodName := ⟨RX4, "tries", "()V"⟩
def dkwX4_tries_1 : List UInt8 := [46, 79, 132, 1, 1, 167, 255, 234, 177]
abbrev dktX4_tries_1 : List UInt8 := dkwX4_tries_1 ++ []
def dkwX4_tries_0 : List UInt8 := [42, 3, 181, 0, 58, 3, 60, 27, 17, 2, 140, 162, 0, 21, 42, 180, 0, 25, 27, 42, 180, 0, 21, 27]
abbrev dktX4_tries_0 : List UInt8 := dkwX4_tries_0 ++ dktX4_tries_1
theorem dksX4_tries_0 : cX4_tries.data.toList.drop 0 = dktX4_tries_0 := by decide +kernel
theorem dksX4_tries_1 : cX4_tries.data.toList.drop 24 = dktX4_tries_1 := dk_seg dksX4_tries_0 24 rfl rfl
theorem dX4_tries_0 : decode cX4_tries 0 = .ok (.aload_n 0, 1) := dk_42 (dk_at dksX4_tries_0 0 rfl rfl)
theorem dX4_tries_1 : decode cX4_tries 1 = .ok (.iconst 0, 1) := dk_3 (dk_at dksX4_tries_0 1 rfl rfl)
theorem dX4_tries_2 : decode cX4_tries 2 = .ok (.putfield 58, 3) := dk_181 0 58 (dk_at dksX4_tries_0 2 rfl rfl)
theorem dX4_tries_5 : decode cX4_tries 5 = .ok (.iconst 0, 1) := dk_3 (dk_at dksX4_tries_0 5 rfl rfl)
theorem dX4_tries_6 : decode cX4_tries 6 = .ok (.istore_n 1, 1) := dk_60 (dk_at dksX4_tries_0 6 rfl rfl)
theorem dX4_tries_7 : decode cX4_tries 7 = .ok (.iload_n 1, 1) := dk_27 (dk_at dksX4_tries_0 7 rfl rfl)
theorem dX4_tries_8 : decode cX4_tries 8 = .ok (.sipush 652, 3) := dk_17 2 140 (dk_at dksX4_tries_0 8 rfl rfl)
theorem dX4_tries_11 : decode cX4_tries 11 = .ok (.if_icmp .ge 21, 3) := dk_162 0 21 (dk_at dksX4_tries_0 11 rfl rfl)
theorem dX4_tries_14 : decode cX4_tries 14 = .ok (.aload_n 0, 1) := dk_42 (dk_at dksX4_tries_0 14 rfl rfl)
theorem dX4_tries_15 : decode cX4_tries 15 = .ok (.getfield 25, 3) := dk_180 0 25 (dk_at dksX4_tries_0 15 rfl rfl)
theorem dX4_tries_18 : decode cX4_tries 18 = .ok (.iload_n 1, 1) := dk_27 (dk_at dksX4_tries_0 18 rfl rfl)
theorem dX4_tries_19 : decode cX4_tries 19 = .ok (.aload_n 0, 1) := dk_42 (dk_at dksX4_tries_0 19 rfl rfl)
theorem dX4_tries_20 : decode cX4_tries 20 = .ok (.getfield 21, 3) := dk_180 0 21 (dk_at dksX4_tries_0 20 rfl rfl)
theorem dX4_tries_23 : decode cX4_tries 23 = .ok (.iload_n 1, 1) := dk_27 (dk_at dksX4_tries_0 23 rfl rfl)
theorem dX4_tries_24 : decode cX4_tries 24 = .ok (.iaload, 1) := dk_46 (dk_at dksX4_tries_1 0 rfl rfl)
theorem dX4_tries_25 : decode cX4_tries 25 = .ok (.iastore, 1) := dk_79 (dk_at dksX4_tries_1 1 rfl rfl)
theorem dX4_tries_26 : decode cX4_tries 26 = .ok (.iinc 1 1, 3) := dk_132 1 1 (dk_at dksX4_tries_1 2 rfl rfl)
theorem dX4_tries_29 : decode cX4_tries 29 = .ok (.goto (-22), 3) := dk_167 255 234 (dk_at dksX4_tries_1 5 rfl rfl)
theorem dX4_tries_32 : decode cX4_tries 32 = .ok (.return_, 1) := dk_177 (dk_at dksX4_tries_1 8 rfl rfl)
abbrev cX4_in : ByteArray := prog_29_method_4_code
def yX4_in : MethodName := ⟨RX4, "in", "(III)Z"⟩
def dkwX4_in_0 : List UInt8 := [26, 27, 161, 0, 12, 26, 28, 163, 0, 7, 4, 167, 0, 4, 3, 172]
abbrev dktX4_in_0 : List UInt8 := dkwX4_in_0 ++ []
theorem dksX4_in_0 : cX4_in.data.toList.drop 0 = dktX4_in_0 := by decide +kernel
theorem dX4_in_0 : decode cX4_in 0 = .ok (.iload_n 0, 1) := dk_26 (dk_at dksX4_in_0 0 rfl rfl)
theorem dX4_in_1 : decode cX4_in 1 = .ok (.iload_n 1, 1) := dk_27 (dk_at dksX4_in_0 1 rfl rfl)
theorem dX4_in_2 : decode cX4_in 2 = .ok (.if_icmp .lt 12, 3) := dk_161 0 12 (dk_at dksX4_in_0 2 rfl rfl)
theorem dX4_in_5 : decode cX4_in 5 = .ok (.iload_n 0, 1) := dk_26 (dk_at dksX4_in_0 5 rfl rfl)
theorem dX4_in_6 : decode cX4_in 6 = .ok (.iload_n 2, 1) := dk_28 (dk_at dksX4_in_0 6 rfl rfl)
theorem dX4_in_7 : decode cX4_in 7 = .ok (.if_icmp .gt 7, 3) := dk_163 0 7 (dk_at dksX4_in_0 7 rfl rfl)
theorem dX4_in_10 : decode cX4_in 10 = .ok (.iconst 1, 1) := dk_4 (dk_at dksX4_in_0 10 rfl rfl)
theorem dX4_in_11 : decode cX4_in 11 = .ok (.goto 4, 3) := dk_167 0 4 (dk_at dksX4_in_0 11 rfl rfl)
theorem dX4_in_14 : decode cX4_in 14 = .ok (.iconst 0, 1) := dk_3 (dk_at dksX4_in_0 14 rfl rfl)
theorem dX4_in_15 : decode cX4_in 15 = .ok (.ireturn, 1) := dk_172 (dk_at dksX4_in_0 15 rfl rfl)
abbrev cX4_raises : ByteArray := prog_29_method_3_code
def yX4_raises : MethodName := ⟨RX4, "raises", "(I)I"⟩
def dkwX4_raises_0 : List UInt8 := [42, 27, 181, 0, 58, 3, 172]
abbrev dktX4_raises_0 : List UInt8 := dkwX4_raises_0 ++ []
theorem dksX4_raises_0 : cX4_raises.data.toList.drop 0 = dktX4_raises_0 := by decide +kernel
theorem dX4_raises_0 : decode cX4_raises 0 = .ok (.aload_n 0, 1) := dk_42 (dk_at dksX4_raises_0 0 rfl rfl)
theorem dX4_raises_1 : decode cX4_raises 1 = .ok (.iload_n 1, 1) := dk_27 (dk_at dksX4_raises_0 1 rfl rfl)
theorem dX4_raises_2 : decode cX4_raises 2 = .ok (.putfield 58, 3) := dk_181 0 58 (dk_at dksX4_raises_0 2 rfl rfl)
theorem dX4_raises_5 : decode cX4_raises 5 = .ok (.iconst 0, 1) := dk_3 (dk_at dksX4_raises_0 5 rfl rfl)
theorem dX4_raises_6 : decode cX4_raises 6 = .ok (.ireturn, 1) := dk_172 (dk_at dksX4_raises_0 6 rfl rfl)
abbrev cX4_why : ByteArray := prog_29_method_9_code
def yX4_why : MethodName := ⟨RX4, "why", "(II)I"⟩
def dkwX4_why_0 : List UInt8 := [42, 27, 181, 0, 67, 42, 28, 181, 0, 70, 27, 172]
abbrev dktX4_why_0 : List UInt8 := dkwX4_why_0 ++ []
theorem dksX4_why_0 : cX4_why.data.toList.drop 0 = dktX4_why_0 := by decide +kernel
theorem dX4_why_0 : decode cX4_why 0 = .ok (.aload_n 0, 1) := dk_42 (dk_at dksX4_why_0 0 rfl rfl)
theorem dX4_why_1 : decode cX4_why 1 = .ok (.iload_n 1, 1) := dk_27 (dk_at dksX4_why_0 1 rfl rfl)
theorem dX4_why_2 : decode cX4_why 2 = .ok (.putfield 67, 3) := dk_181 0 67 (dk_at dksX4_why_0 2 rfl rfl)
theorem dX4_why_5 : decode cX4_why 5 = .ok (.aload_n 0, 1) := dk_42 (dk_at dksX4_why_0 5 rfl rfl)
theorem dX4_why_6 : decode cX4_why 6 = .ok (.iload_n 2, 1) := dk_28 (dk_at dksX4_why_0 6 rfl rfl)
theorem dX4_why_7 : decode cX4_why 7 = .ok (.putfield 70, 3) := dk_181 0 70 (dk_at dksX4_why_0 7 rfl rfl)
theorem dX4_why_10 : decode cX4_why 10 = .ok (.iload_n 1, 1) := dk_27 (dk_at dksX4_why_0 10 rfl rfl)
theorem dX4_why_11 : decode cX4_why 11 = .ok (.ireturn, 1) := dk_172 (dk_at dksX4_why_0 11 rfl rfl)
abbrev cX4_ends : ByteArray := prog_29_method_10_code
def yX4_ends : MethodName := ⟨RX4, "ends", "(II)I"⟩
def dkwX4_ends_1 : List UInt8 := [167, 0, 4, 28, 182, 0, 77, 172]
abbrev dktX4_ends_1 : List UInt8 := dkwX4_ends_1 ++ []
def dkwX4_ends_0 : List UInt8 := [27, 154, 0, 14, 42, 42, 180, 0, 64, 182, 0, 73, 167, 0, 17, 42, 27, 156, 0, 8, 27, 116]
abbrev dktX4_ends_0 : List UInt8 := dkwX4_ends_0 ++ dktX4_ends_1
theorem dksX4_ends_0 : cX4_ends.data.toList.drop 0 = dktX4_ends_0 := by decide +kernel
theorem dksX4_ends_1 : cX4_ends.data.toList.drop 22 = dktX4_ends_1 := dk_seg dksX4_ends_0 22 rfl rfl
theorem dX4_ends_0 : decode cX4_ends 0 = .ok (.iload_n 1, 1) := dk_27 (dk_at dksX4_ends_0 0 rfl rfl)
theorem dX4_ends_1 : decode cX4_ends 1 = .ok (.ifCond .ne 14, 3) := dk_154 0 14 (dk_at dksX4_ends_0 1 rfl rfl)
theorem dX4_ends_4 : decode cX4_ends 4 = .ok (.aload_n 0, 1) := dk_42 (dk_at dksX4_ends_0 4 rfl rfl)
theorem dX4_ends_5 : decode cX4_ends 5 = .ok (.aload_n 0, 1) := dk_42 (dk_at dksX4_ends_0 5 rfl rfl)
theorem dX4_ends_6 : decode cX4_ends 6 = .ok (.getfield 64, 3) := dk_180 0 64 (dk_at dksX4_ends_0 6 rfl rfl)
theorem dX4_ends_9 : decode cX4_ends 9 = .ok (.invokevirtual 73, 3) := dk_182 0 73 (dk_at dksX4_ends_0 9 rfl rfl)
theorem dX4_ends_12 : decode cX4_ends 12 = .ok (.goto 17, 3) := dk_167 0 17 (dk_at dksX4_ends_0 12 rfl rfl)
theorem dX4_ends_15 : decode cX4_ends 15 = .ok (.aload_n 0, 1) := dk_42 (dk_at dksX4_ends_0 15 rfl rfl)
theorem dX4_ends_16 : decode cX4_ends 16 = .ok (.iload_n 1, 1) := dk_27 (dk_at dksX4_ends_0 16 rfl rfl)
theorem dX4_ends_17 : decode cX4_ends 17 = .ok (.ifCond .ge 8, 3) := dk_156 0 8 (dk_at dksX4_ends_0 17 rfl rfl)
theorem dX4_ends_20 : decode cX4_ends 20 = .ok (.iload_n 1, 1) := dk_27 (dk_at dksX4_ends_0 20 rfl rfl)
theorem dX4_ends_21 : decode cX4_ends 21 = .ok (.ineg, 1) := dk_116 (dk_at dksX4_ends_0 21 rfl rfl)
theorem dX4_ends_22 : decode cX4_ends 22 = .ok (.goto 4, 3) := dk_167 0 4 (dk_at dksX4_ends_1 0 rfl rfl)
theorem dX4_ends_25 : decode cX4_ends 25 = .ok (.iload_n 2, 1) := dk_28 (dk_at dksX4_ends_1 3 rfl rfl)
theorem dX4_ends_26 : decode cX4_ends 26 = .ok (.invokevirtual 77, 3) := dk_182 0 77 (dk_at dksX4_ends_1 4 rfl rfl)
theorem dX4_ends_29 : decode cX4_ends 29 = .ok (.ireturn, 1) := dk_172 (dk_at dksX4_ends_1 7 rfl rfl)
abbrev cX4_keeps : ByteArray := prog_29_method_7_code
def yX4_keeps : MethodName := ⟨RX4, "keeps", "(I)I"⟩
def dkwX4_keeps_4 : List UInt8 := [181, 0, 61, 27, 172]
abbrev dktX4_keeps_4 : List UInt8 := dkwX4_keeps_4 ++ []
def dkwX4_keeps_3 : List UInt8 := [28, 96, 42, 180, 0, 25, 28, 46, 79, 132, 2, 1, 167, 255, 225, 42, 89, 180, 0, 61, 4, 96]
abbrev dktX4_keeps_3 : List UInt8 := dkwX4_keeps_3 ++ dktX4_keeps_4
def dkwX4_keeps_2 : List UInt8 := [181, 0, 61, 3, 61, 28, 17, 2, 140, 162, 0, 30, 42, 180, 0, 28, 17, 2, 140, 42, 180, 0, 61, 104]
abbrev dktX4_keeps_2 : List UInt8 := dkwX4_keeps_2 ++ dktX4_keeps_3
def dkwX4_keeps_1 : List UInt8 := [180, 0, 28, 17, 2, 140, 28, 96, 46, 79, 132, 2, 1, 167, 255, 230, 42, 89, 180, 0, 61, 4, 100]
abbrev dktX4_keeps_1 : List UInt8 := dkwX4_keeps_1 ++ dktX4_keeps_2
def dkwX4_keeps_0 : List UInt8 := [42, 180, 0, 61, 16, 8, 160, 0, 44, 3, 61, 28, 17, 17, 212, 162, 0, 25, 42, 180, 0, 28, 28, 42]
abbrev dktX4_keeps_0 : List UInt8 := dkwX4_keeps_0 ++ dktX4_keeps_1
theorem dksX4_keeps_0 : cX4_keeps.data.toList.drop 0 = dktX4_keeps_0 := by decide +kernel
theorem dksX4_keeps_1 : cX4_keeps.data.toList.drop 24 = dktX4_keeps_1 := dk_seg dksX4_keeps_0 24 rfl rfl
theorem dksX4_keeps_2 : cX4_keeps.data.toList.drop 47 = dktX4_keeps_2 := dk_seg dksX4_keeps_1 23 rfl rfl
theorem dksX4_keeps_3 : cX4_keeps.data.toList.drop 71 = dktX4_keeps_3 := dk_seg dksX4_keeps_2 24 rfl rfl
theorem dksX4_keeps_4 : cX4_keeps.data.toList.drop 93 = dktX4_keeps_4 := dk_seg dksX4_keeps_3 22 rfl rfl
theorem dX4_keeps_0 : decode cX4_keeps 0 = .ok (.aload_n 0, 1) := dk_42 (dk_at dksX4_keeps_0 0 rfl rfl)
theorem dX4_keeps_1 : decode cX4_keeps 1 = .ok (.getfield 61, 3) := dk_180 0 61 (dk_at dksX4_keeps_0 1 rfl rfl)
theorem dX4_keeps_4 : decode cX4_keeps 4 = .ok (.bipush 8, 2) := dk_16 8 (dk_at dksX4_keeps_0 4 rfl rfl)
theorem dX4_keeps_6 : decode cX4_keeps 6 = .ok (.if_icmp .ne 44, 3) := dk_160 0 44 (dk_at dksX4_keeps_0 6 rfl rfl)
theorem dX4_keeps_9 : decode cX4_keeps 9 = .ok (.iconst 0, 1) := dk_3 (dk_at dksX4_keeps_0 9 rfl rfl)
theorem dX4_keeps_10 : decode cX4_keeps 10 = .ok (.istore_n 2, 1) := dk_61 (dk_at dksX4_keeps_0 10 rfl rfl)
theorem dX4_keeps_11 : decode cX4_keeps 11 = .ok (.iload_n 2, 1) := dk_28 (dk_at dksX4_keeps_0 11 rfl rfl)
theorem dX4_keeps_12 : decode cX4_keeps 12 = .ok (.sipush 4564, 3) := dk_17 17 212 (dk_at dksX4_keeps_0 12 rfl rfl)
theorem dX4_keeps_15 : decode cX4_keeps 15 = .ok (.if_icmp .ge 25, 3) := dk_162 0 25 (dk_at dksX4_keeps_0 15 rfl rfl)
theorem dX4_keeps_18 : decode cX4_keeps 18 = .ok (.aload_n 0, 1) := dk_42 (dk_at dksX4_keeps_0 18 rfl rfl)
theorem dX4_keeps_19 : decode cX4_keeps 19 = .ok (.getfield 28, 3) := dk_180 0 28 (dk_at dksX4_keeps_0 19 rfl rfl)
theorem dX4_keeps_22 : decode cX4_keeps 22 = .ok (.iload_n 2, 1) := dk_28 (dk_at dksX4_keeps_0 22 rfl rfl)
theorem dX4_keeps_23 : decode cX4_keeps 23 = .ok (.aload_n 0, 1) := dk_42 (dk_at dksX4_keeps_0 23 rfl rfl)
theorem dX4_keeps_24 : decode cX4_keeps 24 = .ok (.getfield 28, 3) := dk_180 0 28 (dk_at dksX4_keeps_1 0 rfl rfl)
theorem dX4_keeps_27 : decode cX4_keeps 27 = .ok (.sipush 652, 3) := dk_17 2 140 (dk_at dksX4_keeps_1 3 rfl rfl)
theorem dX4_keeps_30 : decode cX4_keeps 30 = .ok (.iload_n 2, 1) := dk_28 (dk_at dksX4_keeps_1 6 rfl rfl)
theorem dX4_keeps_31 : decode cX4_keeps 31 = .ok (.iadd, 1) := dk_96 (dk_at dksX4_keeps_1 7 rfl rfl)
theorem dX4_keeps_32 : decode cX4_keeps 32 = .ok (.iaload, 1) := dk_46 (dk_at dksX4_keeps_1 8 rfl rfl)
theorem dX4_keeps_33 : decode cX4_keeps 33 = .ok (.iastore, 1) := dk_79 (dk_at dksX4_keeps_1 9 rfl rfl)
theorem dX4_keeps_34 : decode cX4_keeps 34 = .ok (.iinc 2 1, 3) := dk_132 2 1 (dk_at dksX4_keeps_1 10 rfl rfl)
theorem dX4_keeps_37 : decode cX4_keeps 37 = .ok (.goto (-26), 3) := dk_167 255 230 (dk_at dksX4_keeps_1 13 rfl rfl)
theorem dX4_keeps_40 : decode cX4_keeps 40 = .ok (.aload_n 0, 1) := dk_42 (dk_at dksX4_keeps_1 16 rfl rfl)
theorem dX4_keeps_41 : decode cX4_keeps 41 = .ok (.dup, 1) := dk_89 (dk_at dksX4_keeps_1 17 rfl rfl)
theorem dX4_keeps_42 : decode cX4_keeps 42 = .ok (.getfield 61, 3) := dk_180 0 61 (dk_at dksX4_keeps_1 18 rfl rfl)
theorem dX4_keeps_45 : decode cX4_keeps 45 = .ok (.iconst 1, 1) := dk_4 (dk_at dksX4_keeps_1 21 rfl rfl)
theorem dX4_keeps_46 : decode cX4_keeps 46 = .ok (.isub, 1) := dk_100 (dk_at dksX4_keeps_1 22 rfl rfl)
theorem dX4_keeps_47 : decode cX4_keeps 47 = .ok (.putfield 61, 3) := dk_181 0 61 (dk_at dksX4_keeps_2 0 rfl rfl)
theorem dX4_keeps_50 : decode cX4_keeps 50 = .ok (.iconst 0, 1) := dk_3 (dk_at dksX4_keeps_2 3 rfl rfl)
theorem dX4_keeps_51 : decode cX4_keeps 51 = .ok (.istore_n 2, 1) := dk_61 (dk_at dksX4_keeps_2 4 rfl rfl)
theorem dX4_keeps_52 : decode cX4_keeps 52 = .ok (.iload_n 2, 1) := dk_28 (dk_at dksX4_keeps_2 5 rfl rfl)
theorem dX4_keeps_53 : decode cX4_keeps 53 = .ok (.sipush 652, 3) := dk_17 2 140 (dk_at dksX4_keeps_2 6 rfl rfl)
theorem dX4_keeps_56 : decode cX4_keeps 56 = .ok (.if_icmp .ge 30, 3) := dk_162 0 30 (dk_at dksX4_keeps_2 9 rfl rfl)
theorem dX4_keeps_59 : decode cX4_keeps 59 = .ok (.aload_n 0, 1) := dk_42 (dk_at dksX4_keeps_2 12 rfl rfl)
theorem dX4_keeps_60 : decode cX4_keeps 60 = .ok (.getfield 28, 3) := dk_180 0 28 (dk_at dksX4_keeps_2 13 rfl rfl)
theorem dX4_keeps_63 : decode cX4_keeps 63 = .ok (.sipush 652, 3) := dk_17 2 140 (dk_at dksX4_keeps_2 16 rfl rfl)
theorem dX4_keeps_66 : decode cX4_keeps 66 = .ok (.aload_n 0, 1) := dk_42 (dk_at dksX4_keeps_2 19 rfl rfl)
theorem dX4_keeps_67 : decode cX4_keeps 67 = .ok (.getfield 61, 3) := dk_180 0 61 (dk_at dksX4_keeps_2 20 rfl rfl)
theorem dX4_keeps_70 : decode cX4_keeps 70 = .ok (.imul, 1) := dk_104 (dk_at dksX4_keeps_2 23 rfl rfl)
theorem dX4_keeps_71 : decode cX4_keeps 71 = .ok (.iload_n 2, 1) := dk_28 (dk_at dksX4_keeps_3 0 rfl rfl)
theorem dX4_keeps_72 : decode cX4_keeps 72 = .ok (.iadd, 1) := dk_96 (dk_at dksX4_keeps_3 1 rfl rfl)
theorem dX4_keeps_73 : decode cX4_keeps 73 = .ok (.aload_n 0, 1) := dk_42 (dk_at dksX4_keeps_3 2 rfl rfl)
theorem dX4_keeps_74 : decode cX4_keeps 74 = .ok (.getfield 25, 3) := dk_180 0 25 (dk_at dksX4_keeps_3 3 rfl rfl)
theorem dX4_keeps_77 : decode cX4_keeps 77 = .ok (.iload_n 2, 1) := dk_28 (dk_at dksX4_keeps_3 6 rfl rfl)
theorem dX4_keeps_78 : decode cX4_keeps 78 = .ok (.iaload, 1) := dk_46 (dk_at dksX4_keeps_3 7 rfl rfl)
theorem dX4_keeps_79 : decode cX4_keeps 79 = .ok (.iastore, 1) := dk_79 (dk_at dksX4_keeps_3 8 rfl rfl)
theorem dX4_keeps_80 : decode cX4_keeps 80 = .ok (.iinc 2 1, 3) := dk_132 2 1 (dk_at dksX4_keeps_3 9 rfl rfl)
theorem dX4_keeps_83 : decode cX4_keeps 83 = .ok (.goto (-31), 3) := dk_167 255 225 (dk_at dksX4_keeps_3 12 rfl rfl)
theorem dX4_keeps_86 : decode cX4_keeps 86 = .ok (.aload_n 0, 1) := dk_42 (dk_at dksX4_keeps_3 15 rfl rfl)
theorem dX4_keeps_87 : decode cX4_keeps 87 = .ok (.dup, 1) := dk_89 (dk_at dksX4_keeps_3 16 rfl rfl)
theorem dX4_keeps_88 : decode cX4_keeps 88 = .ok (.getfield 61, 3) := dk_180 0 61 (dk_at dksX4_keeps_3 17 rfl rfl)
theorem dX4_keeps_91 : decode cX4_keeps 91 = .ok (.iconst 1, 1) := dk_4 (dk_at dksX4_keeps_3 20 rfl rfl)
theorem dX4_keeps_92 : decode cX4_keeps 92 = .ok (.iadd, 1) := dk_96 (dk_at dksX4_keeps_3 21 rfl rfl)
theorem dX4_keeps_93 : decode cX4_keeps 93 = .ok (.putfield 61, 3) := dk_181 0 61 (dk_at dksX4_keeps_4 0 rfl rfl)
theorem dX4_keeps_96 : decode cX4_keeps 96 = .ok (.iload_n 1, 1) := dk_27 (dk_at dksX4_keeps_4 3 rfl rfl)
theorem dX4_keeps_97 : decode cX4_keeps 97 = .ok (.ireturn, 1) := dk_172 (dk_at dksX4_keeps_4 4 rfl rfl)
abbrev cX4_split : ByteArray := prog_29_method_19_code
def yX4_split : MethodName := ⟨RX4, "split", "(II)I"⟩
def dkwX4_split_12 : List UInt8 := [21, 4, 182, 0, 73, 172]
abbrev dktX4_split_12 : List UInt8 := dkwX4_split_12 ++ []
def dkwX4_split_11 : List UInt8 := [17, 0, 211, 27, 182, 0, 102, 42, 17, 1, 102, 27, 182, 0, 102, 42, 17, 1, 249, 27, 182, 0, 102, 42]
abbrev dktX4_split_11 : List UInt8 := dkwX4_split_11 ++ dktX4_split_12
def dkwX4_split_10 : List UInt8 := [27, 164, 0, 13, 42, 180, 0, 21, 7, 92, 46, 4, 96, 79, 42, 16, 64, 27, 182, 0, 102, 42]
abbrev dktX4_split_10 : List UInt8 := dkwX4_split_10 ++ dktX4_split_11
def dkwX4_split_9 : List UInt8 := [16, 46, 6, 21, 5, 104, 96, 92, 46, 4, 96, 79, 132, 5, 1, 167, 255, 210, 42, 180, 0, 21, 7, 46]
abbrev dktX4_split_9 : List UInt8 := dkwX4_split_9 ++ dktX4_split_10
def dkwX4_split_8 : List UInt8 := [162, 0, 41, 42, 180, 0, 21, 16, 46, 6, 21, 5, 104, 96, 46, 27, 164, 0, 19, 42, 180, 0, 21]
abbrev dktX4_split_8 : List UInt8 := dkwX4_split_8 ++ dktX4_split_9
def dkwX4_split_7 : List UInt8 := [79, 42, 180, 0, 21, 29, 6, 96, 21, 4, 79, 3, 54, 5, 21, 5, 42, 180, 0, 21, 5, 46]
abbrev dktX4_split_7 : List UInt8 := dkwX4_split_7 ++ dktX4_split_8
def dkwX4_split_6 : List UInt8 := [46, 79, 132, 5, 255, 167, 255, 229, 42, 180, 0, 21, 3, 92, 46, 4, 96, 79, 42, 180, 0, 21, 29, 28]
abbrev dktX4_split_6 : List UInt8 := dkwX4_split_6 ++ dktX4_split_7
def dkwX4_split_5 : List UInt8 := [54, 5, 21, 5, 29, 5, 96, 164, 0, 25, 42, 180, 0, 21, 21, 5, 42, 180, 0, 21, 21, 5, 6, 100]
abbrev dktX4_split_5 : List UInt8 := dkwX4_split_5 ++ dktX4_split_6
def dkwX4_split_4 : List UInt8 := [5, 21, 4, 182, 0, 87, 5, 182, 0, 91, 172, 16, 13, 6, 42, 180, 0, 21, 3, 46, 104, 96, 5, 96]
abbrev dktX4_split_4 : List UInt8 := dkwX4_split_4 ++ dktX4_split_5
def dkwX4_split_3 : List UInt8 := [42, 180, 0, 21, 29, 46, 28, 100, 54, 4, 21, 4, 16, 10, 16, 99, 184, 0, 80, 154, 0, 16, 42, 42]
abbrev dktX4_split_3 : List UInt8 := dkwX4_split_3 ++ dktX4_split_4
def dkwX4_split_2 : List UInt8 := [62, 28, 16, 10, 16, 99, 184, 0, 80, 154, 0, 15, 42, 42, 5, 28, 182, 0, 87, 5, 182, 0, 91, 172]
abbrev dktX4_split_2 : List UInt8 := dkwX4_split_2 ++ dktX4_split_3
def dkwX4_split_1 : List UInt8 := [16, 6, 160, 0, 16, 42, 42, 4, 16, 6, 182, 0, 87, 5, 182, 0, 91, 172, 16, 13, 6, 27, 104, 96]
abbrev dktX4_split_1 : List UInt8 := dkwX4_split_1 ++ dktX4_split_2
def dkwX4_split_0 : List UInt8 := [42, 182, 0, 84, 42, 27, 182, 0, 98, 154, 0, 9, 42, 4, 182, 0, 77, 172, 42, 180, 0, 21, 3, 46]
abbrev dktX4_split_0 : List UInt8 := dkwX4_split_0 ++ dktX4_split_1
theorem dksX4_split_0 : cX4_split.data.toList.drop 0 = dktX4_split_0 := by decide +kernel
theorem dksX4_split_1 : cX4_split.data.toList.drop 24 = dktX4_split_1 := dk_seg dksX4_split_0 24 rfl rfl
theorem dksX4_split_2 : cX4_split.data.toList.drop 48 = dktX4_split_2 := dk_seg dksX4_split_1 24 rfl rfl
theorem dksX4_split_3 : cX4_split.data.toList.drop 72 = dktX4_split_3 := dk_seg dksX4_split_2 24 rfl rfl
theorem dksX4_split_4 : cX4_split.data.toList.drop 96 = dktX4_split_4 := dk_seg dksX4_split_3 24 rfl rfl
theorem dksX4_split_5 : cX4_split.data.toList.drop 120 = dktX4_split_5 := dk_seg dksX4_split_4 24 rfl rfl
theorem dksX4_split_6 : cX4_split.data.toList.drop 144 = dktX4_split_6 := dk_seg dksX4_split_5 24 rfl rfl
theorem dksX4_split_7 : cX4_split.data.toList.drop 168 = dktX4_split_7 := dk_seg dksX4_split_6 24 rfl rfl
theorem dksX4_split_8 : cX4_split.data.toList.drop 190 = dktX4_split_8 := dk_seg dksX4_split_7 22 rfl rfl
theorem dksX4_split_9 : cX4_split.data.toList.drop 213 = dktX4_split_9 := dk_seg dksX4_split_8 23 rfl rfl
theorem dksX4_split_10 : cX4_split.data.toList.drop 237 = dktX4_split_10 := dk_seg dksX4_split_9 24 rfl rfl
theorem dksX4_split_11 : cX4_split.data.toList.drop 259 = dktX4_split_11 := dk_seg dksX4_split_10 22 rfl rfl
theorem dksX4_split_12 : cX4_split.data.toList.drop 283 = dktX4_split_12 := dk_seg dksX4_split_11 24 rfl rfl
theorem dX4_split_0 : decode cX4_split 0 = .ok (.aload_n 0, 1) := dk_42 (dk_at dksX4_split_0 0 rfl rfl)
theorem dX4_split_1 : decode cX4_split 1 = .ok (.invokevirtual 84, 3) := dk_182 0 84 (dk_at dksX4_split_0 1 rfl rfl)
theorem dX4_split_4 : decode cX4_split 4 = .ok (.aload_n 0, 1) := dk_42 (dk_at dksX4_split_0 4 rfl rfl)
theorem dX4_split_5 : decode cX4_split 5 = .ok (.iload_n 1, 1) := dk_27 (dk_at dksX4_split_0 5 rfl rfl)
theorem dX4_split_6 : decode cX4_split 6 = .ok (.invokevirtual 98, 3) := dk_182 0 98 (dk_at dksX4_split_0 6 rfl rfl)
theorem dX4_split_9 : decode cX4_split 9 = .ok (.ifCond .ne 9, 3) := dk_154 0 9 (dk_at dksX4_split_0 9 rfl rfl)
theorem dX4_split_12 : decode cX4_split 12 = .ok (.aload_n 0, 1) := dk_42 (dk_at dksX4_split_0 12 rfl rfl)
theorem dX4_split_13 : decode cX4_split 13 = .ok (.iconst 1, 1) := dk_4 (dk_at dksX4_split_0 13 rfl rfl)
theorem dX4_split_14 : decode cX4_split 14 = .ok (.invokevirtual 77, 3) := dk_182 0 77 (dk_at dksX4_split_0 14 rfl rfl)
theorem dX4_split_17 : decode cX4_split 17 = .ok (.ireturn, 1) := dk_172 (dk_at dksX4_split_0 17 rfl rfl)
theorem dX4_split_18 : decode cX4_split 18 = .ok (.aload_n 0, 1) := dk_42 (dk_at dksX4_split_0 18 rfl rfl)
theorem dX4_split_19 : decode cX4_split 19 = .ok (.getfield 21, 3) := dk_180 0 21 (dk_at dksX4_split_0 19 rfl rfl)
theorem dX4_split_22 : decode cX4_split 22 = .ok (.iconst 0, 1) := dk_3 (dk_at dksX4_split_0 22 rfl rfl)
theorem dX4_split_23 : decode cX4_split 23 = .ok (.iaload, 1) := dk_46 (dk_at dksX4_split_0 23 rfl rfl)
theorem dX4_split_24 : decode cX4_split 24 = .ok (.bipush 6, 2) := dk_16 6 (dk_at dksX4_split_1 0 rfl rfl)
theorem dX4_split_26 : decode cX4_split 26 = .ok (.if_icmp .ne 16, 3) := dk_160 0 16 (dk_at dksX4_split_1 2 rfl rfl)
theorem dX4_split_29 : decode cX4_split 29 = .ok (.aload_n 0, 1) := dk_42 (dk_at dksX4_split_1 5 rfl rfl)
theorem dX4_split_30 : decode cX4_split 30 = .ok (.aload_n 0, 1) := dk_42 (dk_at dksX4_split_1 6 rfl rfl)
theorem dX4_split_31 : decode cX4_split 31 = .ok (.iconst 1, 1) := dk_4 (dk_at dksX4_split_1 7 rfl rfl)
theorem dX4_split_32 : decode cX4_split 32 = .ok (.bipush 6, 2) := dk_16 6 (dk_at dksX4_split_1 8 rfl rfl)
theorem dX4_split_34 : decode cX4_split 34 = .ok (.invokevirtual 87, 3) := dk_182 0 87 (dk_at dksX4_split_1 10 rfl rfl)
theorem dX4_split_37 : decode cX4_split 37 = .ok (.iconst 2, 1) := dk_5 (dk_at dksX4_split_1 13 rfl rfl)
theorem dX4_split_38 : decode cX4_split 38 = .ok (.invokevirtual 91, 3) := dk_182 0 91 (dk_at dksX4_split_1 14 rfl rfl)
theorem dX4_split_41 : decode cX4_split 41 = .ok (.ireturn, 1) := dk_172 (dk_at dksX4_split_1 17 rfl rfl)
theorem dX4_split_42 : decode cX4_split 42 = .ok (.bipush 13, 2) := dk_16 13 (dk_at dksX4_split_1 18 rfl rfl)
theorem dX4_split_44 : decode cX4_split 44 = .ok (.iconst 3, 1) := dk_6 (dk_at dksX4_split_1 20 rfl rfl)
theorem dX4_split_45 : decode cX4_split 45 = .ok (.iload_n 1, 1) := dk_27 (dk_at dksX4_split_1 21 rfl rfl)
theorem dX4_split_46 : decode cX4_split 46 = .ok (.imul, 1) := dk_104 (dk_at dksX4_split_1 22 rfl rfl)
theorem dX4_split_47 : decode cX4_split 47 = .ok (.iadd, 1) := dk_96 (dk_at dksX4_split_1 23 rfl rfl)
theorem dX4_split_48 : decode cX4_split 48 = .ok (.istore_n 3, 1) := dk_62 (dk_at dksX4_split_2 0 rfl rfl)
theorem dX4_split_49 : decode cX4_split 49 = .ok (.iload_n 2, 1) := dk_28 (dk_at dksX4_split_2 1 rfl rfl)
theorem dX4_split_50 : decode cX4_split 50 = .ok (.bipush 10, 2) := dk_16 10 (dk_at dksX4_split_2 2 rfl rfl)
theorem dX4_split_52 : decode cX4_split 52 = .ok (.bipush 99, 2) := dk_16 99 (dk_at dksX4_split_2 4 rfl rfl)
theorem dX4_split_54 : decode cX4_split 54 = .ok (.invokestatic 80, 3) := dk_184 0 80 (dk_at dksX4_split_2 6 rfl rfl)
theorem dX4_split_57 : decode cX4_split 57 = .ok (.ifCond .ne 15, 3) := dk_154 0 15 (dk_at dksX4_split_2 9 rfl rfl)
theorem dX4_split_60 : decode cX4_split 60 = .ok (.aload_n 0, 1) := dk_42 (dk_at dksX4_split_2 12 rfl rfl)
theorem dX4_split_61 : decode cX4_split 61 = .ok (.aload_n 0, 1) := dk_42 (dk_at dksX4_split_2 13 rfl rfl)
theorem dX4_split_62 : decode cX4_split 62 = .ok (.iconst 2, 1) := dk_5 (dk_at dksX4_split_2 14 rfl rfl)
theorem dX4_split_63 : decode cX4_split 63 = .ok (.iload_n 2, 1) := dk_28 (dk_at dksX4_split_2 15 rfl rfl)
theorem dX4_split_64 : decode cX4_split 64 = .ok (.invokevirtual 87, 3) := dk_182 0 87 (dk_at dksX4_split_2 16 rfl rfl)
theorem dX4_split_67 : decode cX4_split 67 = .ok (.iconst 2, 1) := dk_5 (dk_at dksX4_split_2 19 rfl rfl)
theorem dX4_split_68 : decode cX4_split 68 = .ok (.invokevirtual 91, 3) := dk_182 0 91 (dk_at dksX4_split_2 20 rfl rfl)
theorem dX4_split_71 : decode cX4_split 71 = .ok (.ireturn, 1) := dk_172 (dk_at dksX4_split_2 23 rfl rfl)
theorem dX4_split_72 : decode cX4_split 72 = .ok (.aload_n 0, 1) := dk_42 (dk_at dksX4_split_3 0 rfl rfl)
theorem dX4_split_73 : decode cX4_split 73 = .ok (.getfield 21, 3) := dk_180 0 21 (dk_at dksX4_split_3 1 rfl rfl)
theorem dX4_split_76 : decode cX4_split 76 = .ok (.iload_n 3, 1) := dk_29 (dk_at dksX4_split_3 4 rfl rfl)
theorem dX4_split_77 : decode cX4_split 77 = .ok (.iaload, 1) := dk_46 (dk_at dksX4_split_3 5 rfl rfl)
theorem dX4_split_78 : decode cX4_split 78 = .ok (.iload_n 2, 1) := dk_28 (dk_at dksX4_split_3 6 rfl rfl)
theorem dX4_split_79 : decode cX4_split 79 = .ok (.isub, 1) := dk_100 (dk_at dksX4_split_3 7 rfl rfl)
theorem dX4_split_80 : decode cX4_split 80 = .ok (.istore 4, 2) := dk_54 4 (dk_at dksX4_split_3 8 rfl rfl)
theorem dX4_split_82 : decode cX4_split 82 = .ok (.iload 4, 2) := dk_21 4 (dk_at dksX4_split_3 10 rfl rfl)
theorem dX4_split_84 : decode cX4_split 84 = .ok (.bipush 10, 2) := dk_16 10 (dk_at dksX4_split_3 12 rfl rfl)
theorem dX4_split_86 : decode cX4_split 86 = .ok (.bipush 99, 2) := dk_16 99 (dk_at dksX4_split_3 14 rfl rfl)
theorem dX4_split_88 : decode cX4_split 88 = .ok (.invokestatic 80, 3) := dk_184 0 80 (dk_at dksX4_split_3 16 rfl rfl)
theorem dX4_split_91 : decode cX4_split 91 = .ok (.ifCond .ne 16, 3) := dk_154 0 16 (dk_at dksX4_split_3 19 rfl rfl)
theorem dX4_split_94 : decode cX4_split 94 = .ok (.aload_n 0, 1) := dk_42 (dk_at dksX4_split_3 22 rfl rfl)
theorem dX4_split_95 : decode cX4_split 95 = .ok (.aload_n 0, 1) := dk_42 (dk_at dksX4_split_3 23 rfl rfl)
theorem dX4_split_96 : decode cX4_split 96 = .ok (.iconst 2, 1) := dk_5 (dk_at dksX4_split_4 0 rfl rfl)
theorem dX4_split_97 : decode cX4_split 97 = .ok (.iload 4, 2) := dk_21 4 (dk_at dksX4_split_4 1 rfl rfl)
theorem dX4_split_99 : decode cX4_split 99 = .ok (.invokevirtual 87, 3) := dk_182 0 87 (dk_at dksX4_split_4 3 rfl rfl)
theorem dX4_split_102 : decode cX4_split 102 = .ok (.iconst 2, 1) := dk_5 (dk_at dksX4_split_4 6 rfl rfl)
theorem dX4_split_103 : decode cX4_split 103 = .ok (.invokevirtual 91, 3) := dk_182 0 91 (dk_at dksX4_split_4 7 rfl rfl)
theorem dX4_split_106 : decode cX4_split 106 = .ok (.ireturn, 1) := dk_172 (dk_at dksX4_split_4 10 rfl rfl)
theorem dX4_split_107 : decode cX4_split 107 = .ok (.bipush 13, 2) := dk_16 13 (dk_at dksX4_split_4 11 rfl rfl)
theorem dX4_split_109 : decode cX4_split 109 = .ok (.iconst 3, 1) := dk_6 (dk_at dksX4_split_4 13 rfl rfl)
theorem dX4_split_110 : decode cX4_split 110 = .ok (.aload_n 0, 1) := dk_42 (dk_at dksX4_split_4 14 rfl rfl)
theorem dX4_split_111 : decode cX4_split 111 = .ok (.getfield 21, 3) := dk_180 0 21 (dk_at dksX4_split_4 15 rfl rfl)
theorem dX4_split_114 : decode cX4_split 114 = .ok (.iconst 0, 1) := dk_3 (dk_at dksX4_split_4 18 rfl rfl)
theorem dX4_split_115 : decode cX4_split 115 = .ok (.iaload, 1) := dk_46 (dk_at dksX4_split_4 19 rfl rfl)
theorem dX4_split_116 : decode cX4_split 116 = .ok (.imul, 1) := dk_104 (dk_at dksX4_split_4 20 rfl rfl)
theorem dX4_split_117 : decode cX4_split 117 = .ok (.iadd, 1) := dk_96 (dk_at dksX4_split_4 21 rfl rfl)
theorem dX4_split_118 : decode cX4_split 118 = .ok (.iconst 2, 1) := dk_5 (dk_at dksX4_split_4 22 rfl rfl)
theorem dX4_split_119 : decode cX4_split 119 = .ok (.iadd, 1) := dk_96 (dk_at dksX4_split_4 23 rfl rfl)
theorem dX4_split_120 : decode cX4_split 120 = .ok (.istore 5, 2) := dk_54 5 (dk_at dksX4_split_5 0 rfl rfl)
theorem dX4_split_122 : decode cX4_split 122 = .ok (.iload 5, 2) := dk_21 5 (dk_at dksX4_split_5 2 rfl rfl)
theorem dX4_split_124 : decode cX4_split 124 = .ok (.iload_n 3, 1) := dk_29 (dk_at dksX4_split_5 4 rfl rfl)
theorem dX4_split_125 : decode cX4_split 125 = .ok (.iconst 2, 1) := dk_5 (dk_at dksX4_split_5 5 rfl rfl)
theorem dX4_split_126 : decode cX4_split 126 = .ok (.iadd, 1) := dk_96 (dk_at dksX4_split_5 6 rfl rfl)
theorem dX4_split_127 : decode cX4_split 127 = .ok (.if_icmp .le 25, 3) := dk_164 0 25 (dk_at dksX4_split_5 7 rfl rfl)
theorem dX4_split_130 : decode cX4_split 130 = .ok (.aload_n 0, 1) := dk_42 (dk_at dksX4_split_5 10 rfl rfl)
theorem dX4_split_131 : decode cX4_split 131 = .ok (.getfield 21, 3) := dk_180 0 21 (dk_at dksX4_split_5 11 rfl rfl)
theorem dX4_split_134 : decode cX4_split 134 = .ok (.iload 5, 2) := dk_21 5 (dk_at dksX4_split_5 14 rfl rfl)
theorem dX4_split_136 : decode cX4_split 136 = .ok (.aload_n 0, 1) := dk_42 (dk_at dksX4_split_5 16 rfl rfl)
theorem dX4_split_137 : decode cX4_split 137 = .ok (.getfield 21, 3) := dk_180 0 21 (dk_at dksX4_split_5 17 rfl rfl)
theorem dX4_split_140 : decode cX4_split 140 = .ok (.iload 5, 2) := dk_21 5 (dk_at dksX4_split_5 20 rfl rfl)
theorem dX4_split_142 : decode cX4_split 142 = .ok (.iconst 3, 1) := dk_6 (dk_at dksX4_split_5 22 rfl rfl)
theorem dX4_split_143 : decode cX4_split 143 = .ok (.isub, 1) := dk_100 (dk_at dksX4_split_5 23 rfl rfl)
theorem dX4_split_144 : decode cX4_split 144 = .ok (.iaload, 1) := dk_46 (dk_at dksX4_split_6 0 rfl rfl)
theorem dX4_split_145 : decode cX4_split 145 = .ok (.iastore, 1) := dk_79 (dk_at dksX4_split_6 1 rfl rfl)
theorem dX4_split_146 : decode cX4_split 146 = .ok (.iinc 5 (-1), 3) := dk_132 5 255 (dk_at dksX4_split_6 2 rfl rfl)
theorem dX4_split_149 : decode cX4_split 149 = .ok (.goto (-27), 3) := dk_167 255 229 (dk_at dksX4_split_6 5 rfl rfl)
theorem dX4_split_152 : decode cX4_split 152 = .ok (.aload_n 0, 1) := dk_42 (dk_at dksX4_split_6 8 rfl rfl)
theorem dX4_split_153 : decode cX4_split 153 = .ok (.getfield 21, 3) := dk_180 0 21 (dk_at dksX4_split_6 9 rfl rfl)
theorem dX4_split_156 : decode cX4_split 156 = .ok (.iconst 0, 1) := dk_3 (dk_at dksX4_split_6 12 rfl rfl)
theorem dX4_split_157 : decode cX4_split 157 = .ok (.dup2, 1) := dk_92 (dk_at dksX4_split_6 13 rfl rfl)
theorem dX4_split_158 : decode cX4_split 158 = .ok (.iaload, 1) := dk_46 (dk_at dksX4_split_6 14 rfl rfl)
theorem dX4_split_159 : decode cX4_split 159 = .ok (.iconst 1, 1) := dk_4 (dk_at dksX4_split_6 15 rfl rfl)
theorem dX4_split_160 : decode cX4_split 160 = .ok (.iadd, 1) := dk_96 (dk_at dksX4_split_6 16 rfl rfl)
theorem dX4_split_161 : decode cX4_split 161 = .ok (.iastore, 1) := dk_79 (dk_at dksX4_split_6 17 rfl rfl)
theorem dX4_split_162 : decode cX4_split 162 = .ok (.aload_n 0, 1) := dk_42 (dk_at dksX4_split_6 18 rfl rfl)
theorem dX4_split_163 : decode cX4_split 163 = .ok (.getfield 21, 3) := dk_180 0 21 (dk_at dksX4_split_6 19 rfl rfl)
theorem dX4_split_166 : decode cX4_split 166 = .ok (.iload_n 3, 1) := dk_29 (dk_at dksX4_split_6 22 rfl rfl)
theorem dX4_split_167 : decode cX4_split 167 = .ok (.iload_n 2, 1) := dk_28 (dk_at dksX4_split_6 23 rfl rfl)
theorem dX4_split_168 : decode cX4_split 168 = .ok (.iastore, 1) := dk_79 (dk_at dksX4_split_7 0 rfl rfl)
theorem dX4_split_169 : decode cX4_split 169 = .ok (.aload_n 0, 1) := dk_42 (dk_at dksX4_split_7 1 rfl rfl)
theorem dX4_split_170 : decode cX4_split 170 = .ok (.getfield 21, 3) := dk_180 0 21 (dk_at dksX4_split_7 2 rfl rfl)
theorem dX4_split_173 : decode cX4_split 173 = .ok (.iload_n 3, 1) := dk_29 (dk_at dksX4_split_7 5 rfl rfl)
theorem dX4_split_174 : decode cX4_split 174 = .ok (.iconst 3, 1) := dk_6 (dk_at dksX4_split_7 6 rfl rfl)
theorem dX4_split_175 : decode cX4_split 175 = .ok (.iadd, 1) := dk_96 (dk_at dksX4_split_7 7 rfl rfl)
theorem dX4_split_176 : decode cX4_split 176 = .ok (.iload 4, 2) := dk_21 4 (dk_at dksX4_split_7 8 rfl rfl)
theorem dX4_split_178 : decode cX4_split 178 = .ok (.iastore, 1) := dk_79 (dk_at dksX4_split_7 10 rfl rfl)
theorem dX4_split_179 : decode cX4_split 179 = .ok (.iconst 0, 1) := dk_3 (dk_at dksX4_split_7 11 rfl rfl)
theorem dX4_split_180 : decode cX4_split 180 = .ok (.istore 5, 2) := dk_54 5 (dk_at dksX4_split_7 12 rfl rfl)
theorem dX4_split_182 : decode cX4_split 182 = .ok (.iload 5, 2) := dk_21 5 (dk_at dksX4_split_7 14 rfl rfl)
theorem dX4_split_184 : decode cX4_split 184 = .ok (.aload_n 0, 1) := dk_42 (dk_at dksX4_split_7 16 rfl rfl)
theorem dX4_split_185 : decode cX4_split 185 = .ok (.getfield 21, 3) := dk_180 0 21 (dk_at dksX4_split_7 17 rfl rfl)
theorem dX4_split_188 : decode cX4_split 188 = .ok (.iconst 2, 1) := dk_5 (dk_at dksX4_split_7 20 rfl rfl)
theorem dX4_split_189 : decode cX4_split 189 = .ok (.iaload, 1) := dk_46 (dk_at dksX4_split_7 21 rfl rfl)
theorem dX4_split_190 : decode cX4_split 190 = .ok (.if_icmp .ge 41, 3) := dk_162 0 41 (dk_at dksX4_split_8 0 rfl rfl)
theorem dX4_split_193 : decode cX4_split 193 = .ok (.aload_n 0, 1) := dk_42 (dk_at dksX4_split_8 3 rfl rfl)
theorem dX4_split_194 : decode cX4_split 194 = .ok (.getfield 21, 3) := dk_180 0 21 (dk_at dksX4_split_8 4 rfl rfl)
theorem dX4_split_197 : decode cX4_split 197 = .ok (.bipush 46, 2) := dk_16 46 (dk_at dksX4_split_8 7 rfl rfl)
theorem dX4_split_199 : decode cX4_split 199 = .ok (.iconst 3, 1) := dk_6 (dk_at dksX4_split_8 9 rfl rfl)
theorem dX4_split_200 : decode cX4_split 200 = .ok (.iload 5, 2) := dk_21 5 (dk_at dksX4_split_8 10 rfl rfl)
theorem dX4_split_202 : decode cX4_split 202 = .ok (.imul, 1) := dk_104 (dk_at dksX4_split_8 12 rfl rfl)
theorem dX4_split_203 : decode cX4_split 203 = .ok (.iadd, 1) := dk_96 (dk_at dksX4_split_8 13 rfl rfl)
theorem dX4_split_204 : decode cX4_split 204 = .ok (.iaload, 1) := dk_46 (dk_at dksX4_split_8 14 rfl rfl)
theorem dX4_split_205 : decode cX4_split 205 = .ok (.iload_n 1, 1) := dk_27 (dk_at dksX4_split_8 15 rfl rfl)
theorem dX4_split_206 : decode cX4_split 206 = .ok (.if_icmp .le 19, 3) := dk_164 0 19 (dk_at dksX4_split_8 16 rfl rfl)
theorem dX4_split_209 : decode cX4_split 209 = .ok (.aload_n 0, 1) := dk_42 (dk_at dksX4_split_8 19 rfl rfl)
theorem dX4_split_210 : decode cX4_split 210 = .ok (.getfield 21, 3) := dk_180 0 21 (dk_at dksX4_split_8 20 rfl rfl)
theorem dX4_split_213 : decode cX4_split 213 = .ok (.bipush 46, 2) := dk_16 46 (dk_at dksX4_split_9 0 rfl rfl)
theorem dX4_split_215 : decode cX4_split 215 = .ok (.iconst 3, 1) := dk_6 (dk_at dksX4_split_9 2 rfl rfl)
theorem dX4_split_216 : decode cX4_split 216 = .ok (.iload 5, 2) := dk_21 5 (dk_at dksX4_split_9 3 rfl rfl)
theorem dX4_split_218 : decode cX4_split 218 = .ok (.imul, 1) := dk_104 (dk_at dksX4_split_9 5 rfl rfl)
theorem dX4_split_219 : decode cX4_split 219 = .ok (.iadd, 1) := dk_96 (dk_at dksX4_split_9 6 rfl rfl)
theorem dX4_split_220 : decode cX4_split 220 = .ok (.dup2, 1) := dk_92 (dk_at dksX4_split_9 7 rfl rfl)
theorem dX4_split_221 : decode cX4_split 221 = .ok (.iaload, 1) := dk_46 (dk_at dksX4_split_9 8 rfl rfl)
theorem dX4_split_222 : decode cX4_split 222 = .ok (.iconst 1, 1) := dk_4 (dk_at dksX4_split_9 9 rfl rfl)
theorem dX4_split_223 : decode cX4_split 223 = .ok (.iadd, 1) := dk_96 (dk_at dksX4_split_9 10 rfl rfl)
theorem dX4_split_224 : decode cX4_split 224 = .ok (.iastore, 1) := dk_79 (dk_at dksX4_split_9 11 rfl rfl)
theorem dX4_split_225 : decode cX4_split 225 = .ok (.iinc 5 1, 3) := dk_132 5 1 (dk_at dksX4_split_9 12 rfl rfl)
theorem dX4_split_228 : decode cX4_split 228 = .ok (.goto (-46), 3) := dk_167 255 210 (dk_at dksX4_split_9 15 rfl rfl)
theorem dX4_split_231 : decode cX4_split 231 = .ok (.aload_n 0, 1) := dk_42 (dk_at dksX4_split_9 18 rfl rfl)
theorem dX4_split_232 : decode cX4_split 232 = .ok (.getfield 21, 3) := dk_180 0 21 (dk_at dksX4_split_9 19 rfl rfl)
theorem dX4_split_235 : decode cX4_split 235 = .ok (.iconst 4, 1) := dk_7 (dk_at dksX4_split_9 22 rfl rfl)
theorem dX4_split_236 : decode cX4_split 236 = .ok (.iaload, 1) := dk_46 (dk_at dksX4_split_9 23 rfl rfl)
theorem dX4_split_237 : decode cX4_split 237 = .ok (.iload_n 1, 1) := dk_27 (dk_at dksX4_split_10 0 rfl rfl)
theorem dX4_split_238 : decode cX4_split 238 = .ok (.if_icmp .le 13, 3) := dk_164 0 13 (dk_at dksX4_split_10 1 rfl rfl)
theorem dX4_split_241 : decode cX4_split 241 = .ok (.aload_n 0, 1) := dk_42 (dk_at dksX4_split_10 4 rfl rfl)
theorem dX4_split_242 : decode cX4_split 242 = .ok (.getfield 21, 3) := dk_180 0 21 (dk_at dksX4_split_10 5 rfl rfl)
theorem dX4_split_245 : decode cX4_split 245 = .ok (.iconst 4, 1) := dk_7 (dk_at dksX4_split_10 8 rfl rfl)
theorem dX4_split_246 : decode cX4_split 246 = .ok (.dup2, 1) := dk_92 (dk_at dksX4_split_10 9 rfl rfl)
theorem dX4_split_247 : decode cX4_split 247 = .ok (.iaload, 1) := dk_46 (dk_at dksX4_split_10 10 rfl rfl)
theorem dX4_split_248 : decode cX4_split 248 = .ok (.iconst 1, 1) := dk_4 (dk_at dksX4_split_10 11 rfl rfl)
theorem dX4_split_249 : decode cX4_split 249 = .ok (.iadd, 1) := dk_96 (dk_at dksX4_split_10 12 rfl rfl)
theorem dX4_split_250 : decode cX4_split 250 = .ok (.iastore, 1) := dk_79 (dk_at dksX4_split_10 13 rfl rfl)
theorem dX4_split_251 : decode cX4_split 251 = .ok (.aload_n 0, 1) := dk_42 (dk_at dksX4_split_10 14 rfl rfl)
theorem dX4_split_252 : decode cX4_split 252 = .ok (.bipush 64, 2) := dk_16 64 (dk_at dksX4_split_10 15 rfl rfl)
theorem dX4_split_254 : decode cX4_split 254 = .ok (.iload_n 1, 1) := dk_27 (dk_at dksX4_split_10 17 rfl rfl)
theorem dX4_split_255 : decode cX4_split 255 = .ok (.invokevirtual 102, 3) := dk_182 0 102 (dk_at dksX4_split_10 18 rfl rfl)
theorem dX4_split_258 : decode cX4_split 258 = .ok (.aload_n 0, 1) := dk_42 (dk_at dksX4_split_10 21 rfl rfl)
theorem dX4_split_259 : decode cX4_split 259 = .ok (.sipush 211, 3) := dk_17 0 211 (dk_at dksX4_split_11 0 rfl rfl)
theorem dX4_split_262 : decode cX4_split 262 = .ok (.iload_n 1, 1) := dk_27 (dk_at dksX4_split_11 3 rfl rfl)
theorem dX4_split_263 : decode cX4_split 263 = .ok (.invokevirtual 102, 3) := dk_182 0 102 (dk_at dksX4_split_11 4 rfl rfl)
theorem dX4_split_266 : decode cX4_split 266 = .ok (.aload_n 0, 1) := dk_42 (dk_at dksX4_split_11 7 rfl rfl)
theorem dX4_split_267 : decode cX4_split 267 = .ok (.sipush 358, 3) := dk_17 1 102 (dk_at dksX4_split_11 8 rfl rfl)
theorem dX4_split_270 : decode cX4_split 270 = .ok (.iload_n 1, 1) := dk_27 (dk_at dksX4_split_11 11 rfl rfl)
theorem dX4_split_271 : decode cX4_split 271 = .ok (.invokevirtual 102, 3) := dk_182 0 102 (dk_at dksX4_split_11 12 rfl rfl)
theorem dX4_split_274 : decode cX4_split 274 = .ok (.aload_n 0, 1) := dk_42 (dk_at dksX4_split_11 15 rfl rfl)
theorem dX4_split_275 : decode cX4_split 275 = .ok (.sipush 505, 3) := dk_17 1 249 (dk_at dksX4_split_11 16 rfl rfl)
theorem dX4_split_278 : decode cX4_split 278 = .ok (.iload_n 1, 1) := dk_27 (dk_at dksX4_split_11 19 rfl rfl)
theorem dX4_split_279 : decode cX4_split 279 = .ok (.invokevirtual 102, 3) := dk_182 0 102 (dk_at dksX4_split_11 20 rfl rfl)
theorem dX4_split_282 : decode cX4_split 282 = .ok (.aload_n 0, 1) := dk_42 (dk_at dksX4_split_11 23 rfl rfl)
theorem dX4_split_283 : decode cX4_split 283 = .ok (.iload 4, 2) := dk_21 4 (dk_at dksX4_split_12 0 rfl rfl)
theorem dX4_split_285 : decode cX4_split 285 = .ok (.invokevirtual 73, 3) := dk_182 0 73 (dk_at dksX4_split_12 2 rfl rfl)
theorem dX4_split_288 : decode cX4_split 288 = .ok (.ireturn, 1) := dk_172 (dk_at dksX4_split_12 5 rfl rfl)
abbrev cX4_isChannel : ByteArray := prog_29_method_11_code
def yX4_isChannel : MethodName := ⟨RX4, "isChannel", "(I)Z"⟩
def dkwX4_isChannel_0 : List UInt8 := [27, 3, 42, 180, 0, 21, 3, 46, 4, 100, 184, 0, 80, 172]
abbrev dktX4_isChannel_0 : List UInt8 := dkwX4_isChannel_0 ++ []
theorem dksX4_isChannel_0 : cX4_isChannel.data.toList.drop 0 = dktX4_isChannel_0 := by decide +kernel
theorem dX4_isChannel_0 : decode cX4_isChannel 0 = .ok (.iload_n 1, 1) := dk_27 (dk_at dksX4_isChannel_0 0 rfl rfl)
theorem dX4_isChannel_1 : decode cX4_isChannel 1 = .ok (.iconst 0, 1) := dk_3 (dk_at dksX4_isChannel_0 1 rfl rfl)
theorem dX4_isChannel_2 : decode cX4_isChannel 2 = .ok (.aload_n 0, 1) := dk_42 (dk_at dksX4_isChannel_0 2 rfl rfl)
theorem dX4_isChannel_3 : decode cX4_isChannel 3 = .ok (.getfield 21, 3) := dk_180 0 21 (dk_at dksX4_isChannel_0 3 rfl rfl)
theorem dX4_isChannel_6 : decode cX4_isChannel 6 = .ok (.iconst 0, 1) := dk_3 (dk_at dksX4_isChannel_0 6 rfl rfl)
theorem dX4_isChannel_7 : decode cX4_isChannel 7 = .ok (.iaload, 1) := dk_46 (dk_at dksX4_isChannel_0 7 rfl rfl)
theorem dX4_isChannel_8 : decode cX4_isChannel 8 = .ok (.iconst 1, 1) := dk_4 (dk_at dksX4_isChannel_0 8 rfl rfl)
theorem dX4_isChannel_9 : decode cX4_isChannel 9 = .ok (.isub, 1) := dk_100 (dk_at dksX4_isChannel_0 9 rfl rfl)
theorem dX4_isChannel_10 : decode cX4_isChannel 10 = .ok (.invokestatic 80, 3) := dk_184 0 80 (dk_at dksX4_isChannel_0 10 rfl rfl)
theorem dX4_isChannel_13 : decode cX4_isChannel 13 = .ok (.ireturn, 1) := dk_172 (dk_at dksX4_isChannel_0 13 rfl rfl)
abbrev cX4_renumbers : ByteArray := prog_29_method_18_code
def yX4_renumbers : MethodName := ⟨RX4, "renumbers", "(II)V"⟩
def dkwX4_renumbers_5 : List UInt8 := [132, 5, 1, 167, 255, 192, 132, 4, 1, 167, 255, 176, 132, 3, 1, 167, 255, 162, 177]
abbrev dktX4_renumbers_5 : List UInt8 := dkwX4_renumbers_5 ++ []
def dkwX4_renumbers_4 : List UInt8 := [96, 167, 0, 5, 21, 5, 184, 0, 94, 96, 42, 180, 0, 34, 29, 21, 4, 21, 5, 184, 0, 94, 46, 79]
abbrev dktX4_renumbers_4 : List UInt8 := dkwX4_renumbers_4 ++ dktX4_renumbers_5
def dkwX4_renumbers_3 : List UInt8 := [21, 4, 28, 164, 0, 10, 21, 4, 4, 96, 167, 0, 5, 21, 4, 21, 5, 28, 164, 0, 10, 21, 5, 4]
abbrev dktX4_renumbers_3 : List UInt8 := dkwX4_renumbers_3 ++ dktX4_renumbers_4
def dkwX4_renumbers_2 : List UInt8 := [21, 4, 16, 6, 162, 0, 79, 3, 54, 5, 21, 5, 16, 6, 162, 0, 63, 42, 180, 0, 21, 27, 29]
abbrev dktX4_renumbers_2 : List UInt8 := dkwX4_renumbers_2 ++ dktX4_renumbers_3
def dkwX4_renumbers_1 : List UInt8 := [180, 0, 21, 27, 29, 96, 3, 79, 132, 3, 1, 167, 255, 223, 3, 62, 29, 6, 162, 0, 95, 3, 54, 4]
abbrev dktX4_renumbers_1 : List UInt8 := dkwX4_renumbers_1 ++ dktX4_renumbers_2
def dkwX4_renumbers_0 : List UInt8 := [3, 62, 29, 17, 0, 147, 162, 0, 32, 42, 180, 0, 34, 29, 42, 180, 0, 21, 27, 29, 96, 46, 79, 42]
abbrev dktX4_renumbers_0 : List UInt8 := dkwX4_renumbers_0 ++ dktX4_renumbers_1
theorem dksX4_renumbers_0 : cX4_renumbers.data.toList.drop 0 = dktX4_renumbers_0 := by decide +kernel
theorem dksX4_renumbers_1 : cX4_renumbers.data.toList.drop 24 = dktX4_renumbers_1 := dk_seg dksX4_renumbers_0 24 rfl rfl
theorem dksX4_renumbers_2 : cX4_renumbers.data.toList.drop 48 = dktX4_renumbers_2 := dk_seg dksX4_renumbers_1 24 rfl rfl
theorem dksX4_renumbers_3 : cX4_renumbers.data.toList.drop 71 = dktX4_renumbers_3 := dk_seg dksX4_renumbers_2 23 rfl rfl
theorem dksX4_renumbers_4 : cX4_renumbers.data.toList.drop 95 = dktX4_renumbers_4 := dk_seg dksX4_renumbers_3 24 rfl rfl
theorem dksX4_renumbers_5 : cX4_renumbers.data.toList.drop 119 = dktX4_renumbers_5 := dk_seg dksX4_renumbers_4 24 rfl rfl
theorem dX4_renumbers_0 : decode cX4_renumbers 0 = .ok (.iconst 0, 1) := dk_3 (dk_at dksX4_renumbers_0 0 rfl rfl)
theorem dX4_renumbers_1 : decode cX4_renumbers 1 = .ok (.istore_n 3, 1) := dk_62 (dk_at dksX4_renumbers_0 1 rfl rfl)
theorem dX4_renumbers_2 : decode cX4_renumbers 2 = .ok (.iload_n 3, 1) := dk_29 (dk_at dksX4_renumbers_0 2 rfl rfl)
theorem dX4_renumbers_3 : decode cX4_renumbers 3 = .ok (.sipush 147, 3) := dk_17 0 147 (dk_at dksX4_renumbers_0 3 rfl rfl)
theorem dX4_renumbers_6 : decode cX4_renumbers 6 = .ok (.if_icmp .ge 32, 3) := dk_162 0 32 (dk_at dksX4_renumbers_0 6 rfl rfl)
theorem dX4_renumbers_9 : decode cX4_renumbers 9 = .ok (.aload_n 0, 1) := dk_42 (dk_at dksX4_renumbers_0 9 rfl rfl)
theorem dX4_renumbers_10 : decode cX4_renumbers 10 = .ok (.getfield 34, 3) := dk_180 0 34 (dk_at dksX4_renumbers_0 10 rfl rfl)
theorem dX4_renumbers_13 : decode cX4_renumbers 13 = .ok (.iload_n 3, 1) := dk_29 (dk_at dksX4_renumbers_0 13 rfl rfl)
theorem dX4_renumbers_14 : decode cX4_renumbers 14 = .ok (.aload_n 0, 1) := dk_42 (dk_at dksX4_renumbers_0 14 rfl rfl)
theorem dX4_renumbers_15 : decode cX4_renumbers 15 = .ok (.getfield 21, 3) := dk_180 0 21 (dk_at dksX4_renumbers_0 15 rfl rfl)
theorem dX4_renumbers_18 : decode cX4_renumbers 18 = .ok (.iload_n 1, 1) := dk_27 (dk_at dksX4_renumbers_0 18 rfl rfl)
theorem dX4_renumbers_19 : decode cX4_renumbers 19 = .ok (.iload_n 3, 1) := dk_29 (dk_at dksX4_renumbers_0 19 rfl rfl)
theorem dX4_renumbers_20 : decode cX4_renumbers 20 = .ok (.iadd, 1) := dk_96 (dk_at dksX4_renumbers_0 20 rfl rfl)
theorem dX4_renumbers_21 : decode cX4_renumbers 21 = .ok (.iaload, 1) := dk_46 (dk_at dksX4_renumbers_0 21 rfl rfl)
theorem dX4_renumbers_22 : decode cX4_renumbers 22 = .ok (.iastore, 1) := dk_79 (dk_at dksX4_renumbers_0 22 rfl rfl)
theorem dX4_renumbers_23 : decode cX4_renumbers 23 = .ok (.aload_n 0, 1) := dk_42 (dk_at dksX4_renumbers_0 23 rfl rfl)
theorem dX4_renumbers_24 : decode cX4_renumbers 24 = .ok (.getfield 21, 3) := dk_180 0 21 (dk_at dksX4_renumbers_1 0 rfl rfl)
theorem dX4_renumbers_27 : decode cX4_renumbers 27 = .ok (.iload_n 1, 1) := dk_27 (dk_at dksX4_renumbers_1 3 rfl rfl)
theorem dX4_renumbers_28 : decode cX4_renumbers 28 = .ok (.iload_n 3, 1) := dk_29 (dk_at dksX4_renumbers_1 4 rfl rfl)
theorem dX4_renumbers_29 : decode cX4_renumbers 29 = .ok (.iadd, 1) := dk_96 (dk_at dksX4_renumbers_1 5 rfl rfl)
theorem dX4_renumbers_30 : decode cX4_renumbers 30 = .ok (.iconst 0, 1) := dk_3 (dk_at dksX4_renumbers_1 6 rfl rfl)
theorem dX4_renumbers_31 : decode cX4_renumbers 31 = .ok (.iastore, 1) := dk_79 (dk_at dksX4_renumbers_1 7 rfl rfl)
theorem dX4_renumbers_32 : decode cX4_renumbers 32 = .ok (.iinc 3 1, 3) := dk_132 3 1 (dk_at dksX4_renumbers_1 8 rfl rfl)
theorem dX4_renumbers_35 : decode cX4_renumbers 35 = .ok (.goto (-33), 3) := dk_167 255 223 (dk_at dksX4_renumbers_1 11 rfl rfl)
theorem dX4_renumbers_38 : decode cX4_renumbers 38 = .ok (.iconst 0, 1) := dk_3 (dk_at dksX4_renumbers_1 14 rfl rfl)
theorem dX4_renumbers_39 : decode cX4_renumbers 39 = .ok (.istore_n 3, 1) := dk_62 (dk_at dksX4_renumbers_1 15 rfl rfl)
theorem dX4_renumbers_40 : decode cX4_renumbers 40 = .ok (.iload_n 3, 1) := dk_29 (dk_at dksX4_renumbers_1 16 rfl rfl)
theorem dX4_renumbers_41 : decode cX4_renumbers 41 = .ok (.iconst 3, 1) := dk_6 (dk_at dksX4_renumbers_1 17 rfl rfl)
theorem dX4_renumbers_42 : decode cX4_renumbers 42 = .ok (.if_icmp .ge 95, 3) := dk_162 0 95 (dk_at dksX4_renumbers_1 18 rfl rfl)
theorem dX4_renumbers_45 : decode cX4_renumbers 45 = .ok (.iconst 0, 1) := dk_3 (dk_at dksX4_renumbers_1 21 rfl rfl)
theorem dX4_renumbers_46 : decode cX4_renumbers 46 = .ok (.istore 4, 2) := dk_54 4 (dk_at dksX4_renumbers_1 22 rfl rfl)
theorem dX4_renumbers_48 : decode cX4_renumbers 48 = .ok (.iload 4, 2) := dk_21 4 (dk_at dksX4_renumbers_2 0 rfl rfl)
theorem dX4_renumbers_50 : decode cX4_renumbers 50 = .ok (.bipush 6, 2) := dk_16 6 (dk_at dksX4_renumbers_2 2 rfl rfl)
theorem dX4_renumbers_52 : decode cX4_renumbers 52 = .ok (.if_icmp .ge 79, 3) := dk_162 0 79 (dk_at dksX4_renumbers_2 4 rfl rfl)
theorem dX4_renumbers_55 : decode cX4_renumbers 55 = .ok (.iconst 0, 1) := dk_3 (dk_at dksX4_renumbers_2 7 rfl rfl)
theorem dX4_renumbers_56 : decode cX4_renumbers 56 = .ok (.istore 5, 2) := dk_54 5 (dk_at dksX4_renumbers_2 8 rfl rfl)
theorem dX4_renumbers_58 : decode cX4_renumbers 58 = .ok (.iload 5, 2) := dk_21 5 (dk_at dksX4_renumbers_2 10 rfl rfl)
theorem dX4_renumbers_60 : decode cX4_renumbers 60 = .ok (.bipush 6, 2) := dk_16 6 (dk_at dksX4_renumbers_2 12 rfl rfl)
theorem dX4_renumbers_62 : decode cX4_renumbers 62 = .ok (.if_icmp .ge 63, 3) := dk_162 0 63 (dk_at dksX4_renumbers_2 14 rfl rfl)
theorem dX4_renumbers_65 : decode cX4_renumbers 65 = .ok (.aload_n 0, 1) := dk_42 (dk_at dksX4_renumbers_2 17 rfl rfl)
theorem dX4_renumbers_66 : decode cX4_renumbers 66 = .ok (.getfield 21, 3) := dk_180 0 21 (dk_at dksX4_renumbers_2 18 rfl rfl)
theorem dX4_renumbers_69 : decode cX4_renumbers 69 = .ok (.iload_n 1, 1) := dk_27 (dk_at dksX4_renumbers_2 21 rfl rfl)
theorem dX4_renumbers_70 : decode cX4_renumbers 70 = .ok (.iload_n 3, 1) := dk_29 (dk_at dksX4_renumbers_2 22 rfl rfl)
theorem dX4_renumbers_71 : decode cX4_renumbers 71 = .ok (.iload 4, 2) := dk_21 4 (dk_at dksX4_renumbers_3 0 rfl rfl)
theorem dX4_renumbers_73 : decode cX4_renumbers 73 = .ok (.iload_n 2, 1) := dk_28 (dk_at dksX4_renumbers_3 2 rfl rfl)
theorem dX4_renumbers_74 : decode cX4_renumbers 74 = .ok (.if_icmp .le 10, 3) := dk_164 0 10 (dk_at dksX4_renumbers_3 3 rfl rfl)
theorem dX4_renumbers_77 : decode cX4_renumbers 77 = .ok (.iload 4, 2) := dk_21 4 (dk_at dksX4_renumbers_3 6 rfl rfl)
theorem dX4_renumbers_79 : decode cX4_renumbers 79 = .ok (.iconst 1, 1) := dk_4 (dk_at dksX4_renumbers_3 8 rfl rfl)
theorem dX4_renumbers_80 : decode cX4_renumbers 80 = .ok (.iadd, 1) := dk_96 (dk_at dksX4_renumbers_3 9 rfl rfl)
theorem dX4_renumbers_81 : decode cX4_renumbers 81 = .ok (.goto 5, 3) := dk_167 0 5 (dk_at dksX4_renumbers_3 10 rfl rfl)
theorem dX4_renumbers_84 : decode cX4_renumbers 84 = .ok (.iload 4, 2) := dk_21 4 (dk_at dksX4_renumbers_3 13 rfl rfl)
theorem dX4_renumbers_86 : decode cX4_renumbers 86 = .ok (.iload 5, 2) := dk_21 5 (dk_at dksX4_renumbers_3 15 rfl rfl)
theorem dX4_renumbers_88 : decode cX4_renumbers 88 = .ok (.iload_n 2, 1) := dk_28 (dk_at dksX4_renumbers_3 17 rfl rfl)
theorem dX4_renumbers_89 : decode cX4_renumbers 89 = .ok (.if_icmp .le 10, 3) := dk_164 0 10 (dk_at dksX4_renumbers_3 18 rfl rfl)
theorem dX4_renumbers_92 : decode cX4_renumbers 92 = .ok (.iload 5, 2) := dk_21 5 (dk_at dksX4_renumbers_3 21 rfl rfl)
theorem dX4_renumbers_94 : decode cX4_renumbers 94 = .ok (.iconst 1, 1) := dk_4 (dk_at dksX4_renumbers_3 23 rfl rfl)
theorem dX4_renumbers_95 : decode cX4_renumbers 95 = .ok (.iadd, 1) := dk_96 (dk_at dksX4_renumbers_4 0 rfl rfl)
theorem dX4_renumbers_96 : decode cX4_renumbers 96 = .ok (.goto 5, 3) := dk_167 0 5 (dk_at dksX4_renumbers_4 1 rfl rfl)
theorem dX4_renumbers_99 : decode cX4_renumbers 99 = .ok (.iload 5, 2) := dk_21 5 (dk_at dksX4_renumbers_4 4 rfl rfl)
theorem dX4_renumbers_101 : decode cX4_renumbers 101 = .ok (.invokestatic 94, 3) := dk_184 0 94 (dk_at dksX4_renumbers_4 6 rfl rfl)
theorem dX4_renumbers_104 : decode cX4_renumbers 104 = .ok (.iadd, 1) := dk_96 (dk_at dksX4_renumbers_4 9 rfl rfl)
theorem dX4_renumbers_105 : decode cX4_renumbers 105 = .ok (.aload_n 0, 1) := dk_42 (dk_at dksX4_renumbers_4 10 rfl rfl)
theorem dX4_renumbers_106 : decode cX4_renumbers 106 = .ok (.getfield 34, 3) := dk_180 0 34 (dk_at dksX4_renumbers_4 11 rfl rfl)
theorem dX4_renumbers_109 : decode cX4_renumbers 109 = .ok (.iload_n 3, 1) := dk_29 (dk_at dksX4_renumbers_4 14 rfl rfl)
theorem dX4_renumbers_110 : decode cX4_renumbers 110 = .ok (.iload 4, 2) := dk_21 4 (dk_at dksX4_renumbers_4 15 rfl rfl)
theorem dX4_renumbers_112 : decode cX4_renumbers 112 = .ok (.iload 5, 2) := dk_21 5 (dk_at dksX4_renumbers_4 17 rfl rfl)
theorem dX4_renumbers_114 : decode cX4_renumbers 114 = .ok (.invokestatic 94, 3) := dk_184 0 94 (dk_at dksX4_renumbers_4 19 rfl rfl)
theorem dX4_renumbers_117 : decode cX4_renumbers 117 = .ok (.iaload, 1) := dk_46 (dk_at dksX4_renumbers_4 22 rfl rfl)
theorem dX4_renumbers_118 : decode cX4_renumbers 118 = .ok (.iastore, 1) := dk_79 (dk_at dksX4_renumbers_4 23 rfl rfl)
theorem dX4_renumbers_119 : decode cX4_renumbers 119 = .ok (.iinc 5 1, 3) := dk_132 5 1 (dk_at dksX4_renumbers_5 0 rfl rfl)
theorem dX4_renumbers_122 : decode cX4_renumbers 122 = .ok (.goto (-64), 3) := dk_167 255 192 (dk_at dksX4_renumbers_5 3 rfl rfl)
theorem dX4_renumbers_125 : decode cX4_renumbers 125 = .ok (.iinc 4 1, 3) := dk_132 4 1 (dk_at dksX4_renumbers_5 6 rfl rfl)
theorem dX4_renumbers_128 : decode cX4_renumbers 128 = .ok (.goto (-80), 3) := dk_167 255 176 (dk_at dksX4_renumbers_5 9 rfl rfl)
theorem dX4_renumbers_131 : decode cX4_renumbers 131 = .ok (.iinc 3 1, 3) := dk_132 3 1 (dk_at dksX4_renumbers_5 12 rfl rfl)
theorem dX4_renumbers_134 : decode cX4_renumbers 134 = .ok (.goto (-94), 3) := dk_167 255 162 (dk_at dksX4_renumbers_5 15 rfl rfl)
theorem dX4_renumbers_137 : decode cX4_renumbers 137 = .ok (.return_, 1) := dk_177 (dk_at dksX4_renumbers_5 18 rfl rfl)
abbrev cX4_groupAt : ByteArray := prog_29_method_15_code
def yX4_groupAt : MethodName := ⟨RX4, "groupAt", "(III)I"⟩
def dkwX4_groupAt_0 : List UInt8 := [16, 49, 26, 104, 16, 7, 27, 104, 96, 28, 96, 172]
abbrev dktX4_groupAt_0 : List UInt8 := dkwX4_groupAt_0 ++ []
theorem dksX4_groupAt_0 : cX4_groupAt.data.toList.drop 0 = dktX4_groupAt_0 := by decide +kernel
theorem dX4_groupAt_0 : decode cX4_groupAt 0 = .ok (.bipush 49, 2) := dk_16 49 (dk_at dksX4_groupAt_0 0 rfl rfl)
theorem dX4_groupAt_2 : decode cX4_groupAt 2 = .ok (.iload_n 0, 1) := dk_26 (dk_at dksX4_groupAt_0 2 rfl rfl)
theorem dX4_groupAt_3 : decode cX4_groupAt 3 = .ok (.imul, 1) := dk_104 (dk_at dksX4_groupAt_0 3 rfl rfl)
theorem dX4_groupAt_4 : decode cX4_groupAt 4 = .ok (.bipush 7, 2) := dk_16 7 (dk_at dksX4_groupAt_0 4 rfl rfl)
theorem dX4_groupAt_6 : decode cX4_groupAt 6 = .ok (.iload_n 1, 1) := dk_27 (dk_at dksX4_groupAt_0 6 rfl rfl)
theorem dX4_groupAt_7 : decode cX4_groupAt 7 = .ok (.imul, 1) := dk_104 (dk_at dksX4_groupAt_0 7 rfl rfl)
theorem dX4_groupAt_8 : decode cX4_groupAt 8 = .ok (.iadd, 1) := dk_96 (dk_at dksX4_groupAt_0 8 rfl rfl)
theorem dX4_groupAt_9 : decode cX4_groupAt 9 = .ok (.iload_n 2, 1) := dk_28 (dk_at dksX4_groupAt_0 9 rfl rfl)
theorem dX4_groupAt_10 : decode cX4_groupAt 10 = .ok (.iadd, 1) := dk_96 (dk_at dksX4_groupAt_0 10 rfl rfl)
theorem dX4_groupAt_11 : decode cX4_groupAt 11 = .ok (.ireturn, 1) := dk_172 (dk_at dksX4_groupAt_0 11 rfl rfl)
abbrev cX4_shift : ByteArray := prog_29_method_20_code
def yX4_shift : MethodName := ⟨RX4, "shift", "(II)I"⟩
def dkwX4_shift_6 : List UInt8 := [29, 6, 96, 92, 46, 28, 100, 79, 42, 42, 180, 0, 21, 29, 46, 182, 0, 73, 172]
abbrev dktX4_shift_6 : List UInt8 := dkwX4_shift_6 ++ []
def dkwX4_shift_5 : List UInt8 := [28, 100, 182, 0, 87, 6, 182, 0, 91, 172, 42, 180, 0, 21, 29, 92, 46, 28, 96, 79, 42, 180, 0, 21]
abbrev dktX4_shift_5 : List UInt8 := dkwX4_shift_5 ++ dktX4_shift_6
def dkwX4_shift_4 : List UInt8 := [46, 28, 100, 16, 10, 16, 99, 184, 0, 80, 154, 0, 24, 42, 42, 5, 42, 180, 0, 21, 29, 6, 96, 46]
abbrev dktX4_shift_4 : List UInt8 := dkwX4_shift_4 ++ dktX4_shift_5
def dkwX4_shift_3 : List UInt8 := [5, 42, 180, 0, 21, 29, 46, 28, 96, 182, 0, 87, 6, 182, 0, 91, 172, 42, 180, 0, 21, 29, 6, 96]
abbrev dktX4_shift_3 : List UInt8 := dkwX4_shift_3 ++ dktX4_shift_4
def dkwX4_shift_2 : List UInt8 := [27, 104, 96, 62, 42, 180, 0, 21, 29, 46, 28, 96, 16, 10, 16, 99, 184, 0, 80, 154, 0, 22, 42, 42]
abbrev dktX4_shift_2 : List UInt8 := dkwX4_shift_2 ++ dktX4_shift_3
def dkwX4_shift_1 : List UInt8 := [182, 0, 77, 172, 28, 16, 157, 16, 99, 184, 0, 80, 154, 0, 9, 42, 5, 182, 0, 77, 172, 16, 13, 6]
abbrev dktX4_shift_1 : List UInt8 := dkwX4_shift_1 ++ dktX4_shift_2
def dkwX4_shift_0 : List UInt8 := [42, 182, 0, 84, 42, 27, 182, 0, 98, 153, 0, 13, 42, 27, 4, 96, 182, 0, 98, 154, 0, 9, 42, 4]
abbrev dktX4_shift_0 : List UInt8 := dkwX4_shift_0 ++ dktX4_shift_1
theorem dksX4_shift_0 : cX4_shift.data.toList.drop 0 = dktX4_shift_0 := by decide +kernel
theorem dksX4_shift_1 : cX4_shift.data.toList.drop 24 = dktX4_shift_1 := dk_seg dksX4_shift_0 24 rfl rfl
theorem dksX4_shift_2 : cX4_shift.data.toList.drop 48 = dktX4_shift_2 := dk_seg dksX4_shift_1 24 rfl rfl
theorem dksX4_shift_3 : cX4_shift.data.toList.drop 72 = dktX4_shift_3 := dk_seg dksX4_shift_2 24 rfl rfl
theorem dksX4_shift_4 : cX4_shift.data.toList.drop 96 = dktX4_shift_4 := dk_seg dksX4_shift_3 24 rfl rfl
theorem dksX4_shift_5 : cX4_shift.data.toList.drop 120 = dktX4_shift_5 := dk_seg dksX4_shift_4 24 rfl rfl
theorem dksX4_shift_6 : cX4_shift.data.toList.drop 144 = dktX4_shift_6 := dk_seg dksX4_shift_5 24 rfl rfl
theorem dX4_shift_0 : decode cX4_shift 0 = .ok (.aload_n 0, 1) := dk_42 (dk_at dksX4_shift_0 0 rfl rfl)
theorem dX4_shift_1 : decode cX4_shift 1 = .ok (.invokevirtual 84, 3) := dk_182 0 84 (dk_at dksX4_shift_0 1 rfl rfl)
theorem dX4_shift_4 : decode cX4_shift 4 = .ok (.aload_n 0, 1) := dk_42 (dk_at dksX4_shift_0 4 rfl rfl)
theorem dX4_shift_5 : decode cX4_shift 5 = .ok (.iload_n 1, 1) := dk_27 (dk_at dksX4_shift_0 5 rfl rfl)
theorem dX4_shift_6 : decode cX4_shift 6 = .ok (.invokevirtual 98, 3) := dk_182 0 98 (dk_at dksX4_shift_0 6 rfl rfl)
theorem dX4_shift_9 : decode cX4_shift 9 = .ok (.ifCond .eq 13, 3) := dk_153 0 13 (dk_at dksX4_shift_0 9 rfl rfl)
theorem dX4_shift_12 : decode cX4_shift 12 = .ok (.aload_n 0, 1) := dk_42 (dk_at dksX4_shift_0 12 rfl rfl)
theorem dX4_shift_13 : decode cX4_shift 13 = .ok (.iload_n 1, 1) := dk_27 (dk_at dksX4_shift_0 13 rfl rfl)
theorem dX4_shift_14 : decode cX4_shift 14 = .ok (.iconst 1, 1) := dk_4 (dk_at dksX4_shift_0 14 rfl rfl)
theorem dX4_shift_15 : decode cX4_shift 15 = .ok (.iadd, 1) := dk_96 (dk_at dksX4_shift_0 15 rfl rfl)
theorem dX4_shift_16 : decode cX4_shift 16 = .ok (.invokevirtual 98, 3) := dk_182 0 98 (dk_at dksX4_shift_0 16 rfl rfl)
theorem dX4_shift_19 : decode cX4_shift 19 = .ok (.ifCond .ne 9, 3) := dk_154 0 9 (dk_at dksX4_shift_0 19 rfl rfl)
theorem dX4_shift_22 : decode cX4_shift 22 = .ok (.aload_n 0, 1) := dk_42 (dk_at dksX4_shift_0 22 rfl rfl)
theorem dX4_shift_23 : decode cX4_shift 23 = .ok (.iconst 1, 1) := dk_4 (dk_at dksX4_shift_0 23 rfl rfl)
theorem dX4_shift_24 : decode cX4_shift 24 = .ok (.invokevirtual 77, 3) := dk_182 0 77 (dk_at dksX4_shift_1 0 rfl rfl)
theorem dX4_shift_27 : decode cX4_shift 27 = .ok (.ireturn, 1) := dk_172 (dk_at dksX4_shift_1 3 rfl rfl)
theorem dX4_shift_28 : decode cX4_shift 28 = .ok (.iload_n 2, 1) := dk_28 (dk_at dksX4_shift_1 4 rfl rfl)
theorem dX4_shift_29 : decode cX4_shift 29 = .ok (.bipush (-99), 2) := dk_16 157 (dk_at dksX4_shift_1 5 rfl rfl)
theorem dX4_shift_31 : decode cX4_shift 31 = .ok (.bipush 99, 2) := dk_16 99 (dk_at dksX4_shift_1 7 rfl rfl)
theorem dX4_shift_33 : decode cX4_shift 33 = .ok (.invokestatic 80, 3) := dk_184 0 80 (dk_at dksX4_shift_1 9 rfl rfl)
theorem dX4_shift_36 : decode cX4_shift 36 = .ok (.ifCond .ne 9, 3) := dk_154 0 9 (dk_at dksX4_shift_1 12 rfl rfl)
theorem dX4_shift_39 : decode cX4_shift 39 = .ok (.aload_n 0, 1) := dk_42 (dk_at dksX4_shift_1 15 rfl rfl)
theorem dX4_shift_40 : decode cX4_shift 40 = .ok (.iconst 2, 1) := dk_5 (dk_at dksX4_shift_1 16 rfl rfl)
theorem dX4_shift_41 : decode cX4_shift 41 = .ok (.invokevirtual 77, 3) := dk_182 0 77 (dk_at dksX4_shift_1 17 rfl rfl)
theorem dX4_shift_44 : decode cX4_shift 44 = .ok (.ireturn, 1) := dk_172 (dk_at dksX4_shift_1 20 rfl rfl)
theorem dX4_shift_45 : decode cX4_shift 45 = .ok (.bipush 13, 2) := dk_16 13 (dk_at dksX4_shift_1 21 rfl rfl)
theorem dX4_shift_47 : decode cX4_shift 47 = .ok (.iconst 3, 1) := dk_6 (dk_at dksX4_shift_1 23 rfl rfl)
theorem dX4_shift_48 : decode cX4_shift 48 = .ok (.iload_n 1, 1) := dk_27 (dk_at dksX4_shift_2 0 rfl rfl)
theorem dX4_shift_49 : decode cX4_shift 49 = .ok (.imul, 1) := dk_104 (dk_at dksX4_shift_2 1 rfl rfl)
theorem dX4_shift_50 : decode cX4_shift 50 = .ok (.iadd, 1) := dk_96 (dk_at dksX4_shift_2 2 rfl rfl)
theorem dX4_shift_51 : decode cX4_shift 51 = .ok (.istore_n 3, 1) := dk_62 (dk_at dksX4_shift_2 3 rfl rfl)
theorem dX4_shift_52 : decode cX4_shift 52 = .ok (.aload_n 0, 1) := dk_42 (dk_at dksX4_shift_2 4 rfl rfl)
theorem dX4_shift_53 : decode cX4_shift 53 = .ok (.getfield 21, 3) := dk_180 0 21 (dk_at dksX4_shift_2 5 rfl rfl)
theorem dX4_shift_56 : decode cX4_shift 56 = .ok (.iload_n 3, 1) := dk_29 (dk_at dksX4_shift_2 8 rfl rfl)
theorem dX4_shift_57 : decode cX4_shift 57 = .ok (.iaload, 1) := dk_46 (dk_at dksX4_shift_2 9 rfl rfl)
theorem dX4_shift_58 : decode cX4_shift 58 = .ok (.iload_n 2, 1) := dk_28 (dk_at dksX4_shift_2 10 rfl rfl)
theorem dX4_shift_59 : decode cX4_shift 59 = .ok (.iadd, 1) := dk_96 (dk_at dksX4_shift_2 11 rfl rfl)
theorem dX4_shift_60 : decode cX4_shift 60 = .ok (.bipush 10, 2) := dk_16 10 (dk_at dksX4_shift_2 12 rfl rfl)
theorem dX4_shift_62 : decode cX4_shift 62 = .ok (.bipush 99, 2) := dk_16 99 (dk_at dksX4_shift_2 14 rfl rfl)
theorem dX4_shift_64 : decode cX4_shift 64 = .ok (.invokestatic 80, 3) := dk_184 0 80 (dk_at dksX4_shift_2 16 rfl rfl)
theorem dX4_shift_67 : decode cX4_shift 67 = .ok (.ifCond .ne 22, 3) := dk_154 0 22 (dk_at dksX4_shift_2 19 rfl rfl)
theorem dX4_shift_70 : decode cX4_shift 70 = .ok (.aload_n 0, 1) := dk_42 (dk_at dksX4_shift_2 22 rfl rfl)
theorem dX4_shift_71 : decode cX4_shift 71 = .ok (.aload_n 0, 1) := dk_42 (dk_at dksX4_shift_2 23 rfl rfl)
theorem dX4_shift_72 : decode cX4_shift 72 = .ok (.iconst 2, 1) := dk_5 (dk_at dksX4_shift_3 0 rfl rfl)
theorem dX4_shift_73 : decode cX4_shift 73 = .ok (.aload_n 0, 1) := dk_42 (dk_at dksX4_shift_3 1 rfl rfl)
theorem dX4_shift_74 : decode cX4_shift 74 = .ok (.getfield 21, 3) := dk_180 0 21 (dk_at dksX4_shift_3 2 rfl rfl)
theorem dX4_shift_77 : decode cX4_shift 77 = .ok (.iload_n 3, 1) := dk_29 (dk_at dksX4_shift_3 5 rfl rfl)
theorem dX4_shift_78 : decode cX4_shift 78 = .ok (.iaload, 1) := dk_46 (dk_at dksX4_shift_3 6 rfl rfl)
theorem dX4_shift_79 : decode cX4_shift 79 = .ok (.iload_n 2, 1) := dk_28 (dk_at dksX4_shift_3 7 rfl rfl)
theorem dX4_shift_80 : decode cX4_shift 80 = .ok (.iadd, 1) := dk_96 (dk_at dksX4_shift_3 8 rfl rfl)
theorem dX4_shift_81 : decode cX4_shift 81 = .ok (.invokevirtual 87, 3) := dk_182 0 87 (dk_at dksX4_shift_3 9 rfl rfl)
theorem dX4_shift_84 : decode cX4_shift 84 = .ok (.iconst 3, 1) := dk_6 (dk_at dksX4_shift_3 12 rfl rfl)
theorem dX4_shift_85 : decode cX4_shift 85 = .ok (.invokevirtual 91, 3) := dk_182 0 91 (dk_at dksX4_shift_3 13 rfl rfl)
theorem dX4_shift_88 : decode cX4_shift 88 = .ok (.ireturn, 1) := dk_172 (dk_at dksX4_shift_3 16 rfl rfl)
theorem dX4_shift_89 : decode cX4_shift 89 = .ok (.aload_n 0, 1) := dk_42 (dk_at dksX4_shift_3 17 rfl rfl)
theorem dX4_shift_90 : decode cX4_shift 90 = .ok (.getfield 21, 3) := dk_180 0 21 (dk_at dksX4_shift_3 18 rfl rfl)
theorem dX4_shift_93 : decode cX4_shift 93 = .ok (.iload_n 3, 1) := dk_29 (dk_at dksX4_shift_3 21 rfl rfl)
theorem dX4_shift_94 : decode cX4_shift 94 = .ok (.iconst 3, 1) := dk_6 (dk_at dksX4_shift_3 22 rfl rfl)
theorem dX4_shift_95 : decode cX4_shift 95 = .ok (.iadd, 1) := dk_96 (dk_at dksX4_shift_3 23 rfl rfl)
theorem dX4_shift_96 : decode cX4_shift 96 = .ok (.iaload, 1) := dk_46 (dk_at dksX4_shift_4 0 rfl rfl)
theorem dX4_shift_97 : decode cX4_shift 97 = .ok (.iload_n 2, 1) := dk_28 (dk_at dksX4_shift_4 1 rfl rfl)
theorem dX4_shift_98 : decode cX4_shift 98 = .ok (.isub, 1) := dk_100 (dk_at dksX4_shift_4 2 rfl rfl)
theorem dX4_shift_99 : decode cX4_shift 99 = .ok (.bipush 10, 2) := dk_16 10 (dk_at dksX4_shift_4 3 rfl rfl)
theorem dX4_shift_101 : decode cX4_shift 101 = .ok (.bipush 99, 2) := dk_16 99 (dk_at dksX4_shift_4 5 rfl rfl)
theorem dX4_shift_103 : decode cX4_shift 103 = .ok (.invokestatic 80, 3) := dk_184 0 80 (dk_at dksX4_shift_4 7 rfl rfl)
theorem dX4_shift_106 : decode cX4_shift 106 = .ok (.ifCond .ne 24, 3) := dk_154 0 24 (dk_at dksX4_shift_4 10 rfl rfl)
theorem dX4_shift_109 : decode cX4_shift 109 = .ok (.aload_n 0, 1) := dk_42 (dk_at dksX4_shift_4 13 rfl rfl)
theorem dX4_shift_110 : decode cX4_shift 110 = .ok (.aload_n 0, 1) := dk_42 (dk_at dksX4_shift_4 14 rfl rfl)
theorem dX4_shift_111 : decode cX4_shift 111 = .ok (.iconst 2, 1) := dk_5 (dk_at dksX4_shift_4 15 rfl rfl)
theorem dX4_shift_112 : decode cX4_shift 112 = .ok (.aload_n 0, 1) := dk_42 (dk_at dksX4_shift_4 16 rfl rfl)
theorem dX4_shift_113 : decode cX4_shift 113 = .ok (.getfield 21, 3) := dk_180 0 21 (dk_at dksX4_shift_4 17 rfl rfl)
theorem dX4_shift_116 : decode cX4_shift 116 = .ok (.iload_n 3, 1) := dk_29 (dk_at dksX4_shift_4 20 rfl rfl)
theorem dX4_shift_117 : decode cX4_shift 117 = .ok (.iconst 3, 1) := dk_6 (dk_at dksX4_shift_4 21 rfl rfl)
theorem dX4_shift_118 : decode cX4_shift 118 = .ok (.iadd, 1) := dk_96 (dk_at dksX4_shift_4 22 rfl rfl)
theorem dX4_shift_119 : decode cX4_shift 119 = .ok (.iaload, 1) := dk_46 (dk_at dksX4_shift_4 23 rfl rfl)
theorem dX4_shift_120 : decode cX4_shift 120 = .ok (.iload_n 2, 1) := dk_28 (dk_at dksX4_shift_5 0 rfl rfl)
theorem dX4_shift_121 : decode cX4_shift 121 = .ok (.isub, 1) := dk_100 (dk_at dksX4_shift_5 1 rfl rfl)
theorem dX4_shift_122 : decode cX4_shift 122 = .ok (.invokevirtual 87, 3) := dk_182 0 87 (dk_at dksX4_shift_5 2 rfl rfl)
theorem dX4_shift_125 : decode cX4_shift 125 = .ok (.iconst 3, 1) := dk_6 (dk_at dksX4_shift_5 5 rfl rfl)
theorem dX4_shift_126 : decode cX4_shift 126 = .ok (.invokevirtual 91, 3) := dk_182 0 91 (dk_at dksX4_shift_5 6 rfl rfl)
theorem dX4_shift_129 : decode cX4_shift 129 = .ok (.ireturn, 1) := dk_172 (dk_at dksX4_shift_5 9 rfl rfl)
theorem dX4_shift_130 : decode cX4_shift 130 = .ok (.aload_n 0, 1) := dk_42 (dk_at dksX4_shift_5 10 rfl rfl)
theorem dX4_shift_131 : decode cX4_shift 131 = .ok (.getfield 21, 3) := dk_180 0 21 (dk_at dksX4_shift_5 11 rfl rfl)
theorem dX4_shift_134 : decode cX4_shift 134 = .ok (.iload_n 3, 1) := dk_29 (dk_at dksX4_shift_5 14 rfl rfl)
theorem dX4_shift_135 : decode cX4_shift 135 = .ok (.dup2, 1) := dk_92 (dk_at dksX4_shift_5 15 rfl rfl)
theorem dX4_shift_136 : decode cX4_shift 136 = .ok (.iaload, 1) := dk_46 (dk_at dksX4_shift_5 16 rfl rfl)
theorem dX4_shift_137 : decode cX4_shift 137 = .ok (.iload_n 2, 1) := dk_28 (dk_at dksX4_shift_5 17 rfl rfl)
theorem dX4_shift_138 : decode cX4_shift 138 = .ok (.iadd, 1) := dk_96 (dk_at dksX4_shift_5 18 rfl rfl)
theorem dX4_shift_139 : decode cX4_shift 139 = .ok (.iastore, 1) := dk_79 (dk_at dksX4_shift_5 19 rfl rfl)
theorem dX4_shift_140 : decode cX4_shift 140 = .ok (.aload_n 0, 1) := dk_42 (dk_at dksX4_shift_5 20 rfl rfl)
theorem dX4_shift_141 : decode cX4_shift 141 = .ok (.getfield 21, 3) := dk_180 0 21 (dk_at dksX4_shift_5 21 rfl rfl)
theorem dX4_shift_144 : decode cX4_shift 144 = .ok (.iload_n 3, 1) := dk_29 (dk_at dksX4_shift_6 0 rfl rfl)
theorem dX4_shift_145 : decode cX4_shift 145 = .ok (.iconst 3, 1) := dk_6 (dk_at dksX4_shift_6 1 rfl rfl)
theorem dX4_shift_146 : decode cX4_shift 146 = .ok (.iadd, 1) := dk_96 (dk_at dksX4_shift_6 2 rfl rfl)
theorem dX4_shift_147 : decode cX4_shift 147 = .ok (.dup2, 1) := dk_92 (dk_at dksX4_shift_6 3 rfl rfl)
theorem dX4_shift_148 : decode cX4_shift 148 = .ok (.iaload, 1) := dk_46 (dk_at dksX4_shift_6 4 rfl rfl)
theorem dX4_shift_149 : decode cX4_shift 149 = .ok (.iload_n 2, 1) := dk_28 (dk_at dksX4_shift_6 5 rfl rfl)
theorem dX4_shift_150 : decode cX4_shift 150 = .ok (.isub, 1) := dk_100 (dk_at dksX4_shift_6 6 rfl rfl)
theorem dX4_shift_151 : decode cX4_shift 151 = .ok (.iastore, 1) := dk_79 (dk_at dksX4_shift_6 7 rfl rfl)
theorem dX4_shift_152 : decode cX4_shift 152 = .ok (.aload_n 0, 1) := dk_42 (dk_at dksX4_shift_6 8 rfl rfl)
theorem dX4_shift_153 : decode cX4_shift 153 = .ok (.aload_n 0, 1) := dk_42 (dk_at dksX4_shift_6 9 rfl rfl)
theorem dX4_shift_154 : decode cX4_shift 154 = .ok (.getfield 21, 3) := dk_180 0 21 (dk_at dksX4_shift_6 10 rfl rfl)
theorem dX4_shift_157 : decode cX4_shift 157 = .ok (.iload_n 3, 1) := dk_29 (dk_at dksX4_shift_6 13 rfl rfl)
theorem dX4_shift_158 : decode cX4_shift 158 = .ok (.iaload, 1) := dk_46 (dk_at dksX4_shift_6 14 rfl rfl)
theorem dX4_shift_159 : decode cX4_shift 159 = .ok (.invokevirtual 73, 3) := dk_182 0 73 (dk_at dksX4_shift_6 15 rfl rfl)
theorem dX4_shift_162 : decode cX4_shift 162 = .ok (.ireturn, 1) := dk_172 (dk_at dksX4_shift_6 18 rfl rfl)
abbrev cX4_channelOf : ByteArray := prog_29_method_25_code
def yX4_channelOf : MethodName := ⟨RX4, "channelOf", "(II)I"⟩
def dkwX4_channelOf_4 : List UInt8 := [42, 5, 182, 0, 77, 172]
abbrev dktX4_channelOf_4 : List UInt8 := dkwX4_channelOf_4 ++ []
def dkwX4_channelOf_3 : List UInt8 := [182, 0, 114, 172, 42, 27, 3, 182, 0, 117, 172, 42, 27, 4, 182, 0, 117, 172, 42, 27, 182, 0, 121, 172]
abbrev dktX4_channelOf_3 : List UInt8 := dkwX4_channelOf_3 ++ dktX4_channelOf_4
def dkwX4_channelOf_2 : List UInt8 := [42, 180, 0, 21, 16, 13, 6, 27, 104, 96, 28, 96, 46, 172, 42, 27, 42, 180, 0, 21, 6, 46]
abbrev dktX4_channelOf_2 : List UInt8 := dkwX4_channelOf_2 ++ dktX4_channelOf_3
def dkwX4_channelOf_1 : List UInt8 := [170, 0, 0, 0, 0, 0, 0, 90, 0, 0, 0, 0, 0, 0, 0, 6, 0, 0, 0, 44, 0, 0, 0, 44, 0, 0, 0, 44, 0, 0, 0, 58, 0, 0, 0, 70, 0, 0, 0, 77, 0, 0, 0, 84]
abbrev dktX4_channelOf_1 : List UInt8 := dkwX4_channelOf_1 ++ dktX4_channelOf_2
def dkwX4_channelOf_0 : List UInt8 := [42, 3, 181, 0, 58, 42, 27, 182, 0, 98, 154, 0, 9, 42, 4, 182, 0, 77, 172, 28]
abbrev dktX4_channelOf_0 : List UInt8 := dkwX4_channelOf_0 ++ dktX4_channelOf_1
theorem dksX4_channelOf_0 : cX4_channelOf.data.toList.drop 0 = dktX4_channelOf_0 := by decide +kernel
theorem dksX4_channelOf_1 : cX4_channelOf.data.toList.drop 20 = dktX4_channelOf_1 := dk_seg dksX4_channelOf_0 20 rfl rfl
theorem dksX4_channelOf_2 : cX4_channelOf.data.toList.drop 64 = dktX4_channelOf_2 := dk_seg dksX4_channelOf_1 44 rfl rfl
theorem dksX4_channelOf_3 : cX4_channelOf.data.toList.drop 86 = dktX4_channelOf_3 := dk_seg dksX4_channelOf_2 22 rfl rfl
theorem dksX4_channelOf_4 : cX4_channelOf.data.toList.drop 110 = dktX4_channelOf_4 := dk_seg dksX4_channelOf_3 24 rfl rfl
theorem dX4_channelOf_0 : decode cX4_channelOf 0 = .ok (.aload_n 0, 1) := dk_42 (dk_at dksX4_channelOf_0 0 rfl rfl)
theorem dX4_channelOf_1 : decode cX4_channelOf 1 = .ok (.iconst 0, 1) := dk_3 (dk_at dksX4_channelOf_0 1 rfl rfl)
theorem dX4_channelOf_2 : decode cX4_channelOf 2 = .ok (.putfield 58, 3) := dk_181 0 58 (dk_at dksX4_channelOf_0 2 rfl rfl)
theorem dX4_channelOf_5 : decode cX4_channelOf 5 = .ok (.aload_n 0, 1) := dk_42 (dk_at dksX4_channelOf_0 5 rfl rfl)
theorem dX4_channelOf_6 : decode cX4_channelOf 6 = .ok (.iload_n 1, 1) := dk_27 (dk_at dksX4_channelOf_0 6 rfl rfl)
theorem dX4_channelOf_7 : decode cX4_channelOf 7 = .ok (.invokevirtual 98, 3) := dk_182 0 98 (dk_at dksX4_channelOf_0 7 rfl rfl)
theorem dX4_channelOf_10 : decode cX4_channelOf 10 = .ok (.ifCond .ne 9, 3) := dk_154 0 9 (dk_at dksX4_channelOf_0 10 rfl rfl)
theorem dX4_channelOf_13 : decode cX4_channelOf 13 = .ok (.aload_n 0, 1) := dk_42 (dk_at dksX4_channelOf_0 13 rfl rfl)
theorem dX4_channelOf_14 : decode cX4_channelOf 14 = .ok (.iconst 1, 1) := dk_4 (dk_at dksX4_channelOf_0 14 rfl rfl)
theorem dX4_channelOf_15 : decode cX4_channelOf 15 = .ok (.invokevirtual 77, 3) := dk_182 0 77 (dk_at dksX4_channelOf_0 15 rfl rfl)
theorem dX4_channelOf_18 : decode cX4_channelOf 18 = .ok (.ireturn, 1) := dk_172 (dk_at dksX4_channelOf_0 18 rfl rfl)
theorem dX4_channelOf_19 : decode cX4_channelOf 19 = .ok (.iload_n 2, 1) := dk_28 (dk_at dksX4_channelOf_0 19 rfl rfl)
theorem dX4_channelOf_20 : decode cX4_channelOf 20 = .ok (.tableswitch 90 0 6 #[44, 44, 44, 58, 70, 77, 84], 44) := by decide +kernel
theorem dX4_channelOf_64 : decode cX4_channelOf 64 = .ok (.aload_n 0, 1) := dk_42 (dk_at dksX4_channelOf_2 0 rfl rfl)
theorem dX4_channelOf_65 : decode cX4_channelOf 65 = .ok (.getfield 21, 3) := dk_180 0 21 (dk_at dksX4_channelOf_2 1 rfl rfl)
theorem dX4_channelOf_68 : decode cX4_channelOf 68 = .ok (.bipush 13, 2) := dk_16 13 (dk_at dksX4_channelOf_2 4 rfl rfl)
theorem dX4_channelOf_70 : decode cX4_channelOf 70 = .ok (.iconst 3, 1) := dk_6 (dk_at dksX4_channelOf_2 6 rfl rfl)
theorem dX4_channelOf_71 : decode cX4_channelOf 71 = .ok (.iload_n 1, 1) := dk_27 (dk_at dksX4_channelOf_2 7 rfl rfl)
theorem dX4_channelOf_72 : decode cX4_channelOf 72 = .ok (.imul, 1) := dk_104 (dk_at dksX4_channelOf_2 8 rfl rfl)
theorem dX4_channelOf_73 : decode cX4_channelOf 73 = .ok (.iadd, 1) := dk_96 (dk_at dksX4_channelOf_2 9 rfl rfl)
theorem dX4_channelOf_74 : decode cX4_channelOf 74 = .ok (.iload_n 2, 1) := dk_28 (dk_at dksX4_channelOf_2 10 rfl rfl)
theorem dX4_channelOf_75 : decode cX4_channelOf 75 = .ok (.iadd, 1) := dk_96 (dk_at dksX4_channelOf_2 11 rfl rfl)
theorem dX4_channelOf_76 : decode cX4_channelOf 76 = .ok (.iaload, 1) := dk_46 (dk_at dksX4_channelOf_2 12 rfl rfl)
theorem dX4_channelOf_77 : decode cX4_channelOf 77 = .ok (.ireturn, 1) := dk_172 (dk_at dksX4_channelOf_2 13 rfl rfl)
theorem dX4_channelOf_78 : decode cX4_channelOf 78 = .ok (.aload_n 0, 1) := dk_42 (dk_at dksX4_channelOf_2 14 rfl rfl)
theorem dX4_channelOf_79 : decode cX4_channelOf 79 = .ok (.iload_n 1, 1) := dk_27 (dk_at dksX4_channelOf_2 15 rfl rfl)
theorem dX4_channelOf_80 : decode cX4_channelOf 80 = .ok (.aload_n 0, 1) := dk_42 (dk_at dksX4_channelOf_2 16 rfl rfl)
theorem dX4_channelOf_81 : decode cX4_channelOf 81 = .ok (.getfield 21, 3) := dk_180 0 21 (dk_at dksX4_channelOf_2 17 rfl rfl)
theorem dX4_channelOf_84 : decode cX4_channelOf 84 = .ok (.iconst 3, 1) := dk_6 (dk_at dksX4_channelOf_2 20 rfl rfl)
theorem dX4_channelOf_85 : decode cX4_channelOf 85 = .ok (.iaload, 1) := dk_46 (dk_at dksX4_channelOf_2 21 rfl rfl)
theorem dX4_channelOf_86 : decode cX4_channelOf 86 = .ok (.invokevirtual 114, 3) := dk_182 0 114 (dk_at dksX4_channelOf_3 0 rfl rfl)
theorem dX4_channelOf_89 : decode cX4_channelOf 89 = .ok (.ireturn, 1) := dk_172 (dk_at dksX4_channelOf_3 3 rfl rfl)
theorem dX4_channelOf_90 : decode cX4_channelOf 90 = .ok (.aload_n 0, 1) := dk_42 (dk_at dksX4_channelOf_3 4 rfl rfl)
theorem dX4_channelOf_91 : decode cX4_channelOf 91 = .ok (.iload_n 1, 1) := dk_27 (dk_at dksX4_channelOf_3 5 rfl rfl)
theorem dX4_channelOf_92 : decode cX4_channelOf 92 = .ok (.iconst 0, 1) := dk_3 (dk_at dksX4_channelOf_3 6 rfl rfl)
theorem dX4_channelOf_93 : decode cX4_channelOf 93 = .ok (.invokevirtual 117, 3) := dk_182 0 117 (dk_at dksX4_channelOf_3 7 rfl rfl)
theorem dX4_channelOf_96 : decode cX4_channelOf 96 = .ok (.ireturn, 1) := dk_172 (dk_at dksX4_channelOf_3 10 rfl rfl)
theorem dX4_channelOf_97 : decode cX4_channelOf 97 = .ok (.aload_n 0, 1) := dk_42 (dk_at dksX4_channelOf_3 11 rfl rfl)
theorem dX4_channelOf_98 : decode cX4_channelOf 98 = .ok (.iload_n 1, 1) := dk_27 (dk_at dksX4_channelOf_3 12 rfl rfl)
theorem dX4_channelOf_99 : decode cX4_channelOf 99 = .ok (.iconst 1, 1) := dk_4 (dk_at dksX4_channelOf_3 13 rfl rfl)
theorem dX4_channelOf_100 : decode cX4_channelOf 100 = .ok (.invokevirtual 117, 3) := dk_182 0 117 (dk_at dksX4_channelOf_3 14 rfl rfl)
theorem dX4_channelOf_103 : decode cX4_channelOf 103 = .ok (.ireturn, 1) := dk_172 (dk_at dksX4_channelOf_3 17 rfl rfl)
theorem dX4_channelOf_104 : decode cX4_channelOf 104 = .ok (.aload_n 0, 1) := dk_42 (dk_at dksX4_channelOf_3 18 rfl rfl)
theorem dX4_channelOf_105 : decode cX4_channelOf 105 = .ok (.iload_n 1, 1) := dk_27 (dk_at dksX4_channelOf_3 19 rfl rfl)
theorem dX4_channelOf_106 : decode cX4_channelOf 106 = .ok (.invokevirtual 121, 3) := dk_182 0 121 (dk_at dksX4_channelOf_3 20 rfl rfl)
theorem dX4_channelOf_109 : decode cX4_channelOf 109 = .ok (.ireturn, 1) := dk_172 (dk_at dksX4_channelOf_3 23 rfl rfl)
theorem dX4_channelOf_110 : decode cX4_channelOf 110 = .ok (.aload_n 0, 1) := dk_42 (dk_at dksX4_channelOf_4 0 rfl rfl)
theorem dX4_channelOf_111 : decode cX4_channelOf 111 = .ok (.iconst 2, 1) := dk_5 (dk_at dksX4_channelOf_4 1 rfl rfl)
theorem dX4_channelOf_112 : decode cX4_channelOf 112 = .ok (.invokevirtual 77, 3) := dk_182 0 77 (dk_at dksX4_channelOf_4 2 rfl rfl)
theorem dX4_channelOf_115 : decode cX4_channelOf 115 = .ok (.ireturn, 1) := dk_172 (dk_at dksX4_channelOf_4 5 rfl rfl)
abbrev cX4_flowAt : ByteArray := prog_29_method_21_code
def yX4_flowAt : MethodName := ⟨RX4, "flowAt", "(II)I"⟩
def dkwX4_flowAt_3 : List UInt8 := [21, 4, 104, 96, 5, 96, 46, 96, 62, 132, 4, 1, 167, 255, 191, 16, 30, 29, 184, 0, 106, 172]
abbrev dktX4_flowAt_3 : List UInt8 := dkwX4_flowAt_3 ++ []
def dkwX4_flowAt_2 : List UInt8 := [180, 0, 21, 16, 31, 6, 21, 4, 104, 96, 4, 96, 46, 162, 0, 20, 29, 42, 180, 0, 21, 16, 31, 6]
abbrev dktX4_flowAt_2 : List UInt8 := dkwX4_flowAt_2 ++ dktX4_flowAt_3
def dkwX4_flowAt_1 : List UInt8 := [46, 162, 0, 60, 28, 42, 180, 0, 21, 16, 31, 6, 21, 4, 104, 96, 46, 161, 0, 38, 28, 42]
abbrev dktX4_flowAt_1 : List UInt8 := dkwX4_flowAt_1 ++ dktX4_flowAt_2
def dkwX4_flowAt_0 : List UInt8 := [42, 180, 0, 21, 16, 13, 6, 27, 104, 96, 4, 96, 46, 62, 3, 54, 4, 21, 4, 42, 180, 0, 21, 4]
abbrev dktX4_flowAt_0 : List UInt8 := dkwX4_flowAt_0 ++ dktX4_flowAt_1
theorem dksX4_flowAt_0 : cX4_flowAt.data.toList.drop 0 = dktX4_flowAt_0 := by decide +kernel
theorem dksX4_flowAt_1 : cX4_flowAt.data.toList.drop 24 = dktX4_flowAt_1 := dk_seg dksX4_flowAt_0 24 rfl rfl
theorem dksX4_flowAt_2 : cX4_flowAt.data.toList.drop 46 = dktX4_flowAt_2 := dk_seg dksX4_flowAt_1 22 rfl rfl
theorem dksX4_flowAt_3 : cX4_flowAt.data.toList.drop 70 = dktX4_flowAt_3 := dk_seg dksX4_flowAt_2 24 rfl rfl
theorem dX4_flowAt_0 : decode cX4_flowAt 0 = .ok (.aload_n 0, 1) := dk_42 (dk_at dksX4_flowAt_0 0 rfl rfl)
theorem dX4_flowAt_1 : decode cX4_flowAt 1 = .ok (.getfield 21, 3) := dk_180 0 21 (dk_at dksX4_flowAt_0 1 rfl rfl)
theorem dX4_flowAt_4 : decode cX4_flowAt 4 = .ok (.bipush 13, 2) := dk_16 13 (dk_at dksX4_flowAt_0 4 rfl rfl)
theorem dX4_flowAt_6 : decode cX4_flowAt 6 = .ok (.iconst 3, 1) := dk_6 (dk_at dksX4_flowAt_0 6 rfl rfl)
theorem dX4_flowAt_7 : decode cX4_flowAt 7 = .ok (.iload_n 1, 1) := dk_27 (dk_at dksX4_flowAt_0 7 rfl rfl)
theorem dX4_flowAt_8 : decode cX4_flowAt 8 = .ok (.imul, 1) := dk_104 (dk_at dksX4_flowAt_0 8 rfl rfl)
theorem dX4_flowAt_9 : decode cX4_flowAt 9 = .ok (.iadd, 1) := dk_96 (dk_at dksX4_flowAt_0 9 rfl rfl)
theorem dX4_flowAt_10 : decode cX4_flowAt 10 = .ok (.iconst 1, 1) := dk_4 (dk_at dksX4_flowAt_0 10 rfl rfl)
theorem dX4_flowAt_11 : decode cX4_flowAt 11 = .ok (.iadd, 1) := dk_96 (dk_at dksX4_flowAt_0 11 rfl rfl)
theorem dX4_flowAt_12 : decode cX4_flowAt 12 = .ok (.iaload, 1) := dk_46 (dk_at dksX4_flowAt_0 12 rfl rfl)
theorem dX4_flowAt_13 : decode cX4_flowAt 13 = .ok (.istore_n 3, 1) := dk_62 (dk_at dksX4_flowAt_0 13 rfl rfl)
theorem dX4_flowAt_14 : decode cX4_flowAt 14 = .ok (.iconst 0, 1) := dk_3 (dk_at dksX4_flowAt_0 14 rfl rfl)
theorem dX4_flowAt_15 : decode cX4_flowAt 15 = .ok (.istore 4, 2) := dk_54 4 (dk_at dksX4_flowAt_0 15 rfl rfl)
theorem dX4_flowAt_17 : decode cX4_flowAt 17 = .ok (.iload 4, 2) := dk_21 4 (dk_at dksX4_flowAt_0 17 rfl rfl)
theorem dX4_flowAt_19 : decode cX4_flowAt 19 = .ok (.aload_n 0, 1) := dk_42 (dk_at dksX4_flowAt_0 19 rfl rfl)
theorem dX4_flowAt_20 : decode cX4_flowAt 20 = .ok (.getfield 21, 3) := dk_180 0 21 (dk_at dksX4_flowAt_0 20 rfl rfl)
theorem dX4_flowAt_23 : decode cX4_flowAt 23 = .ok (.iconst 1, 1) := dk_4 (dk_at dksX4_flowAt_0 23 rfl rfl)
theorem dX4_flowAt_24 : decode cX4_flowAt 24 = .ok (.iaload, 1) := dk_46 (dk_at dksX4_flowAt_1 0 rfl rfl)
theorem dX4_flowAt_25 : decode cX4_flowAt 25 = .ok (.if_icmp .ge 60, 3) := dk_162 0 60 (dk_at dksX4_flowAt_1 1 rfl rfl)
theorem dX4_flowAt_28 : decode cX4_flowAt 28 = .ok (.iload_n 2, 1) := dk_28 (dk_at dksX4_flowAt_1 4 rfl rfl)
theorem dX4_flowAt_29 : decode cX4_flowAt 29 = .ok (.aload_n 0, 1) := dk_42 (dk_at dksX4_flowAt_1 5 rfl rfl)
theorem dX4_flowAt_30 : decode cX4_flowAt 30 = .ok (.getfield 21, 3) := dk_180 0 21 (dk_at dksX4_flowAt_1 6 rfl rfl)
theorem dX4_flowAt_33 : decode cX4_flowAt 33 = .ok (.bipush 31, 2) := dk_16 31 (dk_at dksX4_flowAt_1 9 rfl rfl)
theorem dX4_flowAt_35 : decode cX4_flowAt 35 = .ok (.iconst 3, 1) := dk_6 (dk_at dksX4_flowAt_1 11 rfl rfl)
theorem dX4_flowAt_36 : decode cX4_flowAt 36 = .ok (.iload 4, 2) := dk_21 4 (dk_at dksX4_flowAt_1 12 rfl rfl)
theorem dX4_flowAt_38 : decode cX4_flowAt 38 = .ok (.imul, 1) := dk_104 (dk_at dksX4_flowAt_1 14 rfl rfl)
theorem dX4_flowAt_39 : decode cX4_flowAt 39 = .ok (.iadd, 1) := dk_96 (dk_at dksX4_flowAt_1 15 rfl rfl)
theorem dX4_flowAt_40 : decode cX4_flowAt 40 = .ok (.iaload, 1) := dk_46 (dk_at dksX4_flowAt_1 16 rfl rfl)
theorem dX4_flowAt_41 : decode cX4_flowAt 41 = .ok (.if_icmp .lt 38, 3) := dk_161 0 38 (dk_at dksX4_flowAt_1 17 rfl rfl)
theorem dX4_flowAt_44 : decode cX4_flowAt 44 = .ok (.iload_n 2, 1) := dk_28 (dk_at dksX4_flowAt_1 20 rfl rfl)
theorem dX4_flowAt_45 : decode cX4_flowAt 45 = .ok (.aload_n 0, 1) := dk_42 (dk_at dksX4_flowAt_1 21 rfl rfl)
theorem dX4_flowAt_46 : decode cX4_flowAt 46 = .ok (.getfield 21, 3) := dk_180 0 21 (dk_at dksX4_flowAt_2 0 rfl rfl)
theorem dX4_flowAt_49 : decode cX4_flowAt 49 = .ok (.bipush 31, 2) := dk_16 31 (dk_at dksX4_flowAt_2 3 rfl rfl)
theorem dX4_flowAt_51 : decode cX4_flowAt 51 = .ok (.iconst 3, 1) := dk_6 (dk_at dksX4_flowAt_2 5 rfl rfl)
theorem dX4_flowAt_52 : decode cX4_flowAt 52 = .ok (.iload 4, 2) := dk_21 4 (dk_at dksX4_flowAt_2 6 rfl rfl)
theorem dX4_flowAt_54 : decode cX4_flowAt 54 = .ok (.imul, 1) := dk_104 (dk_at dksX4_flowAt_2 8 rfl rfl)
theorem dX4_flowAt_55 : decode cX4_flowAt 55 = .ok (.iadd, 1) := dk_96 (dk_at dksX4_flowAt_2 9 rfl rfl)
theorem dX4_flowAt_56 : decode cX4_flowAt 56 = .ok (.iconst 1, 1) := dk_4 (dk_at dksX4_flowAt_2 10 rfl rfl)
theorem dX4_flowAt_57 : decode cX4_flowAt 57 = .ok (.iadd, 1) := dk_96 (dk_at dksX4_flowAt_2 11 rfl rfl)
theorem dX4_flowAt_58 : decode cX4_flowAt 58 = .ok (.iaload, 1) := dk_46 (dk_at dksX4_flowAt_2 12 rfl rfl)
theorem dX4_flowAt_59 : decode cX4_flowAt 59 = .ok (.if_icmp .ge 20, 3) := dk_162 0 20 (dk_at dksX4_flowAt_2 13 rfl rfl)
theorem dX4_flowAt_62 : decode cX4_flowAt 62 = .ok (.iload_n 3, 1) := dk_29 (dk_at dksX4_flowAt_2 16 rfl rfl)
theorem dX4_flowAt_63 : decode cX4_flowAt 63 = .ok (.aload_n 0, 1) := dk_42 (dk_at dksX4_flowAt_2 17 rfl rfl)
theorem dX4_flowAt_64 : decode cX4_flowAt 64 = .ok (.getfield 21, 3) := dk_180 0 21 (dk_at dksX4_flowAt_2 18 rfl rfl)
theorem dX4_flowAt_67 : decode cX4_flowAt 67 = .ok (.bipush 31, 2) := dk_16 31 (dk_at dksX4_flowAt_2 21 rfl rfl)
theorem dX4_flowAt_69 : decode cX4_flowAt 69 = .ok (.iconst 3, 1) := dk_6 (dk_at dksX4_flowAt_2 23 rfl rfl)
theorem dX4_flowAt_70 : decode cX4_flowAt 70 = .ok (.iload 4, 2) := dk_21 4 (dk_at dksX4_flowAt_3 0 rfl rfl)
theorem dX4_flowAt_72 : decode cX4_flowAt 72 = .ok (.imul, 1) := dk_104 (dk_at dksX4_flowAt_3 2 rfl rfl)
theorem dX4_flowAt_73 : decode cX4_flowAt 73 = .ok (.iadd, 1) := dk_96 (dk_at dksX4_flowAt_3 3 rfl rfl)
theorem dX4_flowAt_74 : decode cX4_flowAt 74 = .ok (.iconst 2, 1) := dk_5 (dk_at dksX4_flowAt_3 4 rfl rfl)
theorem dX4_flowAt_75 : decode cX4_flowAt 75 = .ok (.iadd, 1) := dk_96 (dk_at dksX4_flowAt_3 5 rfl rfl)
theorem dX4_flowAt_76 : decode cX4_flowAt 76 = .ok (.iaload, 1) := dk_46 (dk_at dksX4_flowAt_3 6 rfl rfl)
theorem dX4_flowAt_77 : decode cX4_flowAt 77 = .ok (.iadd, 1) := dk_96 (dk_at dksX4_flowAt_3 7 rfl rfl)
theorem dX4_flowAt_78 : decode cX4_flowAt 78 = .ok (.istore_n 3, 1) := dk_62 (dk_at dksX4_flowAt_3 8 rfl rfl)
theorem dX4_flowAt_79 : decode cX4_flowAt 79 = .ok (.iinc 4 1, 3) := dk_132 4 1 (dk_at dksX4_flowAt_3 9 rfl rfl)
theorem dX4_flowAt_82 : decode cX4_flowAt 82 = .ok (.goto (-65), 3) := dk_167 255 191 (dk_at dksX4_flowAt_3 12 rfl rfl)
theorem dX4_flowAt_85 : decode cX4_flowAt 85 = .ok (.bipush 30, 2) := dk_16 30 (dk_at dksX4_flowAt_3 15 rfl rfl)
theorem dX4_flowAt_87 : decode cX4_flowAt 87 = .ok (.iload_n 3, 1) := dk_29 (dk_at dksX4_flowAt_3 17 rfl rfl)
theorem dX4_flowAt_88 : decode cX4_flowAt 88 = .ok (.invokestatic 106, 3) := dk_184 0 106 (dk_at dksX4_flowAt_3 18 rfl rfl)
theorem dX4_flowAt_91 : decode cX4_flowAt 91 = .ok (.ireturn, 1) := dk_172 (dk_at dksX4_flowAt_3 21 rfl rfl)
abbrev cX4_anchorsIn : ByteArray := prog_29_method_24_code
def yX4_anchorsIn : MethodName := ⟨RX4, "anchorsIn", "(IZ)I"⟩
def dkwX4_anchorsIn_2 : List UInt8 := [132, 3, 1, 132, 4, 1, 167, 255, 210, 29, 172]
abbrev dktX4_anchorsIn_2 : List UInt8 := dkwX4_anchorsIn_2 ++ []
def dkwX4_anchorsIn_1 : List UInt8 := [21, 4, 104, 96, 46, 27, 160, 0, 19, 28, 153, 0, 12, 42, 21, 4, 182, 0, 111, 153, 0, 6]
abbrev dktX4_anchorsIn_1 : List UInt8 := dkwX4_anchorsIn_1 ++ dktX4_anchorsIn_2
def dkwX4_anchorsIn_0 : List UInt8 := [3, 62, 3, 54, 4, 21, 4, 42, 180, 0, 21, 5, 46, 162, 0, 41, 42, 180, 0, 21, 16, 46, 6]
abbrev dktX4_anchorsIn_0 : List UInt8 := dkwX4_anchorsIn_0 ++ dktX4_anchorsIn_1
theorem dksX4_anchorsIn_0 : cX4_anchorsIn.data.toList.drop 0 = dktX4_anchorsIn_0 := by decide +kernel
theorem dksX4_anchorsIn_1 : cX4_anchorsIn.data.toList.drop 23 = dktX4_anchorsIn_1 := dk_seg dksX4_anchorsIn_0 23 rfl rfl
theorem dksX4_anchorsIn_2 : cX4_anchorsIn.data.toList.drop 45 = dktX4_anchorsIn_2 := dk_seg dksX4_anchorsIn_1 22 rfl rfl
theorem dX4_anchorsIn_0 : decode cX4_anchorsIn 0 = .ok (.iconst 0, 1) := dk_3 (dk_at dksX4_anchorsIn_0 0 rfl rfl)
theorem dX4_anchorsIn_1 : decode cX4_anchorsIn 1 = .ok (.istore_n 3, 1) := dk_62 (dk_at dksX4_anchorsIn_0 1 rfl rfl)
theorem dX4_anchorsIn_2 : decode cX4_anchorsIn 2 = .ok (.iconst 0, 1) := dk_3 (dk_at dksX4_anchorsIn_0 2 rfl rfl)
theorem dX4_anchorsIn_3 : decode cX4_anchorsIn 3 = .ok (.istore 4, 2) := dk_54 4 (dk_at dksX4_anchorsIn_0 3 rfl rfl)
theorem dX4_anchorsIn_5 : decode cX4_anchorsIn 5 = .ok (.iload 4, 2) := dk_21 4 (dk_at dksX4_anchorsIn_0 5 rfl rfl)
theorem dX4_anchorsIn_7 : decode cX4_anchorsIn 7 = .ok (.aload_n 0, 1) := dk_42 (dk_at dksX4_anchorsIn_0 7 rfl rfl)
theorem dX4_anchorsIn_8 : decode cX4_anchorsIn 8 = .ok (.getfield 21, 3) := dk_180 0 21 (dk_at dksX4_anchorsIn_0 8 rfl rfl)
theorem dX4_anchorsIn_11 : decode cX4_anchorsIn 11 = .ok (.iconst 2, 1) := dk_5 (dk_at dksX4_anchorsIn_0 11 rfl rfl)
theorem dX4_anchorsIn_12 : decode cX4_anchorsIn 12 = .ok (.iaload, 1) := dk_46 (dk_at dksX4_anchorsIn_0 12 rfl rfl)
theorem dX4_anchorsIn_13 : decode cX4_anchorsIn 13 = .ok (.if_icmp .ge 41, 3) := dk_162 0 41 (dk_at dksX4_anchorsIn_0 13 rfl rfl)
theorem dX4_anchorsIn_16 : decode cX4_anchorsIn 16 = .ok (.aload_n 0, 1) := dk_42 (dk_at dksX4_anchorsIn_0 16 rfl rfl)
theorem dX4_anchorsIn_17 : decode cX4_anchorsIn 17 = .ok (.getfield 21, 3) := dk_180 0 21 (dk_at dksX4_anchorsIn_0 17 rfl rfl)
theorem dX4_anchorsIn_20 : decode cX4_anchorsIn 20 = .ok (.bipush 46, 2) := dk_16 46 (dk_at dksX4_anchorsIn_0 20 rfl rfl)
theorem dX4_anchorsIn_22 : decode cX4_anchorsIn 22 = .ok (.iconst 3, 1) := dk_6 (dk_at dksX4_anchorsIn_0 22 rfl rfl)
theorem dX4_anchorsIn_23 : decode cX4_anchorsIn 23 = .ok (.iload 4, 2) := dk_21 4 (dk_at dksX4_anchorsIn_1 0 rfl rfl)
theorem dX4_anchorsIn_25 : decode cX4_anchorsIn 25 = .ok (.imul, 1) := dk_104 (dk_at dksX4_anchorsIn_1 2 rfl rfl)
theorem dX4_anchorsIn_26 : decode cX4_anchorsIn 26 = .ok (.iadd, 1) := dk_96 (dk_at dksX4_anchorsIn_1 3 rfl rfl)
theorem dX4_anchorsIn_27 : decode cX4_anchorsIn 27 = .ok (.iaload, 1) := dk_46 (dk_at dksX4_anchorsIn_1 4 rfl rfl)
theorem dX4_anchorsIn_28 : decode cX4_anchorsIn 28 = .ok (.iload_n 1, 1) := dk_27 (dk_at dksX4_anchorsIn_1 5 rfl rfl)
theorem dX4_anchorsIn_29 : decode cX4_anchorsIn 29 = .ok (.if_icmp .ne 19, 3) := dk_160 0 19 (dk_at dksX4_anchorsIn_1 6 rfl rfl)
theorem dX4_anchorsIn_32 : decode cX4_anchorsIn 32 = .ok (.iload_n 2, 1) := dk_28 (dk_at dksX4_anchorsIn_1 9 rfl rfl)
theorem dX4_anchorsIn_33 : decode cX4_anchorsIn 33 = .ok (.ifCond .eq 12, 3) := dk_153 0 12 (dk_at dksX4_anchorsIn_1 10 rfl rfl)
theorem dX4_anchorsIn_36 : decode cX4_anchorsIn 36 = .ok (.aload_n 0, 1) := dk_42 (dk_at dksX4_anchorsIn_1 13 rfl rfl)
theorem dX4_anchorsIn_37 : decode cX4_anchorsIn 37 = .ok (.iload 4, 2) := dk_21 4 (dk_at dksX4_anchorsIn_1 14 rfl rfl)
theorem dX4_anchorsIn_39 : decode cX4_anchorsIn 39 = .ok (.invokevirtual 111, 3) := dk_182 0 111 (dk_at dksX4_anchorsIn_1 16 rfl rfl)
theorem dX4_anchorsIn_42 : decode cX4_anchorsIn 42 = .ok (.ifCond .eq 6, 3) := dk_153 0 6 (dk_at dksX4_anchorsIn_1 19 rfl rfl)
theorem dX4_anchorsIn_45 : decode cX4_anchorsIn 45 = .ok (.iinc 3 1, 3) := dk_132 3 1 (dk_at dksX4_anchorsIn_2 0 rfl rfl)
theorem dX4_anchorsIn_48 : decode cX4_anchorsIn 48 = .ok (.iinc 4 1, 3) := dk_132 4 1 (dk_at dksX4_anchorsIn_2 3 rfl rfl)
theorem dX4_anchorsIn_51 : decode cX4_anchorsIn 51 = .ok (.goto (-46), 3) := dk_167 255 210 (dk_at dksX4_anchorsIn_2 6 rfl rfl)
theorem dX4_anchorsIn_54 : decode cX4_anchorsIn 54 = .ok (.iload_n 3, 1) := dk_29 (dk_at dksX4_anchorsIn_2 9 rfl rfl)
theorem dX4_anchorsIn_55 : decode cX4_anchorsIn 55 = .ok (.ireturn, 1) := dk_172 (dk_at dksX4_anchorsIn_2 10 rfl rfl)
abbrev cX4_holds : ByteArray := prog_29_method_22_code
def yX4_holds : MethodName := ⟨RX4, "holds", "(I)Z"⟩
def dkwX4_holds_0 : List UInt8 := [42, 180, 0, 21, 16, 46, 6, 27, 104, 96, 5, 96, 46, 16, 50, 162, 0, 7, 4, 167, 0, 4, 3, 172]
abbrev dktX4_holds_0 : List UInt8 := dkwX4_holds_0 ++ []
theorem dksX4_holds_0 : cX4_holds.data.toList.drop 0 = dktX4_holds_0 := by decide +kernel
theorem dX4_holds_0 : decode cX4_holds 0 = .ok (.aload_n 0, 1) := dk_42 (dk_at dksX4_holds_0 0 rfl rfl)
theorem dX4_holds_1 : decode cX4_holds 1 = .ok (.getfield 21, 3) := dk_180 0 21 (dk_at dksX4_holds_0 1 rfl rfl)
theorem dX4_holds_4 : decode cX4_holds 4 = .ok (.bipush 46, 2) := dk_16 46 (dk_at dksX4_holds_0 4 rfl rfl)
theorem dX4_holds_6 : decode cX4_holds 6 = .ok (.iconst 3, 1) := dk_6 (dk_at dksX4_holds_0 6 rfl rfl)
theorem dX4_holds_7 : decode cX4_holds 7 = .ok (.iload_n 1, 1) := dk_27 (dk_at dksX4_holds_0 7 rfl rfl)
theorem dX4_holds_8 : decode cX4_holds 8 = .ok (.imul, 1) := dk_104 (dk_at dksX4_holds_0 8 rfl rfl)
theorem dX4_holds_9 : decode cX4_holds 9 = .ok (.iadd, 1) := dk_96 (dk_at dksX4_holds_0 9 rfl rfl)
theorem dX4_holds_10 : decode cX4_holds 10 = .ok (.iconst 2, 1) := dk_5 (dk_at dksX4_holds_0 10 rfl rfl)
theorem dX4_holds_11 : decode cX4_holds 11 = .ok (.iadd, 1) := dk_96 (dk_at dksX4_holds_0 11 rfl rfl)
theorem dX4_holds_12 : decode cX4_holds 12 = .ok (.iaload, 1) := dk_46 (dk_at dksX4_holds_0 12 rfl rfl)
theorem dX4_holds_13 : decode cX4_holds 13 = .ok (.bipush 50, 2) := dk_16 50 (dk_at dksX4_holds_0 13 rfl rfl)
theorem dX4_holds_15 : decode cX4_holds 15 = .ok (.if_icmp .ge 7, 3) := dk_162 0 7 (dk_at dksX4_holds_0 15 rfl rfl)
theorem dX4_holds_18 : decode cX4_holds 18 = .ok (.iconst 1, 1) := dk_4 (dk_at dksX4_holds_0 18 rfl rfl)
theorem dX4_holds_19 : decode cX4_holds 19 = .ok (.goto 4, 3) := dk_167 0 4 (dk_at dksX4_holds_0 19 rfl rfl)
theorem dX4_holds_22 : decode cX4_holds 22 = .ok (.iconst 0, 1) := dk_3 (dk_at dksX4_holds_0 22 rfl rfl)
theorem dX4_holds_23 : decode cX4_holds 23 = .ok (.ireturn, 1) := dk_172 (dk_at dksX4_holds_0 23 rfl rfl)
abbrev cX4_leastDrag : ByteArray := prog_29_method_23_code
def yX4_leastDrag : MethodName := ⟨RX4, "leastDrag", "(I)I"⟩
def dkwX4_leastDrag_3 : List UInt8 := [132, 3, 1, 167, 255, 189, 28, 172]
abbrev dktX4_leastDrag_3 : List UInt8 := dkwX4_leastDrag_3 ++ []
def dkwX4_leastDrag_2 : List UInt8 := [180, 0, 21, 21, 4, 5, 96, 46, 28, 162, 0, 13, 42, 180, 0, 21, 21, 4, 5, 96, 46, 61]
abbrev dktX4_leastDrag_2 : List UInt8 := dkwX4_leastDrag_2 ++ dktX4_leastDrag_3
def dkwX4_leastDrag_1 : List UInt8 := [180, 0, 21, 21, 4, 46, 27, 160, 0, 38, 42, 29, 182, 0, 111, 153, 0, 30, 28, 155, 0, 16, 42]
abbrev dktX4_leastDrag_1 : List UInt8 := dkwX4_leastDrag_1 ++ dktX4_leastDrag_2
def dkwX4_leastDrag_0 : List UInt8 := [2, 61, 3, 62, 29, 42, 180, 0, 21, 5, 46, 162, 0, 63, 16, 46, 6, 29, 104, 96, 54, 4, 42]
abbrev dktX4_leastDrag_0 : List UInt8 := dkwX4_leastDrag_0 ++ dktX4_leastDrag_1
theorem dksX4_leastDrag_0 : cX4_leastDrag.data.toList.drop 0 = dktX4_leastDrag_0 := by decide +kernel
theorem dksX4_leastDrag_1 : cX4_leastDrag.data.toList.drop 23 = dktX4_leastDrag_1 := dk_seg dksX4_leastDrag_0 23 rfl rfl
theorem dksX4_leastDrag_2 : cX4_leastDrag.data.toList.drop 46 = dktX4_leastDrag_2 := dk_seg dksX4_leastDrag_1 23 rfl rfl
theorem dksX4_leastDrag_3 : cX4_leastDrag.data.toList.drop 68 = dktX4_leastDrag_3 := dk_seg dksX4_leastDrag_2 22 rfl rfl
theorem dX4_leastDrag_0 : decode cX4_leastDrag 0 = .ok (.iconst (-1), 1) := dk_2 (dk_at dksX4_leastDrag_0 0 rfl rfl)
theorem dX4_leastDrag_1 : decode cX4_leastDrag 1 = .ok (.istore_n 2, 1) := dk_61 (dk_at dksX4_leastDrag_0 1 rfl rfl)
theorem dX4_leastDrag_2 : decode cX4_leastDrag 2 = .ok (.iconst 0, 1) := dk_3 (dk_at dksX4_leastDrag_0 2 rfl rfl)
theorem dX4_leastDrag_3 : decode cX4_leastDrag 3 = .ok (.istore_n 3, 1) := dk_62 (dk_at dksX4_leastDrag_0 3 rfl rfl)
theorem dX4_leastDrag_4 : decode cX4_leastDrag 4 = .ok (.iload_n 3, 1) := dk_29 (dk_at dksX4_leastDrag_0 4 rfl rfl)
theorem dX4_leastDrag_5 : decode cX4_leastDrag 5 = .ok (.aload_n 0, 1) := dk_42 (dk_at dksX4_leastDrag_0 5 rfl rfl)
theorem dX4_leastDrag_6 : decode cX4_leastDrag 6 = .ok (.getfield 21, 3) := dk_180 0 21 (dk_at dksX4_leastDrag_0 6 rfl rfl)
theorem dX4_leastDrag_9 : decode cX4_leastDrag 9 = .ok (.iconst 2, 1) := dk_5 (dk_at dksX4_leastDrag_0 9 rfl rfl)
theorem dX4_leastDrag_10 : decode cX4_leastDrag 10 = .ok (.iaload, 1) := dk_46 (dk_at dksX4_leastDrag_0 10 rfl rfl)
theorem dX4_leastDrag_11 : decode cX4_leastDrag 11 = .ok (.if_icmp .ge 63, 3) := dk_162 0 63 (dk_at dksX4_leastDrag_0 11 rfl rfl)
theorem dX4_leastDrag_14 : decode cX4_leastDrag 14 = .ok (.bipush 46, 2) := dk_16 46 (dk_at dksX4_leastDrag_0 14 rfl rfl)
theorem dX4_leastDrag_16 : decode cX4_leastDrag 16 = .ok (.iconst 3, 1) := dk_6 (dk_at dksX4_leastDrag_0 16 rfl rfl)
theorem dX4_leastDrag_17 : decode cX4_leastDrag 17 = .ok (.iload_n 3, 1) := dk_29 (dk_at dksX4_leastDrag_0 17 rfl rfl)
theorem dX4_leastDrag_18 : decode cX4_leastDrag 18 = .ok (.imul, 1) := dk_104 (dk_at dksX4_leastDrag_0 18 rfl rfl)
theorem dX4_leastDrag_19 : decode cX4_leastDrag 19 = .ok (.iadd, 1) := dk_96 (dk_at dksX4_leastDrag_0 19 rfl rfl)
theorem dX4_leastDrag_20 : decode cX4_leastDrag 20 = .ok (.istore 4, 2) := dk_54 4 (dk_at dksX4_leastDrag_0 20 rfl rfl)
theorem dX4_leastDrag_22 : decode cX4_leastDrag 22 = .ok (.aload_n 0, 1) := dk_42 (dk_at dksX4_leastDrag_0 22 rfl rfl)
theorem dX4_leastDrag_23 : decode cX4_leastDrag 23 = .ok (.getfield 21, 3) := dk_180 0 21 (dk_at dksX4_leastDrag_1 0 rfl rfl)
theorem dX4_leastDrag_26 : decode cX4_leastDrag 26 = .ok (.iload 4, 2) := dk_21 4 (dk_at dksX4_leastDrag_1 3 rfl rfl)
theorem dX4_leastDrag_28 : decode cX4_leastDrag 28 = .ok (.iaload, 1) := dk_46 (dk_at dksX4_leastDrag_1 5 rfl rfl)
theorem dX4_leastDrag_29 : decode cX4_leastDrag 29 = .ok (.iload_n 1, 1) := dk_27 (dk_at dksX4_leastDrag_1 6 rfl rfl)
theorem dX4_leastDrag_30 : decode cX4_leastDrag 30 = .ok (.if_icmp .ne 38, 3) := dk_160 0 38 (dk_at dksX4_leastDrag_1 7 rfl rfl)
theorem dX4_leastDrag_33 : decode cX4_leastDrag 33 = .ok (.aload_n 0, 1) := dk_42 (dk_at dksX4_leastDrag_1 10 rfl rfl)
theorem dX4_leastDrag_34 : decode cX4_leastDrag 34 = .ok (.iload_n 3, 1) := dk_29 (dk_at dksX4_leastDrag_1 11 rfl rfl)
theorem dX4_leastDrag_35 : decode cX4_leastDrag 35 = .ok (.invokevirtual 111, 3) := dk_182 0 111 (dk_at dksX4_leastDrag_1 12 rfl rfl)
theorem dX4_leastDrag_38 : decode cX4_leastDrag 38 = .ok (.ifCond .eq 30, 3) := dk_153 0 30 (dk_at dksX4_leastDrag_1 15 rfl rfl)
theorem dX4_leastDrag_41 : decode cX4_leastDrag 41 = .ok (.iload_n 2, 1) := dk_28 (dk_at dksX4_leastDrag_1 18 rfl rfl)
theorem dX4_leastDrag_42 : decode cX4_leastDrag 42 = .ok (.ifCond .lt 16, 3) := dk_155 0 16 (dk_at dksX4_leastDrag_1 19 rfl rfl)
theorem dX4_leastDrag_45 : decode cX4_leastDrag 45 = .ok (.aload_n 0, 1) := dk_42 (dk_at dksX4_leastDrag_1 22 rfl rfl)
theorem dX4_leastDrag_46 : decode cX4_leastDrag 46 = .ok (.getfield 21, 3) := dk_180 0 21 (dk_at dksX4_leastDrag_2 0 rfl rfl)
theorem dX4_leastDrag_49 : decode cX4_leastDrag 49 = .ok (.iload 4, 2) := dk_21 4 (dk_at dksX4_leastDrag_2 3 rfl rfl)
theorem dX4_leastDrag_51 : decode cX4_leastDrag 51 = .ok (.iconst 2, 1) := dk_5 (dk_at dksX4_leastDrag_2 5 rfl rfl)
theorem dX4_leastDrag_52 : decode cX4_leastDrag 52 = .ok (.iadd, 1) := dk_96 (dk_at dksX4_leastDrag_2 6 rfl rfl)
theorem dX4_leastDrag_53 : decode cX4_leastDrag 53 = .ok (.iaload, 1) := dk_46 (dk_at dksX4_leastDrag_2 7 rfl rfl)
theorem dX4_leastDrag_54 : decode cX4_leastDrag 54 = .ok (.iload_n 2, 1) := dk_28 (dk_at dksX4_leastDrag_2 8 rfl rfl)
theorem dX4_leastDrag_55 : decode cX4_leastDrag 55 = .ok (.if_icmp .ge 13, 3) := dk_162 0 13 (dk_at dksX4_leastDrag_2 9 rfl rfl)
theorem dX4_leastDrag_58 : decode cX4_leastDrag 58 = .ok (.aload_n 0, 1) := dk_42 (dk_at dksX4_leastDrag_2 12 rfl rfl)
theorem dX4_leastDrag_59 : decode cX4_leastDrag 59 = .ok (.getfield 21, 3) := dk_180 0 21 (dk_at dksX4_leastDrag_2 13 rfl rfl)
theorem dX4_leastDrag_62 : decode cX4_leastDrag 62 = .ok (.iload 4, 2) := dk_21 4 (dk_at dksX4_leastDrag_2 16 rfl rfl)
theorem dX4_leastDrag_64 : decode cX4_leastDrag 64 = .ok (.iconst 2, 1) := dk_5 (dk_at dksX4_leastDrag_2 18 rfl rfl)
theorem dX4_leastDrag_65 : decode cX4_leastDrag 65 = .ok (.iadd, 1) := dk_96 (dk_at dksX4_leastDrag_2 19 rfl rfl)
theorem dX4_leastDrag_66 : decode cX4_leastDrag 66 = .ok (.iaload, 1) := dk_46 (dk_at dksX4_leastDrag_2 20 rfl rfl)
theorem dX4_leastDrag_67 : decode cX4_leastDrag 67 = .ok (.istore_n 2, 1) := dk_61 (dk_at dksX4_leastDrag_2 21 rfl rfl)
theorem dX4_leastDrag_68 : decode cX4_leastDrag 68 = .ok (.iinc 3 1, 3) := dk_132 3 1 (dk_at dksX4_leastDrag_3 0 rfl rfl)
theorem dX4_leastDrag_71 : decode cX4_leastDrag 71 = .ok (.goto (-67), 3) := dk_167 255 189 (dk_at dksX4_leastDrag_3 3 rfl rfl)
theorem dX4_leastDrag_74 : decode cX4_leastDrag 74 = .ok (.iload_n 2, 1) := dk_28 (dk_at dksX4_leastDrag_3 6 rfl rfl)
theorem dX4_leastDrag_75 : decode cX4_leastDrag 75 = .ok (.ireturn, 1) := dk_172 (dk_at dksX4_leastDrag_3 7 rfl rfl)
abbrev cX4_flood : ByteArray := prog_29_method_26_code
def yX4_flood : MethodName := ⟨RX4, "flood", "(III)I"⟩
def dkwX4_flood_5 : List UInt8 := [21, 4, 5, 96, 28, 79, 42, 42, 180, 0, 21, 4, 46, 182, 0, 73, 172]
abbrev dktX4_flood_5 : List UInt8 := dkwX4_flood_5 ++ []
def dkwX4_flood_4 : List UInt8 := [42, 180, 0, 21, 21, 4, 4, 96, 42, 180, 0, 21, 6, 46, 27, 96, 29, 96, 79, 42, 180, 0, 21]
abbrev dktX4_flood_4 : List UInt8 := dkwX4_flood_4 ++ dktX4_flood_5
def dkwX4_flood_3 : List UInt8 := [46, 91, 4, 96, 79, 104, 96, 54, 4, 42, 180, 0, 21, 21, 4, 42, 180, 0, 21, 6, 46, 27, 96, 79]
abbrev dktX4_flood_3 : List UInt8 := dkwX4_flood_3 ++ dktX4_flood_4
def dkwX4_flood_2 : List UInt8 := [160, 0, 15, 42, 42, 4, 8, 182, 0, 87, 5, 182, 0, 91, 172, 16, 31, 6, 42, 180, 0, 21, 4, 92]
abbrev dktX4_flood_2 : List UInt8 := dkwX4_flood_2 ++ dktX4_flood_3
def dkwX4_flood_1 : List UInt8 := [29, 4, 16, 48, 184, 0, 80, 154, 0, 9, 42, 4, 182, 0, 77, 172, 42, 180, 0, 21, 4, 46, 8]
abbrev dktX4_flood_1 : List UInt8 := dkwX4_flood_1 ++ dktX4_flood_2
def dkwX4_flood_0 : List UInt8 := [42, 182, 0, 84, 27, 3, 16, 99, 184, 0, 80, 153, 0, 23, 28, 4, 16, 9, 184, 0, 80, 153, 0, 13]
abbrev dktX4_flood_0 : List UInt8 := dkwX4_flood_0 ++ dktX4_flood_1
theorem dksX4_flood_0 : cX4_flood.data.toList.drop 0 = dktX4_flood_0 := by decide +kernel
theorem dksX4_flood_1 : cX4_flood.data.toList.drop 24 = dktX4_flood_1 := dk_seg dksX4_flood_0 24 rfl rfl
theorem dksX4_flood_2 : cX4_flood.data.toList.drop 47 = dktX4_flood_2 := dk_seg dksX4_flood_1 23 rfl rfl
theorem dksX4_flood_3 : cX4_flood.data.toList.drop 71 = dktX4_flood_3 := dk_seg dksX4_flood_2 24 rfl rfl
theorem dksX4_flood_4 : cX4_flood.data.toList.drop 95 = dktX4_flood_4 := dk_seg dksX4_flood_3 24 rfl rfl
theorem dksX4_flood_5 : cX4_flood.data.toList.drop 118 = dktX4_flood_5 := dk_seg dksX4_flood_4 23 rfl rfl
theorem dX4_flood_0 : decode cX4_flood 0 = .ok (.aload_n 0, 1) := dk_42 (dk_at dksX4_flood_0 0 rfl rfl)
theorem dX4_flood_1 : decode cX4_flood 1 = .ok (.invokevirtual 84, 3) := dk_182 0 84 (dk_at dksX4_flood_0 1 rfl rfl)
theorem dX4_flood_4 : decode cX4_flood 4 = .ok (.iload_n 1, 1) := dk_27 (dk_at dksX4_flood_0 4 rfl rfl)
theorem dX4_flood_5 : decode cX4_flood 5 = .ok (.iconst 0, 1) := dk_3 (dk_at dksX4_flood_0 5 rfl rfl)
theorem dX4_flood_6 : decode cX4_flood 6 = .ok (.bipush 99, 2) := dk_16 99 (dk_at dksX4_flood_0 6 rfl rfl)
theorem dX4_flood_8 : decode cX4_flood 8 = .ok (.invokestatic 80, 3) := dk_184 0 80 (dk_at dksX4_flood_0 8 rfl rfl)
theorem dX4_flood_11 : decode cX4_flood 11 = .ok (.ifCond .eq 23, 3) := dk_153 0 23 (dk_at dksX4_flood_0 11 rfl rfl)
theorem dX4_flood_14 : decode cX4_flood 14 = .ok (.iload_n 2, 1) := dk_28 (dk_at dksX4_flood_0 14 rfl rfl)
theorem dX4_flood_15 : decode cX4_flood 15 = .ok (.iconst 1, 1) := dk_4 (dk_at dksX4_flood_0 15 rfl rfl)
theorem dX4_flood_16 : decode cX4_flood 16 = .ok (.bipush 9, 2) := dk_16 9 (dk_at dksX4_flood_0 16 rfl rfl)
theorem dX4_flood_18 : decode cX4_flood 18 = .ok (.invokestatic 80, 3) := dk_184 0 80 (dk_at dksX4_flood_0 18 rfl rfl)
theorem dX4_flood_21 : decode cX4_flood 21 = .ok (.ifCond .eq 13, 3) := dk_153 0 13 (dk_at dksX4_flood_0 21 rfl rfl)
theorem dX4_flood_24 : decode cX4_flood 24 = .ok (.iload_n 3, 1) := dk_29 (dk_at dksX4_flood_1 0 rfl rfl)
theorem dX4_flood_25 : decode cX4_flood 25 = .ok (.iconst 1, 1) := dk_4 (dk_at dksX4_flood_1 1 rfl rfl)
theorem dX4_flood_26 : decode cX4_flood 26 = .ok (.bipush 48, 2) := dk_16 48 (dk_at dksX4_flood_1 2 rfl rfl)
theorem dX4_flood_28 : decode cX4_flood 28 = .ok (.invokestatic 80, 3) := dk_184 0 80 (dk_at dksX4_flood_1 4 rfl rfl)
theorem dX4_flood_31 : decode cX4_flood 31 = .ok (.ifCond .ne 9, 3) := dk_154 0 9 (dk_at dksX4_flood_1 7 rfl rfl)
theorem dX4_flood_34 : decode cX4_flood 34 = .ok (.aload_n 0, 1) := dk_42 (dk_at dksX4_flood_1 10 rfl rfl)
theorem dX4_flood_35 : decode cX4_flood 35 = .ok (.iconst 1, 1) := dk_4 (dk_at dksX4_flood_1 11 rfl rfl)
theorem dX4_flood_36 : decode cX4_flood 36 = .ok (.invokevirtual 77, 3) := dk_182 0 77 (dk_at dksX4_flood_1 12 rfl rfl)
theorem dX4_flood_39 : decode cX4_flood 39 = .ok (.ireturn, 1) := dk_172 (dk_at dksX4_flood_1 15 rfl rfl)
theorem dX4_flood_40 : decode cX4_flood 40 = .ok (.aload_n 0, 1) := dk_42 (dk_at dksX4_flood_1 16 rfl rfl)
theorem dX4_flood_41 : decode cX4_flood 41 = .ok (.getfield 21, 3) := dk_180 0 21 (dk_at dksX4_flood_1 17 rfl rfl)
theorem dX4_flood_44 : decode cX4_flood 44 = .ok (.iconst 1, 1) := dk_4 (dk_at dksX4_flood_1 20 rfl rfl)
theorem dX4_flood_45 : decode cX4_flood 45 = .ok (.iaload, 1) := dk_46 (dk_at dksX4_flood_1 21 rfl rfl)
theorem dX4_flood_46 : decode cX4_flood 46 = .ok (.iconst 5, 1) := dk_8 (dk_at dksX4_flood_1 22 rfl rfl)
theorem dX4_flood_47 : decode cX4_flood 47 = .ok (.if_icmp .ne 15, 3) := dk_160 0 15 (dk_at dksX4_flood_2 0 rfl rfl)
theorem dX4_flood_50 : decode cX4_flood 50 = .ok (.aload_n 0, 1) := dk_42 (dk_at dksX4_flood_2 3 rfl rfl)
theorem dX4_flood_51 : decode cX4_flood 51 = .ok (.aload_n 0, 1) := dk_42 (dk_at dksX4_flood_2 4 rfl rfl)
theorem dX4_flood_52 : decode cX4_flood 52 = .ok (.iconst 1, 1) := dk_4 (dk_at dksX4_flood_2 5 rfl rfl)
theorem dX4_flood_53 : decode cX4_flood 53 = .ok (.iconst 5, 1) := dk_8 (dk_at dksX4_flood_2 6 rfl rfl)
theorem dX4_flood_54 : decode cX4_flood 54 = .ok (.invokevirtual 87, 3) := dk_182 0 87 (dk_at dksX4_flood_2 7 rfl rfl)
theorem dX4_flood_57 : decode cX4_flood 57 = .ok (.iconst 2, 1) := dk_5 (dk_at dksX4_flood_2 10 rfl rfl)
theorem dX4_flood_58 : decode cX4_flood 58 = .ok (.invokevirtual 91, 3) := dk_182 0 91 (dk_at dksX4_flood_2 11 rfl rfl)
theorem dX4_flood_61 : decode cX4_flood 61 = .ok (.ireturn, 1) := dk_172 (dk_at dksX4_flood_2 14 rfl rfl)
theorem dX4_flood_62 : decode cX4_flood 62 = .ok (.bipush 31, 2) := dk_16 31 (dk_at dksX4_flood_2 15 rfl rfl)
theorem dX4_flood_64 : decode cX4_flood 64 = .ok (.iconst 3, 1) := dk_6 (dk_at dksX4_flood_2 17 rfl rfl)
theorem dX4_flood_65 : decode cX4_flood 65 = .ok (.aload_n 0, 1) := dk_42 (dk_at dksX4_flood_2 18 rfl rfl)
theorem dX4_flood_66 : decode cX4_flood 66 = .ok (.getfield 21, 3) := dk_180 0 21 (dk_at dksX4_flood_2 19 rfl rfl)
theorem dX4_flood_69 : decode cX4_flood 69 = .ok (.iconst 1, 1) := dk_4 (dk_at dksX4_flood_2 22 rfl rfl)
theorem dX4_flood_70 : decode cX4_flood 70 = .ok (.dup2, 1) := dk_92 (dk_at dksX4_flood_2 23 rfl rfl)
theorem dX4_flood_71 : decode cX4_flood 71 = .ok (.iaload, 1) := dk_46 (dk_at dksX4_flood_3 0 rfl rfl)
theorem dX4_flood_72 : decode cX4_flood 72 = .ok (.dup_x2, 1) := dk_91 (dk_at dksX4_flood_3 1 rfl rfl)
theorem dX4_flood_73 : decode cX4_flood 73 = .ok (.iconst 1, 1) := dk_4 (dk_at dksX4_flood_3 2 rfl rfl)
theorem dX4_flood_74 : decode cX4_flood 74 = .ok (.iadd, 1) := dk_96 (dk_at dksX4_flood_3 3 rfl rfl)
theorem dX4_flood_75 : decode cX4_flood 75 = .ok (.iastore, 1) := dk_79 (dk_at dksX4_flood_3 4 rfl rfl)
theorem dX4_flood_76 : decode cX4_flood 76 = .ok (.imul, 1) := dk_104 (dk_at dksX4_flood_3 5 rfl rfl)
theorem dX4_flood_77 : decode cX4_flood 77 = .ok (.iadd, 1) := dk_96 (dk_at dksX4_flood_3 6 rfl rfl)
theorem dX4_flood_78 : decode cX4_flood 78 = .ok (.istore 4, 2) := dk_54 4 (dk_at dksX4_flood_3 7 rfl rfl)
theorem dX4_flood_80 : decode cX4_flood 80 = .ok (.aload_n 0, 1) := dk_42 (dk_at dksX4_flood_3 9 rfl rfl)
theorem dX4_flood_81 : decode cX4_flood 81 = .ok (.getfield 21, 3) := dk_180 0 21 (dk_at dksX4_flood_3 10 rfl rfl)
theorem dX4_flood_84 : decode cX4_flood 84 = .ok (.iload 4, 2) := dk_21 4 (dk_at dksX4_flood_3 13 rfl rfl)
theorem dX4_flood_86 : decode cX4_flood 86 = .ok (.aload_n 0, 1) := dk_42 (dk_at dksX4_flood_3 15 rfl rfl)
theorem dX4_flood_87 : decode cX4_flood 87 = .ok (.getfield 21, 3) := dk_180 0 21 (dk_at dksX4_flood_3 16 rfl rfl)
theorem dX4_flood_90 : decode cX4_flood 90 = .ok (.iconst 3, 1) := dk_6 (dk_at dksX4_flood_3 19 rfl rfl)
theorem dX4_flood_91 : decode cX4_flood 91 = .ok (.iaload, 1) := dk_46 (dk_at dksX4_flood_3 20 rfl rfl)
theorem dX4_flood_92 : decode cX4_flood 92 = .ok (.iload_n 1, 1) := dk_27 (dk_at dksX4_flood_3 21 rfl rfl)
theorem dX4_flood_93 : decode cX4_flood 93 = .ok (.iadd, 1) := dk_96 (dk_at dksX4_flood_3 22 rfl rfl)
theorem dX4_flood_94 : decode cX4_flood 94 = .ok (.iastore, 1) := dk_79 (dk_at dksX4_flood_3 23 rfl rfl)
theorem dX4_flood_95 : decode cX4_flood 95 = .ok (.aload_n 0, 1) := dk_42 (dk_at dksX4_flood_4 0 rfl rfl)
theorem dX4_flood_96 : decode cX4_flood 96 = .ok (.getfield 21, 3) := dk_180 0 21 (dk_at dksX4_flood_4 1 rfl rfl)
theorem dX4_flood_99 : decode cX4_flood 99 = .ok (.iload 4, 2) := dk_21 4 (dk_at dksX4_flood_4 4 rfl rfl)
theorem dX4_flood_101 : decode cX4_flood 101 = .ok (.iconst 1, 1) := dk_4 (dk_at dksX4_flood_4 6 rfl rfl)
theorem dX4_flood_102 : decode cX4_flood 102 = .ok (.iadd, 1) := dk_96 (dk_at dksX4_flood_4 7 rfl rfl)
theorem dX4_flood_103 : decode cX4_flood 103 = .ok (.aload_n 0, 1) := dk_42 (dk_at dksX4_flood_4 8 rfl rfl)
theorem dX4_flood_104 : decode cX4_flood 104 = .ok (.getfield 21, 3) := dk_180 0 21 (dk_at dksX4_flood_4 9 rfl rfl)
theorem dX4_flood_107 : decode cX4_flood 107 = .ok (.iconst 3, 1) := dk_6 (dk_at dksX4_flood_4 12 rfl rfl)
theorem dX4_flood_108 : decode cX4_flood 108 = .ok (.iaload, 1) := dk_46 (dk_at dksX4_flood_4 13 rfl rfl)
theorem dX4_flood_109 : decode cX4_flood 109 = .ok (.iload_n 1, 1) := dk_27 (dk_at dksX4_flood_4 14 rfl rfl)
theorem dX4_flood_110 : decode cX4_flood 110 = .ok (.iadd, 1) := dk_96 (dk_at dksX4_flood_4 15 rfl rfl)
theorem dX4_flood_111 : decode cX4_flood 111 = .ok (.iload_n 3, 1) := dk_29 (dk_at dksX4_flood_4 16 rfl rfl)
theorem dX4_flood_112 : decode cX4_flood 112 = .ok (.iadd, 1) := dk_96 (dk_at dksX4_flood_4 17 rfl rfl)
theorem dX4_flood_113 : decode cX4_flood 113 = .ok (.iastore, 1) := dk_79 (dk_at dksX4_flood_4 18 rfl rfl)
theorem dX4_flood_114 : decode cX4_flood 114 = .ok (.aload_n 0, 1) := dk_42 (dk_at dksX4_flood_4 19 rfl rfl)
theorem dX4_flood_115 : decode cX4_flood 115 = .ok (.getfield 21, 3) := dk_180 0 21 (dk_at dksX4_flood_4 20 rfl rfl)
theorem dX4_flood_118 : decode cX4_flood 118 = .ok (.iload 4, 2) := dk_21 4 (dk_at dksX4_flood_5 0 rfl rfl)
theorem dX4_flood_120 : decode cX4_flood 120 = .ok (.iconst 2, 1) := dk_5 (dk_at dksX4_flood_5 2 rfl rfl)
theorem dX4_flood_121 : decode cX4_flood 121 = .ok (.iadd, 1) := dk_96 (dk_at dksX4_flood_5 3 rfl rfl)
theorem dX4_flood_122 : decode cX4_flood 122 = .ok (.iload_n 2, 1) := dk_28 (dk_at dksX4_flood_5 4 rfl rfl)
theorem dX4_flood_123 : decode cX4_flood 123 = .ok (.iastore, 1) := dk_79 (dk_at dksX4_flood_5 5 rfl rfl)
theorem dX4_flood_124 : decode cX4_flood 124 = .ok (.aload_n 0, 1) := dk_42 (dk_at dksX4_flood_5 6 rfl rfl)
theorem dX4_flood_125 : decode cX4_flood 125 = .ok (.aload_n 0, 1) := dk_42 (dk_at dksX4_flood_5 7 rfl rfl)
theorem dX4_flood_126 : decode cX4_flood 126 = .ok (.getfield 21, 3) := dk_180 0 21 (dk_at dksX4_flood_5 8 rfl rfl)
theorem dX4_flood_129 : decode cX4_flood 129 = .ok (.iconst 1, 1) := dk_4 (dk_at dksX4_flood_5 11 rfl rfl)
theorem dX4_flood_130 : decode cX4_flood 130 = .ok (.iaload, 1) := dk_46 (dk_at dksX4_flood_5 12 rfl rfl)
theorem dX4_flood_131 : decode cX4_flood 131 = .ok (.invokevirtual 73, 3) := dk_182 0 73 (dk_at dksX4_flood_5 13 rfl rfl)
theorem dX4_flood_134 : decode cX4_flood 134 = .ok (.ireturn, 1) := dk_172 (dk_at dksX4_flood_5 16 rfl rfl)
abbrev cX4_flow : ByteArray := prog_29_method_27_code
def yX4_flow : MethodName := ⟨RX4, "flow", "(II)I"⟩
def dkwX4_flow_2 : List UInt8 := [182, 0, 77, 172]
abbrev dktX4_flow_2 : List UInt8 := dkwX4_flow_2 ++ []
def dkwX4_flow_1 : List UInt8 := [184, 0, 80, 153, 0, 19, 42, 27, 42, 180, 0, 21, 6, 46, 28, 96, 182, 0, 114, 167, 0, 8, 42, 5]
abbrev dktX4_flow_1 : List UInt8 := dkwX4_flow_1 ++ dktX4_flow_2
def dkwX4_flow_0 : List UInt8 := [42, 3, 181, 0, 58, 42, 27, 182, 0, 98, 154, 0, 9, 42, 4, 182, 0, 77, 172, 28, 3, 17, 0, 199]
abbrev dktX4_flow_0 : List UInt8 := dkwX4_flow_0 ++ dktX4_flow_1
theorem dksX4_flow_0 : cX4_flow.data.toList.drop 0 = dktX4_flow_0 := by decide +kernel
theorem dksX4_flow_1 : cX4_flow.data.toList.drop 24 = dktX4_flow_1 := dk_seg dksX4_flow_0 24 rfl rfl
theorem dksX4_flow_2 : cX4_flow.data.toList.drop 48 = dktX4_flow_2 := dk_seg dksX4_flow_1 24 rfl rfl
theorem dX4_flow_0 : decode cX4_flow 0 = .ok (.aload_n 0, 1) := dk_42 (dk_at dksX4_flow_0 0 rfl rfl)
theorem dX4_flow_1 : decode cX4_flow 1 = .ok (.iconst 0, 1) := dk_3 (dk_at dksX4_flow_0 1 rfl rfl)
theorem dX4_flow_2 : decode cX4_flow 2 = .ok (.putfield 58, 3) := dk_181 0 58 (dk_at dksX4_flow_0 2 rfl rfl)
theorem dX4_flow_5 : decode cX4_flow 5 = .ok (.aload_n 0, 1) := dk_42 (dk_at dksX4_flow_0 5 rfl rfl)
theorem dX4_flow_6 : decode cX4_flow 6 = .ok (.iload_n 1, 1) := dk_27 (dk_at dksX4_flow_0 6 rfl rfl)
theorem dX4_flow_7 : decode cX4_flow 7 = .ok (.invokevirtual 98, 3) := dk_182 0 98 (dk_at dksX4_flow_0 7 rfl rfl)
theorem dX4_flow_10 : decode cX4_flow 10 = .ok (.ifCond .ne 9, 3) := dk_154 0 9 (dk_at dksX4_flow_0 10 rfl rfl)
theorem dX4_flow_13 : decode cX4_flow 13 = .ok (.aload_n 0, 1) := dk_42 (dk_at dksX4_flow_0 13 rfl rfl)
theorem dX4_flow_14 : decode cX4_flow 14 = .ok (.iconst 1, 1) := dk_4 (dk_at dksX4_flow_0 14 rfl rfl)
theorem dX4_flow_15 : decode cX4_flow 15 = .ok (.invokevirtual 77, 3) := dk_182 0 77 (dk_at dksX4_flow_0 15 rfl rfl)
theorem dX4_flow_18 : decode cX4_flow 18 = .ok (.ireturn, 1) := dk_172 (dk_at dksX4_flow_0 18 rfl rfl)
theorem dX4_flow_19 : decode cX4_flow 19 = .ok (.iload_n 2, 1) := dk_28 (dk_at dksX4_flow_0 19 rfl rfl)
theorem dX4_flow_20 : decode cX4_flow 20 = .ok (.iconst 0, 1) := dk_3 (dk_at dksX4_flow_0 20 rfl rfl)
theorem dX4_flow_21 : decode cX4_flow 21 = .ok (.sipush 199, 3) := dk_17 0 199 (dk_at dksX4_flow_0 21 rfl rfl)
theorem dX4_flow_24 : decode cX4_flow 24 = .ok (.invokestatic 80, 3) := dk_184 0 80 (dk_at dksX4_flow_1 0 rfl rfl)
theorem dX4_flow_27 : decode cX4_flow 27 = .ok (.ifCond .eq 19, 3) := dk_153 0 19 (dk_at dksX4_flow_1 3 rfl rfl)
theorem dX4_flow_30 : decode cX4_flow 30 = .ok (.aload_n 0, 1) := dk_42 (dk_at dksX4_flow_1 6 rfl rfl)
theorem dX4_flow_31 : decode cX4_flow 31 = .ok (.iload_n 1, 1) := dk_27 (dk_at dksX4_flow_1 7 rfl rfl)
theorem dX4_flow_32 : decode cX4_flow 32 = .ok (.aload_n 0, 1) := dk_42 (dk_at dksX4_flow_1 8 rfl rfl)
theorem dX4_flow_33 : decode cX4_flow 33 = .ok (.getfield 21, 3) := dk_180 0 21 (dk_at dksX4_flow_1 9 rfl rfl)
theorem dX4_flow_36 : decode cX4_flow 36 = .ok (.iconst 3, 1) := dk_6 (dk_at dksX4_flow_1 12 rfl rfl)
theorem dX4_flow_37 : decode cX4_flow 37 = .ok (.iaload, 1) := dk_46 (dk_at dksX4_flow_1 13 rfl rfl)
theorem dX4_flow_38 : decode cX4_flow 38 = .ok (.iload_n 2, 1) := dk_28 (dk_at dksX4_flow_1 14 rfl rfl)
theorem dX4_flow_39 : decode cX4_flow 39 = .ok (.iadd, 1) := dk_96 (dk_at dksX4_flow_1 15 rfl rfl)
theorem dX4_flow_40 : decode cX4_flow 40 = .ok (.invokevirtual 114, 3) := dk_182 0 114 (dk_at dksX4_flow_1 16 rfl rfl)
theorem dX4_flow_43 : decode cX4_flow 43 = .ok (.goto 8, 3) := dk_167 0 8 (dk_at dksX4_flow_1 19 rfl rfl)
theorem dX4_flow_46 : decode cX4_flow 46 = .ok (.aload_n 0, 1) := dk_42 (dk_at dksX4_flow_1 22 rfl rfl)
theorem dX4_flow_47 : decode cX4_flow 47 = .ok (.iconst 2, 1) := dk_5 (dk_at dksX4_flow_1 23 rfl rfl)
theorem dX4_flow_48 : decode cX4_flow 48 = .ok (.invokevirtual 77, 3) := dk_182 0 77 (dk_at dksX4_flow_2 0 rfl rfl)
theorem dX4_flow_51 : decode cX4_flow 51 = .ok (.ireturn, 1) := dk_172 (dk_at dksX4_flow_2 3 rfl rfl)
abbrev cX4_anchor : ByteArray := prog_29_method_29_code
def yX4_anchor : MethodName := ⟨RX4, "anchor", "(II)I"⟩
def dkwX4_anchor_0 : List UInt8 := [42, 182, 0, 84, 42, 42, 27, 28, 182, 0, 127, 6, 182, 0, 91, 172]
abbrev dktX4_anchor_0 : List UInt8 := dkwX4_anchor_0 ++ []
theorem dksX4_anchor_0 : cX4_anchor.data.toList.drop 0 = dktX4_anchor_0 := by decide +kernel
theorem dX4_anchor_0 : decode cX4_anchor 0 = .ok (.aload_n 0, 1) := dk_42 (dk_at dksX4_anchor_0 0 rfl rfl)
theorem dX4_anchor_1 : decode cX4_anchor 1 = .ok (.invokevirtual 84, 3) := dk_182 0 84 (dk_at dksX4_anchor_0 1 rfl rfl)
theorem dX4_anchor_4 : decode cX4_anchor 4 = .ok (.aload_n 0, 1) := dk_42 (dk_at dksX4_anchor_0 4 rfl rfl)
theorem dX4_anchor_5 : decode cX4_anchor 5 = .ok (.aload_n 0, 1) := dk_42 (dk_at dksX4_anchor_0 5 rfl rfl)
theorem dX4_anchor_6 : decode cX4_anchor 6 = .ok (.iload_n 1, 1) := dk_27 (dk_at dksX4_anchor_0 6 rfl rfl)
theorem dX4_anchor_7 : decode cX4_anchor 7 = .ok (.iload_n 2, 1) := dk_28 (dk_at dksX4_anchor_0 7 rfl rfl)
theorem dX4_anchor_8 : decode cX4_anchor 8 = .ok (.invokevirtual 127, 3) := dk_182 0 127 (dk_at dksX4_anchor_0 8 rfl rfl)
theorem dX4_anchor_11 : decode cX4_anchor 11 = .ok (.iconst 3, 1) := dk_6 (dk_at dksX4_anchor_0 11 rfl rfl)
theorem dX4_anchor_12 : decode cX4_anchor 12 = .ok (.invokevirtual 91, 3) := dk_182 0 91 (dk_at dksX4_anchor_0 12 rfl rfl)
theorem dX4_anchor_15 : decode cX4_anchor 15 = .ok (.ireturn, 1) := dk_172 (dk_at dksX4_anchor_0 15 rfl rfl)
abbrev cX4_sets : ByteArray := prog_29_method_28_code
def yX4_sets : MethodName := ⟨RX4, "sets", "(II)I"⟩
def dkwX4_sets_4 : List UInt8 := [182, 0, 124, 172]
abbrev dktX4_sets_4 : List UInt8 := dkwX4_sets_4 ++ []
def dkwX4_sets_3 : List UInt8 := [29, 4, 96, 28, 79, 42, 180, 0, 21, 29, 5, 96, 3, 79, 42, 42, 180, 0, 21, 5, 46, 4, 100]
abbrev dktX4_sets_3 : List UInt8 := dkwX4_sets_3 ++ dktX4_sets_4
def dkwX4_sets_2 : List UInt8 := [180, 0, 21, 5, 92, 46, 91, 4, 96, 79, 104, 96, 62, 42, 180, 0, 21, 29, 27, 79, 42, 180, 0, 21]
abbrev dktX4_sets_2 : List UInt8 := dkwX4_sets_2 ++ dktX4_sets_3
def dkwX4_sets_1 : List UInt8 := [180, 0, 21, 5, 46, 16, 6, 160, 0, 11, 42, 4, 16, 6, 182, 0, 87, 172, 16, 46, 6, 42]
abbrev dktX4_sets_1 : List UInt8 := dkwX4_sets_1 ++ dktX4_sets_2
def dkwX4_sets_0 : List UInt8 := [42, 27, 182, 0, 98, 154, 0, 5, 2, 172, 28, 4, 16, 9, 184, 0, 80, 154, 0, 6, 16, 254, 172, 42]
abbrev dktX4_sets_0 : List UInt8 := dkwX4_sets_0 ++ dktX4_sets_1
theorem dksX4_sets_0 : cX4_sets.data.toList.drop 0 = dktX4_sets_0 := by decide +kernel
theorem dksX4_sets_1 : cX4_sets.data.toList.drop 24 = dktX4_sets_1 := dk_seg dksX4_sets_0 24 rfl rfl
theorem dksX4_sets_2 : cX4_sets.data.toList.drop 46 = dktX4_sets_2 := dk_seg dksX4_sets_1 22 rfl rfl
theorem dksX4_sets_3 : cX4_sets.data.toList.drop 70 = dktX4_sets_3 := dk_seg dksX4_sets_2 24 rfl rfl
theorem dksX4_sets_4 : cX4_sets.data.toList.drop 93 = dktX4_sets_4 := dk_seg dksX4_sets_3 23 rfl rfl
theorem dX4_sets_0 : decode cX4_sets 0 = .ok (.aload_n 0, 1) := dk_42 (dk_at dksX4_sets_0 0 rfl rfl)
theorem dX4_sets_1 : decode cX4_sets 1 = .ok (.iload_n 1, 1) := dk_27 (dk_at dksX4_sets_0 1 rfl rfl)
theorem dX4_sets_2 : decode cX4_sets 2 = .ok (.invokevirtual 98, 3) := dk_182 0 98 (dk_at dksX4_sets_0 2 rfl rfl)
theorem dX4_sets_5 : decode cX4_sets 5 = .ok (.ifCond .ne 5, 3) := dk_154 0 5 (dk_at dksX4_sets_0 5 rfl rfl)
theorem dX4_sets_8 : decode cX4_sets 8 = .ok (.iconst (-1), 1) := dk_2 (dk_at dksX4_sets_0 8 rfl rfl)
theorem dX4_sets_9 : decode cX4_sets 9 = .ok (.ireturn, 1) := dk_172 (dk_at dksX4_sets_0 9 rfl rfl)
theorem dX4_sets_10 : decode cX4_sets 10 = .ok (.iload_n 2, 1) := dk_28 (dk_at dksX4_sets_0 10 rfl rfl)
theorem dX4_sets_11 : decode cX4_sets 11 = .ok (.iconst 1, 1) := dk_4 (dk_at dksX4_sets_0 11 rfl rfl)
theorem dX4_sets_12 : decode cX4_sets 12 = .ok (.bipush 9, 2) := dk_16 9 (dk_at dksX4_sets_0 12 rfl rfl)
theorem dX4_sets_14 : decode cX4_sets 14 = .ok (.invokestatic 80, 3) := dk_184 0 80 (dk_at dksX4_sets_0 14 rfl rfl)
theorem dX4_sets_17 : decode cX4_sets 17 = .ok (.ifCond .ne 6, 3) := dk_154 0 6 (dk_at dksX4_sets_0 17 rfl rfl)
theorem dX4_sets_20 : decode cX4_sets 20 = .ok (.bipush (-2), 2) := dk_16 254 (dk_at dksX4_sets_0 20 rfl rfl)
theorem dX4_sets_22 : decode cX4_sets 22 = .ok (.ireturn, 1) := dk_172 (dk_at dksX4_sets_0 22 rfl rfl)
theorem dX4_sets_23 : decode cX4_sets 23 = .ok (.aload_n 0, 1) := dk_42 (dk_at dksX4_sets_0 23 rfl rfl)
theorem dX4_sets_24 : decode cX4_sets 24 = .ok (.getfield 21, 3) := dk_180 0 21 (dk_at dksX4_sets_1 0 rfl rfl)
theorem dX4_sets_27 : decode cX4_sets 27 = .ok (.iconst 2, 1) := dk_5 (dk_at dksX4_sets_1 3 rfl rfl)
theorem dX4_sets_28 : decode cX4_sets 28 = .ok (.iaload, 1) := dk_46 (dk_at dksX4_sets_1 4 rfl rfl)
theorem dX4_sets_29 : decode cX4_sets 29 = .ok (.bipush 6, 2) := dk_16 6 (dk_at dksX4_sets_1 5 rfl rfl)
theorem dX4_sets_31 : decode cX4_sets 31 = .ok (.if_icmp .ne 11, 3) := dk_160 0 11 (dk_at dksX4_sets_1 7 rfl rfl)
theorem dX4_sets_34 : decode cX4_sets 34 = .ok (.aload_n 0, 1) := dk_42 (dk_at dksX4_sets_1 10 rfl rfl)
theorem dX4_sets_35 : decode cX4_sets 35 = .ok (.iconst 1, 1) := dk_4 (dk_at dksX4_sets_1 11 rfl rfl)
theorem dX4_sets_36 : decode cX4_sets 36 = .ok (.bipush 6, 2) := dk_16 6 (dk_at dksX4_sets_1 12 rfl rfl)
theorem dX4_sets_38 : decode cX4_sets 38 = .ok (.invokevirtual 87, 3) := dk_182 0 87 (dk_at dksX4_sets_1 14 rfl rfl)
theorem dX4_sets_41 : decode cX4_sets 41 = .ok (.ireturn, 1) := dk_172 (dk_at dksX4_sets_1 17 rfl rfl)
theorem dX4_sets_42 : decode cX4_sets 42 = .ok (.bipush 46, 2) := dk_16 46 (dk_at dksX4_sets_1 18 rfl rfl)
theorem dX4_sets_44 : decode cX4_sets 44 = .ok (.iconst 3, 1) := dk_6 (dk_at dksX4_sets_1 20 rfl rfl)
theorem dX4_sets_45 : decode cX4_sets 45 = .ok (.aload_n 0, 1) := dk_42 (dk_at dksX4_sets_1 21 rfl rfl)
theorem dX4_sets_46 : decode cX4_sets 46 = .ok (.getfield 21, 3) := dk_180 0 21 (dk_at dksX4_sets_2 0 rfl rfl)
theorem dX4_sets_49 : decode cX4_sets 49 = .ok (.iconst 2, 1) := dk_5 (dk_at dksX4_sets_2 3 rfl rfl)
theorem dX4_sets_50 : decode cX4_sets 50 = .ok (.dup2, 1) := dk_92 (dk_at dksX4_sets_2 4 rfl rfl)
theorem dX4_sets_51 : decode cX4_sets 51 = .ok (.iaload, 1) := dk_46 (dk_at dksX4_sets_2 5 rfl rfl)
theorem dX4_sets_52 : decode cX4_sets 52 = .ok (.dup_x2, 1) := dk_91 (dk_at dksX4_sets_2 6 rfl rfl)
theorem dX4_sets_53 : decode cX4_sets 53 = .ok (.iconst 1, 1) := dk_4 (dk_at dksX4_sets_2 7 rfl rfl)
theorem dX4_sets_54 : decode cX4_sets 54 = .ok (.iadd, 1) := dk_96 (dk_at dksX4_sets_2 8 rfl rfl)
theorem dX4_sets_55 : decode cX4_sets 55 = .ok (.iastore, 1) := dk_79 (dk_at dksX4_sets_2 9 rfl rfl)
theorem dX4_sets_56 : decode cX4_sets 56 = .ok (.imul, 1) := dk_104 (dk_at dksX4_sets_2 10 rfl rfl)
theorem dX4_sets_57 : decode cX4_sets 57 = .ok (.iadd, 1) := dk_96 (dk_at dksX4_sets_2 11 rfl rfl)
theorem dX4_sets_58 : decode cX4_sets 58 = .ok (.istore_n 3, 1) := dk_62 (dk_at dksX4_sets_2 12 rfl rfl)
theorem dX4_sets_59 : decode cX4_sets 59 = .ok (.aload_n 0, 1) := dk_42 (dk_at dksX4_sets_2 13 rfl rfl)
theorem dX4_sets_60 : decode cX4_sets 60 = .ok (.getfield 21, 3) := dk_180 0 21 (dk_at dksX4_sets_2 14 rfl rfl)
theorem dX4_sets_63 : decode cX4_sets 63 = .ok (.iload_n 3, 1) := dk_29 (dk_at dksX4_sets_2 17 rfl rfl)
theorem dX4_sets_64 : decode cX4_sets 64 = .ok (.iload_n 1, 1) := dk_27 (dk_at dksX4_sets_2 18 rfl rfl)
theorem dX4_sets_65 : decode cX4_sets 65 = .ok (.iastore, 1) := dk_79 (dk_at dksX4_sets_2 19 rfl rfl)
theorem dX4_sets_66 : decode cX4_sets 66 = .ok (.aload_n 0, 1) := dk_42 (dk_at dksX4_sets_2 20 rfl rfl)
theorem dX4_sets_67 : decode cX4_sets 67 = .ok (.getfield 21, 3) := dk_180 0 21 (dk_at dksX4_sets_2 21 rfl rfl)
theorem dX4_sets_70 : decode cX4_sets 70 = .ok (.iload_n 3, 1) := dk_29 (dk_at dksX4_sets_3 0 rfl rfl)
theorem dX4_sets_71 : decode cX4_sets 71 = .ok (.iconst 1, 1) := dk_4 (dk_at dksX4_sets_3 1 rfl rfl)
theorem dX4_sets_72 : decode cX4_sets 72 = .ok (.iadd, 1) := dk_96 (dk_at dksX4_sets_3 2 rfl rfl)
theorem dX4_sets_73 : decode cX4_sets 73 = .ok (.iload_n 2, 1) := dk_28 (dk_at dksX4_sets_3 3 rfl rfl)
theorem dX4_sets_74 : decode cX4_sets 74 = .ok (.iastore, 1) := dk_79 (dk_at dksX4_sets_3 4 rfl rfl)
theorem dX4_sets_75 : decode cX4_sets 75 = .ok (.aload_n 0, 1) := dk_42 (dk_at dksX4_sets_3 5 rfl rfl)
theorem dX4_sets_76 : decode cX4_sets 76 = .ok (.getfield 21, 3) := dk_180 0 21 (dk_at dksX4_sets_3 6 rfl rfl)
theorem dX4_sets_79 : decode cX4_sets 79 = .ok (.iload_n 3, 1) := dk_29 (dk_at dksX4_sets_3 9 rfl rfl)
theorem dX4_sets_80 : decode cX4_sets 80 = .ok (.iconst 2, 1) := dk_5 (dk_at dksX4_sets_3 10 rfl rfl)
theorem dX4_sets_81 : decode cX4_sets 81 = .ok (.iadd, 1) := dk_96 (dk_at dksX4_sets_3 11 rfl rfl)
theorem dX4_sets_82 : decode cX4_sets 82 = .ok (.iconst 0, 1) := dk_3 (dk_at dksX4_sets_3 12 rfl rfl)
theorem dX4_sets_83 : decode cX4_sets 83 = .ok (.iastore, 1) := dk_79 (dk_at dksX4_sets_3 13 rfl rfl)
theorem dX4_sets_84 : decode cX4_sets 84 = .ok (.aload_n 0, 1) := dk_42 (dk_at dksX4_sets_3 14 rfl rfl)
theorem dX4_sets_85 : decode cX4_sets 85 = .ok (.aload_n 0, 1) := dk_42 (dk_at dksX4_sets_3 15 rfl rfl)
theorem dX4_sets_86 : decode cX4_sets 86 = .ok (.getfield 21, 3) := dk_180 0 21 (dk_at dksX4_sets_3 16 rfl rfl)
theorem dX4_sets_89 : decode cX4_sets 89 = .ok (.iconst 2, 1) := dk_5 (dk_at dksX4_sets_3 19 rfl rfl)
theorem dX4_sets_90 : decode cX4_sets 90 = .ok (.iaload, 1) := dk_46 (dk_at dksX4_sets_3 20 rfl rfl)
theorem dX4_sets_91 : decode cX4_sets 91 = .ok (.iconst 1, 1) := dk_4 (dk_at dksX4_sets_3 21 rfl rfl)
theorem dX4_sets_92 : decode cX4_sets 92 = .ok (.isub, 1) := dk_100 (dk_at dksX4_sets_3 22 rfl rfl)
theorem dX4_sets_93 : decode cX4_sets 93 = .ok (.invokevirtual 124, 3) := dk_182 0 124 (dk_at dksX4_sets_4 0 rfl rfl)
theorem dX4_sets_96 : decode cX4_sets 96 = .ok (.ireturn, 1) := dk_172 (dk_at dksX4_sets_4 3 rfl rfl)
abbrev cX4_does : ByteArray := prog_29_method_8_code
def yX4_does : MethodName := ⟨RX4, "does", "(I)I"⟩
def dkwX4_does_0 : List UInt8 := [42, 27, 181, 0, 64, 3, 172]
abbrev dktX4_does_0 : List UInt8 := dkwX4_does_0 ++ []
theorem dksX4_does_0 : cX4_does.data.toList.drop 0 = dktX4_does_0 := by decide +kernel
theorem dX4_does_0 : decode cX4_does 0 = .ok (.aload_n 0, 1) := dk_42 (dk_at dksX4_does_0 0 rfl rfl)
theorem dX4_does_1 : decode cX4_does 1 = .ok (.iload_n 1, 1) := dk_27 (dk_at dksX4_does_0 1 rfl rfl)
theorem dX4_does_2 : decode cX4_does 2 = .ok (.putfield 64, 3) := dk_181 0 64 (dk_at dksX4_does_0 2 rfl rfl)
theorem dX4_does_5 : decode cX4_does 5 = .ok (.iconst 0, 1) := dk_3 (dk_at dksX4_does_0 5 rfl rfl)
theorem dX4_does_6 : decode cX4_does 6 = .ok (.ireturn, 1) := dk_172 (dk_at dksX4_does_0 6 rfl rfl)
abbrev cX4_weigh : ByteArray := prog_29_method_31_code
def yX4_weigh : MethodName := ⟨RX4, "weigh", "(I)I"⟩
def dkwX4_weigh_0 : List UInt8 := [42, 182, 0, 84, 42, 42, 27, 182, 0, 133, 4, 182, 0, 91, 172]
abbrev dktX4_weigh_0 : List UInt8 := dkwX4_weigh_0 ++ []
theorem dksX4_weigh_0 : cX4_weigh.data.toList.drop 0 = dktX4_weigh_0 := by decide +kernel
theorem dX4_weigh_0 : decode cX4_weigh 0 = .ok (.aload_n 0, 1) := dk_42 (dk_at dksX4_weigh_0 0 rfl rfl)
theorem dX4_weigh_1 : decode cX4_weigh 1 = .ok (.invokevirtual 84, 3) := dk_182 0 84 (dk_at dksX4_weigh_0 1 rfl rfl)
theorem dX4_weigh_4 : decode cX4_weigh 4 = .ok (.aload_n 0, 1) := dk_42 (dk_at dksX4_weigh_0 4 rfl rfl)
theorem dX4_weigh_5 : decode cX4_weigh 5 = .ok (.aload_n 0, 1) := dk_42 (dk_at dksX4_weigh_0 5 rfl rfl)
theorem dX4_weigh_6 : decode cX4_weigh 6 = .ok (.iload_n 1, 1) := dk_27 (dk_at dksX4_weigh_0 6 rfl rfl)
theorem dX4_weigh_7 : decode cX4_weigh 7 = .ok (.invokevirtual 133, 3) := dk_182 0 133 (dk_at dksX4_weigh_0 7 rfl rfl)
theorem dX4_weigh_10 : decode cX4_weigh 10 = .ok (.iconst 1, 1) := dk_4 (dk_at dksX4_weigh_0 10 rfl rfl)
theorem dX4_weigh_11 : decode cX4_weigh 11 = .ok (.invokevirtual 91, 3) := dk_182 0 91 (dk_at dksX4_weigh_0 11 rfl rfl)
theorem dX4_weigh_14 : decode cX4_weigh 14 = .ok (.ireturn, 1) := dk_172 (dk_at dksX4_weigh_0 14 rfl rfl)
abbrev cX4_weighsOne : ByteArray := prog_29_method_30_code
def yX4_weighsOne : MethodName := ⟨RX4, "weighsOne", "(I)I"⟩
def dkwX4_weighsOne_3 : List UInt8 := [132, 3, 1, 167, 255, 224, 42, 28, 182, 0, 124, 172]
abbrev dktX4_weighsOne_3 : List UInt8 := dkwX4_weighsOne_3 ++ []
def dkwX4_weighsOne_2 : List UInt8 := [180, 0, 21, 5, 46, 104, 96, 162, 0, 23, 42, 180, 0, 21, 29, 42, 180, 0, 21, 29, 6, 96, 46, 79]
abbrev dktX4_weighsOne_2 : List UInt8 := dkwX4_weighsOne_2 ++ dktX4_weighsOne_3
def dkwX4_weighsOne_1 : List UInt8 := [42, 180, 0, 21, 5, 92, 46, 4, 100, 79, 16, 46, 6, 27, 104, 96, 62, 29, 16, 46, 6, 42]
abbrev dktX4_weighsOne_1 : List UInt8 := dkwX4_weighsOne_1 ++ dktX4_weighsOne_2
def dkwX4_weighsOne_0 : List UInt8 := [42, 27, 182, 0, 130, 154, 0, 5, 2, 172, 42, 180, 0, 21, 16, 46, 6, 27, 104, 96, 5, 96, 46, 61]
abbrev dktX4_weighsOne_0 : List UInt8 := dkwX4_weighsOne_0 ++ dktX4_weighsOne_1
theorem dksX4_weighsOne_0 : cX4_weighsOne.data.toList.drop 0 = dktX4_weighsOne_0 := by decide +kernel
theorem dksX4_weighsOne_1 : cX4_weighsOne.data.toList.drop 24 = dktX4_weighsOne_1 := dk_seg dksX4_weighsOne_0 24 rfl rfl
theorem dksX4_weighsOne_2 : cX4_weighsOne.data.toList.drop 46 = dktX4_weighsOne_2 := dk_seg dksX4_weighsOne_1 22 rfl rfl
theorem dksX4_weighsOne_3 : cX4_weighsOne.data.toList.drop 70 = dktX4_weighsOne_3 := dk_seg dksX4_weighsOne_2 24 rfl rfl
theorem dX4_weighsOne_0 : decode cX4_weighsOne 0 = .ok (.aload_n 0, 1) := dk_42 (dk_at dksX4_weighsOne_0 0 rfl rfl)
theorem dX4_weighsOne_1 : decode cX4_weighsOne 1 = .ok (.iload_n 1, 1) := dk_27 (dk_at dksX4_weighsOne_0 1 rfl rfl)
theorem dX4_weighsOne_2 : decode cX4_weighsOne 2 = .ok (.invokevirtual 130, 3) := dk_182 0 130 (dk_at dksX4_weighsOne_0 2 rfl rfl)
theorem dX4_weighsOne_5 : decode cX4_weighsOne 5 = .ok (.ifCond .ne 5, 3) := dk_154 0 5 (dk_at dksX4_weighsOne_0 5 rfl rfl)
theorem dX4_weighsOne_8 : decode cX4_weighsOne 8 = .ok (.iconst (-1), 1) := dk_2 (dk_at dksX4_weighsOne_0 8 rfl rfl)
theorem dX4_weighsOne_9 : decode cX4_weighsOne 9 = .ok (.ireturn, 1) := dk_172 (dk_at dksX4_weighsOne_0 9 rfl rfl)
theorem dX4_weighsOne_10 : decode cX4_weighsOne 10 = .ok (.aload_n 0, 1) := dk_42 (dk_at dksX4_weighsOne_0 10 rfl rfl)
theorem dX4_weighsOne_11 : decode cX4_weighsOne 11 = .ok (.getfield 21, 3) := dk_180 0 21 (dk_at dksX4_weighsOne_0 11 rfl rfl)
theorem dX4_weighsOne_14 : decode cX4_weighsOne 14 = .ok (.bipush 46, 2) := dk_16 46 (dk_at dksX4_weighsOne_0 14 rfl rfl)
theorem dX4_weighsOne_16 : decode cX4_weighsOne 16 = .ok (.iconst 3, 1) := dk_6 (dk_at dksX4_weighsOne_0 16 rfl rfl)
theorem dX4_weighsOne_17 : decode cX4_weighsOne 17 = .ok (.iload_n 1, 1) := dk_27 (dk_at dksX4_weighsOne_0 17 rfl rfl)
theorem dX4_weighsOne_18 : decode cX4_weighsOne 18 = .ok (.imul, 1) := dk_104 (dk_at dksX4_weighsOne_0 18 rfl rfl)
theorem dX4_weighsOne_19 : decode cX4_weighsOne 19 = .ok (.iadd, 1) := dk_96 (dk_at dksX4_weighsOne_0 19 rfl rfl)
theorem dX4_weighsOne_20 : decode cX4_weighsOne 20 = .ok (.iconst 2, 1) := dk_5 (dk_at dksX4_weighsOne_0 20 rfl rfl)
theorem dX4_weighsOne_21 : decode cX4_weighsOne 21 = .ok (.iadd, 1) := dk_96 (dk_at dksX4_weighsOne_0 21 rfl rfl)
theorem dX4_weighsOne_22 : decode cX4_weighsOne 22 = .ok (.iaload, 1) := dk_46 (dk_at dksX4_weighsOne_0 22 rfl rfl)
theorem dX4_weighsOne_23 : decode cX4_weighsOne 23 = .ok (.istore_n 2, 1) := dk_61 (dk_at dksX4_weighsOne_0 23 rfl rfl)
theorem dX4_weighsOne_24 : decode cX4_weighsOne 24 = .ok (.aload_n 0, 1) := dk_42 (dk_at dksX4_weighsOne_1 0 rfl rfl)
theorem dX4_weighsOne_25 : decode cX4_weighsOne 25 = .ok (.getfield 21, 3) := dk_180 0 21 (dk_at dksX4_weighsOne_1 1 rfl rfl)
theorem dX4_weighsOne_28 : decode cX4_weighsOne 28 = .ok (.iconst 2, 1) := dk_5 (dk_at dksX4_weighsOne_1 4 rfl rfl)
theorem dX4_weighsOne_29 : decode cX4_weighsOne 29 = .ok (.dup2, 1) := dk_92 (dk_at dksX4_weighsOne_1 5 rfl rfl)
theorem dX4_weighsOne_30 : decode cX4_weighsOne 30 = .ok (.iaload, 1) := dk_46 (dk_at dksX4_weighsOne_1 6 rfl rfl)
theorem dX4_weighsOne_31 : decode cX4_weighsOne 31 = .ok (.iconst 1, 1) := dk_4 (dk_at dksX4_weighsOne_1 7 rfl rfl)
theorem dX4_weighsOne_32 : decode cX4_weighsOne 32 = .ok (.isub, 1) := dk_100 (dk_at dksX4_weighsOne_1 8 rfl rfl)
theorem dX4_weighsOne_33 : decode cX4_weighsOne 33 = .ok (.iastore, 1) := dk_79 (dk_at dksX4_weighsOne_1 9 rfl rfl)
theorem dX4_weighsOne_34 : decode cX4_weighsOne 34 = .ok (.bipush 46, 2) := dk_16 46 (dk_at dksX4_weighsOne_1 10 rfl rfl)
theorem dX4_weighsOne_36 : decode cX4_weighsOne 36 = .ok (.iconst 3, 1) := dk_6 (dk_at dksX4_weighsOne_1 12 rfl rfl)
theorem dX4_weighsOne_37 : decode cX4_weighsOne 37 = .ok (.iload_n 1, 1) := dk_27 (dk_at dksX4_weighsOne_1 13 rfl rfl)
theorem dX4_weighsOne_38 : decode cX4_weighsOne 38 = .ok (.imul, 1) := dk_104 (dk_at dksX4_weighsOne_1 14 rfl rfl)
theorem dX4_weighsOne_39 : decode cX4_weighsOne 39 = .ok (.iadd, 1) := dk_96 (dk_at dksX4_weighsOne_1 15 rfl rfl)
theorem dX4_weighsOne_40 : decode cX4_weighsOne 40 = .ok (.istore_n 3, 1) := dk_62 (dk_at dksX4_weighsOne_1 16 rfl rfl)
theorem dX4_weighsOne_41 : decode cX4_weighsOne 41 = .ok (.iload_n 3, 1) := dk_29 (dk_at dksX4_weighsOne_1 17 rfl rfl)
theorem dX4_weighsOne_42 : decode cX4_weighsOne 42 = .ok (.bipush 46, 2) := dk_16 46 (dk_at dksX4_weighsOne_1 18 rfl rfl)
theorem dX4_weighsOne_44 : decode cX4_weighsOne 44 = .ok (.iconst 3, 1) := dk_6 (dk_at dksX4_weighsOne_1 20 rfl rfl)
theorem dX4_weighsOne_45 : decode cX4_weighsOne 45 = .ok (.aload_n 0, 1) := dk_42 (dk_at dksX4_weighsOne_1 21 rfl rfl)
theorem dX4_weighsOne_46 : decode cX4_weighsOne 46 = .ok (.getfield 21, 3) := dk_180 0 21 (dk_at dksX4_weighsOne_2 0 rfl rfl)
theorem dX4_weighsOne_49 : decode cX4_weighsOne 49 = .ok (.iconst 2, 1) := dk_5 (dk_at dksX4_weighsOne_2 3 rfl rfl)
theorem dX4_weighsOne_50 : decode cX4_weighsOne 50 = .ok (.iaload, 1) := dk_46 (dk_at dksX4_weighsOne_2 4 rfl rfl)
theorem dX4_weighsOne_51 : decode cX4_weighsOne 51 = .ok (.imul, 1) := dk_104 (dk_at dksX4_weighsOne_2 5 rfl rfl)
theorem dX4_weighsOne_52 : decode cX4_weighsOne 52 = .ok (.iadd, 1) := dk_96 (dk_at dksX4_weighsOne_2 6 rfl rfl)
theorem dX4_weighsOne_53 : decode cX4_weighsOne 53 = .ok (.if_icmp .ge 23, 3) := dk_162 0 23 (dk_at dksX4_weighsOne_2 7 rfl rfl)
theorem dX4_weighsOne_56 : decode cX4_weighsOne 56 = .ok (.aload_n 0, 1) := dk_42 (dk_at dksX4_weighsOne_2 10 rfl rfl)
theorem dX4_weighsOne_57 : decode cX4_weighsOne 57 = .ok (.getfield 21, 3) := dk_180 0 21 (dk_at dksX4_weighsOne_2 11 rfl rfl)
theorem dX4_weighsOne_60 : decode cX4_weighsOne 60 = .ok (.iload_n 3, 1) := dk_29 (dk_at dksX4_weighsOne_2 14 rfl rfl)
theorem dX4_weighsOne_61 : decode cX4_weighsOne 61 = .ok (.aload_n 0, 1) := dk_42 (dk_at dksX4_weighsOne_2 15 rfl rfl)
theorem dX4_weighsOne_62 : decode cX4_weighsOne 62 = .ok (.getfield 21, 3) := dk_180 0 21 (dk_at dksX4_weighsOne_2 16 rfl rfl)
theorem dX4_weighsOne_65 : decode cX4_weighsOne 65 = .ok (.iload_n 3, 1) := dk_29 (dk_at dksX4_weighsOne_2 19 rfl rfl)
theorem dX4_weighsOne_66 : decode cX4_weighsOne 66 = .ok (.iconst 3, 1) := dk_6 (dk_at dksX4_weighsOne_2 20 rfl rfl)
theorem dX4_weighsOne_67 : decode cX4_weighsOne 67 = .ok (.iadd, 1) := dk_96 (dk_at dksX4_weighsOne_2 21 rfl rfl)
theorem dX4_weighsOne_68 : decode cX4_weighsOne 68 = .ok (.iaload, 1) := dk_46 (dk_at dksX4_weighsOne_2 22 rfl rfl)
theorem dX4_weighsOne_69 : decode cX4_weighsOne 69 = .ok (.iastore, 1) := dk_79 (dk_at dksX4_weighsOne_2 23 rfl rfl)
theorem dX4_weighsOne_70 : decode cX4_weighsOne 70 = .ok (.iinc 3 1, 3) := dk_132 3 1 (dk_at dksX4_weighsOne_3 0 rfl rfl)
theorem dX4_weighsOne_73 : decode cX4_weighsOne 73 = .ok (.goto (-32), 3) := dk_167 255 224 (dk_at dksX4_weighsOne_3 3 rfl rfl)
theorem dX4_weighsOne_76 : decode cX4_weighsOne 76 = .ok (.aload_n 0, 1) := dk_42 (dk_at dksX4_weighsOne_3 6 rfl rfl)
theorem dX4_weighsOne_77 : decode cX4_weighsOne 77 = .ok (.iload_n 2, 1) := dk_28 (dk_at dksX4_weighsOne_3 7 rfl rfl)
theorem dX4_weighsOne_78 : decode cX4_weighsOne 78 = .ok (.invokevirtual 124, 3) := dk_182 0 124 (dk_at dksX4_weighsOne_3 8 rfl rfl)
theorem dX4_weighsOne_81 : decode cX4_weighsOne 81 = .ok (.ireturn, 1) := dk_172 (dk_at dksX4_weighsOne_3 11 rfl rfl)
abbrev cX4_isAnchor : ByteArray := prog_29_method_13_code
def yX4_isAnchor : MethodName := ⟨RX4, "isAnchor", "(I)Z"⟩
def dkwX4_isAnchor_0 : List UInt8 := [27, 3, 42, 180, 0, 21, 5, 46, 4, 100, 184, 0, 80, 172]
abbrev dktX4_isAnchor_0 : List UInt8 := dkwX4_isAnchor_0 ++ []
theorem dksX4_isAnchor_0 : cX4_isAnchor.data.toList.drop 0 = dktX4_isAnchor_0 := by decide +kernel
theorem dX4_isAnchor_0 : decode cX4_isAnchor 0 = .ok (.iload_n 1, 1) := dk_27 (dk_at dksX4_isAnchor_0 0 rfl rfl)
theorem dX4_isAnchor_1 : decode cX4_isAnchor 1 = .ok (.iconst 0, 1) := dk_3 (dk_at dksX4_isAnchor_0 1 rfl rfl)
theorem dX4_isAnchor_2 : decode cX4_isAnchor 2 = .ok (.aload_n 0, 1) := dk_42 (dk_at dksX4_isAnchor_0 2 rfl rfl)
theorem dX4_isAnchor_3 : decode cX4_isAnchor 3 = .ok (.getfield 21, 3) := dk_180 0 21 (dk_at dksX4_isAnchor_0 3 rfl rfl)
theorem dX4_isAnchor_6 : decode cX4_isAnchor 6 = .ok (.iconst 2, 1) := dk_5 (dk_at dksX4_isAnchor_0 6 rfl rfl)
theorem dX4_isAnchor_7 : decode cX4_isAnchor 7 = .ok (.iaload, 1) := dk_46 (dk_at dksX4_isAnchor_0 7 rfl rfl)
theorem dX4_isAnchor_8 : decode cX4_isAnchor 8 = .ok (.iconst 1, 1) := dk_4 (dk_at dksX4_isAnchor_0 8 rfl rfl)
theorem dX4_isAnchor_9 : decode cX4_isAnchor 9 = .ok (.isub, 1) := dk_100 (dk_at dksX4_isAnchor_0 9 rfl rfl)
theorem dX4_isAnchor_10 : decode cX4_isAnchor 10 = .ok (.invokestatic 80, 3) := dk_184 0 80 (dk_at dksX4_isAnchor_0 10 rfl rfl)
theorem dX4_isAnchor_13 : decode cX4_isAnchor 13 = .ok (.ireturn, 1) := dk_172 (dk_at dksX4_isAnchor_0 13 rfl rfl)
abbrev cX4_anchorOf : ByteArray := prog_29_method_37_code
def yX4_anchorOf : MethodName := ⟨RX4, "anchorOf", "(II)I"⟩
def dkwX4_anchorOf_4 : List UInt8 := [5, 182, 0, 77, 172]
abbrev dktX4_anchorOf_4 : List UInt8 := dkwX4_anchorOf_4 ++ []
def dkwX4_anchorOf_3 : List UInt8 := [180, 0, 21, 6, 46, 182, 0, 146, 172, 42, 27, 182, 0, 111, 153, 0, 7, 4, 167, 0, 4, 3, 172, 42]
abbrev dktX4_anchorOf_3 : List UInt8 := dkwX4_anchorOf_3 ++ dktX4_anchorOf_4
def dkwX4_anchorOf_2 : List UInt8 := [42, 180, 0, 21, 16, 46, 6, 27, 104, 96, 28, 96, 46, 172, 42, 27, 182, 0, 149, 172, 42, 27, 42]
abbrev dktX4_anchorOf_2 : List UInt8 := dkwX4_anchorOf_2 ++ dktX4_anchorOf_3
def dkwX4_anchorOf_1 : List UInt8 := [170, 0, 0, 0, 0, 0, 0, 86, 0, 0, 0, 0, 0, 0, 0, 5, 0, 0, 0, 40, 0, 0, 0, 40, 0, 0, 0, 40, 0, 0, 0, 54, 0, 0, 0, 60, 0, 0, 0, 72]
abbrev dktX4_anchorOf_1 : List UInt8 := dkwX4_anchorOf_1 ++ dktX4_anchorOf_2
def dkwX4_anchorOf_0 : List UInt8 := [42, 3, 181, 0, 58, 42, 27, 182, 0, 130, 154, 0, 9, 42, 4, 182, 0, 77, 172, 28]
abbrev dktX4_anchorOf_0 : List UInt8 := dkwX4_anchorOf_0 ++ dktX4_anchorOf_1
theorem dksX4_anchorOf_0 : cX4_anchorOf.data.toList.drop 0 = dktX4_anchorOf_0 := by decide +kernel
theorem dksX4_anchorOf_1 : cX4_anchorOf.data.toList.drop 20 = dktX4_anchorOf_1 := dk_seg dksX4_anchorOf_0 20 rfl rfl
theorem dksX4_anchorOf_2 : cX4_anchorOf.data.toList.drop 60 = dktX4_anchorOf_2 := dk_seg dksX4_anchorOf_1 40 rfl rfl
theorem dksX4_anchorOf_3 : cX4_anchorOf.data.toList.drop 83 = dktX4_anchorOf_3 := dk_seg dksX4_anchorOf_2 23 rfl rfl
theorem dksX4_anchorOf_4 : cX4_anchorOf.data.toList.drop 107 = dktX4_anchorOf_4 := dk_seg dksX4_anchorOf_3 24 rfl rfl
theorem dX4_anchorOf_0 : decode cX4_anchorOf 0 = .ok (.aload_n 0, 1) := dk_42 (dk_at dksX4_anchorOf_0 0 rfl rfl)
theorem dX4_anchorOf_1 : decode cX4_anchorOf 1 = .ok (.iconst 0, 1) := dk_3 (dk_at dksX4_anchorOf_0 1 rfl rfl)
theorem dX4_anchorOf_2 : decode cX4_anchorOf 2 = .ok (.putfield 58, 3) := dk_181 0 58 (dk_at dksX4_anchorOf_0 2 rfl rfl)
theorem dX4_anchorOf_5 : decode cX4_anchorOf 5 = .ok (.aload_n 0, 1) := dk_42 (dk_at dksX4_anchorOf_0 5 rfl rfl)
theorem dX4_anchorOf_6 : decode cX4_anchorOf 6 = .ok (.iload_n 1, 1) := dk_27 (dk_at dksX4_anchorOf_0 6 rfl rfl)
theorem dX4_anchorOf_7 : decode cX4_anchorOf 7 = .ok (.invokevirtual 130, 3) := dk_182 0 130 (dk_at dksX4_anchorOf_0 7 rfl rfl)
theorem dX4_anchorOf_10 : decode cX4_anchorOf 10 = .ok (.ifCond .ne 9, 3) := dk_154 0 9 (dk_at dksX4_anchorOf_0 10 rfl rfl)
theorem dX4_anchorOf_13 : decode cX4_anchorOf 13 = .ok (.aload_n 0, 1) := dk_42 (dk_at dksX4_anchorOf_0 13 rfl rfl)
theorem dX4_anchorOf_14 : decode cX4_anchorOf 14 = .ok (.iconst 1, 1) := dk_4 (dk_at dksX4_anchorOf_0 14 rfl rfl)
theorem dX4_anchorOf_15 : decode cX4_anchorOf 15 = .ok (.invokevirtual 77, 3) := dk_182 0 77 (dk_at dksX4_anchorOf_0 15 rfl rfl)
theorem dX4_anchorOf_18 : decode cX4_anchorOf 18 = .ok (.ireturn, 1) := dk_172 (dk_at dksX4_anchorOf_0 18 rfl rfl)
theorem dX4_anchorOf_19 : decode cX4_anchorOf 19 = .ok (.iload_n 2, 1) := dk_28 (dk_at dksX4_anchorOf_0 19 rfl rfl)
theorem dX4_anchorOf_20 : decode cX4_anchorOf 20 = .ok (.tableswitch 86 0 5 #[40, 40, 40, 54, 60, 72], 40) := by decide +kernel
theorem dX4_anchorOf_60 : decode cX4_anchorOf 60 = .ok (.aload_n 0, 1) := dk_42 (dk_at dksX4_anchorOf_2 0 rfl rfl)
theorem dX4_anchorOf_61 : decode cX4_anchorOf 61 = .ok (.getfield 21, 3) := dk_180 0 21 (dk_at dksX4_anchorOf_2 1 rfl rfl)
theorem dX4_anchorOf_64 : decode cX4_anchorOf 64 = .ok (.bipush 46, 2) := dk_16 46 (dk_at dksX4_anchorOf_2 4 rfl rfl)
theorem dX4_anchorOf_66 : decode cX4_anchorOf 66 = .ok (.iconst 3, 1) := dk_6 (dk_at dksX4_anchorOf_2 6 rfl rfl)
theorem dX4_anchorOf_67 : decode cX4_anchorOf 67 = .ok (.iload_n 1, 1) := dk_27 (dk_at dksX4_anchorOf_2 7 rfl rfl)
theorem dX4_anchorOf_68 : decode cX4_anchorOf 68 = .ok (.imul, 1) := dk_104 (dk_at dksX4_anchorOf_2 8 rfl rfl)
theorem dX4_anchorOf_69 : decode cX4_anchorOf 69 = .ok (.iadd, 1) := dk_96 (dk_at dksX4_anchorOf_2 9 rfl rfl)
theorem dX4_anchorOf_70 : decode cX4_anchorOf 70 = .ok (.iload_n 2, 1) := dk_28 (dk_at dksX4_anchorOf_2 10 rfl rfl)
theorem dX4_anchorOf_71 : decode cX4_anchorOf 71 = .ok (.iadd, 1) := dk_96 (dk_at dksX4_anchorOf_2 11 rfl rfl)
theorem dX4_anchorOf_72 : decode cX4_anchorOf 72 = .ok (.iaload, 1) := dk_46 (dk_at dksX4_anchorOf_2 12 rfl rfl)
theorem dX4_anchorOf_73 : decode cX4_anchorOf 73 = .ok (.ireturn, 1) := dk_172 (dk_at dksX4_anchorOf_2 13 rfl rfl)
theorem dX4_anchorOf_74 : decode cX4_anchorOf 74 = .ok (.aload_n 0, 1) := dk_42 (dk_at dksX4_anchorOf_2 14 rfl rfl)
theorem dX4_anchorOf_75 : decode cX4_anchorOf 75 = .ok (.iload_n 1, 1) := dk_27 (dk_at dksX4_anchorOf_2 15 rfl rfl)
theorem dX4_anchorOf_76 : decode cX4_anchorOf 76 = .ok (.invokevirtual 149, 3) := dk_182 0 149 (dk_at dksX4_anchorOf_2 16 rfl rfl)
theorem dX4_anchorOf_79 : decode cX4_anchorOf 79 = .ok (.ireturn, 1) := dk_172 (dk_at dksX4_anchorOf_2 19 rfl rfl)
theorem dX4_anchorOf_80 : decode cX4_anchorOf 80 = .ok (.aload_n 0, 1) := dk_42 (dk_at dksX4_anchorOf_2 20 rfl rfl)
theorem dX4_anchorOf_81 : decode cX4_anchorOf 81 = .ok (.iload_n 1, 1) := dk_27 (dk_at dksX4_anchorOf_2 21 rfl rfl)
theorem dX4_anchorOf_82 : decode cX4_anchorOf 82 = .ok (.aload_n 0, 1) := dk_42 (dk_at dksX4_anchorOf_2 22 rfl rfl)
theorem dX4_anchorOf_83 : decode cX4_anchorOf 83 = .ok (.getfield 21, 3) := dk_180 0 21 (dk_at dksX4_anchorOf_3 0 rfl rfl)
theorem dX4_anchorOf_86 : decode cX4_anchorOf 86 = .ok (.iconst 3, 1) := dk_6 (dk_at dksX4_anchorOf_3 3 rfl rfl)
theorem dX4_anchorOf_87 : decode cX4_anchorOf 87 = .ok (.iaload, 1) := dk_46 (dk_at dksX4_anchorOf_3 4 rfl rfl)
theorem dX4_anchorOf_88 : decode cX4_anchorOf 88 = .ok (.invokevirtual 146, 3) := dk_182 0 146 (dk_at dksX4_anchorOf_3 5 rfl rfl)
theorem dX4_anchorOf_91 : decode cX4_anchorOf 91 = .ok (.ireturn, 1) := dk_172 (dk_at dksX4_anchorOf_3 8 rfl rfl)
theorem dX4_anchorOf_92 : decode cX4_anchorOf 92 = .ok (.aload_n 0, 1) := dk_42 (dk_at dksX4_anchorOf_3 9 rfl rfl)
theorem dX4_anchorOf_93 : decode cX4_anchorOf 93 = .ok (.iload_n 1, 1) := dk_27 (dk_at dksX4_anchorOf_3 10 rfl rfl)
theorem dX4_anchorOf_94 : decode cX4_anchorOf 94 = .ok (.invokevirtual 111, 3) := dk_182 0 111 (dk_at dksX4_anchorOf_3 11 rfl rfl)
theorem dX4_anchorOf_97 : decode cX4_anchorOf 97 = .ok (.ifCond .eq 7, 3) := dk_153 0 7 (dk_at dksX4_anchorOf_3 14 rfl rfl)
theorem dX4_anchorOf_100 : decode cX4_anchorOf 100 = .ok (.iconst 1, 1) := dk_4 (dk_at dksX4_anchorOf_3 17 rfl rfl)
theorem dX4_anchorOf_101 : decode cX4_anchorOf 101 = .ok (.goto 4, 3) := dk_167 0 4 (dk_at dksX4_anchorOf_3 18 rfl rfl)
theorem dX4_anchorOf_104 : decode cX4_anchorOf 104 = .ok (.iconst 0, 1) := dk_3 (dk_at dksX4_anchorOf_3 21 rfl rfl)
theorem dX4_anchorOf_105 : decode cX4_anchorOf 105 = .ok (.ireturn, 1) := dk_172 (dk_at dksX4_anchorOf_3 22 rfl rfl)
theorem dX4_anchorOf_106 : decode cX4_anchorOf 106 = .ok (.aload_n 0, 1) := dk_42 (dk_at dksX4_anchorOf_3 23 rfl rfl)
theorem dX4_anchorOf_107 : decode cX4_anchorOf 107 = .ok (.iconst 2, 1) := dk_5 (dk_at dksX4_anchorOf_4 0 rfl rfl)
theorem dX4_anchorOf_108 : decode cX4_anchorOf 108 = .ok (.invokevirtual 77, 3) := dk_182 0 77 (dk_at dksX4_anchorOf_4 1 rfl rfl)
theorem dX4_anchorOf_111 : decode cX4_anchorOf 111 = .ok (.ireturn, 1) := dk_172 (dk_at dksX4_anchorOf_4 4 rfl rfl)
abbrev cX4_holdOf : ByteArray := prog_29_method_34_code
def yX4_holdOf : MethodName := ⟨RX4, "holdOf", "(I)I"⟩
def dkwX4_holdOf_1 : List UInt8 := [104, 42, 180, 0, 21, 16, 46, 6, 27, 104, 96, 4, 96, 46, 104, 172]
abbrev dktX4_holdOf_1 : List UInt8 := dkwX4_holdOf_1 ++ []
def dkwX4_holdOf_0 : List UInt8 := [5, 42, 180, 0, 21, 16, 13, 6, 42, 180, 0, 21, 16, 46, 6, 27, 104, 96, 46, 104, 96, 5, 96, 46]
abbrev dktX4_holdOf_0 : List UInt8 := dkwX4_holdOf_0 ++ dktX4_holdOf_1
theorem dksX4_holdOf_0 : cX4_holdOf.data.toList.drop 0 = dktX4_holdOf_0 := by decide +kernel
theorem dksX4_holdOf_1 : cX4_holdOf.data.toList.drop 24 = dktX4_holdOf_1 := dk_seg dksX4_holdOf_0 24 rfl rfl
theorem dX4_holdOf_0 : decode cX4_holdOf 0 = .ok (.iconst 2, 1) := dk_5 (dk_at dksX4_holdOf_0 0 rfl rfl)
theorem dX4_holdOf_1 : decode cX4_holdOf 1 = .ok (.aload_n 0, 1) := dk_42 (dk_at dksX4_holdOf_0 1 rfl rfl)
theorem dX4_holdOf_2 : decode cX4_holdOf 2 = .ok (.getfield 21, 3) := dk_180 0 21 (dk_at dksX4_holdOf_0 2 rfl rfl)
theorem dX4_holdOf_5 : decode cX4_holdOf 5 = .ok (.bipush 13, 2) := dk_16 13 (dk_at dksX4_holdOf_0 5 rfl rfl)
theorem dX4_holdOf_7 : decode cX4_holdOf 7 = .ok (.iconst 3, 1) := dk_6 (dk_at dksX4_holdOf_0 7 rfl rfl)
theorem dX4_holdOf_8 : decode cX4_holdOf 8 = .ok (.aload_n 0, 1) := dk_42 (dk_at dksX4_holdOf_0 8 rfl rfl)
theorem dX4_holdOf_9 : decode cX4_holdOf 9 = .ok (.getfield 21, 3) := dk_180 0 21 (dk_at dksX4_holdOf_0 9 rfl rfl)
theorem dX4_holdOf_12 : decode cX4_holdOf 12 = .ok (.bipush 46, 2) := dk_16 46 (dk_at dksX4_holdOf_0 12 rfl rfl)
theorem dX4_holdOf_14 : decode cX4_holdOf 14 = .ok (.iconst 3, 1) := dk_6 (dk_at dksX4_holdOf_0 14 rfl rfl)
theorem dX4_holdOf_15 : decode cX4_holdOf 15 = .ok (.iload_n 1, 1) := dk_27 (dk_at dksX4_holdOf_0 15 rfl rfl)
theorem dX4_holdOf_16 : decode cX4_holdOf 16 = .ok (.imul, 1) := dk_104 (dk_at dksX4_holdOf_0 16 rfl rfl)
theorem dX4_holdOf_17 : decode cX4_holdOf 17 = .ok (.iadd, 1) := dk_96 (dk_at dksX4_holdOf_0 17 rfl rfl)
theorem dX4_holdOf_18 : decode cX4_holdOf 18 = .ok (.iaload, 1) := dk_46 (dk_at dksX4_holdOf_0 18 rfl rfl)
theorem dX4_holdOf_19 : decode cX4_holdOf 19 = .ok (.imul, 1) := dk_104 (dk_at dksX4_holdOf_0 19 rfl rfl)
theorem dX4_holdOf_20 : decode cX4_holdOf 20 = .ok (.iadd, 1) := dk_96 (dk_at dksX4_holdOf_0 20 rfl rfl)
theorem dX4_holdOf_21 : decode cX4_holdOf 21 = .ok (.iconst 2, 1) := dk_5 (dk_at dksX4_holdOf_0 21 rfl rfl)
theorem dX4_holdOf_22 : decode cX4_holdOf 22 = .ok (.iadd, 1) := dk_96 (dk_at dksX4_holdOf_0 22 rfl rfl)
theorem dX4_holdOf_23 : decode cX4_holdOf 23 = .ok (.iaload, 1) := dk_46 (dk_at dksX4_holdOf_0 23 rfl rfl)
theorem dX4_holdOf_24 : decode cX4_holdOf 24 = .ok (.imul, 1) := dk_104 (dk_at dksX4_holdOf_1 0 rfl rfl)
theorem dX4_holdOf_25 : decode cX4_holdOf 25 = .ok (.aload_n 0, 1) := dk_42 (dk_at dksX4_holdOf_1 1 rfl rfl)
theorem dX4_holdOf_26 : decode cX4_holdOf 26 = .ok (.getfield 21, 3) := dk_180 0 21 (dk_at dksX4_holdOf_1 2 rfl rfl)
theorem dX4_holdOf_29 : decode cX4_holdOf 29 = .ok (.bipush 46, 2) := dk_16 46 (dk_at dksX4_holdOf_1 5 rfl rfl)
theorem dX4_holdOf_31 : decode cX4_holdOf 31 = .ok (.iconst 3, 1) := dk_6 (dk_at dksX4_holdOf_1 7 rfl rfl)
theorem dX4_holdOf_32 : decode cX4_holdOf 32 = .ok (.iload_n 1, 1) := dk_27 (dk_at dksX4_holdOf_1 8 rfl rfl)
theorem dX4_holdOf_33 : decode cX4_holdOf 33 = .ok (.imul, 1) := dk_104 (dk_at dksX4_holdOf_1 9 rfl rfl)
theorem dX4_holdOf_34 : decode cX4_holdOf 34 = .ok (.iadd, 1) := dk_96 (dk_at dksX4_holdOf_1 10 rfl rfl)
theorem dX4_holdOf_35 : decode cX4_holdOf 35 = .ok (.iconst 1, 1) := dk_4 (dk_at dksX4_holdOf_1 11 rfl rfl)
theorem dX4_holdOf_36 : decode cX4_holdOf 36 = .ok (.iadd, 1) := dk_96 (dk_at dksX4_holdOf_1 12 rfl rfl)
theorem dX4_holdOf_37 : decode cX4_holdOf 37 = .ok (.iaload, 1) := dk_46 (dk_at dksX4_holdOf_1 13 rfl rfl)
theorem dX4_holdOf_38 : decode cX4_holdOf 38 = .ok (.imul, 1) := dk_104 (dk_at dksX4_holdOf_1 14 rfl rfl)
theorem dX4_holdOf_39 : decode cX4_holdOf 39 = .ok (.ireturn, 1) := dk_172 (dk_at dksX4_holdOf_1 15 rfl rfl)
abbrev cX4_pullAt : ByteArray := prog_29_method_35_code
def yX4_pullAt : MethodName := ⟨RX4, "pullAt", "(II)I"⟩
def dkwX4_pullAt_2 : List UInt8 := [182, 0, 142, 167, 0, 4, 3, 96, 172]
abbrev dktX4_pullAt_2 : List UInt8 := dkwX4_pullAt_2 ++ []
def dkwX4_pullAt_1 : List UInt8 := [180, 0, 21, 7, 46, 29, 159, 0, 15, 42, 180, 0, 21, 7, 46, 29, 4, 96, 160, 0, 10, 42]
abbrev dktX4_pullAt_1 : List UInt8 := dkwX4_pullAt_1 ++ dktX4_pullAt_2
def dkwX4_pullAt_0 : List UInt8 := [42, 180, 0, 21, 16, 46, 6, 27, 104, 96, 46, 62, 16, 10, 42, 29, 28, 182, 0, 114, 104, 42]
abbrev dktX4_pullAt_0 : List UInt8 := dkwX4_pullAt_0 ++ dktX4_pullAt_1
theorem dksX4_pullAt_0 : cX4_pullAt.data.toList.drop 0 = dktX4_pullAt_0 := by decide +kernel
theorem dksX4_pullAt_1 : cX4_pullAt.data.toList.drop 22 = dktX4_pullAt_1 := dk_seg dksX4_pullAt_0 22 rfl rfl
theorem dksX4_pullAt_2 : cX4_pullAt.data.toList.drop 44 = dktX4_pullAt_2 := dk_seg dksX4_pullAt_1 22 rfl rfl
theorem dX4_pullAt_0 : decode cX4_pullAt 0 = .ok (.aload_n 0, 1) := dk_42 (dk_at dksX4_pullAt_0 0 rfl rfl)
theorem dX4_pullAt_1 : decode cX4_pullAt 1 = .ok (.getfield 21, 3) := dk_180 0 21 (dk_at dksX4_pullAt_0 1 rfl rfl)
theorem dX4_pullAt_4 : decode cX4_pullAt 4 = .ok (.bipush 46, 2) := dk_16 46 (dk_at dksX4_pullAt_0 4 rfl rfl)
theorem dX4_pullAt_6 : decode cX4_pullAt 6 = .ok (.iconst 3, 1) := dk_6 (dk_at dksX4_pullAt_0 6 rfl rfl)
theorem dX4_pullAt_7 : decode cX4_pullAt 7 = .ok (.iload_n 1, 1) := dk_27 (dk_at dksX4_pullAt_0 7 rfl rfl)
theorem dX4_pullAt_8 : decode cX4_pullAt 8 = .ok (.imul, 1) := dk_104 (dk_at dksX4_pullAt_0 8 rfl rfl)
theorem dX4_pullAt_9 : decode cX4_pullAt 9 = .ok (.iadd, 1) := dk_96 (dk_at dksX4_pullAt_0 9 rfl rfl)
theorem dX4_pullAt_10 : decode cX4_pullAt 10 = .ok (.iaload, 1) := dk_46 (dk_at dksX4_pullAt_0 10 rfl rfl)
theorem dX4_pullAt_11 : decode cX4_pullAt 11 = .ok (.istore_n 3, 1) := dk_62 (dk_at dksX4_pullAt_0 11 rfl rfl)
theorem dX4_pullAt_12 : decode cX4_pullAt 12 = .ok (.bipush 10, 2) := dk_16 10 (dk_at dksX4_pullAt_0 12 rfl rfl)
theorem dX4_pullAt_14 : decode cX4_pullAt 14 = .ok (.aload_n 0, 1) := dk_42 (dk_at dksX4_pullAt_0 14 rfl rfl)
theorem dX4_pullAt_15 : decode cX4_pullAt 15 = .ok (.iload_n 3, 1) := dk_29 (dk_at dksX4_pullAt_0 15 rfl rfl)
theorem dX4_pullAt_16 : decode cX4_pullAt 16 = .ok (.iload_n 2, 1) := dk_28 (dk_at dksX4_pullAt_0 16 rfl rfl)
theorem dX4_pullAt_17 : decode cX4_pullAt 17 = .ok (.invokevirtual 114, 3) := dk_182 0 114 (dk_at dksX4_pullAt_0 17 rfl rfl)
theorem dX4_pullAt_20 : decode cX4_pullAt 20 = .ok (.imul, 1) := dk_104 (dk_at dksX4_pullAt_0 20 rfl rfl)
theorem dX4_pullAt_21 : decode cX4_pullAt 21 = .ok (.aload_n 0, 1) := dk_42 (dk_at dksX4_pullAt_0 21 rfl rfl)
theorem dX4_pullAt_22 : decode cX4_pullAt 22 = .ok (.getfield 21, 3) := dk_180 0 21 (dk_at dksX4_pullAt_1 0 rfl rfl)
theorem dX4_pullAt_25 : decode cX4_pullAt 25 = .ok (.iconst 4, 1) := dk_7 (dk_at dksX4_pullAt_1 3 rfl rfl)
theorem dX4_pullAt_26 : decode cX4_pullAt 26 = .ok (.iaload, 1) := dk_46 (dk_at dksX4_pullAt_1 4 rfl rfl)
theorem dX4_pullAt_27 : decode cX4_pullAt 27 = .ok (.iload_n 3, 1) := dk_29 (dk_at dksX4_pullAt_1 5 rfl rfl)
theorem dX4_pullAt_28 : decode cX4_pullAt 28 = .ok (.if_icmp .eq 15, 3) := dk_159 0 15 (dk_at dksX4_pullAt_1 6 rfl rfl)
theorem dX4_pullAt_31 : decode cX4_pullAt 31 = .ok (.aload_n 0, 1) := dk_42 (dk_at dksX4_pullAt_1 9 rfl rfl)
theorem dX4_pullAt_32 : decode cX4_pullAt 32 = .ok (.getfield 21, 3) := dk_180 0 21 (dk_at dksX4_pullAt_1 10 rfl rfl)
theorem dX4_pullAt_35 : decode cX4_pullAt 35 = .ok (.iconst 4, 1) := dk_7 (dk_at dksX4_pullAt_1 13 rfl rfl)
theorem dX4_pullAt_36 : decode cX4_pullAt 36 = .ok (.iaload, 1) := dk_46 (dk_at dksX4_pullAt_1 14 rfl rfl)
theorem dX4_pullAt_37 : decode cX4_pullAt 37 = .ok (.iload_n 3, 1) := dk_29 (dk_at dksX4_pullAt_1 15 rfl rfl)
theorem dX4_pullAt_38 : decode cX4_pullAt 38 = .ok (.iconst 1, 1) := dk_4 (dk_at dksX4_pullAt_1 16 rfl rfl)
theorem dX4_pullAt_39 : decode cX4_pullAt 39 = .ok (.iadd, 1) := dk_96 (dk_at dksX4_pullAt_1 17 rfl rfl)
theorem dX4_pullAt_40 : decode cX4_pullAt 40 = .ok (.if_icmp .ne 10, 3) := dk_160 0 10 (dk_at dksX4_pullAt_1 18 rfl rfl)
theorem dX4_pullAt_43 : decode cX4_pullAt 43 = .ok (.aload_n 0, 1) := dk_42 (dk_at dksX4_pullAt_1 21 rfl rfl)
theorem dX4_pullAt_44 : decode cX4_pullAt 44 = .ok (.invokevirtual 142, 3) := dk_182 0 142 (dk_at dksX4_pullAt_2 0 rfl rfl)
theorem dX4_pullAt_47 : decode cX4_pullAt 47 = .ok (.goto 4, 3) := dk_167 0 4 (dk_at dksX4_pullAt_2 3 rfl rfl)
theorem dX4_pullAt_50 : decode cX4_pullAt 50 = .ok (.iconst 0, 1) := dk_3 (dk_at dksX4_pullAt_2 6 rfl rfl)
theorem dX4_pullAt_51 : decode cX4_pullAt 51 = .ok (.iadd, 1) := dk_96 (dk_at dksX4_pullAt_2 7 rfl rfl)
theorem dX4_pullAt_52 : decode cX4_pullAt 52 = .ok (.ireturn, 1) := dk_172 (dk_at dksX4_pullAt_2 8 rfl rfl)
abbrev cX4_aboard : ByteArray := prog_29_method_33_code
def yX4_aboard : MethodName := ⟨RX4, "aboard", "()I"⟩
def dkwX4_aboard_0 : List UInt8 := [42, 17, 1, 102, 182, 0, 139, 42, 17, 1, 249, 182, 0, 139, 96, 172]
abbrev dktX4_aboard_0 : List UInt8 := dkwX4_aboard_0 ++ []
theorem dksX4_aboard_0 : cX4_aboard.data.toList.drop 0 = dktX4_aboard_0 := by decide +kernel
theorem dX4_aboard_0 : decode cX4_aboard 0 = .ok (.aload_n 0, 1) := dk_42 (dk_at dksX4_aboard_0 0 rfl rfl)
theorem dX4_aboard_1 : decode cX4_aboard 1 = .ok (.sipush 358, 3) := dk_17 1 102 (dk_at dksX4_aboard_0 1 rfl rfl)
theorem dX4_aboard_4 : decode cX4_aboard 4 = .ok (.invokevirtual 139, 3) := dk_182 0 139 (dk_at dksX4_aboard_0 4 rfl rfl)
theorem dX4_aboard_7 : decode cX4_aboard 7 = .ok (.aload_n 0, 1) := dk_42 (dk_at dksX4_aboard_0 7 rfl rfl)
theorem dX4_aboard_8 : decode cX4_aboard 8 = .ok (.sipush 505, 3) := dk_17 1 249 (dk_at dksX4_aboard_0 8 rfl rfl)
theorem dX4_aboard_11 : decode cX4_aboard 11 = .ok (.invokevirtual 139, 3) := dk_182 0 139 (dk_at dksX4_aboard_0 11 rfl rfl)
theorem dX4_aboard_14 : decode cX4_aboard 14 = .ok (.iadd, 1) := dk_96 (dk_at dksX4_aboard_0 14 rfl rfl)
theorem dX4_aboard_15 : decode cX4_aboard 15 = .ok (.ireturn, 1) := dk_172 (dk_at dksX4_aboard_0 15 rfl rfl)
abbrev cX4_weightOf : ByteArray := prog_29_method_32_code
def yX4_weightOf : MethodName := ⟨RX4, "weightOf", "(I)I"⟩
def dkwX4_weightOf_1 : List UInt8 := [184, 0, 136, 104, 96, 61, 132, 3, 1, 167, 255, 227, 28, 172]
abbrev dktX4_weightOf_1 : List UInt8 := dkwX4_weightOf_1 ++ []
def dkwX4_weightOf_0 : List UInt8 := [3, 61, 3, 62, 29, 17, 0, 147, 162, 0, 28, 28, 42, 180, 0, 21, 27, 29, 96, 46, 29, 16, 49, 108]
abbrev dktX4_weightOf_0 : List UInt8 := dkwX4_weightOf_0 ++ dktX4_weightOf_1
theorem dksX4_weightOf_0 : cX4_weightOf.data.toList.drop 0 = dktX4_weightOf_0 := by decide +kernel
theorem dksX4_weightOf_1 : cX4_weightOf.data.toList.drop 24 = dktX4_weightOf_1 := dk_seg dksX4_weightOf_0 24 rfl rfl
theorem dX4_weightOf_0 : decode cX4_weightOf 0 = .ok (.iconst 0, 1) := dk_3 (dk_at dksX4_weightOf_0 0 rfl rfl)
theorem dX4_weightOf_1 : decode cX4_weightOf 1 = .ok (.istore_n 2, 1) := dk_61 (dk_at dksX4_weightOf_0 1 rfl rfl)
theorem dX4_weightOf_2 : decode cX4_weightOf 2 = .ok (.iconst 0, 1) := dk_3 (dk_at dksX4_weightOf_0 2 rfl rfl)
theorem dX4_weightOf_3 : decode cX4_weightOf 3 = .ok (.istore_n 3, 1) := dk_62 (dk_at dksX4_weightOf_0 3 rfl rfl)
theorem dX4_weightOf_4 : decode cX4_weightOf 4 = .ok (.iload_n 3, 1) := dk_29 (dk_at dksX4_weightOf_0 4 rfl rfl)
theorem dX4_weightOf_5 : decode cX4_weightOf 5 = .ok (.sipush 147, 3) := dk_17 0 147 (dk_at dksX4_weightOf_0 5 rfl rfl)
theorem dX4_weightOf_8 : decode cX4_weightOf 8 = .ok (.if_icmp .ge 28, 3) := dk_162 0 28 (dk_at dksX4_weightOf_0 8 rfl rfl)
theorem dX4_weightOf_11 : decode cX4_weightOf 11 = .ok (.iload_n 2, 1) := dk_28 (dk_at dksX4_weightOf_0 11 rfl rfl)
theorem dX4_weightOf_12 : decode cX4_weightOf 12 = .ok (.aload_n 0, 1) := dk_42 (dk_at dksX4_weightOf_0 12 rfl rfl)
theorem dX4_weightOf_13 : decode cX4_weightOf 13 = .ok (.getfield 21, 3) := dk_180 0 21 (dk_at dksX4_weightOf_0 13 rfl rfl)
theorem dX4_weightOf_16 : decode cX4_weightOf 16 = .ok (.iload_n 1, 1) := dk_27 (dk_at dksX4_weightOf_0 16 rfl rfl)
theorem dX4_weightOf_17 : decode cX4_weightOf 17 = .ok (.iload_n 3, 1) := dk_29 (dk_at dksX4_weightOf_0 17 rfl rfl)
theorem dX4_weightOf_18 : decode cX4_weightOf 18 = .ok (.iadd, 1) := dk_96 (dk_at dksX4_weightOf_0 18 rfl rfl)
theorem dX4_weightOf_19 : decode cX4_weightOf 19 = .ok (.iaload, 1) := dk_46 (dk_at dksX4_weightOf_0 19 rfl rfl)
theorem dX4_weightOf_20 : decode cX4_weightOf 20 = .ok (.iload_n 3, 1) := dk_29 (dk_at dksX4_weightOf_0 20 rfl rfl)
theorem dX4_weightOf_21 : decode cX4_weightOf 21 = .ok (.bipush 49, 2) := dk_16 49 (dk_at dksX4_weightOf_0 21 rfl rfl)
theorem dX4_weightOf_23 : decode cX4_weightOf 23 = .ok (.idiv, 1) := dk_108 (dk_at dksX4_weightOf_0 23 rfl rfl)
theorem dX4_weightOf_24 : decode cX4_weightOf 24 = .ok (.invokestatic 136, 3) := dk_184 0 136 (dk_at dksX4_weightOf_1 0 rfl rfl)
theorem dX4_weightOf_27 : decode cX4_weightOf 27 = .ok (.imul, 1) := dk_104 (dk_at dksX4_weightOf_1 3 rfl rfl)
theorem dX4_weightOf_28 : decode cX4_weightOf 28 = .ok (.iadd, 1) := dk_96 (dk_at dksX4_weightOf_1 4 rfl rfl)
theorem dX4_weightOf_29 : decode cX4_weightOf 29 = .ok (.istore_n 2, 1) := dk_61 (dk_at dksX4_weightOf_1 5 rfl rfl)
theorem dX4_weightOf_30 : decode cX4_weightOf 30 = .ok (.iinc 3 1, 3) := dk_132 3 1 (dk_at dksX4_weightOf_1 6 rfl rfl)
theorem dX4_weightOf_33 : decode cX4_weightOf 33 = .ok (.goto (-29), 3) := dk_167 255 227 (dk_at dksX4_weightOf_1 9 rfl rfl)
theorem dX4_weightOf_36 : decode cX4_weightOf 36 = .ok (.iload_n 2, 1) := dk_28 (dk_at dksX4_weightOf_1 12 rfl rfl)
theorem dX4_weightOf_37 : decode cX4_weightOf 37 = .ok (.ireturn, 1) := dk_172 (dk_at dksX4_weightOf_1 13 rfl rfl)
abbrev cX4_weighs : ByteArray := prog_29_method_16_code
def yX4_weighs : MethodName := ⟨RX4, "weighs", "(I)I"⟩
def dkwX4_weighs_0 : List UInt8 := [26, 154, 0, 7, 4, 167, 0, 15, 26, 4, 160, 0, 8, 16, 8, 167, 0, 5, 16, 20, 172]
abbrev dktX4_weighs_0 : List UInt8 := dkwX4_weighs_0 ++ []
theorem dksX4_weighs_0 : cX4_weighs.data.toList.drop 0 = dktX4_weighs_0 := by decide +kernel
theorem dX4_weighs_0 : decode cX4_weighs 0 = .ok (.iload_n 0, 1) := dk_26 (dk_at dksX4_weighs_0 0 rfl rfl)
theorem dX4_weighs_1 : decode cX4_weighs 1 = .ok (.ifCond .ne 7, 3) := dk_154 0 7 (dk_at dksX4_weighs_0 1 rfl rfl)
theorem dX4_weighs_4 : decode cX4_weighs 4 = .ok (.iconst 1, 1) := dk_4 (dk_at dksX4_weighs_0 4 rfl rfl)
theorem dX4_weighs_5 : decode cX4_weighs 5 = .ok (.goto 15, 3) := dk_167 0 15 (dk_at dksX4_weighs_0 5 rfl rfl)
theorem dX4_weighs_8 : decode cX4_weighs 8 = .ok (.iload_n 0, 1) := dk_26 (dk_at dksX4_weighs_0 8 rfl rfl)
theorem dX4_weighs_9 : decode cX4_weighs 9 = .ok (.iconst 1, 1) := dk_4 (dk_at dksX4_weighs_0 9 rfl rfl)
theorem dX4_weighs_10 : decode cX4_weighs 10 = .ok (.if_icmp .ne 8, 3) := dk_160 0 8 (dk_at dksX4_weighs_0 10 rfl rfl)
theorem dX4_weighs_13 : decode cX4_weighs 13 = .ok (.bipush 8, 2) := dk_16 8 (dk_at dksX4_weighs_0 13 rfl rfl)
theorem dX4_weighs_15 : decode cX4_weighs 15 = .ok (.goto 5, 3) := dk_167 0 5 (dk_at dksX4_weighs_0 15 rfl rfl)
theorem dX4_weighs_18 : decode cX4_weighs 18 = .ok (.bipush 20, 2) := dk_16 20 (dk_at dksX4_weighs_0 18 rfl rfl)
theorem dX4_weighs_20 : decode cX4_weighs 20 = .ok (.ireturn, 1) := dk_172 (dk_at dksX4_weighs_0 20 rfl rfl)
abbrev cX4_dragIn : ByteArray := prog_29_method_38_code
def yX4_dragIn : MethodName := ⟨RX4, "dragIn", "(II)I"⟩
def dkwX4_dragIn_3 : List UInt8 := [182, 0, 152, 62, 132, 4, 1, 167, 255, 231, 29, 172]
abbrev dktX4_dragIn_3 : List UInt8 := dkwX4_dragIn_3 ++ []
def dkwX4_dragIn_2 : List UInt8 := [46, 62, 3, 54, 4, 21, 4, 28, 162, 0, 25, 42, 27, 29, 42, 180, 0, 21, 6, 46, 21, 4, 96]
abbrev dktX4_dragIn_2 : List UInt8 := dkwX4_dragIn_2 ++ dktX4_dragIn_3
def dkwX4_dragIn_1 : List UInt8 := [184, 0, 80, 154, 0, 9, 42, 5, 182, 0, 77, 172, 42, 180, 0, 21, 16, 46, 6, 27, 104, 96, 5, 96]
abbrev dktX4_dragIn_1 : List UInt8 := dkwX4_dragIn_1 ++ dktX4_dragIn_2
def dkwX4_dragIn_0 : List UInt8 := [42, 3, 181, 0, 58, 42, 27, 182, 0, 130, 154, 0, 9, 42, 4, 182, 0, 77, 172, 28, 3, 17, 0, 199]
abbrev dktX4_dragIn_0 : List UInt8 := dkwX4_dragIn_0 ++ dktX4_dragIn_1
theorem dksX4_dragIn_0 : cX4_dragIn.data.toList.drop 0 = dktX4_dragIn_0 := by decide +kernel
theorem dksX4_dragIn_1 : cX4_dragIn.data.toList.drop 24 = dktX4_dragIn_1 := dk_seg dksX4_dragIn_0 24 rfl rfl
theorem dksX4_dragIn_2 : cX4_dragIn.data.toList.drop 48 = dktX4_dragIn_2 := dk_seg dksX4_dragIn_1 24 rfl rfl
theorem dksX4_dragIn_3 : cX4_dragIn.data.toList.drop 71 = dktX4_dragIn_3 := dk_seg dksX4_dragIn_2 23 rfl rfl
theorem dX4_dragIn_0 : decode cX4_dragIn 0 = .ok (.aload_n 0, 1) := dk_42 (dk_at dksX4_dragIn_0 0 rfl rfl)
theorem dX4_dragIn_1 : decode cX4_dragIn 1 = .ok (.iconst 0, 1) := dk_3 (dk_at dksX4_dragIn_0 1 rfl rfl)
theorem dX4_dragIn_2 : decode cX4_dragIn 2 = .ok (.putfield 58, 3) := dk_181 0 58 (dk_at dksX4_dragIn_0 2 rfl rfl)
theorem dX4_dragIn_5 : decode cX4_dragIn 5 = .ok (.aload_n 0, 1) := dk_42 (dk_at dksX4_dragIn_0 5 rfl rfl)
theorem dX4_dragIn_6 : decode cX4_dragIn 6 = .ok (.iload_n 1, 1) := dk_27 (dk_at dksX4_dragIn_0 6 rfl rfl)
theorem dX4_dragIn_7 : decode cX4_dragIn 7 = .ok (.invokevirtual 130, 3) := dk_182 0 130 (dk_at dksX4_dragIn_0 7 rfl rfl)
theorem dX4_dragIn_10 : decode cX4_dragIn 10 = .ok (.ifCond .ne 9, 3) := dk_154 0 9 (dk_at dksX4_dragIn_0 10 rfl rfl)
theorem dX4_dragIn_13 : decode cX4_dragIn 13 = .ok (.aload_n 0, 1) := dk_42 (dk_at dksX4_dragIn_0 13 rfl rfl)
theorem dX4_dragIn_14 : decode cX4_dragIn 14 = .ok (.iconst 1, 1) := dk_4 (dk_at dksX4_dragIn_0 14 rfl rfl)
theorem dX4_dragIn_15 : decode cX4_dragIn 15 = .ok (.invokevirtual 77, 3) := dk_182 0 77 (dk_at dksX4_dragIn_0 15 rfl rfl)
theorem dX4_dragIn_18 : decode cX4_dragIn 18 = .ok (.ireturn, 1) := dk_172 (dk_at dksX4_dragIn_0 18 rfl rfl)
theorem dX4_dragIn_19 : decode cX4_dragIn 19 = .ok (.iload_n 2, 1) := dk_28 (dk_at dksX4_dragIn_0 19 rfl rfl)
theorem dX4_dragIn_20 : decode cX4_dragIn 20 = .ok (.iconst 0, 1) := dk_3 (dk_at dksX4_dragIn_0 20 rfl rfl)
theorem dX4_dragIn_21 : decode cX4_dragIn 21 = .ok (.sipush 199, 3) := dk_17 0 199 (dk_at dksX4_dragIn_0 21 rfl rfl)
theorem dX4_dragIn_24 : decode cX4_dragIn 24 = .ok (.invokestatic 80, 3) := dk_184 0 80 (dk_at dksX4_dragIn_1 0 rfl rfl)
theorem dX4_dragIn_27 : decode cX4_dragIn 27 = .ok (.ifCond .ne 9, 3) := dk_154 0 9 (dk_at dksX4_dragIn_1 3 rfl rfl)
theorem dX4_dragIn_30 : decode cX4_dragIn 30 = .ok (.aload_n 0, 1) := dk_42 (dk_at dksX4_dragIn_1 6 rfl rfl)
theorem dX4_dragIn_31 : decode cX4_dragIn 31 = .ok (.iconst 2, 1) := dk_5 (dk_at dksX4_dragIn_1 7 rfl rfl)
theorem dX4_dragIn_32 : decode cX4_dragIn 32 = .ok (.invokevirtual 77, 3) := dk_182 0 77 (dk_at dksX4_dragIn_1 8 rfl rfl)
theorem dX4_dragIn_35 : decode cX4_dragIn 35 = .ok (.ireturn, 1) := dk_172 (dk_at dksX4_dragIn_1 11 rfl rfl)
theorem dX4_dragIn_36 : decode cX4_dragIn 36 = .ok (.aload_n 0, 1) := dk_42 (dk_at dksX4_dragIn_1 12 rfl rfl)
theorem dX4_dragIn_37 : decode cX4_dragIn 37 = .ok (.getfield 21, 3) := dk_180 0 21 (dk_at dksX4_dragIn_1 13 rfl rfl)
theorem dX4_dragIn_40 : decode cX4_dragIn 40 = .ok (.bipush 46, 2) := dk_16 46 (dk_at dksX4_dragIn_1 16 rfl rfl)
theorem dX4_dragIn_42 : decode cX4_dragIn 42 = .ok (.iconst 3, 1) := dk_6 (dk_at dksX4_dragIn_1 18 rfl rfl)
theorem dX4_dragIn_43 : decode cX4_dragIn 43 = .ok (.iload_n 1, 1) := dk_27 (dk_at dksX4_dragIn_1 19 rfl rfl)
theorem dX4_dragIn_44 : decode cX4_dragIn 44 = .ok (.imul, 1) := dk_104 (dk_at dksX4_dragIn_1 20 rfl rfl)
theorem dX4_dragIn_45 : decode cX4_dragIn 45 = .ok (.iadd, 1) := dk_96 (dk_at dksX4_dragIn_1 21 rfl rfl)
theorem dX4_dragIn_46 : decode cX4_dragIn 46 = .ok (.iconst 2, 1) := dk_5 (dk_at dksX4_dragIn_1 22 rfl rfl)
theorem dX4_dragIn_47 : decode cX4_dragIn 47 = .ok (.iadd, 1) := dk_96 (dk_at dksX4_dragIn_1 23 rfl rfl)
theorem dX4_dragIn_48 : decode cX4_dragIn 48 = .ok (.iaload, 1) := dk_46 (dk_at dksX4_dragIn_2 0 rfl rfl)
theorem dX4_dragIn_49 : decode cX4_dragIn 49 = .ok (.istore_n 3, 1) := dk_62 (dk_at dksX4_dragIn_2 1 rfl rfl)
theorem dX4_dragIn_50 : decode cX4_dragIn 50 = .ok (.iconst 0, 1) := dk_3 (dk_at dksX4_dragIn_2 2 rfl rfl)
theorem dX4_dragIn_51 : decode cX4_dragIn 51 = .ok (.istore 4, 2) := dk_54 4 (dk_at dksX4_dragIn_2 3 rfl rfl)
theorem dX4_dragIn_53 : decode cX4_dragIn 53 = .ok (.iload 4, 2) := dk_21 4 (dk_at dksX4_dragIn_2 5 rfl rfl)
theorem dX4_dragIn_55 : decode cX4_dragIn 55 = .ok (.iload_n 2, 1) := dk_28 (dk_at dksX4_dragIn_2 7 rfl rfl)
theorem dX4_dragIn_56 : decode cX4_dragIn 56 = .ok (.if_icmp .ge 25, 3) := dk_162 0 25 (dk_at dksX4_dragIn_2 8 rfl rfl)
theorem dX4_dragIn_59 : decode cX4_dragIn 59 = .ok (.aload_n 0, 1) := dk_42 (dk_at dksX4_dragIn_2 11 rfl rfl)
theorem dX4_dragIn_60 : decode cX4_dragIn 60 = .ok (.iload_n 1, 1) := dk_27 (dk_at dksX4_dragIn_2 12 rfl rfl)
theorem dX4_dragIn_61 : decode cX4_dragIn 61 = .ok (.iload_n 3, 1) := dk_29 (dk_at dksX4_dragIn_2 13 rfl rfl)
theorem dX4_dragIn_62 : decode cX4_dragIn 62 = .ok (.aload_n 0, 1) := dk_42 (dk_at dksX4_dragIn_2 14 rfl rfl)
theorem dX4_dragIn_63 : decode cX4_dragIn 63 = .ok (.getfield 21, 3) := dk_180 0 21 (dk_at dksX4_dragIn_2 15 rfl rfl)
theorem dX4_dragIn_66 : decode cX4_dragIn 66 = .ok (.iconst 3, 1) := dk_6 (dk_at dksX4_dragIn_2 18 rfl rfl)
theorem dX4_dragIn_67 : decode cX4_dragIn 67 = .ok (.iaload, 1) := dk_46 (dk_at dksX4_dragIn_2 19 rfl rfl)
theorem dX4_dragIn_68 : decode cX4_dragIn 68 = .ok (.iload 4, 2) := dk_21 4 (dk_at dksX4_dragIn_2 20 rfl rfl)
theorem dX4_dragIn_70 : decode cX4_dragIn 70 = .ok (.iadd, 1) := dk_96 (dk_at dksX4_dragIn_2 22 rfl rfl)
theorem dX4_dragIn_71 : decode cX4_dragIn 71 = .ok (.invokevirtual 152, 3) := dk_182 0 152 (dk_at dksX4_dragIn_3 0 rfl rfl)
theorem dX4_dragIn_74 : decode cX4_dragIn 74 = .ok (.istore_n 3, 1) := dk_62 (dk_at dksX4_dragIn_3 3 rfl rfl)
theorem dX4_dragIn_75 : decode cX4_dragIn 75 = .ok (.iinc 4 1, 3) := dk_132 4 1 (dk_at dksX4_dragIn_3 4 rfl rfl)
theorem dX4_dragIn_78 : decode cX4_dragIn 78 = .ok (.goto (-25), 3) := dk_167 255 231 (dk_at dksX4_dragIn_3 7 rfl rfl)
theorem dX4_dragIn_81 : decode cX4_dragIn 81 = .ok (.iload_n 3, 1) := dk_29 (dk_at dksX4_dragIn_3 10 rfl rfl)
theorem dX4_dragIn_82 : decode cX4_dragIn 82 = .ok (.ireturn, 1) := dk_172 (dk_at dksX4_dragIn_3 11 rfl rfl)
abbrev cX4_draggedAt : ByteArray := prog_29_method_36_code
def yX4_draggedAt : MethodName := ⟨RX4, "draggedAt", "(III)I"⟩
def dkwX4_draggedAt_1 : List UInt8 := [16, 99, 28, 21, 4, 16, 9, 96, 16, 10, 108, 96, 184, 0, 106, 172]
abbrev dktX4_draggedAt_1 : List UInt8 := dkwX4_draggedAt_1 ++ []
def dkwX4_draggedAt_0 : List UInt8 := [42, 27, 29, 182, 0, 146, 42, 27, 182, 0, 149, 100, 54, 4, 21, 4, 157, 0, 7, 28, 167, 0, 18]
abbrev dktX4_draggedAt_0 : List UInt8 := dkwX4_draggedAt_0 ++ dktX4_draggedAt_1
theorem dksX4_draggedAt_0 : cX4_draggedAt.data.toList.drop 0 = dktX4_draggedAt_0 := by decide +kernel
theorem dksX4_draggedAt_1 : cX4_draggedAt.data.toList.drop 23 = dktX4_draggedAt_1 := dk_seg dksX4_draggedAt_0 23 rfl rfl
theorem dX4_draggedAt_0 : decode cX4_draggedAt 0 = .ok (.aload_n 0, 1) := dk_42 (dk_at dksX4_draggedAt_0 0 rfl rfl)
theorem dX4_draggedAt_1 : decode cX4_draggedAt 1 = .ok (.iload_n 1, 1) := dk_27 (dk_at dksX4_draggedAt_0 1 rfl rfl)
theorem dX4_draggedAt_2 : decode cX4_draggedAt 2 = .ok (.iload_n 3, 1) := dk_29 (dk_at dksX4_draggedAt_0 2 rfl rfl)
theorem dX4_draggedAt_3 : decode cX4_draggedAt 3 = .ok (.invokevirtual 146, 3) := dk_182 0 146 (dk_at dksX4_draggedAt_0 3 rfl rfl)
theorem dX4_draggedAt_6 : decode cX4_draggedAt 6 = .ok (.aload_n 0, 1) := dk_42 (dk_at dksX4_draggedAt_0 6 rfl rfl)
theorem dX4_draggedAt_7 : decode cX4_draggedAt 7 = .ok (.iload_n 1, 1) := dk_27 (dk_at dksX4_draggedAt_0 7 rfl rfl)
theorem dX4_draggedAt_8 : decode cX4_draggedAt 8 = .ok (.invokevirtual 149, 3) := dk_182 0 149 (dk_at dksX4_draggedAt_0 8 rfl rfl)
theorem dX4_draggedAt_11 : decode cX4_draggedAt 11 = .ok (.isub, 1) := dk_100 (dk_at dksX4_draggedAt_0 11 rfl rfl)
theorem dX4_draggedAt_12 : decode cX4_draggedAt 12 = .ok (.istore 4, 2) := dk_54 4 (dk_at dksX4_draggedAt_0 12 rfl rfl)
theorem dX4_draggedAt_14 : decode cX4_draggedAt 14 = .ok (.iload 4, 2) := dk_21 4 (dk_at dksX4_draggedAt_0 14 rfl rfl)
theorem dX4_draggedAt_16 : decode cX4_draggedAt 16 = .ok (.ifCond .gt 7, 3) := dk_157 0 7 (dk_at dksX4_draggedAt_0 16 rfl rfl)
theorem dX4_draggedAt_19 : decode cX4_draggedAt 19 = .ok (.iload_n 2, 1) := dk_28 (dk_at dksX4_draggedAt_0 19 rfl rfl)
theorem dX4_draggedAt_20 : decode cX4_draggedAt 20 = .ok (.goto 18, 3) := dk_167 0 18 (dk_at dksX4_draggedAt_0 20 rfl rfl)
theorem dX4_draggedAt_23 : decode cX4_draggedAt 23 = .ok (.bipush 99, 2) := dk_16 99 (dk_at dksX4_draggedAt_1 0 rfl rfl)
theorem dX4_draggedAt_25 : decode cX4_draggedAt 25 = .ok (.iload_n 2, 1) := dk_28 (dk_at dksX4_draggedAt_1 2 rfl rfl)
theorem dX4_draggedAt_26 : decode cX4_draggedAt 26 = .ok (.iload 4, 2) := dk_21 4 (dk_at dksX4_draggedAt_1 3 rfl rfl)
theorem dX4_draggedAt_28 : decode cX4_draggedAt 28 = .ok (.bipush 9, 2) := dk_16 9 (dk_at dksX4_draggedAt_1 5 rfl rfl)
theorem dX4_draggedAt_30 : decode cX4_draggedAt 30 = .ok (.iadd, 1) := dk_96 (dk_at dksX4_draggedAt_1 7 rfl rfl)
theorem dX4_draggedAt_31 : decode cX4_draggedAt 31 = .ok (.bipush 10, 2) := dk_16 10 (dk_at dksX4_draggedAt_1 8 rfl rfl)
theorem dX4_draggedAt_33 : decode cX4_draggedAt 33 = .ok (.idiv, 1) := dk_108 (dk_at dksX4_draggedAt_1 10 rfl rfl)
theorem dX4_draggedAt_34 : decode cX4_draggedAt 34 = .ok (.iadd, 1) := dk_96 (dk_at dksX4_draggedAt_1 11 rfl rfl)
theorem dX4_draggedAt_35 : decode cX4_draggedAt 35 = .ok (.invokestatic 106, 3) := dk_184 0 106 (dk_at dksX4_draggedAt_1 12 rfl rfl)
theorem dX4_draggedAt_38 : decode cX4_draggedAt 38 = .ok (.ireturn, 1) := dk_172 (dk_at dksX4_draggedAt_1 15 rfl rfl)
abbrev cX4_dragAgain : ByteArray := prog_29_method_39_code
def yX4_dragAgain : MethodName := ⟨RX4, "dragAgain", "(II)I"⟩
def dkwX4_dragAgain_0 : List UInt8 := [42, 27, 28, 182, 0, 155, 172]
abbrev dktX4_dragAgain_0 : List UInt8 := dkwX4_dragAgain_0 ++ []
theorem dksX4_dragAgain_0 : cX4_dragAgain.data.toList.drop 0 = dktX4_dragAgain_0 := by decide +kernel
theorem dX4_dragAgain_0 : decode cX4_dragAgain 0 = .ok (.aload_n 0, 1) := dk_42 (dk_at dksX4_dragAgain_0 0 rfl rfl)
theorem dX4_dragAgain_1 : decode cX4_dragAgain 1 = .ok (.iload_n 1, 1) := dk_27 (dk_at dksX4_dragAgain_0 1 rfl rfl)
theorem dX4_dragAgain_2 : decode cX4_dragAgain 2 = .ok (.iload_n 2, 1) := dk_28 (dk_at dksX4_dragAgain_0 2 rfl rfl)
theorem dX4_dragAgain_3 : decode cX4_dragAgain 3 = .ok (.invokevirtual 155, 3) := dk_182 0 155 (dk_at dksX4_dragAgain_0 3 rfl rfl)
theorem dX4_dragAgain_6 : decode cX4_dragAgain 6 = .ok (.ireturn, 1) := dk_172 (dk_at dksX4_dragAgain_0 6 rfl rfl)
abbrev cX4_come : ByteArray := prog_29_method_41_code
def yX4_come : MethodName := ⟨RX4, "come", "(IIII)I"⟩
def dkwX4_come_0 : List UInt8 := [42, 182, 0, 84, 42, 42, 27, 28, 29, 21, 4, 182, 0, 164, 6, 182, 0, 91, 172]
abbrev dktX4_come_0 : List UInt8 := dkwX4_come_0 ++ []
theorem dksX4_come_0 : cX4_come.data.toList.drop 0 = dktX4_come_0 := by decide +kernel
theorem dX4_come_0 : decode cX4_come 0 = .ok (.aload_n 0, 1) := dk_42 (dk_at dksX4_come_0 0 rfl rfl)
theorem dX4_come_1 : decode cX4_come 1 = .ok (.invokevirtual 84, 3) := dk_182 0 84 (dk_at dksX4_come_0 1 rfl rfl)
theorem dX4_come_4 : decode cX4_come 4 = .ok (.aload_n 0, 1) := dk_42 (dk_at dksX4_come_0 4 rfl rfl)
theorem dX4_come_5 : decode cX4_come 5 = .ok (.aload_n 0, 1) := dk_42 (dk_at dksX4_come_0 5 rfl rfl)
theorem dX4_come_6 : decode cX4_come 6 = .ok (.iload_n 1, 1) := dk_27 (dk_at dksX4_come_0 6 rfl rfl)
theorem dX4_come_7 : decode cX4_come 7 = .ok (.iload_n 2, 1) := dk_28 (dk_at dksX4_come_0 7 rfl rfl)
theorem dX4_come_8 : decode cX4_come 8 = .ok (.iload_n 3, 1) := dk_29 (dk_at dksX4_come_0 8 rfl rfl)
theorem dX4_come_9 : decode cX4_come 9 = .ok (.iload 4, 2) := dk_21 4 (dk_at dksX4_come_0 9 rfl rfl)
theorem dX4_come_11 : decode cX4_come 11 = .ok (.invokevirtual 164, 3) := dk_182 0 164 (dk_at dksX4_come_0 11 rfl rfl)
theorem dX4_come_14 : decode cX4_come 14 = .ok (.iconst 3, 1) := dk_6 (dk_at dksX4_come_0 14 rfl rfl)
theorem dX4_come_15 : decode cX4_come 15 = .ok (.invokevirtual 91, 3) := dk_182 0 91 (dk_at dksX4_come_0 15 rfl rfl)
theorem dX4_come_18 : decode cX4_come 18 = .ok (.ireturn, 1) := dk_172 (dk_at dksX4_come_0 18 rfl rfl)
abbrev cX4_comes : ByteArray := prog_29_method_40_code
def yX4_comes : MethodName := ⟨RX4, "comes", "(IIII)I"⟩
def dkwX4_comes_6 : List UInt8 := [21, 5, 96, 46, 182, 0, 124, 172]
abbrev dktX4_comes_6 : List UInt8 := dkwX4_comes_6 ++ []
def dkwX4_comes_5 : List UInt8 := [79, 79, 42, 180, 0, 21, 16, 64, 21, 5, 96, 92, 46, 21, 4, 96, 79, 42, 42, 180, 0, 21, 16, 64]
abbrev dktX4_comes_5 : List UInt8 := dkwX4_comes_5 ++ dktX4_comes_6
def dkwX4_comes_4 : List UInt8 := [154, 0, 26, 42, 180, 0, 21, 17, 0, 211, 21, 5, 96, 42, 180, 0, 21, 16, 9, 92, 46, 4, 96, 91]
abbrev dktX4_comes_4 : List UInt8 := dkwX4_comes_4 ++ dktX4_comes_5
def dkwX4_comes_3 : List UInt8 := [164, 0, 12, 42, 4, 17, 3, 231, 182, 0, 87, 172, 42, 180, 0, 21, 16, 64, 21, 5, 96, 46]
abbrev dktX4_comes_3 : List UInt8 := dkwX4_comes_3 ++ dktX4_comes_4
def dkwX4_comes_2 : List UInt8 := [29, 184, 0, 94, 54, 5, 42, 180, 0, 21, 16, 64, 21, 5, 96, 46, 21, 4, 96, 17, 3, 231]
abbrev dktX4_comes_2 : List UInt8 := dkwX4_comes_2 ++ dktX4_comes_3
def dkwX4_comes_1 : List UInt8 := [153, 0, 19, 28, 29, 159, 0, 14, 21, 4, 4, 16, 99, 184, 0, 80, 154, 0, 6, 16, 254, 172, 27, 28]
abbrev dktX4_comes_1 : List UInt8 := dkwX4_comes_1 ++ dktX4_comes_2
def dkwX4_comes_0 : List UInt8 := [42, 28, 182, 0, 158, 153, 0, 11, 42, 29, 182, 0, 158, 154, 0, 5, 2, 172, 27, 184, 0, 161]
abbrev dktX4_comes_0 : List UInt8 := dkwX4_comes_0 ++ dktX4_comes_1
theorem dksX4_comes_0 : cX4_comes.data.toList.drop 0 = dktX4_comes_0 := by decide +kernel
theorem dksX4_comes_1 : cX4_comes.data.toList.drop 22 = dktX4_comes_1 := dk_seg dksX4_comes_0 22 rfl rfl
theorem dksX4_comes_2 : cX4_comes.data.toList.drop 46 = dktX4_comes_2 := dk_seg dksX4_comes_1 24 rfl rfl
theorem dksX4_comes_3 : cX4_comes.data.toList.drop 68 = dktX4_comes_3 := dk_seg dksX4_comes_2 22 rfl rfl
theorem dksX4_comes_4 : cX4_comes.data.toList.drop 90 = dktX4_comes_4 := dk_seg dksX4_comes_3 22 rfl rfl
theorem dksX4_comes_5 : cX4_comes.data.toList.drop 114 = dktX4_comes_5 := dk_seg dksX4_comes_4 24 rfl rfl
theorem dksX4_comes_6 : cX4_comes.data.toList.drop 138 = dktX4_comes_6 := dk_seg dksX4_comes_5 24 rfl rfl
theorem dX4_comes_0 : decode cX4_comes 0 = .ok (.aload_n 0, 1) := dk_42 (dk_at dksX4_comes_0 0 rfl rfl)
theorem dX4_comes_1 : decode cX4_comes 1 = .ok (.iload_n 2, 1) := dk_28 (dk_at dksX4_comes_0 1 rfl rfl)
theorem dX4_comes_2 : decode cX4_comes 2 = .ok (.invokevirtual 158, 3) := dk_182 0 158 (dk_at dksX4_comes_0 2 rfl rfl)
theorem dX4_comes_5 : decode cX4_comes 5 = .ok (.ifCond .eq 11, 3) := dk_153 0 11 (dk_at dksX4_comes_0 5 rfl rfl)
theorem dX4_comes_8 : decode cX4_comes 8 = .ok (.aload_n 0, 1) := dk_42 (dk_at dksX4_comes_0 8 rfl rfl)
theorem dX4_comes_9 : decode cX4_comes 9 = .ok (.iload_n 3, 1) := dk_29 (dk_at dksX4_comes_0 9 rfl rfl)
theorem dX4_comes_10 : decode cX4_comes 10 = .ok (.invokevirtual 158, 3) := dk_182 0 158 (dk_at dksX4_comes_0 10 rfl rfl)
theorem dX4_comes_13 : decode cX4_comes 13 = .ok (.ifCond .ne 5, 3) := dk_154 0 5 (dk_at dksX4_comes_0 13 rfl rfl)
theorem dX4_comes_16 : decode cX4_comes 16 = .ok (.iconst (-1), 1) := dk_2 (dk_at dksX4_comes_0 16 rfl rfl)
theorem dX4_comes_17 : decode cX4_comes 17 = .ok (.ireturn, 1) := dk_172 (dk_at dksX4_comes_0 17 rfl rfl)
theorem dX4_comes_18 : decode cX4_comes 18 = .ok (.iload_n 1, 1) := dk_27 (dk_at dksX4_comes_0 18 rfl rfl)
theorem dX4_comes_19 : decode cX4_comes 19 = .ok (.invokestatic 161, 3) := dk_184 0 161 (dk_at dksX4_comes_0 19 rfl rfl)
theorem dX4_comes_22 : decode cX4_comes 22 = .ok (.ifCond .eq 19, 3) := dk_153 0 19 (dk_at dksX4_comes_1 0 rfl rfl)
theorem dX4_comes_25 : decode cX4_comes 25 = .ok (.iload_n 2, 1) := dk_28 (dk_at dksX4_comes_1 3 rfl rfl)
theorem dX4_comes_26 : decode cX4_comes 26 = .ok (.iload_n 3, 1) := dk_29 (dk_at dksX4_comes_1 4 rfl rfl)
theorem dX4_comes_27 : decode cX4_comes 27 = .ok (.if_icmp .eq 14, 3) := dk_159 0 14 (dk_at dksX4_comes_1 5 rfl rfl)
theorem dX4_comes_30 : decode cX4_comes 30 = .ok (.iload 4, 2) := dk_21 4 (dk_at dksX4_comes_1 8 rfl rfl)
theorem dX4_comes_32 : decode cX4_comes 32 = .ok (.iconst 1, 1) := dk_4 (dk_at dksX4_comes_1 10 rfl rfl)
theorem dX4_comes_33 : decode cX4_comes 33 = .ok (.bipush 99, 2) := dk_16 99 (dk_at dksX4_comes_1 11 rfl rfl)
theorem dX4_comes_35 : decode cX4_comes 35 = .ok (.invokestatic 80, 3) := dk_184 0 80 (dk_at dksX4_comes_1 13 rfl rfl)
theorem dX4_comes_38 : decode cX4_comes 38 = .ok (.ifCond .ne 6, 3) := dk_154 0 6 (dk_at dksX4_comes_1 16 rfl rfl)
theorem dX4_comes_41 : decode cX4_comes 41 = .ok (.bipush (-2), 2) := dk_16 254 (dk_at dksX4_comes_1 19 rfl rfl)
theorem dX4_comes_43 : decode cX4_comes 43 = .ok (.ireturn, 1) := dk_172 (dk_at dksX4_comes_1 21 rfl rfl)
theorem dX4_comes_44 : decode cX4_comes 44 = .ok (.iload_n 1, 1) := dk_27 (dk_at dksX4_comes_1 22 rfl rfl)
theorem dX4_comes_45 : decode cX4_comes 45 = .ok (.iload_n 2, 1) := dk_28 (dk_at dksX4_comes_1 23 rfl rfl)
theorem dX4_comes_46 : decode cX4_comes 46 = .ok (.iload_n 3, 1) := dk_29 (dk_at dksX4_comes_2 0 rfl rfl)
theorem dX4_comes_47 : decode cX4_comes 47 = .ok (.invokestatic 94, 3) := dk_184 0 94 (dk_at dksX4_comes_2 1 rfl rfl)
theorem dX4_comes_50 : decode cX4_comes 50 = .ok (.istore 5, 2) := dk_54 5 (dk_at dksX4_comes_2 4 rfl rfl)
theorem dX4_comes_52 : decode cX4_comes 52 = .ok (.aload_n 0, 1) := dk_42 (dk_at dksX4_comes_2 6 rfl rfl)
theorem dX4_comes_53 : decode cX4_comes 53 = .ok (.getfield 21, 3) := dk_180 0 21 (dk_at dksX4_comes_2 7 rfl rfl)
theorem dX4_comes_56 : decode cX4_comes 56 = .ok (.bipush 64, 2) := dk_16 64 (dk_at dksX4_comes_2 10 rfl rfl)
theorem dX4_comes_58 : decode cX4_comes 58 = .ok (.iload 5, 2) := dk_21 5 (dk_at dksX4_comes_2 12 rfl rfl)
theorem dX4_comes_60 : decode cX4_comes 60 = .ok (.iadd, 1) := dk_96 (dk_at dksX4_comes_2 14 rfl rfl)
theorem dX4_comes_61 : decode cX4_comes 61 = .ok (.iaload, 1) := dk_46 (dk_at dksX4_comes_2 15 rfl rfl)
theorem dX4_comes_62 : decode cX4_comes 62 = .ok (.iload 4, 2) := dk_21 4 (dk_at dksX4_comes_2 16 rfl rfl)
theorem dX4_comes_64 : decode cX4_comes 64 = .ok (.iadd, 1) := dk_96 (dk_at dksX4_comes_2 18 rfl rfl)
theorem dX4_comes_65 : decode cX4_comes 65 = .ok (.sipush 999, 3) := dk_17 3 231 (dk_at dksX4_comes_2 19 rfl rfl)
theorem dX4_comes_68 : decode cX4_comes 68 = .ok (.if_icmp .le 12, 3) := dk_164 0 12 (dk_at dksX4_comes_3 0 rfl rfl)
theorem dX4_comes_71 : decode cX4_comes 71 = .ok (.aload_n 0, 1) := dk_42 (dk_at dksX4_comes_3 3 rfl rfl)
theorem dX4_comes_72 : decode cX4_comes 72 = .ok (.iconst 1, 1) := dk_4 (dk_at dksX4_comes_3 4 rfl rfl)
theorem dX4_comes_73 : decode cX4_comes 73 = .ok (.sipush 999, 3) := dk_17 3 231 (dk_at dksX4_comes_3 5 rfl rfl)
theorem dX4_comes_76 : decode cX4_comes 76 = .ok (.invokevirtual 87, 3) := dk_182 0 87 (dk_at dksX4_comes_3 8 rfl rfl)
theorem dX4_comes_79 : decode cX4_comes 79 = .ok (.ireturn, 1) := dk_172 (dk_at dksX4_comes_3 11 rfl rfl)
theorem dX4_comes_80 : decode cX4_comes 80 = .ok (.aload_n 0, 1) := dk_42 (dk_at dksX4_comes_3 12 rfl rfl)
theorem dX4_comes_81 : decode cX4_comes 81 = .ok (.getfield 21, 3) := dk_180 0 21 (dk_at dksX4_comes_3 13 rfl rfl)
theorem dX4_comes_84 : decode cX4_comes 84 = .ok (.bipush 64, 2) := dk_16 64 (dk_at dksX4_comes_3 16 rfl rfl)
theorem dX4_comes_86 : decode cX4_comes 86 = .ok (.iload 5, 2) := dk_21 5 (dk_at dksX4_comes_3 18 rfl rfl)
theorem dX4_comes_88 : decode cX4_comes 88 = .ok (.iadd, 1) := dk_96 (dk_at dksX4_comes_3 20 rfl rfl)
theorem dX4_comes_89 : decode cX4_comes 89 = .ok (.iaload, 1) := dk_46 (dk_at dksX4_comes_3 21 rfl rfl)
theorem dX4_comes_90 : decode cX4_comes 90 = .ok (.ifCond .ne 26, 3) := dk_154 0 26 (dk_at dksX4_comes_4 0 rfl rfl)
theorem dX4_comes_93 : decode cX4_comes 93 = .ok (.aload_n 0, 1) := dk_42 (dk_at dksX4_comes_4 3 rfl rfl)
theorem dX4_comes_94 : decode cX4_comes 94 = .ok (.getfield 21, 3) := dk_180 0 21 (dk_at dksX4_comes_4 4 rfl rfl)
theorem dX4_comes_97 : decode cX4_comes 97 = .ok (.sipush 211, 3) := dk_17 0 211 (dk_at dksX4_comes_4 7 rfl rfl)
theorem dX4_comes_100 : decode cX4_comes 100 = .ok (.iload 5, 2) := dk_21 5 (dk_at dksX4_comes_4 10 rfl rfl)
theorem dX4_comes_102 : decode cX4_comes 102 = .ok (.iadd, 1) := dk_96 (dk_at dksX4_comes_4 12 rfl rfl)
theorem dX4_comes_103 : decode cX4_comes 103 = .ok (.aload_n 0, 1) := dk_42 (dk_at dksX4_comes_4 13 rfl rfl)
theorem dX4_comes_104 : decode cX4_comes 104 = .ok (.getfield 21, 3) := dk_180 0 21 (dk_at dksX4_comes_4 14 rfl rfl)
theorem dX4_comes_107 : decode cX4_comes 107 = .ok (.bipush 9, 2) := dk_16 9 (dk_at dksX4_comes_4 17 rfl rfl)
theorem dX4_comes_109 : decode cX4_comes 109 = .ok (.dup2, 1) := dk_92 (dk_at dksX4_comes_4 19 rfl rfl)
theorem dX4_comes_110 : decode cX4_comes 110 = .ok (.iaload, 1) := dk_46 (dk_at dksX4_comes_4 20 rfl rfl)
theorem dX4_comes_111 : decode cX4_comes 111 = .ok (.iconst 1, 1) := dk_4 (dk_at dksX4_comes_4 21 rfl rfl)
theorem dX4_comes_112 : decode cX4_comes 112 = .ok (.iadd, 1) := dk_96 (dk_at dksX4_comes_4 22 rfl rfl)
theorem dX4_comes_113 : decode cX4_comes 113 = .ok (.dup_x2, 1) := dk_91 (dk_at dksX4_comes_4 23 rfl rfl)
theorem dX4_comes_114 : decode cX4_comes 114 = .ok (.iastore, 1) := dk_79 (dk_at dksX4_comes_5 0 rfl rfl)
theorem dX4_comes_115 : decode cX4_comes 115 = .ok (.iastore, 1) := dk_79 (dk_at dksX4_comes_5 1 rfl rfl)
theorem dX4_comes_116 : decode cX4_comes 116 = .ok (.aload_n 0, 1) := dk_42 (dk_at dksX4_comes_5 2 rfl rfl)
theorem dX4_comes_117 : decode cX4_comes 117 = .ok (.getfield 21, 3) := dk_180 0 21 (dk_at dksX4_comes_5 3 rfl rfl)
theorem dX4_comes_120 : decode cX4_comes 120 = .ok (.bipush 64, 2) := dk_16 64 (dk_at dksX4_comes_5 6 rfl rfl)
theorem dX4_comes_122 : decode cX4_comes 122 = .ok (.iload 5, 2) := dk_21 5 (dk_at dksX4_comes_5 8 rfl rfl)
theorem dX4_comes_124 : decode cX4_comes 124 = .ok (.iadd, 1) := dk_96 (dk_at dksX4_comes_5 10 rfl rfl)
theorem dX4_comes_125 : decode cX4_comes 125 = .ok (.dup2, 1) := dk_92 (dk_at dksX4_comes_5 11 rfl rfl)
theorem dX4_comes_126 : decode cX4_comes 126 = .ok (.iaload, 1) := dk_46 (dk_at dksX4_comes_5 12 rfl rfl)
theorem dX4_comes_127 : decode cX4_comes 127 = .ok (.iload 4, 2) := dk_21 4 (dk_at dksX4_comes_5 13 rfl rfl)
theorem dX4_comes_129 : decode cX4_comes 129 = .ok (.iadd, 1) := dk_96 (dk_at dksX4_comes_5 15 rfl rfl)
theorem dX4_comes_130 : decode cX4_comes 130 = .ok (.iastore, 1) := dk_79 (dk_at dksX4_comes_5 16 rfl rfl)
theorem dX4_comes_131 : decode cX4_comes 131 = .ok (.aload_n 0, 1) := dk_42 (dk_at dksX4_comes_5 17 rfl rfl)
theorem dX4_comes_132 : decode cX4_comes 132 = .ok (.aload_n 0, 1) := dk_42 (dk_at dksX4_comes_5 18 rfl rfl)
theorem dX4_comes_133 : decode cX4_comes 133 = .ok (.getfield 21, 3) := dk_180 0 21 (dk_at dksX4_comes_5 19 rfl rfl)
theorem dX4_comes_136 : decode cX4_comes 136 = .ok (.bipush 64, 2) := dk_16 64 (dk_at dksX4_comes_5 22 rfl rfl)
theorem dX4_comes_138 : decode cX4_comes 138 = .ok (.iload 5, 2) := dk_21 5 (dk_at dksX4_comes_6 0 rfl rfl)
theorem dX4_comes_140 : decode cX4_comes 140 = .ok (.iadd, 1) := dk_96 (dk_at dksX4_comes_6 2 rfl rfl)
theorem dX4_comes_141 : decode cX4_comes 141 = .ok (.iaload, 1) := dk_46 (dk_at dksX4_comes_6 3 rfl rfl)
theorem dX4_comes_142 : decode cX4_comes 142 = .ok (.invokevirtual 124, 3) := dk_182 0 124 (dk_at dksX4_comes_6 4 rfl rfl)
theorem dX4_comes_145 : decode cX4_comes 145 = .ok (.ireturn, 1) := dk_172 (dk_at dksX4_comes_6 7 rfl rfl)
abbrev cX4_isStop : ByteArray := prog_29_method_12_code
def yX4_isStop : MethodName := ⟨RX4, "isStop", "(I)Z"⟩
def dkwX4_isStop_0 : List UInt8 := [27, 3, 42, 180, 0, 21, 3, 46, 184, 0, 80, 172]
abbrev dktX4_isStop_0 : List UInt8 := dkwX4_isStop_0 ++ []
theorem dksX4_isStop_0 : cX4_isStop.data.toList.drop 0 = dktX4_isStop_0 := by decide +kernel
theorem dX4_isStop_0 : decode cX4_isStop 0 = .ok (.iload_n 1, 1) := dk_27 (dk_at dksX4_isStop_0 0 rfl rfl)
theorem dX4_isStop_1 : decode cX4_isStop 1 = .ok (.iconst 0, 1) := dk_3 (dk_at dksX4_isStop_0 1 rfl rfl)
theorem dX4_isStop_2 : decode cX4_isStop 2 = .ok (.aload_n 0, 1) := dk_42 (dk_at dksX4_isStop_0 2 rfl rfl)
theorem dX4_isStop_3 : decode cX4_isStop 3 = .ok (.getfield 21, 3) := dk_180 0 21 (dk_at dksX4_isStop_0 3 rfl rfl)
theorem dX4_isStop_6 : decode cX4_isStop 6 = .ok (.iconst 0, 1) := dk_3 (dk_at dksX4_isStop_0 6 rfl rfl)
theorem dX4_isStop_7 : decode cX4_isStop 7 = .ok (.iaload, 1) := dk_46 (dk_at dksX4_isStop_0 7 rfl rfl)
theorem dX4_isStop_8 : decode cX4_isStop 8 = .ok (.invokestatic 80, 3) := dk_184 0 80 (dk_at dksX4_isStop_0 8 rfl rfl)
theorem dX4_isStop_11 : decode cX4_isStop 11 = .ok (.ireturn, 1) := dk_172 (dk_at dksX4_isStop_0 11 rfl rfl)
abbrev cX4_isKind : ByteArray := prog_29_method_14_code
def yX4_isKind : MethodName := ⟨RX4, "isKind", "(I)Z"⟩
def dkwX4_isKind_0 : List UInt8 := [26, 3, 5, 184, 0, 80, 172]
abbrev dktX4_isKind_0 : List UInt8 := dkwX4_isKind_0 ++ []
theorem dksX4_isKind_0 : cX4_isKind.data.toList.drop 0 = dktX4_isKind_0 := by decide +kernel
theorem dX4_isKind_0 : decode cX4_isKind 0 = .ok (.iload_n 0, 1) := dk_26 (dk_at dksX4_isKind_0 0 rfl rfl)
theorem dX4_isKind_1 : decode cX4_isKind 1 = .ok (.iconst 0, 1) := dk_3 (dk_at dksX4_isKind_0 1 rfl rfl)
theorem dX4_isKind_2 : decode cX4_isKind 2 = .ok (.iconst 2, 1) := dk_5 (dk_at dksX4_isKind_0 2 rfl rfl)
theorem dX4_isKind_3 : decode cX4_isKind 3 = .ok (.invokestatic 80, 3) := dk_184 0 80 (dk_at dksX4_isKind_0 3 rfl rfl)
theorem dX4_isKind_6 : decode cX4_isKind 6 = .ok (.ireturn, 1) := dk_172 (dk_at dksX4_isKind_0 6 rfl rfl)
abbrev cX4_group : ByteArray := prog_29_method_42_code
def yX4_group : MethodName := ⟨RX4, "group", "(IIII)I"⟩
def dkwX4_group_4 : List UInt8 := [167, 0, 14, 42, 180, 0, 21, 17, 1, 249, 21, 5, 96, 46, 172]
abbrev dktX4_group_4 : List UInt8 := dkwX4_group_4 ++ []
def dkwX4_group_3 : List UInt8 := [21, 5, 96, 46, 167, 0, 34, 21, 4, 4, 160, 0, 17, 42, 180, 0, 21, 17, 1, 102, 21, 5, 96, 46]
abbrev dktX4_group_3 : List UInt8 := dkwX4_group_3 ++ dktX4_group_4
def dkwX4_group_2 : List UInt8 := [182, 0, 77, 172, 27, 28, 29, 184, 0, 94, 54, 5, 21, 4, 154, 0, 16, 42, 180, 0, 21, 16, 64]
abbrev dktX4_group_2 : List UInt8 := dkwX4_group_2 ++ dktX4_group_3
def dkwX4_group_1 : List UInt8 := [182, 0, 77, 172, 27, 184, 0, 161, 153, 0, 13, 21, 4, 3, 5, 184, 0, 80, 154, 0, 9, 42, 5]
abbrev dktX4_group_1 : List UInt8 := dkwX4_group_1 ++ dktX4_group_2
def dkwX4_group_0 : List UInt8 := [42, 3, 181, 0, 58, 42, 28, 182, 0, 158, 153, 0, 11, 42, 29, 182, 0, 158, 154, 0, 9, 42, 4]
abbrev dktX4_group_0 : List UInt8 := dkwX4_group_0 ++ dktX4_group_1
theorem dksX4_group_0 : cX4_group.data.toList.drop 0 = dktX4_group_0 := by decide +kernel
theorem dksX4_group_1 : cX4_group.data.toList.drop 23 = dktX4_group_1 := dk_seg dksX4_group_0 23 rfl rfl
theorem dksX4_group_2 : cX4_group.data.toList.drop 46 = dktX4_group_2 := dk_seg dksX4_group_1 23 rfl rfl
theorem dksX4_group_3 : cX4_group.data.toList.drop 69 = dktX4_group_3 := dk_seg dksX4_group_2 23 rfl rfl
theorem dksX4_group_4 : cX4_group.data.toList.drop 93 = dktX4_group_4 := dk_seg dksX4_group_3 24 rfl rfl
theorem dX4_group_0 : decode cX4_group 0 = .ok (.aload_n 0, 1) := dk_42 (dk_at dksX4_group_0 0 rfl rfl)
theorem dX4_group_1 : decode cX4_group 1 = .ok (.iconst 0, 1) := dk_3 (dk_at dksX4_group_0 1 rfl rfl)
theorem dX4_group_2 : decode cX4_group 2 = .ok (.putfield 58, 3) := dk_181 0 58 (dk_at dksX4_group_0 2 rfl rfl)
theorem dX4_group_5 : decode cX4_group 5 = .ok (.aload_n 0, 1) := dk_42 (dk_at dksX4_group_0 5 rfl rfl)
theorem dX4_group_6 : decode cX4_group 6 = .ok (.iload_n 2, 1) := dk_28 (dk_at dksX4_group_0 6 rfl rfl)
theorem dX4_group_7 : decode cX4_group 7 = .ok (.invokevirtual 158, 3) := dk_182 0 158 (dk_at dksX4_group_0 7 rfl rfl)
theorem dX4_group_10 : decode cX4_group 10 = .ok (.ifCond .eq 11, 3) := dk_153 0 11 (dk_at dksX4_group_0 10 rfl rfl)
theorem dX4_group_13 : decode cX4_group 13 = .ok (.aload_n 0, 1) := dk_42 (dk_at dksX4_group_0 13 rfl rfl)
theorem dX4_group_14 : decode cX4_group 14 = .ok (.iload_n 3, 1) := dk_29 (dk_at dksX4_group_0 14 rfl rfl)
theorem dX4_group_15 : decode cX4_group 15 = .ok (.invokevirtual 158, 3) := dk_182 0 158 (dk_at dksX4_group_0 15 rfl rfl)
theorem dX4_group_18 : decode cX4_group 18 = .ok (.ifCond .ne 9, 3) := dk_154 0 9 (dk_at dksX4_group_0 18 rfl rfl)
theorem dX4_group_21 : decode cX4_group 21 = .ok (.aload_n 0, 1) := dk_42 (dk_at dksX4_group_0 21 rfl rfl)
theorem dX4_group_22 : decode cX4_group 22 = .ok (.iconst 1, 1) := dk_4 (dk_at dksX4_group_0 22 rfl rfl)
theorem dX4_group_23 : decode cX4_group 23 = .ok (.invokevirtual 77, 3) := dk_182 0 77 (dk_at dksX4_group_1 0 rfl rfl)
theorem dX4_group_26 : decode cX4_group 26 = .ok (.ireturn, 1) := dk_172 (dk_at dksX4_group_1 3 rfl rfl)
theorem dX4_group_27 : decode cX4_group 27 = .ok (.iload_n 1, 1) := dk_27 (dk_at dksX4_group_1 4 rfl rfl)
theorem dX4_group_28 : decode cX4_group 28 = .ok (.invokestatic 161, 3) := dk_184 0 161 (dk_at dksX4_group_1 5 rfl rfl)
theorem dX4_group_31 : decode cX4_group 31 = .ok (.ifCond .eq 13, 3) := dk_153 0 13 (dk_at dksX4_group_1 8 rfl rfl)
theorem dX4_group_34 : decode cX4_group 34 = .ok (.iload 4, 2) := dk_21 4 (dk_at dksX4_group_1 11 rfl rfl)
theorem dX4_group_36 : decode cX4_group 36 = .ok (.iconst 0, 1) := dk_3 (dk_at dksX4_group_1 13 rfl rfl)
theorem dX4_group_37 : decode cX4_group 37 = .ok (.iconst 2, 1) := dk_5 (dk_at dksX4_group_1 14 rfl rfl)
theorem dX4_group_38 : decode cX4_group 38 = .ok (.invokestatic 80, 3) := dk_184 0 80 (dk_at dksX4_group_1 15 rfl rfl)
theorem dX4_group_41 : decode cX4_group 41 = .ok (.ifCond .ne 9, 3) := dk_154 0 9 (dk_at dksX4_group_1 18 rfl rfl)
theorem dX4_group_44 : decode cX4_group 44 = .ok (.aload_n 0, 1) := dk_42 (dk_at dksX4_group_1 21 rfl rfl)
theorem dX4_group_45 : decode cX4_group 45 = .ok (.iconst 2, 1) := dk_5 (dk_at dksX4_group_1 22 rfl rfl)
theorem dX4_group_46 : decode cX4_group 46 = .ok (.invokevirtual 77, 3) := dk_182 0 77 (dk_at dksX4_group_2 0 rfl rfl)
theorem dX4_group_49 : decode cX4_group 49 = .ok (.ireturn, 1) := dk_172 (dk_at dksX4_group_2 3 rfl rfl)
theorem dX4_group_50 : decode cX4_group 50 = .ok (.iload_n 1, 1) := dk_27 (dk_at dksX4_group_2 4 rfl rfl)
theorem dX4_group_51 : decode cX4_group 51 = .ok (.iload_n 2, 1) := dk_28 (dk_at dksX4_group_2 5 rfl rfl)
theorem dX4_group_52 : decode cX4_group 52 = .ok (.iload_n 3, 1) := dk_29 (dk_at dksX4_group_2 6 rfl rfl)
theorem dX4_group_53 : decode cX4_group 53 = .ok (.invokestatic 94, 3) := dk_184 0 94 (dk_at dksX4_group_2 7 rfl rfl)
theorem dX4_group_56 : decode cX4_group 56 = .ok (.istore 5, 2) := dk_54 5 (dk_at dksX4_group_2 10 rfl rfl)
theorem dX4_group_58 : decode cX4_group 58 = .ok (.iload 4, 2) := dk_21 4 (dk_at dksX4_group_2 12 rfl rfl)
theorem dX4_group_60 : decode cX4_group 60 = .ok (.ifCond .ne 16, 3) := dk_154 0 16 (dk_at dksX4_group_2 14 rfl rfl)
theorem dX4_group_63 : decode cX4_group 63 = .ok (.aload_n 0, 1) := dk_42 (dk_at dksX4_group_2 17 rfl rfl)
theorem dX4_group_64 : decode cX4_group 64 = .ok (.getfield 21, 3) := dk_180 0 21 (dk_at dksX4_group_2 18 rfl rfl)
theorem dX4_group_67 : decode cX4_group 67 = .ok (.bipush 64, 2) := dk_16 64 (dk_at dksX4_group_2 21 rfl rfl)
theorem dX4_group_69 : decode cX4_group 69 = .ok (.iload 5, 2) := dk_21 5 (dk_at dksX4_group_3 0 rfl rfl)
theorem dX4_group_71 : decode cX4_group 71 = .ok (.iadd, 1) := dk_96 (dk_at dksX4_group_3 2 rfl rfl)
theorem dX4_group_72 : decode cX4_group 72 = .ok (.iaload, 1) := dk_46 (dk_at dksX4_group_3 3 rfl rfl)
theorem dX4_group_73 : decode cX4_group 73 = .ok (.goto 34, 3) := dk_167 0 34 (dk_at dksX4_group_3 4 rfl rfl)
theorem dX4_group_76 : decode cX4_group 76 = .ok (.iload 4, 2) := dk_21 4 (dk_at dksX4_group_3 7 rfl rfl)
theorem dX4_group_78 : decode cX4_group 78 = .ok (.iconst 1, 1) := dk_4 (dk_at dksX4_group_3 9 rfl rfl)
theorem dX4_group_79 : decode cX4_group 79 = .ok (.if_icmp .ne 17, 3) := dk_160 0 17 (dk_at dksX4_group_3 10 rfl rfl)
theorem dX4_group_82 : decode cX4_group 82 = .ok (.aload_n 0, 1) := dk_42 (dk_at dksX4_group_3 13 rfl rfl)
theorem dX4_group_83 : decode cX4_group 83 = .ok (.getfield 21, 3) := dk_180 0 21 (dk_at dksX4_group_3 14 rfl rfl)
theorem dX4_group_86 : decode cX4_group 86 = .ok (.sipush 358, 3) := dk_17 1 102 (dk_at dksX4_group_3 17 rfl rfl)
theorem dX4_group_89 : decode cX4_group 89 = .ok (.iload 5, 2) := dk_21 5 (dk_at dksX4_group_3 20 rfl rfl)
theorem dX4_group_91 : decode cX4_group 91 = .ok (.iadd, 1) := dk_96 (dk_at dksX4_group_3 22 rfl rfl)
theorem dX4_group_92 : decode cX4_group 92 = .ok (.iaload, 1) := dk_46 (dk_at dksX4_group_3 23 rfl rfl)
theorem dX4_group_93 : decode cX4_group 93 = .ok (.goto 14, 3) := dk_167 0 14 (dk_at dksX4_group_4 0 rfl rfl)
theorem dX4_group_96 : decode cX4_group 96 = .ok (.aload_n 0, 1) := dk_42 (dk_at dksX4_group_4 3 rfl rfl)
theorem dX4_group_97 : decode cX4_group 97 = .ok (.getfield 21, 3) := dk_180 0 21 (dk_at dksX4_group_4 4 rfl rfl)
theorem dX4_group_100 : decode cX4_group 100 = .ok (.sipush 505, 3) := dk_17 1 249 (dk_at dksX4_group_4 7 rfl rfl)
theorem dX4_group_103 : decode cX4_group 103 = .ok (.iload 5, 2) := dk_21 5 (dk_at dksX4_group_4 10 rfl rfl)
theorem dX4_group_105 : decode cX4_group 105 = .ok (.iadd, 1) := dk_96 (dk_at dksX4_group_4 12 rfl rfl)
theorem dX4_group_106 : decode cX4_group 106 = .ok (.iaload, 1) := dk_46 (dk_at dksX4_group_4 13 rfl rfl)
theorem dX4_group_107 : decode cX4_group 107 = .ok (.ireturn, 1) := dk_172 (dk_at dksX4_group_4 14 rfl rfl)
abbrev cX4_board : ByteArray := prog_29_method_44_code
def yX4_board : MethodName := ⟨RX4, "board", "(IIIZ)I"⟩
def dkwX4_board_0 : List UInt8 := [42, 182, 0, 84, 42, 42, 27, 28, 29, 21, 4, 182, 0, 168, 6, 182, 0, 91, 172]
abbrev dktX4_board_0 : List UInt8 := dkwX4_board_0 ++ []
theorem dksX4_board_0 : cX4_board.data.toList.drop 0 = dktX4_board_0 := by decide +kernel
theorem dX4_board_0 : decode cX4_board 0 = .ok (.aload_n 0, 1) := dk_42 (dk_at dksX4_board_0 0 rfl rfl)
theorem dX4_board_1 : decode cX4_board 1 = .ok (.invokevirtual 84, 3) := dk_182 0 84 (dk_at dksX4_board_0 1 rfl rfl)
theorem dX4_board_4 : decode cX4_board 4 = .ok (.aload_n 0, 1) := dk_42 (dk_at dksX4_board_0 4 rfl rfl)
theorem dX4_board_5 : decode cX4_board 5 = .ok (.aload_n 0, 1) := dk_42 (dk_at dksX4_board_0 5 rfl rfl)
theorem dX4_board_6 : decode cX4_board 6 = .ok (.iload_n 1, 1) := dk_27 (dk_at dksX4_board_0 6 rfl rfl)
theorem dX4_board_7 : decode cX4_board 7 = .ok (.iload_n 2, 1) := dk_28 (dk_at dksX4_board_0 7 rfl rfl)
theorem dX4_board_8 : decode cX4_board 8 = .ok (.iload_n 3, 1) := dk_29 (dk_at dksX4_board_0 8 rfl rfl)
theorem dX4_board_9 : decode cX4_board 9 = .ok (.iload 4, 2) := dk_21 4 (dk_at dksX4_board_0 9 rfl rfl)
theorem dX4_board_11 : decode cX4_board 11 = .ok (.invokevirtual 168, 3) := dk_182 0 168 (dk_at dksX4_board_0 11 rfl rfl)
theorem dX4_board_14 : decode cX4_board 14 = .ok (.iconst 3, 1) := dk_6 (dk_at dksX4_board_0 14 rfl rfl)
theorem dX4_board_15 : decode cX4_board 15 = .ok (.invokevirtual 91, 3) := dk_182 0 91 (dk_at dksX4_board_0 15 rfl rfl)
theorem dX4_board_18 : decode cX4_board 18 = .ok (.ireturn, 1) := dk_172 (dk_at dksX4_board_0 18 rfl rfl)
abbrev cX4_boards : ByteArray := prog_29_method_43_code
def yX4_boards : MethodName := ⟨RX4, "boards", "(IIIZ)I"⟩
def dkwX4_boards_6 : List UInt8 := [79, 42, 21, 6, 182, 0, 124, 172]
abbrev dktX4_boards_6 : List UInt8 := dkwX4_boards_6 ++ []
def dkwX4_boards_5 : List UInt8 := [180, 0, 21, 21, 4, 153, 0, 9, 17, 1, 249, 167, 0, 6, 17, 1, 102, 21, 5, 96, 92, 46, 29, 96]
abbrev dktX4_boards_5 : List UInt8 := dkwX4_boards_5 ++ dktX4_boards_6
def dkwX4_boards_4 : List UInt8 := [42, 16, 7, 21, 6, 182, 0, 87, 172, 42, 180, 0, 21, 16, 64, 21, 5, 96, 92, 46, 29, 100, 79, 42]
abbrev dktX4_boards_4 : List UInt8 := dkwX4_boards_4 ++ dktX4_boards_5
def dkwX4_boards_3 : List UInt8 := [182, 0, 87, 172, 42, 182, 0, 142, 29, 27, 184, 0, 136, 104, 96, 54, 6, 21, 6, 16, 60, 164, 0, 12]
abbrev dktX4_boards_3 : List UInt8 := dkwX4_boards_3 ++ dktX4_boards_4
def dkwX4_boards_2 : List UInt8 := [16, 64, 21, 5, 96, 46, 29, 162, 0, 20, 42, 16, 8, 42, 180, 0, 21, 16, 64, 21, 5, 96, 46]
abbrev dktX4_boards_2 : List UInt8 := dkwX4_boards_2 ++ dktX4_boards_3
def dkwX4_boards_1 : List UInt8 := [154, 0, 6, 16, 254, 172, 27, 42, 180, 0, 21, 7, 46, 28, 184, 0, 94, 54, 5, 42, 180, 0, 21]
abbrev dktX4_boards_1 : List UInt8 := dkwX4_boards_1 ++ dktX4_boards_2
def dkwX4_boards_0 : List UInt8 := [42, 28, 182, 0, 158, 154, 0, 5, 2, 172, 27, 184, 0, 161, 153, 0, 13, 29, 4, 16, 99, 184, 0, 80]
abbrev dktX4_boards_0 : List UInt8 := dkwX4_boards_0 ++ dktX4_boards_1
theorem dksX4_boards_0 : cX4_boards.data.toList.drop 0 = dktX4_boards_0 := by decide +kernel
theorem dksX4_boards_1 : cX4_boards.data.toList.drop 24 = dktX4_boards_1 := dk_seg dksX4_boards_0 24 rfl rfl
theorem dksX4_boards_2 : cX4_boards.data.toList.drop 47 = dktX4_boards_2 := dk_seg dksX4_boards_1 23 rfl rfl
theorem dksX4_boards_3 : cX4_boards.data.toList.drop 70 = dktX4_boards_3 := dk_seg dksX4_boards_2 23 rfl rfl
theorem dksX4_boards_4 : cX4_boards.data.toList.drop 94 = dktX4_boards_4 := dk_seg dksX4_boards_3 24 rfl rfl
theorem dksX4_boards_5 : cX4_boards.data.toList.drop 118 = dktX4_boards_5 := dk_seg dksX4_boards_4 24 rfl rfl
theorem dksX4_boards_6 : cX4_boards.data.toList.drop 142 = dktX4_boards_6 := dk_seg dksX4_boards_5 24 rfl rfl
theorem dX4_boards_0 : decode cX4_boards 0 = .ok (.aload_n 0, 1) := dk_42 (dk_at dksX4_boards_0 0 rfl rfl)
theorem dX4_boards_1 : decode cX4_boards 1 = .ok (.iload_n 2, 1) := dk_28 (dk_at dksX4_boards_0 1 rfl rfl)
theorem dX4_boards_2 : decode cX4_boards 2 = .ok (.invokevirtual 158, 3) := dk_182 0 158 (dk_at dksX4_boards_0 2 rfl rfl)
theorem dX4_boards_5 : decode cX4_boards 5 = .ok (.ifCond .ne 5, 3) := dk_154 0 5 (dk_at dksX4_boards_0 5 rfl rfl)
theorem dX4_boards_8 : decode cX4_boards 8 = .ok (.iconst (-1), 1) := dk_2 (dk_at dksX4_boards_0 8 rfl rfl)
theorem dX4_boards_9 : decode cX4_boards 9 = .ok (.ireturn, 1) := dk_172 (dk_at dksX4_boards_0 9 rfl rfl)
theorem dX4_boards_10 : decode cX4_boards 10 = .ok (.iload_n 1, 1) := dk_27 (dk_at dksX4_boards_0 10 rfl rfl)
theorem dX4_boards_11 : decode cX4_boards 11 = .ok (.invokestatic 161, 3) := dk_184 0 161 (dk_at dksX4_boards_0 11 rfl rfl)
theorem dX4_boards_14 : decode cX4_boards 14 = .ok (.ifCond .eq 13, 3) := dk_153 0 13 (dk_at dksX4_boards_0 14 rfl rfl)
theorem dX4_boards_17 : decode cX4_boards 17 = .ok (.iload_n 3, 1) := dk_29 (dk_at dksX4_boards_0 17 rfl rfl)
theorem dX4_boards_18 : decode cX4_boards 18 = .ok (.iconst 1, 1) := dk_4 (dk_at dksX4_boards_0 18 rfl rfl)
theorem dX4_boards_19 : decode cX4_boards 19 = .ok (.bipush 99, 2) := dk_16 99 (dk_at dksX4_boards_0 19 rfl rfl)
theorem dX4_boards_21 : decode cX4_boards 21 = .ok (.invokestatic 80, 3) := dk_184 0 80 (dk_at dksX4_boards_0 21 rfl rfl)
theorem dX4_boards_24 : decode cX4_boards 24 = .ok (.ifCond .ne 6, 3) := dk_154 0 6 (dk_at dksX4_boards_1 0 rfl rfl)
theorem dX4_boards_27 : decode cX4_boards 27 = .ok (.bipush (-2), 2) := dk_16 254 (dk_at dksX4_boards_1 3 rfl rfl)
theorem dX4_boards_29 : decode cX4_boards 29 = .ok (.ireturn, 1) := dk_172 (dk_at dksX4_boards_1 5 rfl rfl)
theorem dX4_boards_30 : decode cX4_boards 30 = .ok (.iload_n 1, 1) := dk_27 (dk_at dksX4_boards_1 6 rfl rfl)
theorem dX4_boards_31 : decode cX4_boards 31 = .ok (.aload_n 0, 1) := dk_42 (dk_at dksX4_boards_1 7 rfl rfl)
theorem dX4_boards_32 : decode cX4_boards 32 = .ok (.getfield 21, 3) := dk_180 0 21 (dk_at dksX4_boards_1 8 rfl rfl)
theorem dX4_boards_35 : decode cX4_boards 35 = .ok (.iconst 4, 1) := dk_7 (dk_at dksX4_boards_1 11 rfl rfl)
theorem dX4_boards_36 : decode cX4_boards 36 = .ok (.iaload, 1) := dk_46 (dk_at dksX4_boards_1 12 rfl rfl)
theorem dX4_boards_37 : decode cX4_boards 37 = .ok (.iload_n 2, 1) := dk_28 (dk_at dksX4_boards_1 13 rfl rfl)
theorem dX4_boards_38 : decode cX4_boards 38 = .ok (.invokestatic 94, 3) := dk_184 0 94 (dk_at dksX4_boards_1 14 rfl rfl)
theorem dX4_boards_41 : decode cX4_boards 41 = .ok (.istore 5, 2) := dk_54 5 (dk_at dksX4_boards_1 17 rfl rfl)
theorem dX4_boards_43 : decode cX4_boards 43 = .ok (.aload_n 0, 1) := dk_42 (dk_at dksX4_boards_1 19 rfl rfl)
theorem dX4_boards_44 : decode cX4_boards 44 = .ok (.getfield 21, 3) := dk_180 0 21 (dk_at dksX4_boards_1 20 rfl rfl)
theorem dX4_boards_47 : decode cX4_boards 47 = .ok (.bipush 64, 2) := dk_16 64 (dk_at dksX4_boards_2 0 rfl rfl)
theorem dX4_boards_49 : decode cX4_boards 49 = .ok (.iload 5, 2) := dk_21 5 (dk_at dksX4_boards_2 2 rfl rfl)
theorem dX4_boards_51 : decode cX4_boards 51 = .ok (.iadd, 1) := dk_96 (dk_at dksX4_boards_2 4 rfl rfl)
theorem dX4_boards_52 : decode cX4_boards 52 = .ok (.iaload, 1) := dk_46 (dk_at dksX4_boards_2 5 rfl rfl)
theorem dX4_boards_53 : decode cX4_boards 53 = .ok (.iload_n 3, 1) := dk_29 (dk_at dksX4_boards_2 6 rfl rfl)
theorem dX4_boards_54 : decode cX4_boards 54 = .ok (.if_icmp .ge 20, 3) := dk_162 0 20 (dk_at dksX4_boards_2 7 rfl rfl)
theorem dX4_boards_57 : decode cX4_boards 57 = .ok (.aload_n 0, 1) := dk_42 (dk_at dksX4_boards_2 10 rfl rfl)
theorem dX4_boards_58 : decode cX4_boards 58 = .ok (.bipush 8, 2) := dk_16 8 (dk_at dksX4_boards_2 11 rfl rfl)
theorem dX4_boards_60 : decode cX4_boards 60 = .ok (.aload_n 0, 1) := dk_42 (dk_at dksX4_boards_2 13 rfl rfl)
theorem dX4_boards_61 : decode cX4_boards 61 = .ok (.getfield 21, 3) := dk_180 0 21 (dk_at dksX4_boards_2 14 rfl rfl)
theorem dX4_boards_64 : decode cX4_boards 64 = .ok (.bipush 64, 2) := dk_16 64 (dk_at dksX4_boards_2 17 rfl rfl)
theorem dX4_boards_66 : decode cX4_boards 66 = .ok (.iload 5, 2) := dk_21 5 (dk_at dksX4_boards_2 19 rfl rfl)
theorem dX4_boards_68 : decode cX4_boards 68 = .ok (.iadd, 1) := dk_96 (dk_at dksX4_boards_2 21 rfl rfl)
theorem dX4_boards_69 : decode cX4_boards 69 = .ok (.iaload, 1) := dk_46 (dk_at dksX4_boards_2 22 rfl rfl)
theorem dX4_boards_70 : decode cX4_boards 70 = .ok (.invokevirtual 87, 3) := dk_182 0 87 (dk_at dksX4_boards_3 0 rfl rfl)
theorem dX4_boards_73 : decode cX4_boards 73 = .ok (.ireturn, 1) := dk_172 (dk_at dksX4_boards_3 3 rfl rfl)
theorem dX4_boards_74 : decode cX4_boards 74 = .ok (.aload_n 0, 1) := dk_42 (dk_at dksX4_boards_3 4 rfl rfl)
theorem dX4_boards_75 : decode cX4_boards 75 = .ok (.invokevirtual 142, 3) := dk_182 0 142 (dk_at dksX4_boards_3 5 rfl rfl)
theorem dX4_boards_78 : decode cX4_boards 78 = .ok (.iload_n 3, 1) := dk_29 (dk_at dksX4_boards_3 8 rfl rfl)
theorem dX4_boards_79 : decode cX4_boards 79 = .ok (.iload_n 1, 1) := dk_27 (dk_at dksX4_boards_3 9 rfl rfl)
theorem dX4_boards_80 : decode cX4_boards 80 = .ok (.invokestatic 136, 3) := dk_184 0 136 (dk_at dksX4_boards_3 10 rfl rfl)
theorem dX4_boards_83 : decode cX4_boards 83 = .ok (.imul, 1) := dk_104 (dk_at dksX4_boards_3 13 rfl rfl)
theorem dX4_boards_84 : decode cX4_boards 84 = .ok (.iadd, 1) := dk_96 (dk_at dksX4_boards_3 14 rfl rfl)
theorem dX4_boards_85 : decode cX4_boards 85 = .ok (.istore 6, 2) := dk_54 6 (dk_at dksX4_boards_3 15 rfl rfl)
theorem dX4_boards_87 : decode cX4_boards 87 = .ok (.iload 6, 2) := dk_21 6 (dk_at dksX4_boards_3 17 rfl rfl)
theorem dX4_boards_89 : decode cX4_boards 89 = .ok (.bipush 60, 2) := dk_16 60 (dk_at dksX4_boards_3 19 rfl rfl)
theorem dX4_boards_91 : decode cX4_boards 91 = .ok (.if_icmp .le 12, 3) := dk_164 0 12 (dk_at dksX4_boards_3 21 rfl rfl)
theorem dX4_boards_94 : decode cX4_boards 94 = .ok (.aload_n 0, 1) := dk_42 (dk_at dksX4_boards_4 0 rfl rfl)
theorem dX4_boards_95 : decode cX4_boards 95 = .ok (.bipush 7, 2) := dk_16 7 (dk_at dksX4_boards_4 1 rfl rfl)
theorem dX4_boards_97 : decode cX4_boards 97 = .ok (.iload 6, 2) := dk_21 6 (dk_at dksX4_boards_4 3 rfl rfl)
theorem dX4_boards_99 : decode cX4_boards 99 = .ok (.invokevirtual 87, 3) := dk_182 0 87 (dk_at dksX4_boards_4 5 rfl rfl)
theorem dX4_boards_102 : decode cX4_boards 102 = .ok (.ireturn, 1) := dk_172 (dk_at dksX4_boards_4 8 rfl rfl)
theorem dX4_boards_103 : decode cX4_boards 103 = .ok (.aload_n 0, 1) := dk_42 (dk_at dksX4_boards_4 9 rfl rfl)
theorem dX4_boards_104 : decode cX4_boards 104 = .ok (.getfield 21, 3) := dk_180 0 21 (dk_at dksX4_boards_4 10 rfl rfl)
theorem dX4_boards_107 : decode cX4_boards 107 = .ok (.bipush 64, 2) := dk_16 64 (dk_at dksX4_boards_4 13 rfl rfl)
theorem dX4_boards_109 : decode cX4_boards 109 = .ok (.iload 5, 2) := dk_21 5 (dk_at dksX4_boards_4 15 rfl rfl)
theorem dX4_boards_111 : decode cX4_boards 111 = .ok (.iadd, 1) := dk_96 (dk_at dksX4_boards_4 17 rfl rfl)
theorem dX4_boards_112 : decode cX4_boards 112 = .ok (.dup2, 1) := dk_92 (dk_at dksX4_boards_4 18 rfl rfl)
theorem dX4_boards_113 : decode cX4_boards 113 = .ok (.iaload, 1) := dk_46 (dk_at dksX4_boards_4 19 rfl rfl)
theorem dX4_boards_114 : decode cX4_boards 114 = .ok (.iload_n 3, 1) := dk_29 (dk_at dksX4_boards_4 20 rfl rfl)
theorem dX4_boards_115 : decode cX4_boards 115 = .ok (.isub, 1) := dk_100 (dk_at dksX4_boards_4 21 rfl rfl)
theorem dX4_boards_116 : decode cX4_boards 116 = .ok (.iastore, 1) := dk_79 (dk_at dksX4_boards_4 22 rfl rfl)
theorem dX4_boards_117 : decode cX4_boards 117 = .ok (.aload_n 0, 1) := dk_42 (dk_at dksX4_boards_4 23 rfl rfl)
theorem dX4_boards_118 : decode cX4_boards 118 = .ok (.getfield 21, 3) := dk_180 0 21 (dk_at dksX4_boards_5 0 rfl rfl)
theorem dX4_boards_121 : decode cX4_boards 121 = .ok (.iload 4, 2) := dk_21 4 (dk_at dksX4_boards_5 3 rfl rfl)
theorem dX4_boards_123 : decode cX4_boards 123 = .ok (.ifCond .eq 9, 3) := dk_153 0 9 (dk_at dksX4_boards_5 5 rfl rfl)
theorem dX4_boards_126 : decode cX4_boards 126 = .ok (.sipush 505, 3) := dk_17 1 249 (dk_at dksX4_boards_5 8 rfl rfl)
theorem dX4_boards_129 : decode cX4_boards 129 = .ok (.goto 6, 3) := dk_167 0 6 (dk_at dksX4_boards_5 11 rfl rfl)
theorem dX4_boards_132 : decode cX4_boards 132 = .ok (.sipush 358, 3) := dk_17 1 102 (dk_at dksX4_boards_5 14 rfl rfl)
theorem dX4_boards_135 : decode cX4_boards 135 = .ok (.iload 5, 2) := dk_21 5 (dk_at dksX4_boards_5 17 rfl rfl)
theorem dX4_boards_137 : decode cX4_boards 137 = .ok (.iadd, 1) := dk_96 (dk_at dksX4_boards_5 19 rfl rfl)
theorem dX4_boards_138 : decode cX4_boards 138 = .ok (.dup2, 1) := dk_92 (dk_at dksX4_boards_5 20 rfl rfl)
theorem dX4_boards_139 : decode cX4_boards 139 = .ok (.iaload, 1) := dk_46 (dk_at dksX4_boards_5 21 rfl rfl)
theorem dX4_boards_140 : decode cX4_boards 140 = .ok (.iload_n 3, 1) := dk_29 (dk_at dksX4_boards_5 22 rfl rfl)
theorem dX4_boards_141 : decode cX4_boards 141 = .ok (.iadd, 1) := dk_96 (dk_at dksX4_boards_5 23 rfl rfl)
theorem dX4_boards_142 : decode cX4_boards 142 = .ok (.iastore, 1) := dk_79 (dk_at dksX4_boards_6 0 rfl rfl)
theorem dX4_boards_143 : decode cX4_boards 143 = .ok (.aload_n 0, 1) := dk_42 (dk_at dksX4_boards_6 1 rfl rfl)
theorem dX4_boards_144 : decode cX4_boards 144 = .ok (.iload 6, 2) := dk_21 6 (dk_at dksX4_boards_6 2 rfl rfl)
theorem dX4_boards_146 : decode cX4_boards 146 = .ok (.invokevirtual 124, 3) := dk_182 0 124 (dk_at dksX4_boards_6 4 rfl rfl)
theorem dX4_boards_149 : decode cX4_boards 149 = .ok (.ireturn, 1) := dk_172 (dk_at dksX4_boards_6 7 rfl rfl)
abbrev cX4_land : ByteArray := prog_29_method_46_code
def yX4_land : MethodName := ⟨RX4, "land", "()I"⟩
def dkwX4_land_0 : List UInt8 := [42, 182, 0, 84, 42, 42, 182, 0, 175, 4, 182, 0, 91, 172]
abbrev dktX4_land_0 : List UInt8 := dkwX4_land_0 ++ []
theorem dksX4_land_0 : cX4_land.data.toList.drop 0 = dktX4_land_0 := by decide +kernel
theorem dX4_land_0 : decode cX4_land 0 = .ok (.aload_n 0, 1) := dk_42 (dk_at dksX4_land_0 0 rfl rfl)
theorem dX4_land_1 : decode cX4_land 1 = .ok (.invokevirtual 84, 3) := dk_182 0 84 (dk_at dksX4_land_0 1 rfl rfl)
theorem dX4_land_4 : decode cX4_land 4 = .ok (.aload_n 0, 1) := dk_42 (dk_at dksX4_land_0 4 rfl rfl)
theorem dX4_land_5 : decode cX4_land 5 = .ok (.aload_n 0, 1) := dk_42 (dk_at dksX4_land_0 5 rfl rfl)
theorem dX4_land_6 : decode cX4_land 6 = .ok (.invokevirtual 175, 3) := dk_182 0 175 (dk_at dksX4_land_0 6 rfl rfl)
theorem dX4_land_9 : decode cX4_land 9 = .ok (.iconst 1, 1) := dk_4 (dk_at dksX4_land_0 9 rfl rfl)
theorem dX4_land_10 : decode cX4_land 10 = .ok (.invokevirtual 91, 3) := dk_182 0 91 (dk_at dksX4_land_0 10 rfl rfl)
theorem dX4_land_13 : decode cX4_land 13 = .ok (.ireturn, 1) := dk_172 (dk_at dksX4_land_0 13 rfl rfl)
abbrev cX4_lands : ByteArray := prog_29_method_45_code
def yX4_lands : MethodName := ⟨RX4, "lands", "()I"⟩
def dkwX4_lands_6 : List UInt8 := [27, 182, 0, 124, 172]
abbrev dktX4_lands_6 : List UInt8 := dkwX4_lands_6 ++ []
def dkwX4_lands_5 : List UInt8 := [132, 3, 1, 167, 255, 146, 132, 2, 1, 167, 255, 133, 42, 180, 0, 21, 16, 7, 92, 46, 27, 96, 79, 42]
abbrev dktX4_lands_5 : List UInt8 := dkwX4_lands_5 ++ dktX4_lands_6
def dkwX4_lands_4 : List UInt8 := [42, 180, 0, 21, 17, 1, 102, 21, 4, 96, 3, 79, 42, 180, 0, 21, 17, 1, 249, 21, 4, 96, 3, 79]
abbrev dktX4_lands_4 : List UInt8 := dkwX4_lands_4 ++ dktX4_lands_5
def dkwX4_lands_3 : List UInt8 := [180, 0, 21, 7, 46, 100, 184, 0, 172, 104, 96, 60, 42, 180, 0, 21, 16, 6, 92, 46, 21, 5, 96, 79]
abbrev dktX4_lands_3 : List UInt8 := dkwX4_lands_3 ++ dktX4_lands_4
def dkwX4_lands_2 : List UInt8 := [21, 4, 96, 46, 96, 54, 5, 27, 21, 5, 42, 180, 0, 21, 16, 10, 28, 96, 46, 104, 29, 42]
abbrev dktX4_lands_2 : List UInt8 := dkwX4_lands_2 ++ dktX4_lands_3
def dkwX4_lands_1 : List UInt8 := [46, 184, 0, 94, 54, 4, 42, 180, 0, 21, 17, 1, 102, 21, 4, 96, 46, 42, 180, 0, 21, 17, 1, 249]
abbrev dktX4_lands_1 : List UInt8 := dkwX4_lands_1 ++ dktX4_lands_2
def dkwX4_lands_0 : List UInt8 := [3, 60, 3, 61, 28, 6, 162, 0, 124, 3, 62, 29, 16, 7, 162, 0, 110, 28, 29, 42, 180, 0, 21, 7]
abbrev dktX4_lands_0 : List UInt8 := dkwX4_lands_0 ++ dktX4_lands_1
theorem dksX4_lands_0 : cX4_lands.data.toList.drop 0 = dktX4_lands_0 := by decide +kernel
theorem dksX4_lands_1 : cX4_lands.data.toList.drop 24 = dktX4_lands_1 := dk_seg dksX4_lands_0 24 rfl rfl
theorem dksX4_lands_2 : cX4_lands.data.toList.drop 48 = dktX4_lands_2 := dk_seg dksX4_lands_1 24 rfl rfl
theorem dksX4_lands_3 : cX4_lands.data.toList.drop 70 = dktX4_lands_3 := dk_seg dksX4_lands_2 22 rfl rfl
theorem dksX4_lands_4 : cX4_lands.data.toList.drop 94 = dktX4_lands_4 := dk_seg dksX4_lands_3 24 rfl rfl
theorem dksX4_lands_5 : cX4_lands.data.toList.drop 118 = dktX4_lands_5 := dk_seg dksX4_lands_4 24 rfl rfl
theorem dksX4_lands_6 : cX4_lands.data.toList.drop 142 = dktX4_lands_6 := dk_seg dksX4_lands_5 24 rfl rfl
theorem dX4_lands_0 : decode cX4_lands 0 = .ok (.iconst 0, 1) := dk_3 (dk_at dksX4_lands_0 0 rfl rfl)
theorem dX4_lands_1 : decode cX4_lands 1 = .ok (.istore_n 1, 1) := dk_60 (dk_at dksX4_lands_0 1 rfl rfl)
theorem dX4_lands_2 : decode cX4_lands 2 = .ok (.iconst 0, 1) := dk_3 (dk_at dksX4_lands_0 2 rfl rfl)
theorem dX4_lands_3 : decode cX4_lands 3 = .ok (.istore_n 2, 1) := dk_61 (dk_at dksX4_lands_0 3 rfl rfl)
theorem dX4_lands_4 : decode cX4_lands 4 = .ok (.iload_n 2, 1) := dk_28 (dk_at dksX4_lands_0 4 rfl rfl)
theorem dX4_lands_5 : decode cX4_lands 5 = .ok (.iconst 3, 1) := dk_6 (dk_at dksX4_lands_0 5 rfl rfl)
theorem dX4_lands_6 : decode cX4_lands 6 = .ok (.if_icmp .ge 124, 3) := dk_162 0 124 (dk_at dksX4_lands_0 6 rfl rfl)
theorem dX4_lands_9 : decode cX4_lands 9 = .ok (.iconst 0, 1) := dk_3 (dk_at dksX4_lands_0 9 rfl rfl)
theorem dX4_lands_10 : decode cX4_lands 10 = .ok (.istore_n 3, 1) := dk_62 (dk_at dksX4_lands_0 10 rfl rfl)
theorem dX4_lands_11 : decode cX4_lands 11 = .ok (.iload_n 3, 1) := dk_29 (dk_at dksX4_lands_0 11 rfl rfl)
theorem dX4_lands_12 : decode cX4_lands 12 = .ok (.bipush 7, 2) := dk_16 7 (dk_at dksX4_lands_0 12 rfl rfl)
theorem dX4_lands_14 : decode cX4_lands 14 = .ok (.if_icmp .ge 110, 3) := dk_162 0 110 (dk_at dksX4_lands_0 14 rfl rfl)
theorem dX4_lands_17 : decode cX4_lands 17 = .ok (.iload_n 2, 1) := dk_28 (dk_at dksX4_lands_0 17 rfl rfl)
theorem dX4_lands_18 : decode cX4_lands 18 = .ok (.iload_n 3, 1) := dk_29 (dk_at dksX4_lands_0 18 rfl rfl)
theorem dX4_lands_19 : decode cX4_lands 19 = .ok (.aload_n 0, 1) := dk_42 (dk_at dksX4_lands_0 19 rfl rfl)
theorem dX4_lands_20 : decode cX4_lands 20 = .ok (.getfield 21, 3) := dk_180 0 21 (dk_at dksX4_lands_0 20 rfl rfl)
theorem dX4_lands_23 : decode cX4_lands 23 = .ok (.iconst 4, 1) := dk_7 (dk_at dksX4_lands_0 23 rfl rfl)
theorem dX4_lands_24 : decode cX4_lands 24 = .ok (.iaload, 1) := dk_46 (dk_at dksX4_lands_1 0 rfl rfl)
theorem dX4_lands_25 : decode cX4_lands 25 = .ok (.invokestatic 94, 3) := dk_184 0 94 (dk_at dksX4_lands_1 1 rfl rfl)
theorem dX4_lands_28 : decode cX4_lands 28 = .ok (.istore 4, 2) := dk_54 4 (dk_at dksX4_lands_1 4 rfl rfl)
theorem dX4_lands_30 : decode cX4_lands 30 = .ok (.aload_n 0, 1) := dk_42 (dk_at dksX4_lands_1 6 rfl rfl)
theorem dX4_lands_31 : decode cX4_lands 31 = .ok (.getfield 21, 3) := dk_180 0 21 (dk_at dksX4_lands_1 7 rfl rfl)
theorem dX4_lands_34 : decode cX4_lands 34 = .ok (.sipush 358, 3) := dk_17 1 102 (dk_at dksX4_lands_1 10 rfl rfl)
theorem dX4_lands_37 : decode cX4_lands 37 = .ok (.iload 4, 2) := dk_21 4 (dk_at dksX4_lands_1 13 rfl rfl)
theorem dX4_lands_39 : decode cX4_lands 39 = .ok (.iadd, 1) := dk_96 (dk_at dksX4_lands_1 15 rfl rfl)
theorem dX4_lands_40 : decode cX4_lands 40 = .ok (.iaload, 1) := dk_46 (dk_at dksX4_lands_1 16 rfl rfl)
theorem dX4_lands_41 : decode cX4_lands 41 = .ok (.aload_n 0, 1) := dk_42 (dk_at dksX4_lands_1 17 rfl rfl)
theorem dX4_lands_42 : decode cX4_lands 42 = .ok (.getfield 21, 3) := dk_180 0 21 (dk_at dksX4_lands_1 18 rfl rfl)
theorem dX4_lands_45 : decode cX4_lands 45 = .ok (.sipush 505, 3) := dk_17 1 249 (dk_at dksX4_lands_1 21 rfl rfl)
theorem dX4_lands_48 : decode cX4_lands 48 = .ok (.iload 4, 2) := dk_21 4 (dk_at dksX4_lands_2 0 rfl rfl)
theorem dX4_lands_50 : decode cX4_lands 50 = .ok (.iadd, 1) := dk_96 (dk_at dksX4_lands_2 2 rfl rfl)
theorem dX4_lands_51 : decode cX4_lands 51 = .ok (.iaload, 1) := dk_46 (dk_at dksX4_lands_2 3 rfl rfl)
theorem dX4_lands_52 : decode cX4_lands 52 = .ok (.iadd, 1) := dk_96 (dk_at dksX4_lands_2 4 rfl rfl)
theorem dX4_lands_53 : decode cX4_lands 53 = .ok (.istore 5, 2) := dk_54 5 (dk_at dksX4_lands_2 5 rfl rfl)
theorem dX4_lands_55 : decode cX4_lands 55 = .ok (.iload_n 1, 1) := dk_27 (dk_at dksX4_lands_2 7 rfl rfl)
theorem dX4_lands_56 : decode cX4_lands 56 = .ok (.iload 5, 2) := dk_21 5 (dk_at dksX4_lands_2 8 rfl rfl)
theorem dX4_lands_58 : decode cX4_lands 58 = .ok (.aload_n 0, 1) := dk_42 (dk_at dksX4_lands_2 10 rfl rfl)
theorem dX4_lands_59 : decode cX4_lands 59 = .ok (.getfield 21, 3) := dk_180 0 21 (dk_at dksX4_lands_2 11 rfl rfl)
theorem dX4_lands_62 : decode cX4_lands 62 = .ok (.bipush 10, 2) := dk_16 10 (dk_at dksX4_lands_2 14 rfl rfl)
theorem dX4_lands_64 : decode cX4_lands 64 = .ok (.iload_n 2, 1) := dk_28 (dk_at dksX4_lands_2 16 rfl rfl)
theorem dX4_lands_65 : decode cX4_lands 65 = .ok (.iadd, 1) := dk_96 (dk_at dksX4_lands_2 17 rfl rfl)
theorem dX4_lands_66 : decode cX4_lands 66 = .ok (.iaload, 1) := dk_46 (dk_at dksX4_lands_2 18 rfl rfl)
theorem dX4_lands_67 : decode cX4_lands 67 = .ok (.imul, 1) := dk_104 (dk_at dksX4_lands_2 19 rfl rfl)
theorem dX4_lands_68 : decode cX4_lands 68 = .ok (.iload_n 3, 1) := dk_29 (dk_at dksX4_lands_2 20 rfl rfl)
theorem dX4_lands_69 : decode cX4_lands 69 = .ok (.aload_n 0, 1) := dk_42 (dk_at dksX4_lands_2 21 rfl rfl)
theorem dX4_lands_70 : decode cX4_lands 70 = .ok (.getfield 21, 3) := dk_180 0 21 (dk_at dksX4_lands_3 0 rfl rfl)
theorem dX4_lands_73 : decode cX4_lands 73 = .ok (.iconst 4, 1) := dk_7 (dk_at dksX4_lands_3 3 rfl rfl)
theorem dX4_lands_74 : decode cX4_lands 74 = .ok (.iaload, 1) := dk_46 (dk_at dksX4_lands_3 4 rfl rfl)
theorem dX4_lands_75 : decode cX4_lands 75 = .ok (.isub, 1) := dk_100 (dk_at dksX4_lands_3 5 rfl rfl)
theorem dX4_lands_76 : decode cX4_lands 76 = .ok (.invokestatic 172, 3) := dk_184 0 172 (dk_at dksX4_lands_3 6 rfl rfl)
theorem dX4_lands_79 : decode cX4_lands 79 = .ok (.imul, 1) := dk_104 (dk_at dksX4_lands_3 9 rfl rfl)
theorem dX4_lands_80 : decode cX4_lands 80 = .ok (.iadd, 1) := dk_96 (dk_at dksX4_lands_3 10 rfl rfl)
theorem dX4_lands_81 : decode cX4_lands 81 = .ok (.istore_n 1, 1) := dk_60 (dk_at dksX4_lands_3 11 rfl rfl)
theorem dX4_lands_82 : decode cX4_lands 82 = .ok (.aload_n 0, 1) := dk_42 (dk_at dksX4_lands_3 12 rfl rfl)
theorem dX4_lands_83 : decode cX4_lands 83 = .ok (.getfield 21, 3) := dk_180 0 21 (dk_at dksX4_lands_3 13 rfl rfl)
theorem dX4_lands_86 : decode cX4_lands 86 = .ok (.bipush 6, 2) := dk_16 6 (dk_at dksX4_lands_3 16 rfl rfl)
theorem dX4_lands_88 : decode cX4_lands 88 = .ok (.dup2, 1) := dk_92 (dk_at dksX4_lands_3 18 rfl rfl)
theorem dX4_lands_89 : decode cX4_lands 89 = .ok (.iaload, 1) := dk_46 (dk_at dksX4_lands_3 19 rfl rfl)
theorem dX4_lands_90 : decode cX4_lands 90 = .ok (.iload 5, 2) := dk_21 5 (dk_at dksX4_lands_3 20 rfl rfl)
theorem dX4_lands_92 : decode cX4_lands 92 = .ok (.iadd, 1) := dk_96 (dk_at dksX4_lands_3 22 rfl rfl)
theorem dX4_lands_93 : decode cX4_lands 93 = .ok (.iastore, 1) := dk_79 (dk_at dksX4_lands_3 23 rfl rfl)
theorem dX4_lands_94 : decode cX4_lands 94 = .ok (.aload_n 0, 1) := dk_42 (dk_at dksX4_lands_4 0 rfl rfl)
theorem dX4_lands_95 : decode cX4_lands 95 = .ok (.getfield 21, 3) := dk_180 0 21 (dk_at dksX4_lands_4 1 rfl rfl)
theorem dX4_lands_98 : decode cX4_lands 98 = .ok (.sipush 358, 3) := dk_17 1 102 (dk_at dksX4_lands_4 4 rfl rfl)
theorem dX4_lands_101 : decode cX4_lands 101 = .ok (.iload 4, 2) := dk_21 4 (dk_at dksX4_lands_4 7 rfl rfl)
theorem dX4_lands_103 : decode cX4_lands 103 = .ok (.iadd, 1) := dk_96 (dk_at dksX4_lands_4 9 rfl rfl)
theorem dX4_lands_104 : decode cX4_lands 104 = .ok (.iconst 0, 1) := dk_3 (dk_at dksX4_lands_4 10 rfl rfl)
theorem dX4_lands_105 : decode cX4_lands 105 = .ok (.iastore, 1) := dk_79 (dk_at dksX4_lands_4 11 rfl rfl)
theorem dX4_lands_106 : decode cX4_lands 106 = .ok (.aload_n 0, 1) := dk_42 (dk_at dksX4_lands_4 12 rfl rfl)
theorem dX4_lands_107 : decode cX4_lands 107 = .ok (.getfield 21, 3) := dk_180 0 21 (dk_at dksX4_lands_4 13 rfl rfl)
theorem dX4_lands_110 : decode cX4_lands 110 = .ok (.sipush 505, 3) := dk_17 1 249 (dk_at dksX4_lands_4 16 rfl rfl)
theorem dX4_lands_113 : decode cX4_lands 113 = .ok (.iload 4, 2) := dk_21 4 (dk_at dksX4_lands_4 19 rfl rfl)
theorem dX4_lands_115 : decode cX4_lands 115 = .ok (.iadd, 1) := dk_96 (dk_at dksX4_lands_4 21 rfl rfl)
theorem dX4_lands_116 : decode cX4_lands 116 = .ok (.iconst 0, 1) := dk_3 (dk_at dksX4_lands_4 22 rfl rfl)
theorem dX4_lands_117 : decode cX4_lands 117 = .ok (.iastore, 1) := dk_79 (dk_at dksX4_lands_4 23 rfl rfl)
theorem dX4_lands_118 : decode cX4_lands 118 = .ok (.iinc 3 1, 3) := dk_132 3 1 (dk_at dksX4_lands_5 0 rfl rfl)
theorem dX4_lands_121 : decode cX4_lands 121 = .ok (.goto (-110), 3) := dk_167 255 146 (dk_at dksX4_lands_5 3 rfl rfl)
theorem dX4_lands_124 : decode cX4_lands 124 = .ok (.iinc 2 1, 3) := dk_132 2 1 (dk_at dksX4_lands_5 6 rfl rfl)
theorem dX4_lands_127 : decode cX4_lands 127 = .ok (.goto (-123), 3) := dk_167 255 133 (dk_at dksX4_lands_5 9 rfl rfl)
theorem dX4_lands_130 : decode cX4_lands 130 = .ok (.aload_n 0, 1) := dk_42 (dk_at dksX4_lands_5 12 rfl rfl)
theorem dX4_lands_131 : decode cX4_lands 131 = .ok (.getfield 21, 3) := dk_180 0 21 (dk_at dksX4_lands_5 13 rfl rfl)
theorem dX4_lands_134 : decode cX4_lands 134 = .ok (.bipush 7, 2) := dk_16 7 (dk_at dksX4_lands_5 16 rfl rfl)
theorem dX4_lands_136 : decode cX4_lands 136 = .ok (.dup2, 1) := dk_92 (dk_at dksX4_lands_5 18 rfl rfl)
theorem dX4_lands_137 : decode cX4_lands 137 = .ok (.iaload, 1) := dk_46 (dk_at dksX4_lands_5 19 rfl rfl)
theorem dX4_lands_138 : decode cX4_lands 138 = .ok (.iload_n 1, 1) := dk_27 (dk_at dksX4_lands_5 20 rfl rfl)
theorem dX4_lands_139 : decode cX4_lands 139 = .ok (.iadd, 1) := dk_96 (dk_at dksX4_lands_5 21 rfl rfl)
theorem dX4_lands_140 : decode cX4_lands 140 = .ok (.iastore, 1) := dk_79 (dk_at dksX4_lands_5 22 rfl rfl)
theorem dX4_lands_141 : decode cX4_lands 141 = .ok (.aload_n 0, 1) := dk_42 (dk_at dksX4_lands_5 23 rfl rfl)
theorem dX4_lands_142 : decode cX4_lands 142 = .ok (.iload_n 1, 1) := dk_27 (dk_at dksX4_lands_6 0 rfl rfl)
theorem dX4_lands_143 : decode cX4_lands 143 = .ok (.invokevirtual 124, 3) := dk_182 0 124 (dk_at dksX4_lands_6 1 rfl rfl)
theorem dX4_lands_146 : decode cX4_lands 146 = .ok (.ireturn, 1) := dk_172 (dk_at dksX4_lands_6 4 rfl rfl)
abbrev cX4_fare : ByteArray := prog_29_method_47_code
def yX4_fare : MethodName := ⟨RX4, "fare", "(II)I"⟩
def dkwX4_fare_2 : List UInt8 := [42, 29, 182, 0, 73, 172]
abbrev dktX4_fare_2 : List UInt8 := dkwX4_fare_2 ++ []
def dkwX4_fare_1 : List UInt8 := [182, 0, 77, 172, 42, 180, 0, 21, 16, 10, 27, 96, 46, 62, 42, 180, 0, 21, 16, 10, 27, 96, 28, 79]
abbrev dktX4_fare_1 : List UInt8 := dkwX4_fare_1 ++ dktX4_fare_2
def dkwX4_fare_0 : List UInt8 := [42, 182, 0, 84, 27, 184, 0, 161, 153, 0, 13, 28, 3, 16, 99, 184, 0, 80, 154, 0, 9, 42, 4]
abbrev dktX4_fare_0 : List UInt8 := dkwX4_fare_0 ++ dktX4_fare_1
theorem dksX4_fare_0 : cX4_fare.data.toList.drop 0 = dktX4_fare_0 := by decide +kernel
theorem dksX4_fare_1 : cX4_fare.data.toList.drop 23 = dktX4_fare_1 := dk_seg dksX4_fare_0 23 rfl rfl
theorem dksX4_fare_2 : cX4_fare.data.toList.drop 47 = dktX4_fare_2 := dk_seg dksX4_fare_1 24 rfl rfl
theorem dX4_fare_0 : decode cX4_fare 0 = .ok (.aload_n 0, 1) := dk_42 (dk_at dksX4_fare_0 0 rfl rfl)
theorem dX4_fare_1 : decode cX4_fare 1 = .ok (.invokevirtual 84, 3) := dk_182 0 84 (dk_at dksX4_fare_0 1 rfl rfl)
theorem dX4_fare_4 : decode cX4_fare 4 = .ok (.iload_n 1, 1) := dk_27 (dk_at dksX4_fare_0 4 rfl rfl)
theorem dX4_fare_5 : decode cX4_fare 5 = .ok (.invokestatic 161, 3) := dk_184 0 161 (dk_at dksX4_fare_0 5 rfl rfl)
theorem dX4_fare_8 : decode cX4_fare 8 = .ok (.ifCond .eq 13, 3) := dk_153 0 13 (dk_at dksX4_fare_0 8 rfl rfl)
theorem dX4_fare_11 : decode cX4_fare 11 = .ok (.iload_n 2, 1) := dk_28 (dk_at dksX4_fare_0 11 rfl rfl)
theorem dX4_fare_12 : decode cX4_fare 12 = .ok (.iconst 0, 1) := dk_3 (dk_at dksX4_fare_0 12 rfl rfl)
theorem dX4_fare_13 : decode cX4_fare 13 = .ok (.bipush 99, 2) := dk_16 99 (dk_at dksX4_fare_0 13 rfl rfl)
theorem dX4_fare_15 : decode cX4_fare 15 = .ok (.invokestatic 80, 3) := dk_184 0 80 (dk_at dksX4_fare_0 15 rfl rfl)
theorem dX4_fare_18 : decode cX4_fare 18 = .ok (.ifCond .ne 9, 3) := dk_154 0 9 (dk_at dksX4_fare_0 18 rfl rfl)
theorem dX4_fare_21 : decode cX4_fare 21 = .ok (.aload_n 0, 1) := dk_42 (dk_at dksX4_fare_0 21 rfl rfl)
theorem dX4_fare_22 : decode cX4_fare 22 = .ok (.iconst 1, 1) := dk_4 (dk_at dksX4_fare_0 22 rfl rfl)
theorem dX4_fare_23 : decode cX4_fare 23 = .ok (.invokevirtual 77, 3) := dk_182 0 77 (dk_at dksX4_fare_1 0 rfl rfl)
theorem dX4_fare_26 : decode cX4_fare 26 = .ok (.ireturn, 1) := dk_172 (dk_at dksX4_fare_1 3 rfl rfl)
theorem dX4_fare_27 : decode cX4_fare 27 = .ok (.aload_n 0, 1) := dk_42 (dk_at dksX4_fare_1 4 rfl rfl)
theorem dX4_fare_28 : decode cX4_fare 28 = .ok (.getfield 21, 3) := dk_180 0 21 (dk_at dksX4_fare_1 5 rfl rfl)
theorem dX4_fare_31 : decode cX4_fare 31 = .ok (.bipush 10, 2) := dk_16 10 (dk_at dksX4_fare_1 8 rfl rfl)
theorem dX4_fare_33 : decode cX4_fare 33 = .ok (.iload_n 1, 1) := dk_27 (dk_at dksX4_fare_1 10 rfl rfl)
theorem dX4_fare_34 : decode cX4_fare 34 = .ok (.iadd, 1) := dk_96 (dk_at dksX4_fare_1 11 rfl rfl)
theorem dX4_fare_35 : decode cX4_fare 35 = .ok (.iaload, 1) := dk_46 (dk_at dksX4_fare_1 12 rfl rfl)
theorem dX4_fare_36 : decode cX4_fare 36 = .ok (.istore_n 3, 1) := dk_62 (dk_at dksX4_fare_1 13 rfl rfl)
theorem dX4_fare_37 : decode cX4_fare 37 = .ok (.aload_n 0, 1) := dk_42 (dk_at dksX4_fare_1 14 rfl rfl)
theorem dX4_fare_38 : decode cX4_fare 38 = .ok (.getfield 21, 3) := dk_180 0 21 (dk_at dksX4_fare_1 15 rfl rfl)
theorem dX4_fare_41 : decode cX4_fare 41 = .ok (.bipush 10, 2) := dk_16 10 (dk_at dksX4_fare_1 18 rfl rfl)
theorem dX4_fare_43 : decode cX4_fare 43 = .ok (.iload_n 1, 1) := dk_27 (dk_at dksX4_fare_1 20 rfl rfl)
theorem dX4_fare_44 : decode cX4_fare 44 = .ok (.iadd, 1) := dk_96 (dk_at dksX4_fare_1 21 rfl rfl)
theorem dX4_fare_45 : decode cX4_fare 45 = .ok (.iload_n 2, 1) := dk_28 (dk_at dksX4_fare_1 22 rfl rfl)
theorem dX4_fare_46 : decode cX4_fare 46 = .ok (.iastore, 1) := dk_79 (dk_at dksX4_fare_1 23 rfl rfl)
theorem dX4_fare_47 : decode cX4_fare 47 = .ok (.aload_n 0, 1) := dk_42 (dk_at dksX4_fare_2 0 rfl rfl)
theorem dX4_fare_48 : decode cX4_fare 48 = .ok (.iload_n 3, 1) := dk_29 (dk_at dksX4_fare_2 1 rfl rfl)
theorem dX4_fare_49 : decode cX4_fare 49 = .ok (.invokevirtual 73, 3) := dk_182 0 73 (dk_at dksX4_fare_2 2 rfl rfl)
theorem dX4_fare_52 : decode cX4_fare 52 = .ok (.ireturn, 1) := dk_172 (dk_at dksX4_fare_2 5 rfl rfl)
abbrev cX4_line : ByteArray := prog_29_method_51_code
def yX4_line : MethodName := ⟨RX4, "line", "(I)I"⟩
def dkwX4_line_5 : List UInt8 := [42, 18, 205, 182, 0, 193, 42, 180, 0, 181, 172]
abbrev dktX4_line_5 : List UInt8 := dkwX4_line_5 ++ []
def dkwX4_line_4 : List UInt8 := [42, 180, 0, 21, 17, 0, 211, 28, 96, 46, 182, 0, 188, 61, 167, 255, 177, 42, 180, 0, 181, 154, 0, 9]
abbrev dktX4_line_4 : List UInt8 := dkwX4_line_4 ++ dktX4_line_5
def dkwX4_line_3 : List UInt8 := [182, 0, 199, 42, 18, 203, 182, 0, 193, 42, 42, 180, 0, 21, 16, 64, 28, 96, 46, 182, 0, 199, 42, 27]
abbrev dktX4_line_3 : List UInt8 := dkwX4_line_3 ++ dktX4_line_4
def dkwX4_line_2 : List UInt8 := [42, 42, 180, 0, 17, 28, 16, 49, 108, 50, 182, 0, 193, 42, 18, 197, 182, 0, 193, 42, 28, 16, 7, 112]
abbrev dktX4_line_2 : List UInt8 := dkwX4_line_2 ++ dktX4_line_3
def dkwX4_line_1 : List UInt8 := [42, 27, 3, 182, 0, 188, 61, 28, 155, 0, 81, 42, 180, 0, 181, 158, 0, 9, 42, 18, 191, 182, 0, 193]
abbrev dktX4_line_1 : List UInt8 := dkwX4_line_1 ++ dktX4_line_2
def dkwX4_line_0 : List UInt8 := [42, 3, 181, 0, 58, 42, 27, 182, 0, 158, 154, 0, 9, 42, 4, 182, 0, 77, 172, 42, 3, 181, 0, 181]
abbrev dktX4_line_0 : List UInt8 := dkwX4_line_0 ++ dktX4_line_1
theorem dksX4_line_0 : cX4_line.data.toList.drop 0 = dktX4_line_0 := by decide +kernel
theorem dksX4_line_1 : cX4_line.data.toList.drop 24 = dktX4_line_1 := dk_seg dksX4_line_0 24 rfl rfl
theorem dksX4_line_2 : cX4_line.data.toList.drop 48 = dktX4_line_2 := dk_seg dksX4_line_1 24 rfl rfl
theorem dksX4_line_3 : cX4_line.data.toList.drop 72 = dktX4_line_3 := dk_seg dksX4_line_2 24 rfl rfl
theorem dksX4_line_4 : cX4_line.data.toList.drop 96 = dktX4_line_4 := dk_seg dksX4_line_3 24 rfl rfl
theorem dksX4_line_5 : cX4_line.data.toList.drop 120 = dktX4_line_5 := dk_seg dksX4_line_4 24 rfl rfl
theorem dX4_line_0 : decode cX4_line 0 = .ok (.aload_n 0, 1) := dk_42 (dk_at dksX4_line_0 0 rfl rfl)
theorem dX4_line_1 : decode cX4_line 1 = .ok (.iconst 0, 1) := dk_3 (dk_at dksX4_line_0 1 rfl rfl)
theorem dX4_line_2 : decode cX4_line 2 = .ok (.putfield 58, 3) := dk_181 0 58 (dk_at dksX4_line_0 2 rfl rfl)
theorem dX4_line_5 : decode cX4_line 5 = .ok (.aload_n 0, 1) := dk_42 (dk_at dksX4_line_0 5 rfl rfl)
theorem dX4_line_6 : decode cX4_line 6 = .ok (.iload_n 1, 1) := dk_27 (dk_at dksX4_line_0 6 rfl rfl)
theorem dX4_line_7 : decode cX4_line 7 = .ok (.invokevirtual 158, 3) := dk_182 0 158 (dk_at dksX4_line_0 7 rfl rfl)
theorem dX4_line_10 : decode cX4_line 10 = .ok (.ifCond .ne 9, 3) := dk_154 0 9 (dk_at dksX4_line_0 10 rfl rfl)
theorem dX4_line_13 : decode cX4_line 13 = .ok (.aload_n 0, 1) := dk_42 (dk_at dksX4_line_0 13 rfl rfl)
theorem dX4_line_14 : decode cX4_line 14 = .ok (.iconst 1, 1) := dk_4 (dk_at dksX4_line_0 14 rfl rfl)
theorem dX4_line_15 : decode cX4_line 15 = .ok (.invokevirtual 77, 3) := dk_182 0 77 (dk_at dksX4_line_0 15 rfl rfl)
theorem dX4_line_18 : decode cX4_line 18 = .ok (.ireturn, 1) := dk_172 (dk_at dksX4_line_0 18 rfl rfl)
theorem dX4_line_19 : decode cX4_line 19 = .ok (.aload_n 0, 1) := dk_42 (dk_at dksX4_line_0 19 rfl rfl)
theorem dX4_line_20 : decode cX4_line 20 = .ok (.iconst 0, 1) := dk_3 (dk_at dksX4_line_0 20 rfl rfl)
theorem dX4_line_21 : decode cX4_line 21 = .ok (.putfield 181, 3) := dk_181 0 181 (dk_at dksX4_line_0 21 rfl rfl)
theorem dX4_line_24 : decode cX4_line 24 = .ok (.aload_n 0, 1) := dk_42 (dk_at dksX4_line_1 0 rfl rfl)
theorem dX4_line_25 : decode cX4_line 25 = .ok (.iload_n 1, 1) := dk_27 (dk_at dksX4_line_1 1 rfl rfl)
theorem dX4_line_26 : decode cX4_line 26 = .ok (.iconst 0, 1) := dk_3 (dk_at dksX4_line_1 2 rfl rfl)
theorem dX4_line_27 : decode cX4_line 27 = .ok (.invokevirtual 188, 3) := dk_182 0 188 (dk_at dksX4_line_1 3 rfl rfl)
theorem dX4_line_30 : decode cX4_line 30 = .ok (.istore_n 2, 1) := dk_61 (dk_at dksX4_line_1 6 rfl rfl)
theorem dX4_line_31 : decode cX4_line 31 = .ok (.iload_n 2, 1) := dk_28 (dk_at dksX4_line_1 7 rfl rfl)
theorem dX4_line_32 : decode cX4_line 32 = .ok (.ifCond .lt 81, 3) := dk_155 0 81 (dk_at dksX4_line_1 8 rfl rfl)
theorem dX4_line_35 : decode cX4_line 35 = .ok (.aload_n 0, 1) := dk_42 (dk_at dksX4_line_1 11 rfl rfl)
theorem dX4_line_36 : decode cX4_line 36 = .ok (.getfield 181, 3) := dk_180 0 181 (dk_at dksX4_line_1 12 rfl rfl)
theorem dX4_line_39 : decode cX4_line 39 = .ok (.ifCond .le 9, 3) := dk_158 0 9 (dk_at dksX4_line_1 15 rfl rfl)
theorem dX4_line_42 : decode cX4_line 42 = .ok (.aload_n 0, 1) := dk_42 (dk_at dksX4_line_1 18 rfl rfl)
theorem dX4_line_43 : decode cX4_line 43 = .ok (.ldc 191, 2) := dk_18 191 (dk_at dksX4_line_1 19 rfl rfl)
theorem dX4_line_45 : decode cX4_line 45 = .ok (.invokevirtual 193, 3) := dk_182 0 193 (dk_at dksX4_line_1 21 rfl rfl)
theorem dX4_line_48 : decode cX4_line 48 = .ok (.aload_n 0, 1) := dk_42 (dk_at dksX4_line_2 0 rfl rfl)
theorem dX4_line_49 : decode cX4_line 49 = .ok (.aload_n 0, 1) := dk_42 (dk_at dksX4_line_2 1 rfl rfl)
theorem dX4_line_50 : decode cX4_line 50 = .ok (.getfield 17, 3) := dk_180 0 17 (dk_at dksX4_line_2 2 rfl rfl)
theorem dX4_line_53 : decode cX4_line 53 = .ok (.iload_n 2, 1) := dk_28 (dk_at dksX4_line_2 5 rfl rfl)
theorem dX4_line_54 : decode cX4_line 54 = .ok (.bipush 49, 2) := dk_16 49 (dk_at dksX4_line_2 6 rfl rfl)
theorem dX4_line_56 : decode cX4_line 56 = .ok (.idiv, 1) := dk_108 (dk_at dksX4_line_2 8 rfl rfl)
theorem dX4_line_57 : decode cX4_line 57 = .ok (.aaload, 1) := dk_50 (dk_at dksX4_line_2 9 rfl rfl)
theorem dX4_line_58 : decode cX4_line 58 = .ok (.invokevirtual 193, 3) := dk_182 0 193 (dk_at dksX4_line_2 10 rfl rfl)
theorem dX4_line_61 : decode cX4_line 61 = .ok (.aload_n 0, 1) := dk_42 (dk_at dksX4_line_2 13 rfl rfl)
theorem dX4_line_62 : decode cX4_line 62 = .ok (.ldc 197, 2) := dk_18 197 (dk_at dksX4_line_2 14 rfl rfl)
theorem dX4_line_64 : decode cX4_line 64 = .ok (.invokevirtual 193, 3) := dk_182 0 193 (dk_at dksX4_line_2 16 rfl rfl)
theorem dX4_line_67 : decode cX4_line 67 = .ok (.aload_n 0, 1) := dk_42 (dk_at dksX4_line_2 19 rfl rfl)
theorem dX4_line_68 : decode cX4_line 68 = .ok (.iload_n 2, 1) := dk_28 (dk_at dksX4_line_2 20 rfl rfl)
theorem dX4_line_69 : decode cX4_line 69 = .ok (.bipush 7, 2) := dk_16 7 (dk_at dksX4_line_2 21 rfl rfl)
theorem dX4_line_71 : decode cX4_line 71 = .ok (.irem, 1) := dk_112 (dk_at dksX4_line_2 23 rfl rfl)
theorem dX4_line_72 : decode cX4_line 72 = .ok (.invokevirtual 199, 3) := dk_182 0 199 (dk_at dksX4_line_3 0 rfl rfl)
theorem dX4_line_75 : decode cX4_line 75 = .ok (.aload_n 0, 1) := dk_42 (dk_at dksX4_line_3 3 rfl rfl)
theorem dX4_line_76 : decode cX4_line 76 = .ok (.ldc 203, 2) := dk_18 203 (dk_at dksX4_line_3 4 rfl rfl)
theorem dX4_line_78 : decode cX4_line 78 = .ok (.invokevirtual 193, 3) := dk_182 0 193 (dk_at dksX4_line_3 6 rfl rfl)
theorem dX4_line_81 : decode cX4_line 81 = .ok (.aload_n 0, 1) := dk_42 (dk_at dksX4_line_3 9 rfl rfl)
theorem dX4_line_82 : decode cX4_line 82 = .ok (.aload_n 0, 1) := dk_42 (dk_at dksX4_line_3 10 rfl rfl)
theorem dX4_line_83 : decode cX4_line 83 = .ok (.getfield 21, 3) := dk_180 0 21 (dk_at dksX4_line_3 11 rfl rfl)
theorem dX4_line_86 : decode cX4_line 86 = .ok (.bipush 64, 2) := dk_16 64 (dk_at dksX4_line_3 14 rfl rfl)
theorem dX4_line_88 : decode cX4_line 88 = .ok (.iload_n 2, 1) := dk_28 (dk_at dksX4_line_3 16 rfl rfl)
theorem dX4_line_89 : decode cX4_line 89 = .ok (.iadd, 1) := dk_96 (dk_at dksX4_line_3 17 rfl rfl)
theorem dX4_line_90 : decode cX4_line 90 = .ok (.iaload, 1) := dk_46 (dk_at dksX4_line_3 18 rfl rfl)
theorem dX4_line_91 : decode cX4_line 91 = .ok (.invokevirtual 199, 3) := dk_182 0 199 (dk_at dksX4_line_3 19 rfl rfl)
theorem dX4_line_94 : decode cX4_line 94 = .ok (.aload_n 0, 1) := dk_42 (dk_at dksX4_line_3 22 rfl rfl)
theorem dX4_line_95 : decode cX4_line 95 = .ok (.iload_n 1, 1) := dk_27 (dk_at dksX4_line_3 23 rfl rfl)
theorem dX4_line_96 : decode cX4_line 96 = .ok (.aload_n 0, 1) := dk_42 (dk_at dksX4_line_4 0 rfl rfl)
theorem dX4_line_97 : decode cX4_line 97 = .ok (.getfield 21, 3) := dk_180 0 21 (dk_at dksX4_line_4 1 rfl rfl)
theorem dX4_line_100 : decode cX4_line 100 = .ok (.sipush 211, 3) := dk_17 0 211 (dk_at dksX4_line_4 4 rfl rfl)
theorem dX4_line_103 : decode cX4_line 103 = .ok (.iload_n 2, 1) := dk_28 (dk_at dksX4_line_4 7 rfl rfl)
theorem dX4_line_104 : decode cX4_line 104 = .ok (.iadd, 1) := dk_96 (dk_at dksX4_line_4 8 rfl rfl)
theorem dX4_line_105 : decode cX4_line 105 = .ok (.iaload, 1) := dk_46 (dk_at dksX4_line_4 9 rfl rfl)
theorem dX4_line_106 : decode cX4_line 106 = .ok (.invokevirtual 188, 3) := dk_182 0 188 (dk_at dksX4_line_4 10 rfl rfl)
theorem dX4_line_109 : decode cX4_line 109 = .ok (.istore_n 2, 1) := dk_61 (dk_at dksX4_line_4 13 rfl rfl)
theorem dX4_line_110 : decode cX4_line 110 = .ok (.goto (-79), 3) := dk_167 255 177 (dk_at dksX4_line_4 14 rfl rfl)
theorem dX4_line_113 : decode cX4_line 113 = .ok (.aload_n 0, 1) := dk_42 (dk_at dksX4_line_4 17 rfl rfl)
theorem dX4_line_114 : decode cX4_line 114 = .ok (.getfield 181, 3) := dk_180 0 181 (dk_at dksX4_line_4 18 rfl rfl)
theorem dX4_line_117 : decode cX4_line 117 = .ok (.ifCond .ne 9, 3) := dk_154 0 9 (dk_at dksX4_line_4 21 rfl rfl)
theorem dX4_line_120 : decode cX4_line 120 = .ok (.aload_n 0, 1) := dk_42 (dk_at dksX4_line_5 0 rfl rfl)
theorem dX4_line_121 : decode cX4_line 121 = .ok (.ldc 205, 2) := dk_18 205 (dk_at dksX4_line_5 1 rfl rfl)
theorem dX4_line_123 : decode cX4_line 123 = .ok (.invokevirtual 193, 3) := dk_182 0 193 (dk_at dksX4_line_5 3 rfl rfl)
theorem dX4_line_126 : decode cX4_line 126 = .ok (.aload_n 0, 1) := dk_42 (dk_at dksX4_line_5 6 rfl rfl)
theorem dX4_line_127 : decode cX4_line 127 = .ok (.getfield 181, 3) := dk_180 0 181 (dk_at dksX4_line_5 7 rfl rfl)
theorem dX4_line_130 : decode cX4_line 130 = .ok (.ireturn, 1) := dk_172 (dk_at dksX4_line_5 10 rfl rfl)
abbrev cX4_nextGroup : ByteArray := prog_29_method_50_code
def yX4_nextGroup : MethodName := ⟨RX4, "nextGroup", "(II)I"⟩
def dkwX4_nextGroup_4 : List UInt8 := [132, 4, 1, 167, 255, 162, 29, 172]
abbrev dktX4_nextGroup_4 : List UInt8 := dkwX4_nextGroup_4 ++ []
def dkwX4_nextGroup_3 : List UInt8 := [96, 46, 42, 180, 0, 21, 17, 0, 211, 29, 96, 46, 162, 0, 6, 21, 6, 62, 132, 5, 1, 167, 255, 177]
abbrev dktX4_nextGroup_3 : List UInt8 := dkwX4_nextGroup_3 ++ dktX4_nextGroup_4
def dkwX4_nextGroup_2 : List UInt8 := [17, 0, 211, 21, 6, 96, 46, 28, 164, 0, 34, 29, 155, 0, 27, 42, 180, 0, 21, 17, 0, 211, 21, 6]
abbrev dktX4_nextGroup_2 : List UInt8 := dkwX4_nextGroup_2 ++ dktX4_nextGroup_3
def dkwX4_nextGroup_1 : List UInt8 := [21, 5, 184, 0, 94, 54, 6, 42, 180, 0, 21, 16, 64, 21, 6, 96, 46, 158, 0, 49, 42, 180, 0, 21]
abbrev dktX4_nextGroup_1 : List UInt8 := dkwX4_nextGroup_1 ++ dktX4_nextGroup_2
def dkwX4_nextGroup_0 : List UInt8 := [2, 62, 3, 54, 4, 21, 4, 6, 162, 0, 94, 3, 54, 5, 21, 5, 16, 7, 162, 0, 78, 21, 4, 27]
abbrev dktX4_nextGroup_0 : List UInt8 := dkwX4_nextGroup_0 ++ dktX4_nextGroup_1
theorem dksX4_nextGroup_0 : cX4_nextGroup.data.toList.drop 0 = dktX4_nextGroup_0 := by decide +kernel
theorem dksX4_nextGroup_1 : cX4_nextGroup.data.toList.drop 24 = dktX4_nextGroup_1 := dk_seg dksX4_nextGroup_0 24 rfl rfl
theorem dksX4_nextGroup_2 : cX4_nextGroup.data.toList.drop 48 = dktX4_nextGroup_2 := dk_seg dksX4_nextGroup_1 24 rfl rfl
theorem dksX4_nextGroup_3 : cX4_nextGroup.data.toList.drop 72 = dktX4_nextGroup_3 := dk_seg dksX4_nextGroup_2 24 rfl rfl
theorem dksX4_nextGroup_4 : cX4_nextGroup.data.toList.drop 96 = dktX4_nextGroup_4 := dk_seg dksX4_nextGroup_3 24 rfl rfl
theorem dX4_nextGroup_0 : decode cX4_nextGroup 0 = .ok (.iconst (-1), 1) := dk_2 (dk_at dksX4_nextGroup_0 0 rfl rfl)
theorem dX4_nextGroup_1 : decode cX4_nextGroup 1 = .ok (.istore_n 3, 1) := dk_62 (dk_at dksX4_nextGroup_0 1 rfl rfl)
theorem dX4_nextGroup_2 : decode cX4_nextGroup 2 = .ok (.iconst 0, 1) := dk_3 (dk_at dksX4_nextGroup_0 2 rfl rfl)
theorem dX4_nextGroup_3 : decode cX4_nextGroup 3 = .ok (.istore 4, 2) := dk_54 4 (dk_at dksX4_nextGroup_0 3 rfl rfl)
theorem dX4_nextGroup_5 : decode cX4_nextGroup 5 = .ok (.iload 4, 2) := dk_21 4 (dk_at dksX4_nextGroup_0 5 rfl rfl)
theorem dX4_nextGroup_7 : decode cX4_nextGroup 7 = .ok (.iconst 3, 1) := dk_6 (dk_at dksX4_nextGroup_0 7 rfl rfl)
theorem dX4_nextGroup_8 : decode cX4_nextGroup 8 = .ok (.if_icmp .ge 94, 3) := dk_162 0 94 (dk_at dksX4_nextGroup_0 8 rfl rfl)
theorem dX4_nextGroup_11 : decode cX4_nextGroup 11 = .ok (.iconst 0, 1) := dk_3 (dk_at dksX4_nextGroup_0 11 rfl rfl)
theorem dX4_nextGroup_12 : decode cX4_nextGroup 12 = .ok (.istore 5, 2) := dk_54 5 (dk_at dksX4_nextGroup_0 12 rfl rfl)
theorem dX4_nextGroup_14 : decode cX4_nextGroup 14 = .ok (.iload 5, 2) := dk_21 5 (dk_at dksX4_nextGroup_0 14 rfl rfl)
theorem dX4_nextGroup_16 : decode cX4_nextGroup 16 = .ok (.bipush 7, 2) := dk_16 7 (dk_at dksX4_nextGroup_0 16 rfl rfl)
theorem dX4_nextGroup_18 : decode cX4_nextGroup 18 = .ok (.if_icmp .ge 78, 3) := dk_162 0 78 (dk_at dksX4_nextGroup_0 18 rfl rfl)
theorem dX4_nextGroup_21 : decode cX4_nextGroup 21 = .ok (.iload 4, 2) := dk_21 4 (dk_at dksX4_nextGroup_0 21 rfl rfl)
theorem dX4_nextGroup_23 : decode cX4_nextGroup 23 = .ok (.iload_n 1, 1) := dk_27 (dk_at dksX4_nextGroup_0 23 rfl rfl)
theorem dX4_nextGroup_24 : decode cX4_nextGroup 24 = .ok (.iload 5, 2) := dk_21 5 (dk_at dksX4_nextGroup_1 0 rfl rfl)
theorem dX4_nextGroup_26 : decode cX4_nextGroup 26 = .ok (.invokestatic 94, 3) := dk_184 0 94 (dk_at dksX4_nextGroup_1 2 rfl rfl)
theorem dX4_nextGroup_29 : decode cX4_nextGroup 29 = .ok (.istore 6, 2) := dk_54 6 (dk_at dksX4_nextGroup_1 5 rfl rfl)
theorem dX4_nextGroup_31 : decode cX4_nextGroup 31 = .ok (.aload_n 0, 1) := dk_42 (dk_at dksX4_nextGroup_1 7 rfl rfl)
theorem dX4_nextGroup_32 : decode cX4_nextGroup 32 = .ok (.getfield 21, 3) := dk_180 0 21 (dk_at dksX4_nextGroup_1 8 rfl rfl)
theorem dX4_nextGroup_35 : decode cX4_nextGroup 35 = .ok (.bipush 64, 2) := dk_16 64 (dk_at dksX4_nextGroup_1 11 rfl rfl)
theorem dX4_nextGroup_37 : decode cX4_nextGroup 37 = .ok (.iload 6, 2) := dk_21 6 (dk_at dksX4_nextGroup_1 13 rfl rfl)
theorem dX4_nextGroup_39 : decode cX4_nextGroup 39 = .ok (.iadd, 1) := dk_96 (dk_at dksX4_nextGroup_1 15 rfl rfl)
theorem dX4_nextGroup_40 : decode cX4_nextGroup 40 = .ok (.iaload, 1) := dk_46 (dk_at dksX4_nextGroup_1 16 rfl rfl)
theorem dX4_nextGroup_41 : decode cX4_nextGroup 41 = .ok (.ifCond .le 49, 3) := dk_158 0 49 (dk_at dksX4_nextGroup_1 17 rfl rfl)
theorem dX4_nextGroup_44 : decode cX4_nextGroup 44 = .ok (.aload_n 0, 1) := dk_42 (dk_at dksX4_nextGroup_1 20 rfl rfl)
theorem dX4_nextGroup_45 : decode cX4_nextGroup 45 = .ok (.getfield 21, 3) := dk_180 0 21 (dk_at dksX4_nextGroup_1 21 rfl rfl)
theorem dX4_nextGroup_48 : decode cX4_nextGroup 48 = .ok (.sipush 211, 3) := dk_17 0 211 (dk_at dksX4_nextGroup_2 0 rfl rfl)
theorem dX4_nextGroup_51 : decode cX4_nextGroup 51 = .ok (.iload 6, 2) := dk_21 6 (dk_at dksX4_nextGroup_2 3 rfl rfl)
theorem dX4_nextGroup_53 : decode cX4_nextGroup 53 = .ok (.iadd, 1) := dk_96 (dk_at dksX4_nextGroup_2 5 rfl rfl)
theorem dX4_nextGroup_54 : decode cX4_nextGroup 54 = .ok (.iaload, 1) := dk_46 (dk_at dksX4_nextGroup_2 6 rfl rfl)
theorem dX4_nextGroup_55 : decode cX4_nextGroup 55 = .ok (.iload_n 2, 1) := dk_28 (dk_at dksX4_nextGroup_2 7 rfl rfl)
theorem dX4_nextGroup_56 : decode cX4_nextGroup 56 = .ok (.if_icmp .le 34, 3) := dk_164 0 34 (dk_at dksX4_nextGroup_2 8 rfl rfl)
theorem dX4_nextGroup_59 : decode cX4_nextGroup 59 = .ok (.iload_n 3, 1) := dk_29 (dk_at dksX4_nextGroup_2 11 rfl rfl)
theorem dX4_nextGroup_60 : decode cX4_nextGroup 60 = .ok (.ifCond .lt 27, 3) := dk_155 0 27 (dk_at dksX4_nextGroup_2 12 rfl rfl)
theorem dX4_nextGroup_63 : decode cX4_nextGroup 63 = .ok (.aload_n 0, 1) := dk_42 (dk_at dksX4_nextGroup_2 15 rfl rfl)
theorem dX4_nextGroup_64 : decode cX4_nextGroup 64 = .ok (.getfield 21, 3) := dk_180 0 21 (dk_at dksX4_nextGroup_2 16 rfl rfl)
theorem dX4_nextGroup_67 : decode cX4_nextGroup 67 = .ok (.sipush 211, 3) := dk_17 0 211 (dk_at dksX4_nextGroup_2 19 rfl rfl)
theorem dX4_nextGroup_70 : decode cX4_nextGroup 70 = .ok (.iload 6, 2) := dk_21 6 (dk_at dksX4_nextGroup_2 22 rfl rfl)
theorem dX4_nextGroup_72 : decode cX4_nextGroup 72 = .ok (.iadd, 1) := dk_96 (dk_at dksX4_nextGroup_3 0 rfl rfl)
theorem dX4_nextGroup_73 : decode cX4_nextGroup 73 = .ok (.iaload, 1) := dk_46 (dk_at dksX4_nextGroup_3 1 rfl rfl)
theorem dX4_nextGroup_74 : decode cX4_nextGroup 74 = .ok (.aload_n 0, 1) := dk_42 (dk_at dksX4_nextGroup_3 2 rfl rfl)
theorem dX4_nextGroup_75 : decode cX4_nextGroup 75 = .ok (.getfield 21, 3) := dk_180 0 21 (dk_at dksX4_nextGroup_3 3 rfl rfl)
theorem dX4_nextGroup_78 : decode cX4_nextGroup 78 = .ok (.sipush 211, 3) := dk_17 0 211 (dk_at dksX4_nextGroup_3 6 rfl rfl)
theorem dX4_nextGroup_81 : decode cX4_nextGroup 81 = .ok (.iload_n 3, 1) := dk_29 (dk_at dksX4_nextGroup_3 9 rfl rfl)
theorem dX4_nextGroup_82 : decode cX4_nextGroup 82 = .ok (.iadd, 1) := dk_96 (dk_at dksX4_nextGroup_3 10 rfl rfl)
theorem dX4_nextGroup_83 : decode cX4_nextGroup 83 = .ok (.iaload, 1) := dk_46 (dk_at dksX4_nextGroup_3 11 rfl rfl)
theorem dX4_nextGroup_84 : decode cX4_nextGroup 84 = .ok (.if_icmp .ge 6, 3) := dk_162 0 6 (dk_at dksX4_nextGroup_3 12 rfl rfl)
theorem dX4_nextGroup_87 : decode cX4_nextGroup 87 = .ok (.iload 6, 2) := dk_21 6 (dk_at dksX4_nextGroup_3 15 rfl rfl)
theorem dX4_nextGroup_89 : decode cX4_nextGroup 89 = .ok (.istore_n 3, 1) := dk_62 (dk_at dksX4_nextGroup_3 17 rfl rfl)
theorem dX4_nextGroup_90 : decode cX4_nextGroup 90 = .ok (.iinc 5 1, 3) := dk_132 5 1 (dk_at dksX4_nextGroup_3 18 rfl rfl)
theorem dX4_nextGroup_93 : decode cX4_nextGroup 93 = .ok (.goto (-79), 3) := dk_167 255 177 (dk_at dksX4_nextGroup_3 21 rfl rfl)
theorem dX4_nextGroup_96 : decode cX4_nextGroup 96 = .ok (.iinc 4 1, 3) := dk_132 4 1 (dk_at dksX4_nextGroup_4 0 rfl rfl)
theorem dX4_nextGroup_99 : decode cX4_nextGroup 99 = .ok (.goto (-94), 3) := dk_167 255 162 (dk_at dksX4_nextGroup_4 3 rfl rfl)
theorem dX4_nextGroup_102 : decode cX4_nextGroup 102 = .ok (.iload_n 3, 1) := dk_29 (dk_at dksX4_nextGroup_4 6 rfl rfl)
theorem dX4_nextGroup_103 : decode cX4_nextGroup 103 = .ok (.ireturn, 1) := dk_172 (dk_at dksX4_nextGroup_4 7 rfl rfl)
abbrev cX4_writes : ByteArray := prog_29_method_48_code
def yX4_writes : MethodName := ⟨RX4, "writes", "(Ljava/lang/String;)V"⟩
def dkwX4_writes_1 : List UInt8 := [181, 0, 181, 43, 28, 182, 0, 184, 85, 132, 2, 1, 167, 255, 224, 177]
abbrev dktX4_writes_1 : List UInt8 := dkwX4_writes_1 ++ []
def dkwX4_writes_0 : List UInt8 := [3, 61, 28, 43, 182, 0, 178, 162, 0, 30, 42, 180, 0, 44, 42, 89, 180, 0, 181, 90, 4, 96]
abbrev dktX4_writes_0 : List UInt8 := dkwX4_writes_0 ++ dktX4_writes_1
theorem dksX4_writes_0 : cX4_writes.data.toList.drop 0 = dktX4_writes_0 := by decide +kernel
theorem dksX4_writes_1 : cX4_writes.data.toList.drop 22 = dktX4_writes_1 := dk_seg dksX4_writes_0 22 rfl rfl
theorem dX4_writes_0 : decode cX4_writes 0 = .ok (.iconst 0, 1) := dk_3 (dk_at dksX4_writes_0 0 rfl rfl)
theorem dX4_writes_1 : decode cX4_writes 1 = .ok (.istore_n 2, 1) := dk_61 (dk_at dksX4_writes_0 1 rfl rfl)
theorem dX4_writes_2 : decode cX4_writes 2 = .ok (.iload_n 2, 1) := dk_28 (dk_at dksX4_writes_0 2 rfl rfl)
theorem dX4_writes_3 : decode cX4_writes 3 = .ok (.aload_n 1, 1) := dk_43 (dk_at dksX4_writes_0 3 rfl rfl)
theorem dX4_writes_4 : decode cX4_writes 4 = .ok (.invokevirtual 178, 3) := dk_182 0 178 (dk_at dksX4_writes_0 4 rfl rfl)
theorem dX4_writes_7 : decode cX4_writes 7 = .ok (.if_icmp .ge 30, 3) := dk_162 0 30 (dk_at dksX4_writes_0 7 rfl rfl)
theorem dX4_writes_10 : decode cX4_writes 10 = .ok (.aload_n 0, 1) := dk_42 (dk_at dksX4_writes_0 10 rfl rfl)
theorem dX4_writes_11 : decode cX4_writes 11 = .ok (.getfield 44, 3) := dk_180 0 44 (dk_at dksX4_writes_0 11 rfl rfl)
theorem dX4_writes_14 : decode cX4_writes 14 = .ok (.aload_n 0, 1) := dk_42 (dk_at dksX4_writes_0 14 rfl rfl)
theorem dX4_writes_15 : decode cX4_writes 15 = .ok (.dup, 1) := dk_89 (dk_at dksX4_writes_0 15 rfl rfl)
theorem dX4_writes_16 : decode cX4_writes 16 = .ok (.getfield 181, 3) := dk_180 0 181 (dk_at dksX4_writes_0 16 rfl rfl)
theorem dX4_writes_19 : decode cX4_writes 19 = .ok (.dup_x1, 1) := dk_90 (dk_at dksX4_writes_0 19 rfl rfl)
theorem dX4_writes_20 : decode cX4_writes 20 = .ok (.iconst 1, 1) := dk_4 (dk_at dksX4_writes_0 20 rfl rfl)
theorem dX4_writes_21 : decode cX4_writes 21 = .ok (.iadd, 1) := dk_96 (dk_at dksX4_writes_0 21 rfl rfl)
theorem dX4_writes_22 : decode cX4_writes 22 = .ok (.putfield 181, 3) := dk_181 0 181 (dk_at dksX4_writes_1 0 rfl rfl)
theorem dX4_writes_25 : decode cX4_writes 25 = .ok (.aload_n 1, 1) := dk_43 (dk_at dksX4_writes_1 3 rfl rfl)
theorem dX4_writes_26 : decode cX4_writes 26 = .ok (.iload_n 2, 1) := dk_28 (dk_at dksX4_writes_1 4 rfl rfl)
theorem dX4_writes_27 : decode cX4_writes 27 = .ok (.invokevirtual 184, 3) := dk_182 0 184 (dk_at dksX4_writes_1 5 rfl rfl)
theorem dX4_writes_30 : decode cX4_writes 30 = .ok (.castore, 1) := dk_85 (dk_at dksX4_writes_1 8 rfl rfl)
theorem dX4_writes_31 : decode cX4_writes 31 = .ok (.iinc 2 1, 3) := dk_132 2 1 (dk_at dksX4_writes_1 9 rfl rfl)
theorem dX4_writes_34 : decode cX4_writes 34 = .ok (.goto (-32), 3) := dk_167 255 224 (dk_at dksX4_writes_1 12 rfl rfl)
theorem dX4_writes_37 : decode cX4_writes 37 = .ok (.return_, 1) := dk_177 (dk_at dksX4_writes_1 15 rfl rfl)
abbrev cX4_writesNumber : ByteArray := prog_29_method_49_code
def yX4_writesNumber : MethodName := ⟨RX4, "writesNumber", "(I)V"⟩
def dkwX4_writesNumber_2 : List UInt8 := [85, 28, 16, 10, 108, 61, 167, 255, 221, 177]
abbrev dktX4_writesNumber_2 : List UInt8 := dkwX4_writesNumber_2 ++ []
def dkwX4_writesNumber_1 : List UInt8 := [180, 0, 44, 42, 89, 180, 0, 181, 90, 4, 96, 181, 0, 181, 16, 48, 27, 28, 108, 16, 10, 112, 96, 146]
abbrev dktX4_writesNumber_1 : List UInt8 := dkwX4_writesNumber_1 ++ dktX4_writesNumber_2
def dkwX4_writesNumber_0 : List UInt8 := [4, 61, 27, 28, 108, 16, 9, 164, 0, 11, 28, 16, 10, 104, 61, 167, 255, 243, 28, 158, 0, 37, 42]
abbrev dktX4_writesNumber_0 : List UInt8 := dkwX4_writesNumber_0 ++ dktX4_writesNumber_1
theorem dksX4_writesNumber_0 : cX4_writesNumber.data.toList.drop 0 = dktX4_writesNumber_0 := by decide +kernel
theorem dksX4_writesNumber_1 : cX4_writesNumber.data.toList.drop 23 = dktX4_writesNumber_1 := dk_seg dksX4_writesNumber_0 23 rfl rfl
theorem dksX4_writesNumber_2 : cX4_writesNumber.data.toList.drop 47 = dktX4_writesNumber_2 := dk_seg dksX4_writesNumber_1 24 rfl rfl
theorem dX4_writesNumber_0 : decode cX4_writesNumber 0 = .ok (.iconst 1, 1) := dk_4 (dk_at dksX4_writesNumber_0 0 rfl rfl)
theorem dX4_writesNumber_1 : decode cX4_writesNumber 1 = .ok (.istore_n 2, 1) := dk_61 (dk_at dksX4_writesNumber_0 1 rfl rfl)
theorem dX4_writesNumber_2 : decode cX4_writesNumber 2 = .ok (.iload_n 1, 1) := dk_27 (dk_at dksX4_writesNumber_0 2 rfl rfl)
theorem dX4_writesNumber_3 : decode cX4_writesNumber 3 = .ok (.iload_n 2, 1) := dk_28 (dk_at dksX4_writesNumber_0 3 rfl rfl)
theorem dX4_writesNumber_4 : decode cX4_writesNumber 4 = .ok (.idiv, 1) := dk_108 (dk_at dksX4_writesNumber_0 4 rfl rfl)
theorem dX4_writesNumber_5 : decode cX4_writesNumber 5 = .ok (.bipush 9, 2) := dk_16 9 (dk_at dksX4_writesNumber_0 5 rfl rfl)
theorem dX4_writesNumber_7 : decode cX4_writesNumber 7 = .ok (.if_icmp .le 11, 3) := dk_164 0 11 (dk_at dksX4_writesNumber_0 7 rfl rfl)
theorem dX4_writesNumber_10 : decode cX4_writesNumber 10 = .ok (.iload_n 2, 1) := dk_28 (dk_at dksX4_writesNumber_0 10 rfl rfl)
theorem dX4_writesNumber_11 : decode cX4_writesNumber 11 = .ok (.bipush 10, 2) := dk_16 10 (dk_at dksX4_writesNumber_0 11 rfl rfl)
theorem dX4_writesNumber_13 : decode cX4_writesNumber 13 = .ok (.imul, 1) := dk_104 (dk_at dksX4_writesNumber_0 13 rfl rfl)
theorem dX4_writesNumber_14 : decode cX4_writesNumber 14 = .ok (.istore_n 2, 1) := dk_61 (dk_at dksX4_writesNumber_0 14 rfl rfl)
theorem dX4_writesNumber_15 : decode cX4_writesNumber 15 = .ok (.goto (-13), 3) := dk_167 255 243 (dk_at dksX4_writesNumber_0 15 rfl rfl)
theorem dX4_writesNumber_18 : decode cX4_writesNumber 18 = .ok (.iload_n 2, 1) := dk_28 (dk_at dksX4_writesNumber_0 18 rfl rfl)
theorem dX4_writesNumber_19 : decode cX4_writesNumber 19 = .ok (.ifCond .le 37, 3) := dk_158 0 37 (dk_at dksX4_writesNumber_0 19 rfl rfl)
theorem dX4_writesNumber_22 : decode cX4_writesNumber 22 = .ok (.aload_n 0, 1) := dk_42 (dk_at dksX4_writesNumber_0 22 rfl rfl)
theorem dX4_writesNumber_23 : decode cX4_writesNumber 23 = .ok (.getfield 44, 3) := dk_180 0 44 (dk_at dksX4_writesNumber_1 0 rfl rfl)
theorem dX4_writesNumber_26 : decode cX4_writesNumber 26 = .ok (.aload_n 0, 1) := dk_42 (dk_at dksX4_writesNumber_1 3 rfl rfl)
theorem dX4_writesNumber_27 : decode cX4_writesNumber 27 = .ok (.dup, 1) := dk_89 (dk_at dksX4_writesNumber_1 4 rfl rfl)
theorem dX4_writesNumber_28 : decode cX4_writesNumber 28 = .ok (.getfield 181, 3) := dk_180 0 181 (dk_at dksX4_writesNumber_1 5 rfl rfl)
theorem dX4_writesNumber_31 : decode cX4_writesNumber 31 = .ok (.dup_x1, 1) := dk_90 (dk_at dksX4_writesNumber_1 8 rfl rfl)
theorem dX4_writesNumber_32 : decode cX4_writesNumber 32 = .ok (.iconst 1, 1) := dk_4 (dk_at dksX4_writesNumber_1 9 rfl rfl)
theorem dX4_writesNumber_33 : decode cX4_writesNumber 33 = .ok (.iadd, 1) := dk_96 (dk_at dksX4_writesNumber_1 10 rfl rfl)
theorem dX4_writesNumber_34 : decode cX4_writesNumber 34 = .ok (.putfield 181, 3) := dk_181 0 181 (dk_at dksX4_writesNumber_1 11 rfl rfl)
theorem dX4_writesNumber_37 : decode cX4_writesNumber 37 = .ok (.bipush 48, 2) := dk_16 48 (dk_at dksX4_writesNumber_1 14 rfl rfl)
theorem dX4_writesNumber_39 : decode cX4_writesNumber 39 = .ok (.iload_n 1, 1) := dk_27 (dk_at dksX4_writesNumber_1 16 rfl rfl)
theorem dX4_writesNumber_40 : decode cX4_writesNumber 40 = .ok (.iload_n 2, 1) := dk_28 (dk_at dksX4_writesNumber_1 17 rfl rfl)
theorem dX4_writesNumber_41 : decode cX4_writesNumber 41 = .ok (.idiv, 1) := dk_108 (dk_at dksX4_writesNumber_1 18 rfl rfl)
theorem dX4_writesNumber_42 : decode cX4_writesNumber 42 = .ok (.bipush 10, 2) := dk_16 10 (dk_at dksX4_writesNumber_1 19 rfl rfl)
theorem dX4_writesNumber_44 : decode cX4_writesNumber 44 = .ok (.irem, 1) := dk_112 (dk_at dksX4_writesNumber_1 21 rfl rfl)
theorem dX4_writesNumber_45 : decode cX4_writesNumber 45 = .ok (.iadd, 1) := dk_96 (dk_at dksX4_writesNumber_1 22 rfl rfl)
theorem dX4_writesNumber_46 : decode cX4_writesNumber 46 = .ok (.i2c, 1) := dk_146 (dk_at dksX4_writesNumber_1 23 rfl rfl)
theorem dX4_writesNumber_47 : decode cX4_writesNumber 47 = .ok (.castore, 1) := dk_85 (dk_at dksX4_writesNumber_2 0 rfl rfl)
theorem dX4_writesNumber_48 : decode cX4_writesNumber 48 = .ok (.iload_n 2, 1) := dk_28 (dk_at dksX4_writesNumber_2 1 rfl rfl)
theorem dX4_writesNumber_49 : decode cX4_writesNumber 49 = .ok (.bipush 10, 2) := dk_16 10 (dk_at dksX4_writesNumber_2 2 rfl rfl)
theorem dX4_writesNumber_51 : decode cX4_writesNumber 51 = .ok (.idiv, 1) := dk_108 (dk_at dksX4_writesNumber_2 4 rfl rfl)
theorem dX4_writesNumber_52 : decode cX4_writesNumber 52 = .ok (.istore_n 2, 1) := dk_61 (dk_at dksX4_writesNumber_2 5 rfl rfl)
theorem dX4_writesNumber_53 : decode cX4_writesNumber 53 = .ok (.goto (-35), 3) := dk_167 255 221 (dk_at dksX4_writesNumber_2 6 rfl rfl)
theorem dX4_writesNumber_56 : decode cX4_writesNumber 56 = .ok (.return_, 1) := dk_177 (dk_at dksX4_writesNumber_2 9 rfl rfl)
abbrev cX4_character : ByteArray := prog_29_method_52_code
def yX4_character : MethodName := ⟨RX4, "character", "(I)C"⟩
def dkwX4_character_1 : List UInt8 := [52, 167, 0, 9, 42, 4, 182, 0, 77, 146, 172]
abbrev dktX4_character_1 : List UInt8 := dkwX4_character_1 ++ []
def dkwX4_character_0 : List UInt8 := [42, 3, 181, 0, 58, 27, 3, 42, 180, 0, 181, 4, 100, 184, 0, 80, 153, 0, 12, 42, 180, 0, 44, 27]
abbrev dktX4_character_0 : List UInt8 := dkwX4_character_0 ++ dktX4_character_1
theorem dksX4_character_0 : cX4_character.data.toList.drop 0 = dktX4_character_0 := by decide +kernel
theorem dksX4_character_1 : cX4_character.data.toList.drop 24 = dktX4_character_1 := dk_seg dksX4_character_0 24 rfl rfl
theorem dX4_character_0 : decode cX4_character 0 = .ok (.aload_n 0, 1) := dk_42 (dk_at dksX4_character_0 0 rfl rfl)
theorem dX4_character_1 : decode cX4_character 1 = .ok (.iconst 0, 1) := dk_3 (dk_at dksX4_character_0 1 rfl rfl)
theorem dX4_character_2 : decode cX4_character 2 = .ok (.putfield 58, 3) := dk_181 0 58 (dk_at dksX4_character_0 2 rfl rfl)
theorem dX4_character_5 : decode cX4_character 5 = .ok (.iload_n 1, 1) := dk_27 (dk_at dksX4_character_0 5 rfl rfl)
theorem dX4_character_6 : decode cX4_character 6 = .ok (.iconst 0, 1) := dk_3 (dk_at dksX4_character_0 6 rfl rfl)
theorem dX4_character_7 : decode cX4_character 7 = .ok (.aload_n 0, 1) := dk_42 (dk_at dksX4_character_0 7 rfl rfl)
theorem dX4_character_8 : decode cX4_character 8 = .ok (.getfield 181, 3) := dk_180 0 181 (dk_at dksX4_character_0 8 rfl rfl)
theorem dX4_character_11 : decode cX4_character 11 = .ok (.iconst 1, 1) := dk_4 (dk_at dksX4_character_0 11 rfl rfl)
theorem dX4_character_12 : decode cX4_character 12 = .ok (.isub, 1) := dk_100 (dk_at dksX4_character_0 12 rfl rfl)
theorem dX4_character_13 : decode cX4_character 13 = .ok (.invokestatic 80, 3) := dk_184 0 80 (dk_at dksX4_character_0 13 rfl rfl)
theorem dX4_character_16 : decode cX4_character 16 = .ok (.ifCond .eq 12, 3) := dk_153 0 12 (dk_at dksX4_character_0 16 rfl rfl)
theorem dX4_character_19 : decode cX4_character 19 = .ok (.aload_n 0, 1) := dk_42 (dk_at dksX4_character_0 19 rfl rfl)
theorem dX4_character_20 : decode cX4_character 20 = .ok (.getfield 44, 3) := dk_180 0 44 (dk_at dksX4_character_0 20 rfl rfl)
theorem dX4_character_23 : decode cX4_character 23 = .ok (.iload_n 1, 1) := dk_27 (dk_at dksX4_character_0 23 rfl rfl)
theorem dX4_character_24 : decode cX4_character 24 = .ok (.caload, 1) := dk_52 (dk_at dksX4_character_1 0 rfl rfl)
theorem dX4_character_25 : decode cX4_character 25 = .ok (.goto 9, 3) := dk_167 0 9 (dk_at dksX4_character_1 1 rfl rfl)
theorem dX4_character_28 : decode cX4_character 28 = .ok (.aload_n 0, 1) := dk_42 (dk_at dksX4_character_1 4 rfl rfl)
theorem dX4_character_29 : decode cX4_character 29 = .ok (.iconst 1, 1) := dk_4 (dk_at dksX4_character_1 5 rfl rfl)
theorem dX4_character_30 : decode cX4_character 30 = .ok (.invokevirtual 77, 3) := dk_182 0 77 (dk_at dksX4_character_1 6 rfl rfl)
theorem dX4_character_33 : decode cX4_character 33 = .ok (.i2c, 1) := dk_146 (dk_at dksX4_character_1 9 rfl rfl)
theorem dX4_character_34 : decode cX4_character 34 = .ok (.ireturn, 1) := dk_172 (dk_at dksX4_character_1 10 rfl rfl)
abbrev cX4_busiest : ByteArray := prog_29_method_53_code
def yX4_busiest : MethodName := ⟨RX4, "busiest", "()I"⟩
def dkwX4_busiest_6 : List UInt8 := [167, 255, 129, 27, 156, 0, 11, 42, 4, 182, 0, 77, 167, 0, 4, 27, 172]
abbrev dktX4_busiest_6 : List UInt8 := dkwX4_busiest_6 ++ []
def dkwX4_busiest_5 : List UInt8 := [180, 0, 21, 7, 46, 100, 184, 0, 172, 161, 0, 6, 167, 0, 8, 21, 4, 61, 29, 60, 132, 3, 1]
abbrev dktX4_busiest_5 : List UInt8 := dkwX4_busiest_5 ++ dktX4_busiest_6
def dkwX4_busiest_4 : List UInt8 := [167, 0, 42, 21, 4, 28, 160, 0, 31, 29, 42, 180, 0, 21, 7, 46, 100, 184, 0, 172, 27, 42]
abbrev dktX4_busiest_4 : List UInt8 := dkwX4_busiest_4 ++ dktX4_busiest_5
def dkwX4_busiest_3 : List UInt8 := [132, 6, 1, 167, 255, 219, 132, 5, 1, 167, 255, 204, 21, 4, 153, 0, 51, 21, 4, 28, 162, 0, 6]
abbrev dktX4_busiest_3 : List UInt8 := dkwX4_busiest_3 ++ dktX4_busiest_4
def dkwX4_busiest_2 : List UInt8 := [184, 0, 136, 42, 180, 0, 21, 16, 64, 21, 5, 29, 21, 6, 184, 0, 94, 96, 46, 104, 96, 54, 4]
abbrev dktX4_busiest_2 : List UInt8 := dkwX4_busiest_2 ++ dktX4_busiest_3
def dkwX4_busiest_1 : List UInt8 := [3, 54, 5, 21, 5, 6, 162, 0, 52, 3, 54, 6, 21, 6, 16, 7, 162, 0, 36, 21, 4, 21, 5]
abbrev dktX4_busiest_1 : List UInt8 := dkwX4_busiest_1 ++ dktX4_busiest_2
def dkwX4_busiest_0 : List UInt8 := [42, 3, 181, 0, 58, 2, 60, 3, 61, 3, 62, 29, 42, 180, 0, 21, 3, 46, 163, 0, 123, 3, 54, 4]
abbrev dktX4_busiest_0 : List UInt8 := dkwX4_busiest_0 ++ dktX4_busiest_1
theorem dksX4_busiest_0 : cX4_busiest.data.toList.drop 0 = dktX4_busiest_0 := by decide +kernel
theorem dksX4_busiest_1 : cX4_busiest.data.toList.drop 24 = dktX4_busiest_1 := dk_seg dksX4_busiest_0 24 rfl rfl
theorem dksX4_busiest_2 : cX4_busiest.data.toList.drop 47 = dktX4_busiest_2 := dk_seg dksX4_busiest_1 23 rfl rfl
theorem dksX4_busiest_3 : cX4_busiest.data.toList.drop 70 = dktX4_busiest_3 := dk_seg dksX4_busiest_2 23 rfl rfl
theorem dksX4_busiest_4 : cX4_busiest.data.toList.drop 93 = dktX4_busiest_4 := dk_seg dksX4_busiest_3 23 rfl rfl
theorem dksX4_busiest_5 : cX4_busiest.data.toList.drop 115 = dktX4_busiest_5 := dk_seg dksX4_busiest_4 22 rfl rfl
theorem dksX4_busiest_6 : cX4_busiest.data.toList.drop 138 = dktX4_busiest_6 := dk_seg dksX4_busiest_5 23 rfl rfl
theorem dX4_busiest_0 : decode cX4_busiest 0 = .ok (.aload_n 0, 1) := dk_42 (dk_at dksX4_busiest_0 0 rfl rfl)
theorem dX4_busiest_1 : decode cX4_busiest 1 = .ok (.iconst 0, 1) := dk_3 (dk_at dksX4_busiest_0 1 rfl rfl)
theorem dX4_busiest_2 : decode cX4_busiest 2 = .ok (.putfield 58, 3) := dk_181 0 58 (dk_at dksX4_busiest_0 2 rfl rfl)
theorem dX4_busiest_5 : decode cX4_busiest 5 = .ok (.iconst (-1), 1) := dk_2 (dk_at dksX4_busiest_0 5 rfl rfl)
theorem dX4_busiest_6 : decode cX4_busiest 6 = .ok (.istore_n 1, 1) := dk_60 (dk_at dksX4_busiest_0 6 rfl rfl)
theorem dX4_busiest_7 : decode cX4_busiest 7 = .ok (.iconst 0, 1) := dk_3 (dk_at dksX4_busiest_0 7 rfl rfl)
theorem dX4_busiest_8 : decode cX4_busiest 8 = .ok (.istore_n 2, 1) := dk_61 (dk_at dksX4_busiest_0 8 rfl rfl)
theorem dX4_busiest_9 : decode cX4_busiest 9 = .ok (.iconst 0, 1) := dk_3 (dk_at dksX4_busiest_0 9 rfl rfl)
theorem dX4_busiest_10 : decode cX4_busiest 10 = .ok (.istore_n 3, 1) := dk_62 (dk_at dksX4_busiest_0 10 rfl rfl)
theorem dX4_busiest_11 : decode cX4_busiest 11 = .ok (.iload_n 3, 1) := dk_29 (dk_at dksX4_busiest_0 11 rfl rfl)
theorem dX4_busiest_12 : decode cX4_busiest 12 = .ok (.aload_n 0, 1) := dk_42 (dk_at dksX4_busiest_0 12 rfl rfl)
theorem dX4_busiest_13 : decode cX4_busiest 13 = .ok (.getfield 21, 3) := dk_180 0 21 (dk_at dksX4_busiest_0 13 rfl rfl)
theorem dX4_busiest_16 : decode cX4_busiest 16 = .ok (.iconst 0, 1) := dk_3 (dk_at dksX4_busiest_0 16 rfl rfl)
theorem dX4_busiest_17 : decode cX4_busiest 17 = .ok (.iaload, 1) := dk_46 (dk_at dksX4_busiest_0 17 rfl rfl)
theorem dX4_busiest_18 : decode cX4_busiest 18 = .ok (.if_icmp .gt 123, 3) := dk_163 0 123 (dk_at dksX4_busiest_0 18 rfl rfl)
theorem dX4_busiest_21 : decode cX4_busiest 21 = .ok (.iconst 0, 1) := dk_3 (dk_at dksX4_busiest_0 21 rfl rfl)
theorem dX4_busiest_22 : decode cX4_busiest 22 = .ok (.istore 4, 2) := dk_54 4 (dk_at dksX4_busiest_0 22 rfl rfl)
theorem dX4_busiest_24 : decode cX4_busiest 24 = .ok (.iconst 0, 1) := dk_3 (dk_at dksX4_busiest_1 0 rfl rfl)
theorem dX4_busiest_25 : decode cX4_busiest 25 = .ok (.istore 5, 2) := dk_54 5 (dk_at dksX4_busiest_1 1 rfl rfl)
theorem dX4_busiest_27 : decode cX4_busiest 27 = .ok (.iload 5, 2) := dk_21 5 (dk_at dksX4_busiest_1 3 rfl rfl)
theorem dX4_busiest_29 : decode cX4_busiest 29 = .ok (.iconst 3, 1) := dk_6 (dk_at dksX4_busiest_1 5 rfl rfl)
theorem dX4_busiest_30 : decode cX4_busiest 30 = .ok (.if_icmp .ge 52, 3) := dk_162 0 52 (dk_at dksX4_busiest_1 6 rfl rfl)
theorem dX4_busiest_33 : decode cX4_busiest 33 = .ok (.iconst 0, 1) := dk_3 (dk_at dksX4_busiest_1 9 rfl rfl)
theorem dX4_busiest_34 : decode cX4_busiest 34 = .ok (.istore 6, 2) := dk_54 6 (dk_at dksX4_busiest_1 10 rfl rfl)
theorem dX4_busiest_36 : decode cX4_busiest 36 = .ok (.iload 6, 2) := dk_21 6 (dk_at dksX4_busiest_1 12 rfl rfl)
theorem dX4_busiest_38 : decode cX4_busiest 38 = .ok (.bipush 7, 2) := dk_16 7 (dk_at dksX4_busiest_1 14 rfl rfl)
theorem dX4_busiest_40 : decode cX4_busiest 40 = .ok (.if_icmp .ge 36, 3) := dk_162 0 36 (dk_at dksX4_busiest_1 16 rfl rfl)
theorem dX4_busiest_43 : decode cX4_busiest 43 = .ok (.iload 4, 2) := dk_21 4 (dk_at dksX4_busiest_1 19 rfl rfl)
theorem dX4_busiest_45 : decode cX4_busiest 45 = .ok (.iload 5, 2) := dk_21 5 (dk_at dksX4_busiest_1 21 rfl rfl)
theorem dX4_busiest_47 : decode cX4_busiest 47 = .ok (.invokestatic 136, 3) := dk_184 0 136 (dk_at dksX4_busiest_2 0 rfl rfl)
theorem dX4_busiest_50 : decode cX4_busiest 50 = .ok (.aload_n 0, 1) := dk_42 (dk_at dksX4_busiest_2 3 rfl rfl)
theorem dX4_busiest_51 : decode cX4_busiest 51 = .ok (.getfield 21, 3) := dk_180 0 21 (dk_at dksX4_busiest_2 4 rfl rfl)
theorem dX4_busiest_54 : decode cX4_busiest 54 = .ok (.bipush 64, 2) := dk_16 64 (dk_at dksX4_busiest_2 7 rfl rfl)
theorem dX4_busiest_56 : decode cX4_busiest 56 = .ok (.iload 5, 2) := dk_21 5 (dk_at dksX4_busiest_2 9 rfl rfl)
theorem dX4_busiest_58 : decode cX4_busiest 58 = .ok (.iload_n 3, 1) := dk_29 (dk_at dksX4_busiest_2 11 rfl rfl)
theorem dX4_busiest_59 : decode cX4_busiest 59 = .ok (.iload 6, 2) := dk_21 6 (dk_at dksX4_busiest_2 12 rfl rfl)
theorem dX4_busiest_61 : decode cX4_busiest 61 = .ok (.invokestatic 94, 3) := dk_184 0 94 (dk_at dksX4_busiest_2 14 rfl rfl)
theorem dX4_busiest_64 : decode cX4_busiest 64 = .ok (.iadd, 1) := dk_96 (dk_at dksX4_busiest_2 17 rfl rfl)
theorem dX4_busiest_65 : decode cX4_busiest 65 = .ok (.iaload, 1) := dk_46 (dk_at dksX4_busiest_2 18 rfl rfl)
theorem dX4_busiest_66 : decode cX4_busiest 66 = .ok (.imul, 1) := dk_104 (dk_at dksX4_busiest_2 19 rfl rfl)
theorem dX4_busiest_67 : decode cX4_busiest 67 = .ok (.iadd, 1) := dk_96 (dk_at dksX4_busiest_2 20 rfl rfl)
theorem dX4_busiest_68 : decode cX4_busiest 68 = .ok (.istore 4, 2) := dk_54 4 (dk_at dksX4_busiest_2 21 rfl rfl)
theorem dX4_busiest_70 : decode cX4_busiest 70 = .ok (.iinc 6 1, 3) := dk_132 6 1 (dk_at dksX4_busiest_3 0 rfl rfl)
theorem dX4_busiest_73 : decode cX4_busiest 73 = .ok (.goto (-37), 3) := dk_167 255 219 (dk_at dksX4_busiest_3 3 rfl rfl)
theorem dX4_busiest_76 : decode cX4_busiest 76 = .ok (.iinc 5 1, 3) := dk_132 5 1 (dk_at dksX4_busiest_3 6 rfl rfl)
theorem dX4_busiest_79 : decode cX4_busiest 79 = .ok (.goto (-52), 3) := dk_167 255 204 (dk_at dksX4_busiest_3 9 rfl rfl)
theorem dX4_busiest_82 : decode cX4_busiest 82 = .ok (.iload 4, 2) := dk_21 4 (dk_at dksX4_busiest_3 12 rfl rfl)
theorem dX4_busiest_84 : decode cX4_busiest 84 = .ok (.ifCond .eq 51, 3) := dk_153 0 51 (dk_at dksX4_busiest_3 14 rfl rfl)
theorem dX4_busiest_87 : decode cX4_busiest 87 = .ok (.iload 4, 2) := dk_21 4 (dk_at dksX4_busiest_3 17 rfl rfl)
theorem dX4_busiest_89 : decode cX4_busiest 89 = .ok (.iload_n 2, 1) := dk_28 (dk_at dksX4_busiest_3 19 rfl rfl)
theorem dX4_busiest_90 : decode cX4_busiest 90 = .ok (.if_icmp .ge 6, 3) := dk_162 0 6 (dk_at dksX4_busiest_3 20 rfl rfl)
theorem dX4_busiest_93 : decode cX4_busiest 93 = .ok (.goto 42, 3) := dk_167 0 42 (dk_at dksX4_busiest_4 0 rfl rfl)
theorem dX4_busiest_96 : decode cX4_busiest 96 = .ok (.iload 4, 2) := dk_21 4 (dk_at dksX4_busiest_4 3 rfl rfl)
theorem dX4_busiest_98 : decode cX4_busiest 98 = .ok (.iload_n 2, 1) := dk_28 (dk_at dksX4_busiest_4 5 rfl rfl)
theorem dX4_busiest_99 : decode cX4_busiest 99 = .ok (.if_icmp .ne 31, 3) := dk_160 0 31 (dk_at dksX4_busiest_4 6 rfl rfl)
theorem dX4_busiest_102 : decode cX4_busiest 102 = .ok (.iload_n 3, 1) := dk_29 (dk_at dksX4_busiest_4 9 rfl rfl)
theorem dX4_busiest_103 : decode cX4_busiest 103 = .ok (.aload_n 0, 1) := dk_42 (dk_at dksX4_busiest_4 10 rfl rfl)
theorem dX4_busiest_104 : decode cX4_busiest 104 = .ok (.getfield 21, 3) := dk_180 0 21 (dk_at dksX4_busiest_4 11 rfl rfl)
theorem dX4_busiest_107 : decode cX4_busiest 107 = .ok (.iconst 4, 1) := dk_7 (dk_at dksX4_busiest_4 14 rfl rfl)
theorem dX4_busiest_108 : decode cX4_busiest 108 = .ok (.iaload, 1) := dk_46 (dk_at dksX4_busiest_4 15 rfl rfl)
theorem dX4_busiest_109 : decode cX4_busiest 109 = .ok (.isub, 1) := dk_100 (dk_at dksX4_busiest_4 16 rfl rfl)
theorem dX4_busiest_110 : decode cX4_busiest 110 = .ok (.invokestatic 172, 3) := dk_184 0 172 (dk_at dksX4_busiest_4 17 rfl rfl)
theorem dX4_busiest_113 : decode cX4_busiest 113 = .ok (.iload_n 1, 1) := dk_27 (dk_at dksX4_busiest_4 20 rfl rfl)
theorem dX4_busiest_114 : decode cX4_busiest 114 = .ok (.aload_n 0, 1) := dk_42 (dk_at dksX4_busiest_4 21 rfl rfl)
theorem dX4_busiest_115 : decode cX4_busiest 115 = .ok (.getfield 21, 3) := dk_180 0 21 (dk_at dksX4_busiest_5 0 rfl rfl)
theorem dX4_busiest_118 : decode cX4_busiest 118 = .ok (.iconst 4, 1) := dk_7 (dk_at dksX4_busiest_5 3 rfl rfl)
theorem dX4_busiest_119 : decode cX4_busiest 119 = .ok (.iaload, 1) := dk_46 (dk_at dksX4_busiest_5 4 rfl rfl)
theorem dX4_busiest_120 : decode cX4_busiest 120 = .ok (.isub, 1) := dk_100 (dk_at dksX4_busiest_5 5 rfl rfl)
theorem dX4_busiest_121 : decode cX4_busiest 121 = .ok (.invokestatic 172, 3) := dk_184 0 172 (dk_at dksX4_busiest_5 6 rfl rfl)
theorem dX4_busiest_124 : decode cX4_busiest 124 = .ok (.if_icmp .lt 6, 3) := dk_161 0 6 (dk_at dksX4_busiest_5 9 rfl rfl)
theorem dX4_busiest_127 : decode cX4_busiest 127 = .ok (.goto 8, 3) := dk_167 0 8 (dk_at dksX4_busiest_5 12 rfl rfl)
theorem dX4_busiest_130 : decode cX4_busiest 130 = .ok (.iload 4, 2) := dk_21 4 (dk_at dksX4_busiest_5 15 rfl rfl)
theorem dX4_busiest_132 : decode cX4_busiest 132 = .ok (.istore_n 2, 1) := dk_61 (dk_at dksX4_busiest_5 17 rfl rfl)
theorem dX4_busiest_133 : decode cX4_busiest 133 = .ok (.iload_n 3, 1) := dk_29 (dk_at dksX4_busiest_5 18 rfl rfl)
theorem dX4_busiest_134 : decode cX4_busiest 134 = .ok (.istore_n 1, 1) := dk_60 (dk_at dksX4_busiest_5 19 rfl rfl)
theorem dX4_busiest_135 : decode cX4_busiest 135 = .ok (.iinc 3 1, 3) := dk_132 3 1 (dk_at dksX4_busiest_5 20 rfl rfl)
theorem dX4_busiest_138 : decode cX4_busiest 138 = .ok (.goto (-127), 3) := dk_167 255 129 (dk_at dksX4_busiest_6 0 rfl rfl)
theorem dX4_busiest_141 : decode cX4_busiest 141 = .ok (.iload_n 1, 1) := dk_27 (dk_at dksX4_busiest_6 3 rfl rfl)
theorem dX4_busiest_142 : decode cX4_busiest 142 = .ok (.ifCond .ge 11, 3) := dk_156 0 11 (dk_at dksX4_busiest_6 4 rfl rfl)
theorem dX4_busiest_145 : decode cX4_busiest 145 = .ok (.aload_n 0, 1) := dk_42 (dk_at dksX4_busiest_6 7 rfl rfl)
theorem dX4_busiest_146 : decode cX4_busiest 146 = .ok (.iconst 1, 1) := dk_4 (dk_at dksX4_busiest_6 8 rfl rfl)
theorem dX4_busiest_147 : decode cX4_busiest 147 = .ok (.invokevirtual 77, 3) := dk_182 0 77 (dk_at dksX4_busiest_6 9 rfl rfl)
theorem dX4_busiest_150 : decode cX4_busiest 150 = .ok (.goto 4, 3) := dk_167 0 4 (dk_at dksX4_busiest_6 12 rfl rfl)
theorem dX4_busiest_153 : decode cX4_busiest 153 = .ok (.iload_n 1, 1) := dk_27 (dk_at dksX4_busiest_6 15 rfl rfl)
theorem dX4_busiest_154 : decode cX4_busiest 154 = .ok (.ireturn, 1) := dk_172 (dk_at dksX4_busiest_6 16 rfl rfl)
abbrev cX4_rope : ByteArray := prog_29_method_54_code
def yX4_rope : MethodName := ⟨RX4, "rope", "(I)I"⟩
def dkwX4_rope_1 : List UInt8 := [180, 0, 21, 8, 46, 61, 42, 180, 0, 21, 8, 27, 79, 42, 28, 182, 0, 73, 172]
abbrev dktX4_rope_1 : List UInt8 := dkwX4_rope_1 ++ []
def dkwX4_rope_0 : List UInt8 := [42, 182, 0, 84, 27, 16, 10, 17, 0, 200, 184, 0, 80, 154, 0, 9, 42, 4, 182, 0, 77, 172, 42]
abbrev dktX4_rope_0 : List UInt8 := dkwX4_rope_0 ++ dktX4_rope_1
theorem dksX4_rope_0 : cX4_rope.data.toList.drop 0 = dktX4_rope_0 := by decide +kernel
theorem dksX4_rope_1 : cX4_rope.data.toList.drop 23 = dktX4_rope_1 := dk_seg dksX4_rope_0 23 rfl rfl
theorem dX4_rope_0 : decode cX4_rope 0 = .ok (.aload_n 0, 1) := dk_42 (dk_at dksX4_rope_0 0 rfl rfl)
theorem dX4_rope_1 : decode cX4_rope 1 = .ok (.invokevirtual 84, 3) := dk_182 0 84 (dk_at dksX4_rope_0 1 rfl rfl)
theorem dX4_rope_4 : decode cX4_rope 4 = .ok (.iload_n 1, 1) := dk_27 (dk_at dksX4_rope_0 4 rfl rfl)
theorem dX4_rope_5 : decode cX4_rope 5 = .ok (.bipush 10, 2) := dk_16 10 (dk_at dksX4_rope_0 5 rfl rfl)
theorem dX4_rope_7 : decode cX4_rope 7 = .ok (.sipush 200, 3) := dk_17 0 200 (dk_at dksX4_rope_0 7 rfl rfl)
theorem dX4_rope_10 : decode cX4_rope 10 = .ok (.invokestatic 80, 3) := dk_184 0 80 (dk_at dksX4_rope_0 10 rfl rfl)
theorem dX4_rope_13 : decode cX4_rope 13 = .ok (.ifCond .ne 9, 3) := dk_154 0 9 (dk_at dksX4_rope_0 13 rfl rfl)
theorem dX4_rope_16 : decode cX4_rope 16 = .ok (.aload_n 0, 1) := dk_42 (dk_at dksX4_rope_0 16 rfl rfl)
theorem dX4_rope_17 : decode cX4_rope 17 = .ok (.iconst 1, 1) := dk_4 (dk_at dksX4_rope_0 17 rfl rfl)
theorem dX4_rope_18 : decode cX4_rope 18 = .ok (.invokevirtual 77, 3) := dk_182 0 77 (dk_at dksX4_rope_0 18 rfl rfl)
theorem dX4_rope_21 : decode cX4_rope 21 = .ok (.ireturn, 1) := dk_172 (dk_at dksX4_rope_0 21 rfl rfl)
theorem dX4_rope_22 : decode cX4_rope 22 = .ok (.aload_n 0, 1) := dk_42 (dk_at dksX4_rope_0 22 rfl rfl)
theorem dX4_rope_23 : decode cX4_rope 23 = .ok (.getfield 21, 3) := dk_180 0 21 (dk_at dksX4_rope_1 0 rfl rfl)
theorem dX4_rope_26 : decode cX4_rope 26 = .ok (.iconst 5, 1) := dk_8 (dk_at dksX4_rope_1 3 rfl rfl)
theorem dX4_rope_27 : decode cX4_rope 27 = .ok (.iaload, 1) := dk_46 (dk_at dksX4_rope_1 4 rfl rfl)
theorem dX4_rope_28 : decode cX4_rope 28 = .ok (.istore_n 2, 1) := dk_61 (dk_at dksX4_rope_1 5 rfl rfl)
theorem dX4_rope_29 : decode cX4_rope 29 = .ok (.aload_n 0, 1) := dk_42 (dk_at dksX4_rope_1 6 rfl rfl)
theorem dX4_rope_30 : decode cX4_rope 30 = .ok (.getfield 21, 3) := dk_180 0 21 (dk_at dksX4_rope_1 7 rfl rfl)
theorem dX4_rope_33 : decode cX4_rope 33 = .ok (.iconst 5, 1) := dk_8 (dk_at dksX4_rope_1 10 rfl rfl)
theorem dX4_rope_34 : decode cX4_rope 34 = .ok (.iload_n 1, 1) := dk_27 (dk_at dksX4_rope_1 11 rfl rfl)
theorem dX4_rope_35 : decode cX4_rope 35 = .ok (.iastore, 1) := dk_79 (dk_at dksX4_rope_1 12 rfl rfl)
theorem dX4_rope_36 : decode cX4_rope 36 = .ok (.aload_n 0, 1) := dk_42 (dk_at dksX4_rope_1 13 rfl rfl)
theorem dX4_rope_37 : decode cX4_rope 37 = .ok (.iload_n 2, 1) := dk_28 (dk_at dksX4_rope_1 14 rfl rfl)
theorem dX4_rope_38 : decode cX4_rope 38 = .ok (.invokevirtual 73, 3) := dk_182 0 73 (dk_at dksX4_rope_1 15 rfl rfl)
theorem dX4_rope_41 : decode cX4_rope 41 = .ok (.ireturn, 1) := dk_172 (dk_at dksX4_rope_1 18 rfl rfl)
abbrev cX4_cross : ByteArray := prog_29_method_58_code
def yX4_cross : MethodName := ⟨RX4, "cross", "(Z)I"⟩
def dkwX4_cross_0 : List UInt8 := [42, 182, 0, 84, 42, 42, 27, 182, 0, 214, 4, 182, 0, 91, 172]
abbrev dktX4_cross_0 : List UInt8 := dkwX4_cross_0 ++ []
theorem dksX4_cross_0 : cX4_cross.data.toList.drop 0 = dktX4_cross_0 := by decide +kernel
theorem dX4_cross_0 : decode cX4_cross 0 = .ok (.aload_n 0, 1) := dk_42 (dk_at dksX4_cross_0 0 rfl rfl)
theorem dX4_cross_1 : decode cX4_cross 1 = .ok (.invokevirtual 84, 3) := dk_182 0 84 (dk_at dksX4_cross_0 1 rfl rfl)
theorem dX4_cross_4 : decode cX4_cross 4 = .ok (.aload_n 0, 1) := dk_42 (dk_at dksX4_cross_0 4 rfl rfl)
theorem dX4_cross_5 : decode cX4_cross 5 = .ok (.aload_n 0, 1) := dk_42 (dk_at dksX4_cross_0 5 rfl rfl)
theorem dX4_cross_6 : decode cX4_cross 6 = .ok (.iload_n 1, 1) := dk_27 (dk_at dksX4_cross_0 6 rfl rfl)
theorem dX4_cross_7 : decode cX4_cross 7 = .ok (.invokevirtual 214, 3) := dk_182 0 214 (dk_at dksX4_cross_0 7 rfl rfl)
theorem dX4_cross_10 : decode cX4_cross 10 = .ok (.iconst 1, 1) := dk_4 (dk_at dksX4_cross_0 10 rfl rfl)
theorem dX4_cross_11 : decode cX4_cross 11 = .ok (.invokevirtual 91, 3) := dk_182 0 91 (dk_at dksX4_cross_0 11 rfl rfl)
theorem dX4_cross_14 : decode cX4_cross 14 = .ok (.ireturn, 1) := dk_172 (dk_at dksX4_cross_0 14 rfl rfl)
abbrev cX4_crosses : ByteArray := prog_29_method_57_code
def yX4_crosses : MethodName := ⟨RX4, "crosses", "(Z)I"⟩
def dkwX4_crosses_2 : List UInt8 := [16, 8, 92, 46, 4, 96, 79, 42, 42, 180, 0, 21, 7, 46, 182, 0, 124, 172]
abbrev dktX4_crosses_2 : List UInt8 := dkwX4_crosses_2 ++ []
def dkwX4_crosses_1 : List UInt8 := [62, 42, 180, 0, 21, 7, 92, 46, 27, 153, 0, 7, 4, 167, 0, 4, 2, 96, 79, 42, 180, 0, 21]
abbrev dktX4_crosses_1 : List UInt8 := dkwX4_crosses_1 ++ dktX4_crosses_2
def dkwX4_crosses_0 : List UInt8 := [42, 27, 182, 0, 207, 61, 28, 158, 0, 13, 42, 28, 42, 180, 0, 64, 182, 0, 87, 172, 42, 182, 0, 211]
abbrev dktX4_crosses_0 : List UInt8 := dkwX4_crosses_0 ++ dktX4_crosses_1
theorem dksX4_crosses_0 : cX4_crosses.data.toList.drop 0 = dktX4_crosses_0 := by decide +kernel
theorem dksX4_crosses_1 : cX4_crosses.data.toList.drop 24 = dktX4_crosses_1 := dk_seg dksX4_crosses_0 24 rfl rfl
theorem dksX4_crosses_2 : cX4_crosses.data.toList.drop 47 = dktX4_crosses_2 := dk_seg dksX4_crosses_1 23 rfl rfl
theorem dX4_crosses_0 : decode cX4_crosses 0 = .ok (.aload_n 0, 1) := dk_42 (dk_at dksX4_crosses_0 0 rfl rfl)
theorem dX4_crosses_1 : decode cX4_crosses 1 = .ok (.iload_n 1, 1) := dk_27 (dk_at dksX4_crosses_0 1 rfl rfl)
theorem dX4_crosses_2 : decode cX4_crosses 2 = .ok (.invokevirtual 207, 3) := dk_182 0 207 (dk_at dksX4_crosses_0 2 rfl rfl)
theorem dX4_crosses_5 : decode cX4_crosses 5 = .ok (.istore_n 2, 1) := dk_61 (dk_at dksX4_crosses_0 5 rfl rfl)
theorem dX4_crosses_6 : decode cX4_crosses 6 = .ok (.iload_n 2, 1) := dk_28 (dk_at dksX4_crosses_0 6 rfl rfl)
theorem dX4_crosses_7 : decode cX4_crosses 7 = .ok (.ifCond .le 13, 3) := dk_158 0 13 (dk_at dksX4_crosses_0 7 rfl rfl)
theorem dX4_crosses_10 : decode cX4_crosses 10 = .ok (.aload_n 0, 1) := dk_42 (dk_at dksX4_crosses_0 10 rfl rfl)
theorem dX4_crosses_11 : decode cX4_crosses 11 = .ok (.iload_n 2, 1) := dk_28 (dk_at dksX4_crosses_0 11 rfl rfl)
theorem dX4_crosses_12 : decode cX4_crosses 12 = .ok (.aload_n 0, 1) := dk_42 (dk_at dksX4_crosses_0 12 rfl rfl)
theorem dX4_crosses_13 : decode cX4_crosses 13 = .ok (.getfield 64, 3) := dk_180 0 64 (dk_at dksX4_crosses_0 13 rfl rfl)
theorem dX4_crosses_16 : decode cX4_crosses 16 = .ok (.invokevirtual 87, 3) := dk_182 0 87 (dk_at dksX4_crosses_0 16 rfl rfl)
theorem dX4_crosses_19 : decode cX4_crosses 19 = .ok (.ireturn, 1) := dk_172 (dk_at dksX4_crosses_0 19 rfl rfl)
theorem dX4_crosses_20 : decode cX4_crosses 20 = .ok (.aload_n 0, 1) := dk_42 (dk_at dksX4_crosses_0 20 rfl rfl)
theorem dX4_crosses_21 : decode cX4_crosses 21 = .ok (.invokevirtual 211, 3) := dk_182 0 211 (dk_at dksX4_crosses_0 21 rfl rfl)
theorem dX4_crosses_24 : decode cX4_crosses 24 = .ok (.istore_n 3, 1) := dk_62 (dk_at dksX4_crosses_1 0 rfl rfl)
theorem dX4_crosses_25 : decode cX4_crosses 25 = .ok (.aload_n 0, 1) := dk_42 (dk_at dksX4_crosses_1 1 rfl rfl)
theorem dX4_crosses_26 : decode cX4_crosses 26 = .ok (.getfield 21, 3) := dk_180 0 21 (dk_at dksX4_crosses_1 2 rfl rfl)
theorem dX4_crosses_29 : decode cX4_crosses 29 = .ok (.iconst 4, 1) := dk_7 (dk_at dksX4_crosses_1 5 rfl rfl)
theorem dX4_crosses_30 : decode cX4_crosses 30 = .ok (.dup2, 1) := dk_92 (dk_at dksX4_crosses_1 6 rfl rfl)
theorem dX4_crosses_31 : decode cX4_crosses 31 = .ok (.iaload, 1) := dk_46 (dk_at dksX4_crosses_1 7 rfl rfl)
theorem dX4_crosses_32 : decode cX4_crosses 32 = .ok (.iload_n 1, 1) := dk_27 (dk_at dksX4_crosses_1 8 rfl rfl)
theorem dX4_crosses_33 : decode cX4_crosses 33 = .ok (.ifCond .eq 7, 3) := dk_153 0 7 (dk_at dksX4_crosses_1 9 rfl rfl)
theorem dX4_crosses_36 : decode cX4_crosses 36 = .ok (.iconst 1, 1) := dk_4 (dk_at dksX4_crosses_1 12 rfl rfl)
theorem dX4_crosses_37 : decode cX4_crosses 37 = .ok (.goto 4, 3) := dk_167 0 4 (dk_at dksX4_crosses_1 13 rfl rfl)
theorem dX4_crosses_40 : decode cX4_crosses 40 = .ok (.iconst (-1), 1) := dk_2 (dk_at dksX4_crosses_1 16 rfl rfl)
theorem dX4_crosses_41 : decode cX4_crosses 41 = .ok (.iadd, 1) := dk_96 (dk_at dksX4_crosses_1 17 rfl rfl)
theorem dX4_crosses_42 : decode cX4_crosses 42 = .ok (.iastore, 1) := dk_79 (dk_at dksX4_crosses_1 18 rfl rfl)
theorem dX4_crosses_43 : decode cX4_crosses 43 = .ok (.aload_n 0, 1) := dk_42 (dk_at dksX4_crosses_1 19 rfl rfl)
theorem dX4_crosses_44 : decode cX4_crosses 44 = .ok (.getfield 21, 3) := dk_180 0 21 (dk_at dksX4_crosses_1 20 rfl rfl)
theorem dX4_crosses_47 : decode cX4_crosses 47 = .ok (.bipush 8, 2) := dk_16 8 (dk_at dksX4_crosses_2 0 rfl rfl)
theorem dX4_crosses_49 : decode cX4_crosses 49 = .ok (.dup2, 1) := dk_92 (dk_at dksX4_crosses_2 2 rfl rfl)
theorem dX4_crosses_50 : decode cX4_crosses 50 = .ok (.iaload, 1) := dk_46 (dk_at dksX4_crosses_2 3 rfl rfl)
theorem dX4_crosses_51 : decode cX4_crosses 51 = .ok (.iconst 1, 1) := dk_4 (dk_at dksX4_crosses_2 4 rfl rfl)
theorem dX4_crosses_52 : decode cX4_crosses 52 = .ok (.iadd, 1) := dk_96 (dk_at dksX4_crosses_2 5 rfl rfl)
theorem dX4_crosses_53 : decode cX4_crosses 53 = .ok (.iastore, 1) := dk_79 (dk_at dksX4_crosses_2 6 rfl rfl)
theorem dX4_crosses_54 : decode cX4_crosses 54 = .ok (.aload_n 0, 1) := dk_42 (dk_at dksX4_crosses_2 7 rfl rfl)
theorem dX4_crosses_55 : decode cX4_crosses 55 = .ok (.aload_n 0, 1) := dk_42 (dk_at dksX4_crosses_2 8 rfl rfl)
theorem dX4_crosses_56 : decode cX4_crosses 56 = .ok (.getfield 21, 3) := dk_180 0 21 (dk_at dksX4_crosses_2 9 rfl rfl)
theorem dX4_crosses_59 : decode cX4_crosses 59 = .ok (.iconst 4, 1) := dk_7 (dk_at dksX4_crosses_2 12 rfl rfl)
theorem dX4_crosses_60 : decode cX4_crosses 60 = .ok (.iaload, 1) := dk_46 (dk_at dksX4_crosses_2 13 rfl rfl)
theorem dX4_crosses_61 : decode cX4_crosses 61 = .ok (.invokevirtual 124, 3) := dk_182 0 124 (dk_at dksX4_crosses_2 14 rfl rfl)
theorem dX4_crosses_64 : decode cX4_crosses 64 = .ok (.ireturn, 1) := dk_172 (dk_at dksX4_crosses_2 17 rfl rfl)
abbrev cX4_bars : ByteArray := prog_29_method_55_code
def yX4_bars : MethodName := ⟨RX4, "bars", "(Z)I"⟩
def dkwX4_bars_8 : List UInt8 := [3, 172]
abbrev dktX4_bars_8 : List UInt8 := dkwX4_bars_8 ++ []
def dkwX4_bars_7 : List UInt8 := [46, 4, 96, 181, 0, 64, 42, 180, 0, 64, 17, 39, 15, 164, 0, 6, 16, 10, 172, 42, 3, 181, 0, 64]
abbrev dktX4_bars_7 : List UInt8 := dkwX4_bars_7 ++ dktX4_bars_8
def dkwX4_bars_6 : List UInt8 := [182, 0, 114, 181, 0, 64, 42, 180, 0, 64, 16, 12, 164, 0, 6, 16, 9, 172, 42, 42, 180, 0, 21, 6]
abbrev dktX4_bars_6 : List UInt8 := dkwX4_bars_6 ++ dktX4_bars_7
def dkwX4_bars_5 : List UInt8 := [181, 0, 64, 42, 180, 0, 64, 16, 10, 164, 0, 6, 16, 6, 172, 42, 42, 29, 42, 180, 0, 21, 6, 46]
abbrev dktX4_bars_5 : List UInt8 := dkwX4_bars_5 ++ dktX4_bars_6
def dkwX4_bars_4 : List UInt8 := [158, 0, 5, 8, 172, 42, 42, 17, 1, 102, 182, 0, 139, 42, 17, 1, 249, 182, 0, 139, 100, 184, 0, 172]
abbrev dktX4_bars_4 : List UInt8 := dkwX4_bars_4 ++ dktX4_bars_5
def dkwX4_bars_3 : List UInt8 := [16, 13, 6, 29, 104, 96, 46, 21, 4, 96, 42, 180, 0, 21, 8, 46, 100, 181, 0, 64, 42, 180, 0, 64]
abbrev dktX4_bars_3 : List UInt8 := dkwX4_bars_3 ++ dktX4_bars_4
def dkwX4_bars_2 : List UInt8 := [42, 29, 181, 0, 64, 42, 29, 182, 0, 121, 54, 4, 21, 4, 156, 0, 5, 7, 172, 42, 42, 180, 0, 21]
abbrev dktX4_bars_2 : List UInt8 := dkwX4_bars_2 ++ dktX4_bars_3
def dkwX4_bars_1 : List UInt8 := [181, 0, 64, 42, 28, 182, 0, 158, 154, 0, 5, 6, 172, 42, 180, 0, 21, 7, 46, 28, 184, 0, 106, 62]
abbrev dktX4_bars_1 : List UInt8 := dkwX4_bars_1 ++ dktX4_bars_2
def dkwX4_bars_0 : List UInt8 := [42, 180, 0, 21, 7, 46, 27, 153, 0, 7, 4, 167, 0, 4, 2, 96, 61, 42, 42, 180, 0, 21, 7, 46]
abbrev dktX4_bars_0 : List UInt8 := dkwX4_bars_0 ++ dktX4_bars_1
theorem dksX4_bars_0 : cX4_bars.data.toList.drop 0 = dktX4_bars_0 := by decide +kernel
theorem dksX4_bars_1 : cX4_bars.data.toList.drop 24 = dktX4_bars_1 := dk_seg dksX4_bars_0 24 rfl rfl
theorem dksX4_bars_2 : cX4_bars.data.toList.drop 48 = dktX4_bars_2 := dk_seg dksX4_bars_1 24 rfl rfl
theorem dksX4_bars_3 : cX4_bars.data.toList.drop 72 = dktX4_bars_3 := dk_seg dksX4_bars_2 24 rfl rfl
theorem dksX4_bars_4 : cX4_bars.data.toList.drop 96 = dktX4_bars_4 := dk_seg dksX4_bars_3 24 rfl rfl
theorem dksX4_bars_5 : cX4_bars.data.toList.drop 120 = dktX4_bars_5 := dk_seg dksX4_bars_4 24 rfl rfl
theorem dksX4_bars_6 : cX4_bars.data.toList.drop 144 = dktX4_bars_6 := dk_seg dksX4_bars_5 24 rfl rfl
theorem dksX4_bars_7 : cX4_bars.data.toList.drop 168 = dktX4_bars_7 := dk_seg dksX4_bars_6 24 rfl rfl
theorem dksX4_bars_8 : cX4_bars.data.toList.drop 192 = dktX4_bars_8 := dk_seg dksX4_bars_7 24 rfl rfl
theorem dX4_bars_0 : decode cX4_bars 0 = .ok (.aload_n 0, 1) := dk_42 (dk_at dksX4_bars_0 0 rfl rfl)
theorem dX4_bars_1 : decode cX4_bars 1 = .ok (.getfield 21, 3) := dk_180 0 21 (dk_at dksX4_bars_0 1 rfl rfl)
theorem dX4_bars_4 : decode cX4_bars 4 = .ok (.iconst 4, 1) := dk_7 (dk_at dksX4_bars_0 4 rfl rfl)
theorem dX4_bars_5 : decode cX4_bars 5 = .ok (.iaload, 1) := dk_46 (dk_at dksX4_bars_0 5 rfl rfl)
theorem dX4_bars_6 : decode cX4_bars 6 = .ok (.iload_n 1, 1) := dk_27 (dk_at dksX4_bars_0 6 rfl rfl)
theorem dX4_bars_7 : decode cX4_bars 7 = .ok (.ifCond .eq 7, 3) := dk_153 0 7 (dk_at dksX4_bars_0 7 rfl rfl)
theorem dX4_bars_10 : decode cX4_bars 10 = .ok (.iconst 1, 1) := dk_4 (dk_at dksX4_bars_0 10 rfl rfl)
theorem dX4_bars_11 : decode cX4_bars 11 = .ok (.goto 4, 3) := dk_167 0 4 (dk_at dksX4_bars_0 11 rfl rfl)
theorem dX4_bars_14 : decode cX4_bars 14 = .ok (.iconst (-1), 1) := dk_2 (dk_at dksX4_bars_0 14 rfl rfl)
theorem dX4_bars_15 : decode cX4_bars 15 = .ok (.iadd, 1) := dk_96 (dk_at dksX4_bars_0 15 rfl rfl)
theorem dX4_bars_16 : decode cX4_bars 16 = .ok (.istore_n 2, 1) := dk_61 (dk_at dksX4_bars_0 16 rfl rfl)
theorem dX4_bars_17 : decode cX4_bars 17 = .ok (.aload_n 0, 1) := dk_42 (dk_at dksX4_bars_0 17 rfl rfl)
theorem dX4_bars_18 : decode cX4_bars 18 = .ok (.aload_n 0, 1) := dk_42 (dk_at dksX4_bars_0 18 rfl rfl)
theorem dX4_bars_19 : decode cX4_bars 19 = .ok (.getfield 21, 3) := dk_180 0 21 (dk_at dksX4_bars_0 19 rfl rfl)
theorem dX4_bars_22 : decode cX4_bars 22 = .ok (.iconst 4, 1) := dk_7 (dk_at dksX4_bars_0 22 rfl rfl)
theorem dX4_bars_23 : decode cX4_bars 23 = .ok (.iaload, 1) := dk_46 (dk_at dksX4_bars_0 23 rfl rfl)
theorem dX4_bars_24 : decode cX4_bars 24 = .ok (.putfield 64, 3) := dk_181 0 64 (dk_at dksX4_bars_1 0 rfl rfl)
theorem dX4_bars_27 : decode cX4_bars 27 = .ok (.aload_n 0, 1) := dk_42 (dk_at dksX4_bars_1 3 rfl rfl)
theorem dX4_bars_28 : decode cX4_bars 28 = .ok (.iload_n 2, 1) := dk_28 (dk_at dksX4_bars_1 4 rfl rfl)
theorem dX4_bars_29 : decode cX4_bars 29 = .ok (.invokevirtual 158, 3) := dk_182 0 158 (dk_at dksX4_bars_1 5 rfl rfl)
theorem dX4_bars_32 : decode cX4_bars 32 = .ok (.ifCond .ne 5, 3) := dk_154 0 5 (dk_at dksX4_bars_1 8 rfl rfl)
theorem dX4_bars_35 : decode cX4_bars 35 = .ok (.iconst 3, 1) := dk_6 (dk_at dksX4_bars_1 11 rfl rfl)
theorem dX4_bars_36 : decode cX4_bars 36 = .ok (.ireturn, 1) := dk_172 (dk_at dksX4_bars_1 12 rfl rfl)
theorem dX4_bars_37 : decode cX4_bars 37 = .ok (.aload_n 0, 1) := dk_42 (dk_at dksX4_bars_1 13 rfl rfl)
theorem dX4_bars_38 : decode cX4_bars 38 = .ok (.getfield 21, 3) := dk_180 0 21 (dk_at dksX4_bars_1 14 rfl rfl)
theorem dX4_bars_41 : decode cX4_bars 41 = .ok (.iconst 4, 1) := dk_7 (dk_at dksX4_bars_1 17 rfl rfl)
theorem dX4_bars_42 : decode cX4_bars 42 = .ok (.iaload, 1) := dk_46 (dk_at dksX4_bars_1 18 rfl rfl)
theorem dX4_bars_43 : decode cX4_bars 43 = .ok (.iload_n 2, 1) := dk_28 (dk_at dksX4_bars_1 19 rfl rfl)
theorem dX4_bars_44 : decode cX4_bars 44 = .ok (.invokestatic 106, 3) := dk_184 0 106 (dk_at dksX4_bars_1 20 rfl rfl)
theorem dX4_bars_47 : decode cX4_bars 47 = .ok (.istore_n 3, 1) := dk_62 (dk_at dksX4_bars_1 23 rfl rfl)
theorem dX4_bars_48 : decode cX4_bars 48 = .ok (.aload_n 0, 1) := dk_42 (dk_at dksX4_bars_2 0 rfl rfl)
theorem dX4_bars_49 : decode cX4_bars 49 = .ok (.iload_n 3, 1) := dk_29 (dk_at dksX4_bars_2 1 rfl rfl)
theorem dX4_bars_50 : decode cX4_bars 50 = .ok (.putfield 64, 3) := dk_181 0 64 (dk_at dksX4_bars_2 2 rfl rfl)
theorem dX4_bars_53 : decode cX4_bars 53 = .ok (.aload_n 0, 1) := dk_42 (dk_at dksX4_bars_2 5 rfl rfl)
theorem dX4_bars_54 : decode cX4_bars 54 = .ok (.iload_n 3, 1) := dk_29 (dk_at dksX4_bars_2 6 rfl rfl)
theorem dX4_bars_55 : decode cX4_bars 55 = .ok (.invokevirtual 121, 3) := dk_182 0 121 (dk_at dksX4_bars_2 7 rfl rfl)
theorem dX4_bars_58 : decode cX4_bars 58 = .ok (.istore 4, 2) := dk_54 4 (dk_at dksX4_bars_2 10 rfl rfl)
theorem dX4_bars_60 : decode cX4_bars 60 = .ok (.iload 4, 2) := dk_21 4 (dk_at dksX4_bars_2 12 rfl rfl)
theorem dX4_bars_62 : decode cX4_bars 62 = .ok (.ifCond .ge 5, 3) := dk_156 0 5 (dk_at dksX4_bars_2 14 rfl rfl)
theorem dX4_bars_65 : decode cX4_bars 65 = .ok (.iconst 4, 1) := dk_7 (dk_at dksX4_bars_2 17 rfl rfl)
theorem dX4_bars_66 : decode cX4_bars 66 = .ok (.ireturn, 1) := dk_172 (dk_at dksX4_bars_2 18 rfl rfl)
theorem dX4_bars_67 : decode cX4_bars 67 = .ok (.aload_n 0, 1) := dk_42 (dk_at dksX4_bars_2 19 rfl rfl)
theorem dX4_bars_68 : decode cX4_bars 68 = .ok (.aload_n 0, 1) := dk_42 (dk_at dksX4_bars_2 20 rfl rfl)
theorem dX4_bars_69 : decode cX4_bars 69 = .ok (.getfield 21, 3) := dk_180 0 21 (dk_at dksX4_bars_2 21 rfl rfl)
theorem dX4_bars_72 : decode cX4_bars 72 = .ok (.bipush 13, 2) := dk_16 13 (dk_at dksX4_bars_3 0 rfl rfl)
theorem dX4_bars_74 : decode cX4_bars 74 = .ok (.iconst 3, 1) := dk_6 (dk_at dksX4_bars_3 2 rfl rfl)
theorem dX4_bars_75 : decode cX4_bars 75 = .ok (.iload_n 3, 1) := dk_29 (dk_at dksX4_bars_3 3 rfl rfl)
theorem dX4_bars_76 : decode cX4_bars 76 = .ok (.imul, 1) := dk_104 (dk_at dksX4_bars_3 4 rfl rfl)
theorem dX4_bars_77 : decode cX4_bars 77 = .ok (.iadd, 1) := dk_96 (dk_at dksX4_bars_3 5 rfl rfl)
theorem dX4_bars_78 : decode cX4_bars 78 = .ok (.iaload, 1) := dk_46 (dk_at dksX4_bars_3 6 rfl rfl)
theorem dX4_bars_79 : decode cX4_bars 79 = .ok (.iload 4, 2) := dk_21 4 (dk_at dksX4_bars_3 7 rfl rfl)
theorem dX4_bars_81 : decode cX4_bars 81 = .ok (.iadd, 1) := dk_96 (dk_at dksX4_bars_3 9 rfl rfl)
theorem dX4_bars_82 : decode cX4_bars 82 = .ok (.aload_n 0, 1) := dk_42 (dk_at dksX4_bars_3 10 rfl rfl)
theorem dX4_bars_83 : decode cX4_bars 83 = .ok (.getfield 21, 3) := dk_180 0 21 (dk_at dksX4_bars_3 11 rfl rfl)
theorem dX4_bars_86 : decode cX4_bars 86 = .ok (.iconst 5, 1) := dk_8 (dk_at dksX4_bars_3 14 rfl rfl)
theorem dX4_bars_87 : decode cX4_bars 87 = .ok (.iaload, 1) := dk_46 (dk_at dksX4_bars_3 15 rfl rfl)
theorem dX4_bars_88 : decode cX4_bars 88 = .ok (.isub, 1) := dk_100 (dk_at dksX4_bars_3 16 rfl rfl)
theorem dX4_bars_89 : decode cX4_bars 89 = .ok (.putfield 64, 3) := dk_181 0 64 (dk_at dksX4_bars_3 17 rfl rfl)
theorem dX4_bars_92 : decode cX4_bars 92 = .ok (.aload_n 0, 1) := dk_42 (dk_at dksX4_bars_3 20 rfl rfl)
theorem dX4_bars_93 : decode cX4_bars 93 = .ok (.getfield 64, 3) := dk_180 0 64 (dk_at dksX4_bars_3 21 rfl rfl)
theorem dX4_bars_96 : decode cX4_bars 96 = .ok (.ifCond .le 5, 3) := dk_158 0 5 (dk_at dksX4_bars_4 0 rfl rfl)
theorem dX4_bars_99 : decode cX4_bars 99 = .ok (.iconst 5, 1) := dk_8 (dk_at dksX4_bars_4 3 rfl rfl)
theorem dX4_bars_100 : decode cX4_bars 100 = .ok (.ireturn, 1) := dk_172 (dk_at dksX4_bars_4 4 rfl rfl)
theorem dX4_bars_101 : decode cX4_bars 101 = .ok (.aload_n 0, 1) := dk_42 (dk_at dksX4_bars_4 5 rfl rfl)
theorem dX4_bars_102 : decode cX4_bars 102 = .ok (.aload_n 0, 1) := dk_42 (dk_at dksX4_bars_4 6 rfl rfl)
theorem dX4_bars_103 : decode cX4_bars 103 = .ok (.sipush 358, 3) := dk_17 1 102 (dk_at dksX4_bars_4 7 rfl rfl)
theorem dX4_bars_106 : decode cX4_bars 106 = .ok (.invokevirtual 139, 3) := dk_182 0 139 (dk_at dksX4_bars_4 10 rfl rfl)
theorem dX4_bars_109 : decode cX4_bars 109 = .ok (.aload_n 0, 1) := dk_42 (dk_at dksX4_bars_4 13 rfl rfl)
theorem dX4_bars_110 : decode cX4_bars 110 = .ok (.sipush 505, 3) := dk_17 1 249 (dk_at dksX4_bars_4 14 rfl rfl)
theorem dX4_bars_113 : decode cX4_bars 113 = .ok (.invokevirtual 139, 3) := dk_182 0 139 (dk_at dksX4_bars_4 17 rfl rfl)
theorem dX4_bars_116 : decode cX4_bars 116 = .ok (.isub, 1) := dk_100 (dk_at dksX4_bars_4 20 rfl rfl)
theorem dX4_bars_117 : decode cX4_bars 117 = .ok (.invokestatic 172, 3) := dk_184 0 172 (dk_at dksX4_bars_4 21 rfl rfl)
theorem dX4_bars_120 : decode cX4_bars 120 = .ok (.putfield 64, 3) := dk_181 0 64 (dk_at dksX4_bars_5 0 rfl rfl)
theorem dX4_bars_123 : decode cX4_bars 123 = .ok (.aload_n 0, 1) := dk_42 (dk_at dksX4_bars_5 3 rfl rfl)
theorem dX4_bars_124 : decode cX4_bars 124 = .ok (.getfield 64, 3) := dk_180 0 64 (dk_at dksX4_bars_5 4 rfl rfl)
theorem dX4_bars_127 : decode cX4_bars 127 = .ok (.bipush 10, 2) := dk_16 10 (dk_at dksX4_bars_5 7 rfl rfl)
theorem dX4_bars_129 : decode cX4_bars 129 = .ok (.if_icmp .le 6, 3) := dk_164 0 6 (dk_at dksX4_bars_5 9 rfl rfl)
theorem dX4_bars_132 : decode cX4_bars 132 = .ok (.bipush 6, 2) := dk_16 6 (dk_at dksX4_bars_5 12 rfl rfl)
theorem dX4_bars_134 : decode cX4_bars 134 = .ok (.ireturn, 1) := dk_172 (dk_at dksX4_bars_5 14 rfl rfl)
theorem dX4_bars_135 : decode cX4_bars 135 = .ok (.aload_n 0, 1) := dk_42 (dk_at dksX4_bars_5 15 rfl rfl)
theorem dX4_bars_136 : decode cX4_bars 136 = .ok (.aload_n 0, 1) := dk_42 (dk_at dksX4_bars_5 16 rfl rfl)
theorem dX4_bars_137 : decode cX4_bars 137 = .ok (.iload_n 3, 1) := dk_29 (dk_at dksX4_bars_5 17 rfl rfl)
theorem dX4_bars_138 : decode cX4_bars 138 = .ok (.aload_n 0, 1) := dk_42 (dk_at dksX4_bars_5 18 rfl rfl)
theorem dX4_bars_139 : decode cX4_bars 139 = .ok (.getfield 21, 3) := dk_180 0 21 (dk_at dksX4_bars_5 19 rfl rfl)
theorem dX4_bars_142 : decode cX4_bars 142 = .ok (.iconst 3, 1) := dk_6 (dk_at dksX4_bars_5 22 rfl rfl)
theorem dX4_bars_143 : decode cX4_bars 143 = .ok (.iaload, 1) := dk_46 (dk_at dksX4_bars_5 23 rfl rfl)
theorem dX4_bars_144 : decode cX4_bars 144 = .ok (.invokevirtual 114, 3) := dk_182 0 114 (dk_at dksX4_bars_6 0 rfl rfl)
theorem dX4_bars_147 : decode cX4_bars 147 = .ok (.putfield 64, 3) := dk_181 0 64 (dk_at dksX4_bars_6 3 rfl rfl)
theorem dX4_bars_150 : decode cX4_bars 150 = .ok (.aload_n 0, 1) := dk_42 (dk_at dksX4_bars_6 6 rfl rfl)
theorem dX4_bars_151 : decode cX4_bars 151 = .ok (.getfield 64, 3) := dk_180 0 64 (dk_at dksX4_bars_6 7 rfl rfl)
theorem dX4_bars_154 : decode cX4_bars 154 = .ok (.bipush 12, 2) := dk_16 12 (dk_at dksX4_bars_6 10 rfl rfl)
theorem dX4_bars_156 : decode cX4_bars 156 = .ok (.if_icmp .le 6, 3) := dk_164 0 6 (dk_at dksX4_bars_6 12 rfl rfl)
theorem dX4_bars_159 : decode cX4_bars 159 = .ok (.bipush 9, 2) := dk_16 9 (dk_at dksX4_bars_6 15 rfl rfl)
theorem dX4_bars_161 : decode cX4_bars 161 = .ok (.ireturn, 1) := dk_172 (dk_at dksX4_bars_6 17 rfl rfl)
theorem dX4_bars_162 : decode cX4_bars 162 = .ok (.aload_n 0, 1) := dk_42 (dk_at dksX4_bars_6 18 rfl rfl)
theorem dX4_bars_163 : decode cX4_bars 163 = .ok (.aload_n 0, 1) := dk_42 (dk_at dksX4_bars_6 19 rfl rfl)
theorem dX4_bars_164 : decode cX4_bars 164 = .ok (.getfield 21, 3) := dk_180 0 21 (dk_at dksX4_bars_6 20 rfl rfl)
theorem dX4_bars_167 : decode cX4_bars 167 = .ok (.iconst 3, 1) := dk_6 (dk_at dksX4_bars_6 23 rfl rfl)
theorem dX4_bars_168 : decode cX4_bars 168 = .ok (.iaload, 1) := dk_46 (dk_at dksX4_bars_7 0 rfl rfl)
theorem dX4_bars_169 : decode cX4_bars 169 = .ok (.iconst 1, 1) := dk_4 (dk_at dksX4_bars_7 1 rfl rfl)
theorem dX4_bars_170 : decode cX4_bars 170 = .ok (.iadd, 1) := dk_96 (dk_at dksX4_bars_7 2 rfl rfl)
theorem dX4_bars_171 : decode cX4_bars 171 = .ok (.putfield 64, 3) := dk_181 0 64 (dk_at dksX4_bars_7 3 rfl rfl)
theorem dX4_bars_174 : decode cX4_bars 174 = .ok (.aload_n 0, 1) := dk_42 (dk_at dksX4_bars_7 6 rfl rfl)
theorem dX4_bars_175 : decode cX4_bars 175 = .ok (.getfield 64, 3) := dk_180 0 64 (dk_at dksX4_bars_7 7 rfl rfl)
theorem dX4_bars_178 : decode cX4_bars 178 = .ok (.sipush 9999, 3) := dk_17 39 15 (dk_at dksX4_bars_7 10 rfl rfl)
theorem dX4_bars_181 : decode cX4_bars 181 = .ok (.if_icmp .le 6, 3) := dk_164 0 6 (dk_at dksX4_bars_7 13 rfl rfl)
theorem dX4_bars_184 : decode cX4_bars 184 = .ok (.bipush 10, 2) := dk_16 10 (dk_at dksX4_bars_7 16 rfl rfl)
theorem dX4_bars_186 : decode cX4_bars 186 = .ok (.ireturn, 1) := dk_172 (dk_at dksX4_bars_7 18 rfl rfl)
theorem dX4_bars_187 : decode cX4_bars 187 = .ok (.aload_n 0, 1) := dk_42 (dk_at dksX4_bars_7 19 rfl rfl)
theorem dX4_bars_188 : decode cX4_bars 188 = .ok (.iconst 0, 1) := dk_3 (dk_at dksX4_bars_7 20 rfl rfl)
theorem dX4_bars_189 : decode cX4_bars 189 = .ok (.putfield 64, 3) := dk_181 0 64 (dk_at dksX4_bars_7 21 rfl rfl)
theorem dX4_bars_192 : decode cX4_bars 192 = .ok (.iconst 0, 1) := dk_3 (dk_at dksX4_bars_8 0 rfl rfl)
theorem dX4_bars_193 : decode cX4_bars 193 = .ok (.ireturn, 1) := dk_172 (dk_at dksX4_bars_8 1 rfl rfl)
abbrev cX4_hour : ByteArray := prog_29_method_56_code
def yX4_hour : MethodName := ⟨RX4, "hour", "()I"⟩
def dkwX4_hour_7 : List UInt8 := [132, 4, 1, 167, 255, 219, 132, 2, 1, 132, 3, 1, 167, 255, 172, 42, 180, 0, 21, 4, 28, 79, 27, 172]
abbrev dktX4_hour_7 : List UInt8 := dkwX4_hour_7 ++ []
def dkwX4_hour_6 : List UInt8 := [16, 31, 6, 28, 104, 96, 21, 4, 96, 42, 180, 0, 21, 16, 31, 6, 29, 104, 96, 21, 4, 96, 46, 79]
abbrev dktX4_hour_6 : List UInt8 := dkwX4_hour_6 ++ dktX4_hour_7
def dkwX4_hour_5 : List UInt8 := [180, 0, 21, 6, 46, 163, 0, 6, 167, 0, 49, 3, 54, 4, 21, 4, 6, 162, 0, 37, 42, 180, 0, 21]
abbrev dktX4_hour_5 : List UInt8 := dkwX4_hour_5 ++ dktX4_hour_6
def dkwX4_hour_4 : List UInt8 := [180, 0, 21, 4, 46, 162, 0, 80, 42, 180, 0, 21, 16, 31, 6, 29, 104, 96, 4, 96, 46, 42]
abbrev dktX4_hour_4 : List UInt8 := dkwX4_hour_4 ++ dktX4_hour_5
def dkwX4_hour_3 : List UInt8 := [132, 2, 1, 167, 255, 185, 42, 180, 0, 21, 6, 92, 46, 4, 96, 79, 3, 61, 3, 62, 29, 42]
abbrev dktX4_hour_3 : List UInt8 := dkwX4_hour_3 ++ dktX4_hour_4
def dkwX4_hour_2 : List UInt8 := [180, 0, 21, 6, 46, 182, 0, 152, 79, 29, 153, 0, 14, 42, 28, 182, 0, 111, 154, 0, 6, 132, 1, 1]
abbrev dktX4_hour_2 : List UInt8 := dkwX4_hour_2 ++ dktX4_hour_3
def dkwX4_hour_1 : List UInt8 := [16, 46, 6, 28, 104, 96, 5, 96, 42, 28, 42, 180, 0, 21, 16, 46, 6, 28, 104, 96, 5, 96, 46, 42]
abbrev dktX4_hour_1 : List UInt8 := dkwX4_hour_1 ++ dktX4_hour_2
def dkwX4_hour_0 : List UInt8 := [3, 60, 3, 61, 28, 42, 180, 0, 21, 5, 46, 162, 0, 67, 42, 28, 182, 0, 111, 62, 42, 180, 0, 21]
abbrev dktX4_hour_0 : List UInt8 := dkwX4_hour_0 ++ dktX4_hour_1
theorem dksX4_hour_0 : cX4_hour.data.toList.drop 0 = dktX4_hour_0 := by decide +kernel
theorem dksX4_hour_1 : cX4_hour.data.toList.drop 24 = dktX4_hour_1 := dk_seg dksX4_hour_0 24 rfl rfl
theorem dksX4_hour_2 : cX4_hour.data.toList.drop 48 = dktX4_hour_2 := dk_seg dksX4_hour_1 24 rfl rfl
theorem dksX4_hour_3 : cX4_hour.data.toList.drop 72 = dktX4_hour_3 := dk_seg dksX4_hour_2 24 rfl rfl
theorem dksX4_hour_4 : cX4_hour.data.toList.drop 94 = dktX4_hour_4 := dk_seg dksX4_hour_3 22 rfl rfl
theorem dksX4_hour_5 : cX4_hour.data.toList.drop 116 = dktX4_hour_5 := dk_seg dksX4_hour_4 22 rfl rfl
theorem dksX4_hour_6 : cX4_hour.data.toList.drop 140 = dktX4_hour_6 := dk_seg dksX4_hour_5 24 rfl rfl
theorem dksX4_hour_7 : cX4_hour.data.toList.drop 164 = dktX4_hour_7 := dk_seg dksX4_hour_6 24 rfl rfl
theorem dX4_hour_0 : decode cX4_hour 0 = .ok (.iconst 0, 1) := dk_3 (dk_at dksX4_hour_0 0 rfl rfl)
theorem dX4_hour_1 : decode cX4_hour 1 = .ok (.istore_n 1, 1) := dk_60 (dk_at dksX4_hour_0 1 rfl rfl)
theorem dX4_hour_2 : decode cX4_hour 2 = .ok (.iconst 0, 1) := dk_3 (dk_at dksX4_hour_0 2 rfl rfl)
theorem dX4_hour_3 : decode cX4_hour 3 = .ok (.istore_n 2, 1) := dk_61 (dk_at dksX4_hour_0 3 rfl rfl)
theorem dX4_hour_4 : decode cX4_hour 4 = .ok (.iload_n 2, 1) := dk_28 (dk_at dksX4_hour_0 4 rfl rfl)
theorem dX4_hour_5 : decode cX4_hour 5 = .ok (.aload_n 0, 1) := dk_42 (dk_at dksX4_hour_0 5 rfl rfl)
theorem dX4_hour_6 : decode cX4_hour 6 = .ok (.getfield 21, 3) := dk_180 0 21 (dk_at dksX4_hour_0 6 rfl rfl)
theorem dX4_hour_9 : decode cX4_hour 9 = .ok (.iconst 2, 1) := dk_5 (dk_at dksX4_hour_0 9 rfl rfl)
theorem dX4_hour_10 : decode cX4_hour 10 = .ok (.iaload, 1) := dk_46 (dk_at dksX4_hour_0 10 rfl rfl)
theorem dX4_hour_11 : decode cX4_hour 11 = .ok (.if_icmp .ge 67, 3) := dk_162 0 67 (dk_at dksX4_hour_0 11 rfl rfl)
theorem dX4_hour_14 : decode cX4_hour 14 = .ok (.aload_n 0, 1) := dk_42 (dk_at dksX4_hour_0 14 rfl rfl)
theorem dX4_hour_15 : decode cX4_hour 15 = .ok (.iload_n 2, 1) := dk_28 (dk_at dksX4_hour_0 15 rfl rfl)
theorem dX4_hour_16 : decode cX4_hour 16 = .ok (.invokevirtual 111, 3) := dk_182 0 111 (dk_at dksX4_hour_0 16 rfl rfl)
theorem dX4_hour_19 : decode cX4_hour 19 = .ok (.istore_n 3, 1) := dk_62 (dk_at dksX4_hour_0 19 rfl rfl)
theorem dX4_hour_20 : decode cX4_hour 20 = .ok (.aload_n 0, 1) := dk_42 (dk_at dksX4_hour_0 20 rfl rfl)
theorem dX4_hour_21 : decode cX4_hour 21 = .ok (.getfield 21, 3) := dk_180 0 21 (dk_at dksX4_hour_0 21 rfl rfl)
theorem dX4_hour_24 : decode cX4_hour 24 = .ok (.bipush 46, 2) := dk_16 46 (dk_at dksX4_hour_1 0 rfl rfl)
theorem dX4_hour_26 : decode cX4_hour 26 = .ok (.iconst 3, 1) := dk_6 (dk_at dksX4_hour_1 2 rfl rfl)
theorem dX4_hour_27 : decode cX4_hour 27 = .ok (.iload_n 2, 1) := dk_28 (dk_at dksX4_hour_1 3 rfl rfl)
theorem dX4_hour_28 : decode cX4_hour 28 = .ok (.imul, 1) := dk_104 (dk_at dksX4_hour_1 4 rfl rfl)
theorem dX4_hour_29 : decode cX4_hour 29 = .ok (.iadd, 1) := dk_96 (dk_at dksX4_hour_1 5 rfl rfl)
theorem dX4_hour_30 : decode cX4_hour 30 = .ok (.iconst 2, 1) := dk_5 (dk_at dksX4_hour_1 6 rfl rfl)
theorem dX4_hour_31 : decode cX4_hour 31 = .ok (.iadd, 1) := dk_96 (dk_at dksX4_hour_1 7 rfl rfl)
theorem dX4_hour_32 : decode cX4_hour 32 = .ok (.aload_n 0, 1) := dk_42 (dk_at dksX4_hour_1 8 rfl rfl)
theorem dX4_hour_33 : decode cX4_hour 33 = .ok (.iload_n 2, 1) := dk_28 (dk_at dksX4_hour_1 9 rfl rfl)
theorem dX4_hour_34 : decode cX4_hour 34 = .ok (.aload_n 0, 1) := dk_42 (dk_at dksX4_hour_1 10 rfl rfl)
theorem dX4_hour_35 : decode cX4_hour 35 = .ok (.getfield 21, 3) := dk_180 0 21 (dk_at dksX4_hour_1 11 rfl rfl)
theorem dX4_hour_38 : decode cX4_hour 38 = .ok (.bipush 46, 2) := dk_16 46 (dk_at dksX4_hour_1 14 rfl rfl)
theorem dX4_hour_40 : decode cX4_hour 40 = .ok (.iconst 3, 1) := dk_6 (dk_at dksX4_hour_1 16 rfl rfl)
theorem dX4_hour_41 : decode cX4_hour 41 = .ok (.iload_n 2, 1) := dk_28 (dk_at dksX4_hour_1 17 rfl rfl)
theorem dX4_hour_42 : decode cX4_hour 42 = .ok (.imul, 1) := dk_104 (dk_at dksX4_hour_1 18 rfl rfl)
theorem dX4_hour_43 : decode cX4_hour 43 = .ok (.iadd, 1) := dk_96 (dk_at dksX4_hour_1 19 rfl rfl)
theorem dX4_hour_44 : decode cX4_hour 44 = .ok (.iconst 2, 1) := dk_5 (dk_at dksX4_hour_1 20 rfl rfl)
theorem dX4_hour_45 : decode cX4_hour 45 = .ok (.iadd, 1) := dk_96 (dk_at dksX4_hour_1 21 rfl rfl)
theorem dX4_hour_46 : decode cX4_hour 46 = .ok (.iaload, 1) := dk_46 (dk_at dksX4_hour_1 22 rfl rfl)
theorem dX4_hour_47 : decode cX4_hour 47 = .ok (.aload_n 0, 1) := dk_42 (dk_at dksX4_hour_1 23 rfl rfl)
theorem dX4_hour_48 : decode cX4_hour 48 = .ok (.getfield 21, 3) := dk_180 0 21 (dk_at dksX4_hour_2 0 rfl rfl)
theorem dX4_hour_51 : decode cX4_hour 51 = .ok (.iconst 3, 1) := dk_6 (dk_at dksX4_hour_2 3 rfl rfl)
theorem dX4_hour_52 : decode cX4_hour 52 = .ok (.iaload, 1) := dk_46 (dk_at dksX4_hour_2 4 rfl rfl)
theorem dX4_hour_53 : decode cX4_hour 53 = .ok (.invokevirtual 152, 3) := dk_182 0 152 (dk_at dksX4_hour_2 5 rfl rfl)
theorem dX4_hour_56 : decode cX4_hour 56 = .ok (.iastore, 1) := dk_79 (dk_at dksX4_hour_2 8 rfl rfl)
theorem dX4_hour_57 : decode cX4_hour 57 = .ok (.iload_n 3, 1) := dk_29 (dk_at dksX4_hour_2 9 rfl rfl)
theorem dX4_hour_58 : decode cX4_hour 58 = .ok (.ifCond .eq 14, 3) := dk_153 0 14 (dk_at dksX4_hour_2 10 rfl rfl)
theorem dX4_hour_61 : decode cX4_hour 61 = .ok (.aload_n 0, 1) := dk_42 (dk_at dksX4_hour_2 13 rfl rfl)
theorem dX4_hour_62 : decode cX4_hour 62 = .ok (.iload_n 2, 1) := dk_28 (dk_at dksX4_hour_2 14 rfl rfl)
theorem dX4_hour_63 : decode cX4_hour 63 = .ok (.invokevirtual 111, 3) := dk_182 0 111 (dk_at dksX4_hour_2 15 rfl rfl)
theorem dX4_hour_66 : decode cX4_hour 66 = .ok (.ifCond .ne 6, 3) := dk_154 0 6 (dk_at dksX4_hour_2 18 rfl rfl)
theorem dX4_hour_69 : decode cX4_hour 69 = .ok (.iinc 1 1, 3) := dk_132 1 1 (dk_at dksX4_hour_2 21 rfl rfl)
theorem dX4_hour_72 : decode cX4_hour 72 = .ok (.iinc 2 1, 3) := dk_132 2 1 (dk_at dksX4_hour_3 0 rfl rfl)
theorem dX4_hour_75 : decode cX4_hour 75 = .ok (.goto (-71), 3) := dk_167 255 185 (dk_at dksX4_hour_3 3 rfl rfl)
theorem dX4_hour_78 : decode cX4_hour 78 = .ok (.aload_n 0, 1) := dk_42 (dk_at dksX4_hour_3 6 rfl rfl)
theorem dX4_hour_79 : decode cX4_hour 79 = .ok (.getfield 21, 3) := dk_180 0 21 (dk_at dksX4_hour_3 7 rfl rfl)
theorem dX4_hour_82 : decode cX4_hour 82 = .ok (.iconst 3, 1) := dk_6 (dk_at dksX4_hour_3 10 rfl rfl)
theorem dX4_hour_83 : decode cX4_hour 83 = .ok (.dup2, 1) := dk_92 (dk_at dksX4_hour_3 11 rfl rfl)
theorem dX4_hour_84 : decode cX4_hour 84 = .ok (.iaload, 1) := dk_46 (dk_at dksX4_hour_3 12 rfl rfl)
theorem dX4_hour_85 : decode cX4_hour 85 = .ok (.iconst 1, 1) := dk_4 (dk_at dksX4_hour_3 13 rfl rfl)
theorem dX4_hour_86 : decode cX4_hour 86 = .ok (.iadd, 1) := dk_96 (dk_at dksX4_hour_3 14 rfl rfl)
theorem dX4_hour_87 : decode cX4_hour 87 = .ok (.iastore, 1) := dk_79 (dk_at dksX4_hour_3 15 rfl rfl)
theorem dX4_hour_88 : decode cX4_hour 88 = .ok (.iconst 0, 1) := dk_3 (dk_at dksX4_hour_3 16 rfl rfl)
theorem dX4_hour_89 : decode cX4_hour 89 = .ok (.istore_n 2, 1) := dk_61 (dk_at dksX4_hour_3 17 rfl rfl)
theorem dX4_hour_90 : decode cX4_hour 90 = .ok (.iconst 0, 1) := dk_3 (dk_at dksX4_hour_3 18 rfl rfl)
theorem dX4_hour_91 : decode cX4_hour 91 = .ok (.istore_n 3, 1) := dk_62 (dk_at dksX4_hour_3 19 rfl rfl)
theorem dX4_hour_92 : decode cX4_hour 92 = .ok (.iload_n 3, 1) := dk_29 (dk_at dksX4_hour_3 20 rfl rfl)
theorem dX4_hour_93 : decode cX4_hour 93 = .ok (.aload_n 0, 1) := dk_42 (dk_at dksX4_hour_3 21 rfl rfl)
theorem dX4_hour_94 : decode cX4_hour 94 = .ok (.getfield 21, 3) := dk_180 0 21 (dk_at dksX4_hour_4 0 rfl rfl)
theorem dX4_hour_97 : decode cX4_hour 97 = .ok (.iconst 1, 1) := dk_4 (dk_at dksX4_hour_4 3 rfl rfl)
theorem dX4_hour_98 : decode cX4_hour 98 = .ok (.iaload, 1) := dk_46 (dk_at dksX4_hour_4 4 rfl rfl)
theorem dX4_hour_99 : decode cX4_hour 99 = .ok (.if_icmp .ge 80, 3) := dk_162 0 80 (dk_at dksX4_hour_4 5 rfl rfl)
theorem dX4_hour_102 : decode cX4_hour 102 = .ok (.aload_n 0, 1) := dk_42 (dk_at dksX4_hour_4 8 rfl rfl)
theorem dX4_hour_103 : decode cX4_hour 103 = .ok (.getfield 21, 3) := dk_180 0 21 (dk_at dksX4_hour_4 9 rfl rfl)
theorem dX4_hour_106 : decode cX4_hour 106 = .ok (.bipush 31, 2) := dk_16 31 (dk_at dksX4_hour_4 12 rfl rfl)
theorem dX4_hour_108 : decode cX4_hour 108 = .ok (.iconst 3, 1) := dk_6 (dk_at dksX4_hour_4 14 rfl rfl)
theorem dX4_hour_109 : decode cX4_hour 109 = .ok (.iload_n 3, 1) := dk_29 (dk_at dksX4_hour_4 15 rfl rfl)
theorem dX4_hour_110 : decode cX4_hour 110 = .ok (.imul, 1) := dk_104 (dk_at dksX4_hour_4 16 rfl rfl)
theorem dX4_hour_111 : decode cX4_hour 111 = .ok (.iadd, 1) := dk_96 (dk_at dksX4_hour_4 17 rfl rfl)
theorem dX4_hour_112 : decode cX4_hour 112 = .ok (.iconst 1, 1) := dk_4 (dk_at dksX4_hour_4 18 rfl rfl)
theorem dX4_hour_113 : decode cX4_hour 113 = .ok (.iadd, 1) := dk_96 (dk_at dksX4_hour_4 19 rfl rfl)
theorem dX4_hour_114 : decode cX4_hour 114 = .ok (.iaload, 1) := dk_46 (dk_at dksX4_hour_4 20 rfl rfl)
theorem dX4_hour_115 : decode cX4_hour 115 = .ok (.aload_n 0, 1) := dk_42 (dk_at dksX4_hour_4 21 rfl rfl)
theorem dX4_hour_116 : decode cX4_hour 116 = .ok (.getfield 21, 3) := dk_180 0 21 (dk_at dksX4_hour_5 0 rfl rfl)
theorem dX4_hour_119 : decode cX4_hour 119 = .ok (.iconst 3, 1) := dk_6 (dk_at dksX4_hour_5 3 rfl rfl)
theorem dX4_hour_120 : decode cX4_hour 120 = .ok (.iaload, 1) := dk_46 (dk_at dksX4_hour_5 4 rfl rfl)
theorem dX4_hour_121 : decode cX4_hour 121 = .ok (.if_icmp .gt 6, 3) := dk_163 0 6 (dk_at dksX4_hour_5 5 rfl rfl)
theorem dX4_hour_124 : decode cX4_hour 124 = .ok (.goto 49, 3) := dk_167 0 49 (dk_at dksX4_hour_5 8 rfl rfl)
theorem dX4_hour_127 : decode cX4_hour 127 = .ok (.iconst 0, 1) := dk_3 (dk_at dksX4_hour_5 11 rfl rfl)
theorem dX4_hour_128 : decode cX4_hour 128 = .ok (.istore 4, 2) := dk_54 4 (dk_at dksX4_hour_5 12 rfl rfl)
theorem dX4_hour_130 : decode cX4_hour 130 = .ok (.iload 4, 2) := dk_21 4 (dk_at dksX4_hour_5 14 rfl rfl)
theorem dX4_hour_132 : decode cX4_hour 132 = .ok (.iconst 3, 1) := dk_6 (dk_at dksX4_hour_5 16 rfl rfl)
theorem dX4_hour_133 : decode cX4_hour 133 = .ok (.if_icmp .ge 37, 3) := dk_162 0 37 (dk_at dksX4_hour_5 17 rfl rfl)
theorem dX4_hour_136 : decode cX4_hour 136 = .ok (.aload_n 0, 1) := dk_42 (dk_at dksX4_hour_5 20 rfl rfl)
theorem dX4_hour_137 : decode cX4_hour 137 = .ok (.getfield 21, 3) := dk_180 0 21 (dk_at dksX4_hour_5 21 rfl rfl)
theorem dX4_hour_140 : decode cX4_hour 140 = .ok (.bipush 31, 2) := dk_16 31 (dk_at dksX4_hour_6 0 rfl rfl)
theorem dX4_hour_142 : decode cX4_hour 142 = .ok (.iconst 3, 1) := dk_6 (dk_at dksX4_hour_6 2 rfl rfl)
theorem dX4_hour_143 : decode cX4_hour 143 = .ok (.iload_n 2, 1) := dk_28 (dk_at dksX4_hour_6 3 rfl rfl)
theorem dX4_hour_144 : decode cX4_hour 144 = .ok (.imul, 1) := dk_104 (dk_at dksX4_hour_6 4 rfl rfl)
theorem dX4_hour_145 : decode cX4_hour 145 = .ok (.iadd, 1) := dk_96 (dk_at dksX4_hour_6 5 rfl rfl)
theorem dX4_hour_146 : decode cX4_hour 146 = .ok (.iload 4, 2) := dk_21 4 (dk_at dksX4_hour_6 6 rfl rfl)
theorem dX4_hour_148 : decode cX4_hour 148 = .ok (.iadd, 1) := dk_96 (dk_at dksX4_hour_6 8 rfl rfl)
theorem dX4_hour_149 : decode cX4_hour 149 = .ok (.aload_n 0, 1) := dk_42 (dk_at dksX4_hour_6 9 rfl rfl)
theorem dX4_hour_150 : decode cX4_hour 150 = .ok (.getfield 21, 3) := dk_180 0 21 (dk_at dksX4_hour_6 10 rfl rfl)
theorem dX4_hour_153 : decode cX4_hour 153 = .ok (.bipush 31, 2) := dk_16 31 (dk_at dksX4_hour_6 13 rfl rfl)
theorem dX4_hour_155 : decode cX4_hour 155 = .ok (.iconst 3, 1) := dk_6 (dk_at dksX4_hour_6 15 rfl rfl)
theorem dX4_hour_156 : decode cX4_hour 156 = .ok (.iload_n 3, 1) := dk_29 (dk_at dksX4_hour_6 16 rfl rfl)
theorem dX4_hour_157 : decode cX4_hour 157 = .ok (.imul, 1) := dk_104 (dk_at dksX4_hour_6 17 rfl rfl)
theorem dX4_hour_158 : decode cX4_hour 158 = .ok (.iadd, 1) := dk_96 (dk_at dksX4_hour_6 18 rfl rfl)
theorem dX4_hour_159 : decode cX4_hour 159 = .ok (.iload 4, 2) := dk_21 4 (dk_at dksX4_hour_6 19 rfl rfl)
theorem dX4_hour_161 : decode cX4_hour 161 = .ok (.iadd, 1) := dk_96 (dk_at dksX4_hour_6 21 rfl rfl)
theorem dX4_hour_162 : decode cX4_hour 162 = .ok (.iaload, 1) := dk_46 (dk_at dksX4_hour_6 22 rfl rfl)
theorem dX4_hour_163 : decode cX4_hour 163 = .ok (.iastore, 1) := dk_79 (dk_at dksX4_hour_6 23 rfl rfl)
theorem dX4_hour_164 : decode cX4_hour 164 = .ok (.iinc 4 1, 3) := dk_132 4 1 (dk_at dksX4_hour_7 0 rfl rfl)
theorem dX4_hour_167 : decode cX4_hour 167 = .ok (.goto (-37), 3) := dk_167 255 219 (dk_at dksX4_hour_7 3 rfl rfl)
theorem dX4_hour_170 : decode cX4_hour 170 = .ok (.iinc 2 1, 3) := dk_132 2 1 (dk_at dksX4_hour_7 6 rfl rfl)
theorem dX4_hour_173 : decode cX4_hour 173 = .ok (.iinc 3 1, 3) := dk_132 3 1 (dk_at dksX4_hour_7 9 rfl rfl)
theorem dX4_hour_176 : decode cX4_hour 176 = .ok (.goto (-84), 3) := dk_167 255 172 (dk_at dksX4_hour_7 12 rfl rfl)
theorem dX4_hour_179 : decode cX4_hour 179 = .ok (.aload_n 0, 1) := dk_42 (dk_at dksX4_hour_7 15 rfl rfl)
theorem dX4_hour_180 : decode cX4_hour 180 = .ok (.getfield 21, 3) := dk_180 0 21 (dk_at dksX4_hour_7 16 rfl rfl)
theorem dX4_hour_183 : decode cX4_hour 183 = .ok (.iconst 1, 1) := dk_4 (dk_at dksX4_hour_7 19 rfl rfl)
theorem dX4_hour_184 : decode cX4_hour 184 = .ok (.iload_n 2, 1) := dk_28 (dk_at dksX4_hour_7 20 rfl rfl)
theorem dX4_hour_185 : decode cX4_hour 185 = .ok (.iastore, 1) := dk_79 (dk_at dksX4_hour_7 21 rfl rfl)
theorem dX4_hour_186 : decode cX4_hour 186 = .ok (.iload_n 1, 1) := dk_27 (dk_at dksX4_hour_7 22 rfl rfl)
theorem dX4_hour_187 : decode cX4_hour 187 = .ok (.ireturn, 1) := dk_172 (dk_at dksX4_hour_7 23 rfl rfl)
abbrev cX4_why_2 : ByteArray := prog_29_method_59_code
def yX4_why_2 : MethodName := ⟨RX4, "why", "(ZZ)I"⟩
def dkwX4_why_2_0 : List UInt8 := [42, 3, 181, 0, 58, 42, 27, 182, 0, 207, 62, 28, 153, 0, 10, 42, 180, 0, 64, 167, 0, 4, 29, 172]
abbrev dktX4_why_2_0 : List UInt8 := dkwX4_why_2_0 ++ []
theorem dksX4_why_2_0 : cX4_why_2.data.toList.drop 0 = dktX4_why_2_0 := by decide +kernel
theorem dX4_why_2_0 : decode cX4_why_2 0 = .ok (.aload_n 0, 1) := dk_42 (dk_at dksX4_why_2_0 0 rfl rfl)
theorem dX4_why_2_1 : decode cX4_why_2 1 = .ok (.iconst 0, 1) := dk_3 (dk_at dksX4_why_2_0 1 rfl rfl)
theorem dX4_why_2_2 : decode cX4_why_2 2 = .ok (.putfield 58, 3) := dk_181 0 58 (dk_at dksX4_why_2_0 2 rfl rfl)
theorem dX4_why_2_5 : decode cX4_why_2 5 = .ok (.aload_n 0, 1) := dk_42 (dk_at dksX4_why_2_0 5 rfl rfl)
theorem dX4_why_2_6 : decode cX4_why_2 6 = .ok (.iload_n 1, 1) := dk_27 (dk_at dksX4_why_2_0 6 rfl rfl)
theorem dX4_why_2_7 : decode cX4_why_2 7 = .ok (.invokevirtual 207, 3) := dk_182 0 207 (dk_at dksX4_why_2_0 7 rfl rfl)
theorem dX4_why_2_10 : decode cX4_why_2 10 = .ok (.istore_n 3, 1) := dk_62 (dk_at dksX4_why_2_0 10 rfl rfl)
theorem dX4_why_2_11 : decode cX4_why_2 11 = .ok (.iload_n 2, 1) := dk_28 (dk_at dksX4_why_2_0 11 rfl rfl)
theorem dX4_why_2_12 : decode cX4_why_2 12 = .ok (.ifCond .eq 10, 3) := dk_153 0 10 (dk_at dksX4_why_2_0 12 rfl rfl)
theorem dX4_why_2_15 : decode cX4_why_2 15 = .ok (.aload_n 0, 1) := dk_42 (dk_at dksX4_why_2_0 15 rfl rfl)
theorem dX4_why_2_16 : decode cX4_why_2 16 = .ok (.getfield 64, 3) := dk_180 0 64 (dk_at dksX4_why_2_0 16 rfl rfl)
theorem dX4_why_2_19 : decode cX4_why_2 19 = .ok (.goto 4, 3) := dk_167 0 4 (dk_at dksX4_why_2_0 19 rfl rfl)
theorem dX4_why_2_22 : decode cX4_why_2 22 = .ok (.iload_n 3, 1) := dk_29 (dk_at dksX4_why_2_0 22 rfl rfl)
theorem dX4_why_2_23 : decode cX4_why_2 23 = .ok (.ireturn, 1) := dk_172 (dk_at dksX4_why_2_0 23 rfl rfl)
abbrev cX4_pass : ByteArray := prog_29_method_61_code
def yX4_pass : MethodName := ⟨RX4, "pass", "(I)I"⟩
def dkwX4_pass_0 : List UInt8 := [42, 182, 0, 84, 42, 42, 27, 182, 0, 217, 5, 182, 0, 91, 172]
abbrev dktX4_pass_0 : List UInt8 := dkwX4_pass_0 ++ []
theorem dksX4_pass_0 : cX4_pass.data.toList.drop 0 = dktX4_pass_0 := by decide +kernel
theorem dX4_pass_0 : decode cX4_pass 0 = .ok (.aload_n 0, 1) := dk_42 (dk_at dksX4_pass_0 0 rfl rfl)
theorem dX4_pass_1 : decode cX4_pass 1 = .ok (.invokevirtual 84, 3) := dk_182 0 84 (dk_at dksX4_pass_0 1 rfl rfl)
theorem dX4_pass_4 : decode cX4_pass 4 = .ok (.aload_n 0, 1) := dk_42 (dk_at dksX4_pass_0 4 rfl rfl)
theorem dX4_pass_5 : decode cX4_pass 5 = .ok (.aload_n 0, 1) := dk_42 (dk_at dksX4_pass_0 5 rfl rfl)
theorem dX4_pass_6 : decode cX4_pass 6 = .ok (.iload_n 1, 1) := dk_27 (dk_at dksX4_pass_0 6 rfl rfl)
theorem dX4_pass_7 : decode cX4_pass 7 = .ok (.invokevirtual 217, 3) := dk_182 0 217 (dk_at dksX4_pass_0 7 rfl rfl)
theorem dX4_pass_10 : decode cX4_pass 10 = .ok (.iconst 2, 1) := dk_5 (dk_at dksX4_pass_0 10 rfl rfl)
theorem dX4_pass_11 : decode cX4_pass 11 = .ok (.invokevirtual 91, 3) := dk_182 0 91 (dk_at dksX4_pass_0 11 rfl rfl)
theorem dX4_pass_14 : decode cX4_pass 14 = .ok (.ireturn, 1) := dk_172 (dk_at dksX4_pass_0 14 rfl rfl)
abbrev cX4_passes : ByteArray := prog_29_method_60_code
def yX4_passes : MethodName := ⟨RX4, "passes", "(I)I"⟩
def dkwX4_passes_2 : List UInt8 := [162, 0, 16, 28, 42, 182, 0, 211, 96, 61, 132, 3, 1, 167, 255, 241, 42, 28, 182, 0, 124, 172]
abbrev dktX4_passes_2 : List UInt8 := dkwX4_passes_2 ++ []
def dkwX4_passes_1 : List UInt8 := [164, 0, 18, 42, 16, 10, 42, 180, 0, 21, 6, 46, 27, 96, 182, 0, 87, 172, 3, 61, 3, 62, 29, 27]
abbrev dktX4_passes_1 : List UInt8 := dkwX4_passes_1 ++ dktX4_passes_2
def dkwX4_passes_0 : List UInt8 := [27, 4, 16, 99, 184, 0, 80, 154, 0, 5, 2, 172, 42, 180, 0, 21, 6, 46, 27, 96, 17, 39, 15]
abbrev dktX4_passes_0 : List UInt8 := dkwX4_passes_0 ++ dktX4_passes_1
theorem dksX4_passes_0 : cX4_passes.data.toList.drop 0 = dktX4_passes_0 := by decide +kernel
theorem dksX4_passes_1 : cX4_passes.data.toList.drop 23 = dktX4_passes_1 := dk_seg dksX4_passes_0 23 rfl rfl
theorem dksX4_passes_2 : cX4_passes.data.toList.drop 47 = dktX4_passes_2 := dk_seg dksX4_passes_1 24 rfl rfl
theorem dX4_passes_0 : decode cX4_passes 0 = .ok (.iload_n 1, 1) := dk_27 (dk_at dksX4_passes_0 0 rfl rfl)
theorem dX4_passes_1 : decode cX4_passes 1 = .ok (.iconst 1, 1) := dk_4 (dk_at dksX4_passes_0 1 rfl rfl)
theorem dX4_passes_2 : decode cX4_passes 2 = .ok (.bipush 99, 2) := dk_16 99 (dk_at dksX4_passes_0 2 rfl rfl)
theorem dX4_passes_4 : decode cX4_passes 4 = .ok (.invokestatic 80, 3) := dk_184 0 80 (dk_at dksX4_passes_0 4 rfl rfl)
theorem dX4_passes_7 : decode cX4_passes 7 = .ok (.ifCond .ne 5, 3) := dk_154 0 5 (dk_at dksX4_passes_0 7 rfl rfl)
theorem dX4_passes_10 : decode cX4_passes 10 = .ok (.iconst (-1), 1) := dk_2 (dk_at dksX4_passes_0 10 rfl rfl)
theorem dX4_passes_11 : decode cX4_passes 11 = .ok (.ireturn, 1) := dk_172 (dk_at dksX4_passes_0 11 rfl rfl)
theorem dX4_passes_12 : decode cX4_passes 12 = .ok (.aload_n 0, 1) := dk_42 (dk_at dksX4_passes_0 12 rfl rfl)
theorem dX4_passes_13 : decode cX4_passes 13 = .ok (.getfield 21, 3) := dk_180 0 21 (dk_at dksX4_passes_0 13 rfl rfl)
theorem dX4_passes_16 : decode cX4_passes 16 = .ok (.iconst 3, 1) := dk_6 (dk_at dksX4_passes_0 16 rfl rfl)
theorem dX4_passes_17 : decode cX4_passes 17 = .ok (.iaload, 1) := dk_46 (dk_at dksX4_passes_0 17 rfl rfl)
theorem dX4_passes_18 : decode cX4_passes 18 = .ok (.iload_n 1, 1) := dk_27 (dk_at dksX4_passes_0 18 rfl rfl)
theorem dX4_passes_19 : decode cX4_passes 19 = .ok (.iadd, 1) := dk_96 (dk_at dksX4_passes_0 19 rfl rfl)
theorem dX4_passes_20 : decode cX4_passes 20 = .ok (.sipush 9999, 3) := dk_17 39 15 (dk_at dksX4_passes_0 20 rfl rfl)
theorem dX4_passes_23 : decode cX4_passes 23 = .ok (.if_icmp .le 18, 3) := dk_164 0 18 (dk_at dksX4_passes_1 0 rfl rfl)
theorem dX4_passes_26 : decode cX4_passes 26 = .ok (.aload_n 0, 1) := dk_42 (dk_at dksX4_passes_1 3 rfl rfl)
theorem dX4_passes_27 : decode cX4_passes 27 = .ok (.bipush 10, 2) := dk_16 10 (dk_at dksX4_passes_1 4 rfl rfl)
theorem dX4_passes_29 : decode cX4_passes 29 = .ok (.aload_n 0, 1) := dk_42 (dk_at dksX4_passes_1 6 rfl rfl)
theorem dX4_passes_30 : decode cX4_passes 30 = .ok (.getfield 21, 3) := dk_180 0 21 (dk_at dksX4_passes_1 7 rfl rfl)
theorem dX4_passes_33 : decode cX4_passes 33 = .ok (.iconst 3, 1) := dk_6 (dk_at dksX4_passes_1 10 rfl rfl)
theorem dX4_passes_34 : decode cX4_passes 34 = .ok (.iaload, 1) := dk_46 (dk_at dksX4_passes_1 11 rfl rfl)
theorem dX4_passes_35 : decode cX4_passes 35 = .ok (.iload_n 1, 1) := dk_27 (dk_at dksX4_passes_1 12 rfl rfl)
theorem dX4_passes_36 : decode cX4_passes 36 = .ok (.iadd, 1) := dk_96 (dk_at dksX4_passes_1 13 rfl rfl)
theorem dX4_passes_37 : decode cX4_passes 37 = .ok (.invokevirtual 87, 3) := dk_182 0 87 (dk_at dksX4_passes_1 14 rfl rfl)
theorem dX4_passes_40 : decode cX4_passes 40 = .ok (.ireturn, 1) := dk_172 (dk_at dksX4_passes_1 17 rfl rfl)
theorem dX4_passes_41 : decode cX4_passes 41 = .ok (.iconst 0, 1) := dk_3 (dk_at dksX4_passes_1 18 rfl rfl)
theorem dX4_passes_42 : decode cX4_passes 42 = .ok (.istore_n 2, 1) := dk_61 (dk_at dksX4_passes_1 19 rfl rfl)
theorem dX4_passes_43 : decode cX4_passes 43 = .ok (.iconst 0, 1) := dk_3 (dk_at dksX4_passes_1 20 rfl rfl)
theorem dX4_passes_44 : decode cX4_passes 44 = .ok (.istore_n 3, 1) := dk_62 (dk_at dksX4_passes_1 21 rfl rfl)
theorem dX4_passes_45 : decode cX4_passes 45 = .ok (.iload_n 3, 1) := dk_29 (dk_at dksX4_passes_1 22 rfl rfl)
theorem dX4_passes_46 : decode cX4_passes 46 = .ok (.iload_n 1, 1) := dk_27 (dk_at dksX4_passes_1 23 rfl rfl)
theorem dX4_passes_47 : decode cX4_passes 47 = .ok (.if_icmp .ge 16, 3) := dk_162 0 16 (dk_at dksX4_passes_2 0 rfl rfl)
theorem dX4_passes_50 : decode cX4_passes 50 = .ok (.iload_n 2, 1) := dk_28 (dk_at dksX4_passes_2 3 rfl rfl)
theorem dX4_passes_51 : decode cX4_passes 51 = .ok (.aload_n 0, 1) := dk_42 (dk_at dksX4_passes_2 4 rfl rfl)
theorem dX4_passes_52 : decode cX4_passes 52 = .ok (.invokevirtual 211, 3) := dk_182 0 211 (dk_at dksX4_passes_2 5 rfl rfl)
theorem dX4_passes_55 : decode cX4_passes 55 = .ok (.iadd, 1) := dk_96 (dk_at dksX4_passes_2 8 rfl rfl)
theorem dX4_passes_56 : decode cX4_passes 56 = .ok (.istore_n 2, 1) := dk_61 (dk_at dksX4_passes_2 9 rfl rfl)
theorem dX4_passes_57 : decode cX4_passes 57 = .ok (.iinc 3 1, 3) := dk_132 3 1 (dk_at dksX4_passes_2 10 rfl rfl)
theorem dX4_passes_60 : decode cX4_passes 60 = .ok (.goto (-15), 3) := dk_167 255 241 (dk_at dksX4_passes_2 13 rfl rfl)
theorem dX4_passes_63 : decode cX4_passes 63 = .ok (.aload_n 0, 1) := dk_42 (dk_at dksX4_passes_2 16 rfl rfl)
theorem dX4_passes_64 : decode cX4_passes 64 = .ok (.iload_n 2, 1) := dk_28 (dk_at dksX4_passes_2 17 rfl rfl)
theorem dX4_passes_65 : decode cX4_passes 65 = .ok (.invokevirtual 124, 3) := dk_182 0 124 (dk_at dksX4_passes_2 18 rfl rfl)
theorem dX4_passes_68 : decode cX4_passes 68 = .ok (.ireturn, 1) := dk_172 (dk_at dksX4_passes_2 21 rfl rfl)
abbrev cX4_number : ByteArray := prog_29_method_63_code
def yX4_number : MethodName := ⟨RX4, "number", "(I)I"⟩
def dkwX4_number_8 : List UInt8 := [180, 0, 61, 172, 42, 180, 0, 223, 172, 42, 4, 182, 0, 77, 172]
abbrev dktX4_number_8 : List UInt8 := dkwX4_number_8 ++ []
def dkwX4_number_7 : List UInt8 := [28, 42, 180, 0, 21, 16, 13, 6, 29, 104, 96, 46, 96, 61, 132, 3, 1, 167, 255, 229, 28, 172, 42]
abbrev dktX4_number_7 : List UInt8 := dkwX4_number_7 ++ dktX4_number_8
def dkwX4_number_6 : List UInt8 := [16, 7, 46, 172, 42, 180, 0, 21, 16, 8, 46, 172, 3, 62, 29, 42, 180, 0, 21, 3, 46, 162, 0, 23]
abbrev dktX4_number_6 : List UInt8 := dkwX4_number_6 ++ dktX4_number_7
def dkwX4_number_5 : List UInt8 := [182, 0, 220, 96, 172, 42, 16, 64, 182, 0, 220, 172, 42, 180, 0, 21, 16, 6, 46, 172, 42, 180, 0, 21]
abbrev dktX4_number_5 : List UInt8 := dkwX4_number_5 ++ dktX4_number_6
def dkwX4_number_4 : List UInt8 := [182, 0, 139, 172, 42, 17, 1, 249, 182, 0, 139, 172, 42, 17, 1, 102, 182, 0, 220, 42, 17, 1, 249]
abbrev dktX4_number_4 : List UInt8 := dkwX4_number_4 ++ dktX4_number_5
def dkwX4_number_3 : List UInt8 := [180, 0, 21, 5, 46, 172, 42, 180, 0, 21, 7, 46, 172, 42, 180, 0, 21, 8, 46, 172, 42, 17, 1, 102]
abbrev dktX4_number_3 : List UInt8 := dkwX4_number_3 ++ dktX4_number_4
def dkwX4_number_2 : List UInt8 := [42, 180, 0, 21, 6, 46, 172, 42, 180, 0, 21, 3, 46, 172, 42, 180, 0, 21, 4, 46, 172, 42]
abbrev dktX4_number_2 : List UInt8 := dkwX4_number_2 ++ dktX4_number_3
def dkwX4_number_1 : List UInt8 := [170, 0, 0, 0, 0, 0, 0, 229, 0, 0, 0, 0, 0, 0, 0, 15, 0, 0, 0, 80, 0, 0, 0, 87, 0, 0, 0, 94, 0, 0, 0, 101, 0, 0, 0, 108, 0, 0, 0, 115, 0, 0, 0, 122, 0, 0, 0, 130, 0, 0, 0, 138, 0, 0, 0, 154, 0, 0, 0, 161, 0, 0, 0, 169, 0, 0, 0, 177, 0, 0, 0, 185, 0, 0, 0, 219, 0, 0, 0, 224]
abbrev dktX4_number_1 : List UInt8 := dkwX4_number_1 ++ dktX4_number_2
def dkwX4_number_0 : List UInt8 := [42, 3, 181, 0, 58, 3, 61, 27]
abbrev dktX4_number_0 : List UInt8 := dkwX4_number_0 ++ dktX4_number_1
theorem dksX4_number_0 : cX4_number.data.toList.drop 0 = dktX4_number_0 := by decide +kernel
theorem dksX4_number_1 : cX4_number.data.toList.drop 8 = dktX4_number_1 := dk_seg dksX4_number_0 8 rfl rfl
theorem dksX4_number_2 : cX4_number.data.toList.drop 88 = dktX4_number_2 := dk_seg dksX4_number_1 80 rfl rfl
theorem dksX4_number_3 : cX4_number.data.toList.drop 110 = dktX4_number_3 := dk_seg dksX4_number_2 22 rfl rfl
theorem dksX4_number_4 : cX4_number.data.toList.drop 134 = dktX4_number_4 := dk_seg dksX4_number_3 24 rfl rfl
theorem dksX4_number_5 : cX4_number.data.toList.drop 157 = dktX4_number_5 := dk_seg dksX4_number_4 23 rfl rfl
theorem dksX4_number_6 : cX4_number.data.toList.drop 181 = dktX4_number_6 := dk_seg dksX4_number_5 24 rfl rfl
theorem dksX4_number_7 : cX4_number.data.toList.drop 205 = dktX4_number_7 := dk_seg dksX4_number_6 24 rfl rfl
theorem dksX4_number_8 : cX4_number.data.toList.drop 228 = dktX4_number_8 := dk_seg dksX4_number_7 23 rfl rfl
theorem dX4_number_0 : decode cX4_number 0 = .ok (.aload_n 0, 1) := dk_42 (dk_at dksX4_number_0 0 rfl rfl)
theorem dX4_number_1 : decode cX4_number 1 = .ok (.iconst 0, 1) := dk_3 (dk_at dksX4_number_0 1 rfl rfl)
theorem dX4_number_2 : decode cX4_number 2 = .ok (.putfield 58, 3) := dk_181 0 58 (dk_at dksX4_number_0 2 rfl rfl)
theorem dX4_number_5 : decode cX4_number 5 = .ok (.iconst 0, 1) := dk_3 (dk_at dksX4_number_0 5 rfl rfl)
theorem dX4_number_6 : decode cX4_number 6 = .ok (.istore_n 2, 1) := dk_61 (dk_at dksX4_number_0 6 rfl rfl)
theorem dX4_number_7 : decode cX4_number 7 = .ok (.iload_n 1, 1) := dk_27 (dk_at dksX4_number_0 7 rfl rfl)
theorem dX4_number_8 : decode cX4_number 8 = .ok (.tableswitch 229 0 15 #[80, 87, 94, 101, 108, 115, 122, 130, 138, 154, 161, 169, 177, 185, 219, 224], 80) := by decide +kernel
theorem dX4_number_88 : decode cX4_number 88 = .ok (.aload_n 0, 1) := dk_42 (dk_at dksX4_number_2 0 rfl rfl)
theorem dX4_number_89 : decode cX4_number 89 = .ok (.getfield 21, 3) := dk_180 0 21 (dk_at dksX4_number_2 1 rfl rfl)
theorem dX4_number_92 : decode cX4_number 92 = .ok (.iconst 3, 1) := dk_6 (dk_at dksX4_number_2 4 rfl rfl)
theorem dX4_number_93 : decode cX4_number 93 = .ok (.iaload, 1) := dk_46 (dk_at dksX4_number_2 5 rfl rfl)
theorem dX4_number_94 : decode cX4_number 94 = .ok (.ireturn, 1) := dk_172 (dk_at dksX4_number_2 6 rfl rfl)
theorem dX4_number_95 : decode cX4_number 95 = .ok (.aload_n 0, 1) := dk_42 (dk_at dksX4_number_2 7 rfl rfl)
theorem dX4_number_96 : decode cX4_number 96 = .ok (.getfield 21, 3) := dk_180 0 21 (dk_at dksX4_number_2 8 rfl rfl)
theorem dX4_number_99 : decode cX4_number 99 = .ok (.iconst 0, 1) := dk_3 (dk_at dksX4_number_2 11 rfl rfl)
theorem dX4_number_100 : decode cX4_number 100 = .ok (.iaload, 1) := dk_46 (dk_at dksX4_number_2 12 rfl rfl)
theorem dX4_number_101 : decode cX4_number 101 = .ok (.ireturn, 1) := dk_172 (dk_at dksX4_number_2 13 rfl rfl)
theorem dX4_number_102 : decode cX4_number 102 = .ok (.aload_n 0, 1) := dk_42 (dk_at dksX4_number_2 14 rfl rfl)
theorem dX4_number_103 : decode cX4_number 103 = .ok (.getfield 21, 3) := dk_180 0 21 (dk_at dksX4_number_2 15 rfl rfl)
theorem dX4_number_106 : decode cX4_number 106 = .ok (.iconst 1, 1) := dk_4 (dk_at dksX4_number_2 18 rfl rfl)
theorem dX4_number_107 : decode cX4_number 107 = .ok (.iaload, 1) := dk_46 (dk_at dksX4_number_2 19 rfl rfl)
theorem dX4_number_108 : decode cX4_number 108 = .ok (.ireturn, 1) := dk_172 (dk_at dksX4_number_2 20 rfl rfl)
theorem dX4_number_109 : decode cX4_number 109 = .ok (.aload_n 0, 1) := dk_42 (dk_at dksX4_number_2 21 rfl rfl)
theorem dX4_number_110 : decode cX4_number 110 = .ok (.getfield 21, 3) := dk_180 0 21 (dk_at dksX4_number_3 0 rfl rfl)
theorem dX4_number_113 : decode cX4_number 113 = .ok (.iconst 2, 1) := dk_5 (dk_at dksX4_number_3 3 rfl rfl)
theorem dX4_number_114 : decode cX4_number 114 = .ok (.iaload, 1) := dk_46 (dk_at dksX4_number_3 4 rfl rfl)
theorem dX4_number_115 : decode cX4_number 115 = .ok (.ireturn, 1) := dk_172 (dk_at dksX4_number_3 5 rfl rfl)
theorem dX4_number_116 : decode cX4_number 116 = .ok (.aload_n 0, 1) := dk_42 (dk_at dksX4_number_3 6 rfl rfl)
theorem dX4_number_117 : decode cX4_number 117 = .ok (.getfield 21, 3) := dk_180 0 21 (dk_at dksX4_number_3 7 rfl rfl)
theorem dX4_number_120 : decode cX4_number 120 = .ok (.iconst 4, 1) := dk_7 (dk_at dksX4_number_3 10 rfl rfl)
theorem dX4_number_121 : decode cX4_number 121 = .ok (.iaload, 1) := dk_46 (dk_at dksX4_number_3 11 rfl rfl)
theorem dX4_number_122 : decode cX4_number 122 = .ok (.ireturn, 1) := dk_172 (dk_at dksX4_number_3 12 rfl rfl)
theorem dX4_number_123 : decode cX4_number 123 = .ok (.aload_n 0, 1) := dk_42 (dk_at dksX4_number_3 13 rfl rfl)
theorem dX4_number_124 : decode cX4_number 124 = .ok (.getfield 21, 3) := dk_180 0 21 (dk_at dksX4_number_3 14 rfl rfl)
theorem dX4_number_127 : decode cX4_number 127 = .ok (.iconst 5, 1) := dk_8 (dk_at dksX4_number_3 17 rfl rfl)
theorem dX4_number_128 : decode cX4_number 128 = .ok (.iaload, 1) := dk_46 (dk_at dksX4_number_3 18 rfl rfl)
theorem dX4_number_129 : decode cX4_number 129 = .ok (.ireturn, 1) := dk_172 (dk_at dksX4_number_3 19 rfl rfl)
theorem dX4_number_130 : decode cX4_number 130 = .ok (.aload_n 0, 1) := dk_42 (dk_at dksX4_number_3 20 rfl rfl)
theorem dX4_number_131 : decode cX4_number 131 = .ok (.sipush 358, 3) := dk_17 1 102 (dk_at dksX4_number_3 21 rfl rfl)
theorem dX4_number_134 : decode cX4_number 134 = .ok (.invokevirtual 139, 3) := dk_182 0 139 (dk_at dksX4_number_4 0 rfl rfl)
theorem dX4_number_137 : decode cX4_number 137 = .ok (.ireturn, 1) := dk_172 (dk_at dksX4_number_4 3 rfl rfl)
theorem dX4_number_138 : decode cX4_number 138 = .ok (.aload_n 0, 1) := dk_42 (dk_at dksX4_number_4 4 rfl rfl)
theorem dX4_number_139 : decode cX4_number 139 = .ok (.sipush 505, 3) := dk_17 1 249 (dk_at dksX4_number_4 5 rfl rfl)
theorem dX4_number_142 : decode cX4_number 142 = .ok (.invokevirtual 139, 3) := dk_182 0 139 (dk_at dksX4_number_4 8 rfl rfl)
theorem dX4_number_145 : decode cX4_number 145 = .ok (.ireturn, 1) := dk_172 (dk_at dksX4_number_4 11 rfl rfl)
theorem dX4_number_146 : decode cX4_number 146 = .ok (.aload_n 0, 1) := dk_42 (dk_at dksX4_number_4 12 rfl rfl)
theorem dX4_number_147 : decode cX4_number 147 = .ok (.sipush 358, 3) := dk_17 1 102 (dk_at dksX4_number_4 13 rfl rfl)
theorem dX4_number_150 : decode cX4_number 150 = .ok (.invokevirtual 220, 3) := dk_182 0 220 (dk_at dksX4_number_4 16 rfl rfl)
theorem dX4_number_153 : decode cX4_number 153 = .ok (.aload_n 0, 1) := dk_42 (dk_at dksX4_number_4 19 rfl rfl)
theorem dX4_number_154 : decode cX4_number 154 = .ok (.sipush 505, 3) := dk_17 1 249 (dk_at dksX4_number_4 20 rfl rfl)
theorem dX4_number_157 : decode cX4_number 157 = .ok (.invokevirtual 220, 3) := dk_182 0 220 (dk_at dksX4_number_5 0 rfl rfl)
theorem dX4_number_160 : decode cX4_number 160 = .ok (.iadd, 1) := dk_96 (dk_at dksX4_number_5 3 rfl rfl)
theorem dX4_number_161 : decode cX4_number 161 = .ok (.ireturn, 1) := dk_172 (dk_at dksX4_number_5 4 rfl rfl)
theorem dX4_number_162 : decode cX4_number 162 = .ok (.aload_n 0, 1) := dk_42 (dk_at dksX4_number_5 5 rfl rfl)
theorem dX4_number_163 : decode cX4_number 163 = .ok (.bipush 64, 2) := dk_16 64 (dk_at dksX4_number_5 6 rfl rfl)
theorem dX4_number_165 : decode cX4_number 165 = .ok (.invokevirtual 220, 3) := dk_182 0 220 (dk_at dksX4_number_5 8 rfl rfl)
theorem dX4_number_168 : decode cX4_number 168 = .ok (.ireturn, 1) := dk_172 (dk_at dksX4_number_5 11 rfl rfl)
theorem dX4_number_169 : decode cX4_number 169 = .ok (.aload_n 0, 1) := dk_42 (dk_at dksX4_number_5 12 rfl rfl)
theorem dX4_number_170 : decode cX4_number 170 = .ok (.getfield 21, 3) := dk_180 0 21 (dk_at dksX4_number_5 13 rfl rfl)
theorem dX4_number_173 : decode cX4_number 173 = .ok (.bipush 6, 2) := dk_16 6 (dk_at dksX4_number_5 16 rfl rfl)
theorem dX4_number_175 : decode cX4_number 175 = .ok (.iaload, 1) := dk_46 (dk_at dksX4_number_5 18 rfl rfl)
theorem dX4_number_176 : decode cX4_number 176 = .ok (.ireturn, 1) := dk_172 (dk_at dksX4_number_5 19 rfl rfl)
theorem dX4_number_177 : decode cX4_number 177 = .ok (.aload_n 0, 1) := dk_42 (dk_at dksX4_number_5 20 rfl rfl)
theorem dX4_number_178 : decode cX4_number 178 = .ok (.getfield 21, 3) := dk_180 0 21 (dk_at dksX4_number_5 21 rfl rfl)
theorem dX4_number_181 : decode cX4_number 181 = .ok (.bipush 7, 2) := dk_16 7 (dk_at dksX4_number_6 0 rfl rfl)
theorem dX4_number_183 : decode cX4_number 183 = .ok (.iaload, 1) := dk_46 (dk_at dksX4_number_6 2 rfl rfl)
theorem dX4_number_184 : decode cX4_number 184 = .ok (.ireturn, 1) := dk_172 (dk_at dksX4_number_6 3 rfl rfl)
theorem dX4_number_185 : decode cX4_number 185 = .ok (.aload_n 0, 1) := dk_42 (dk_at dksX4_number_6 4 rfl rfl)
theorem dX4_number_186 : decode cX4_number 186 = .ok (.getfield 21, 3) := dk_180 0 21 (dk_at dksX4_number_6 5 rfl rfl)
theorem dX4_number_189 : decode cX4_number 189 = .ok (.bipush 8, 2) := dk_16 8 (dk_at dksX4_number_6 8 rfl rfl)
theorem dX4_number_191 : decode cX4_number 191 = .ok (.iaload, 1) := dk_46 (dk_at dksX4_number_6 10 rfl rfl)
theorem dX4_number_192 : decode cX4_number 192 = .ok (.ireturn, 1) := dk_172 (dk_at dksX4_number_6 11 rfl rfl)
theorem dX4_number_193 : decode cX4_number 193 = .ok (.iconst 0, 1) := dk_3 (dk_at dksX4_number_6 12 rfl rfl)
theorem dX4_number_194 : decode cX4_number 194 = .ok (.istore_n 3, 1) := dk_62 (dk_at dksX4_number_6 13 rfl rfl)
theorem dX4_number_195 : decode cX4_number 195 = .ok (.iload_n 3, 1) := dk_29 (dk_at dksX4_number_6 14 rfl rfl)
theorem dX4_number_196 : decode cX4_number 196 = .ok (.aload_n 0, 1) := dk_42 (dk_at dksX4_number_6 15 rfl rfl)
theorem dX4_number_197 : decode cX4_number 197 = .ok (.getfield 21, 3) := dk_180 0 21 (dk_at dksX4_number_6 16 rfl rfl)
theorem dX4_number_200 : decode cX4_number 200 = .ok (.iconst 0, 1) := dk_3 (dk_at dksX4_number_6 19 rfl rfl)
theorem dX4_number_201 : decode cX4_number 201 = .ok (.iaload, 1) := dk_46 (dk_at dksX4_number_6 20 rfl rfl)
theorem dX4_number_202 : decode cX4_number 202 = .ok (.if_icmp .ge 23, 3) := dk_162 0 23 (dk_at dksX4_number_6 21 rfl rfl)
theorem dX4_number_205 : decode cX4_number 205 = .ok (.iload_n 2, 1) := dk_28 (dk_at dksX4_number_7 0 rfl rfl)
theorem dX4_number_206 : decode cX4_number 206 = .ok (.aload_n 0, 1) := dk_42 (dk_at dksX4_number_7 1 rfl rfl)
theorem dX4_number_207 : decode cX4_number 207 = .ok (.getfield 21, 3) := dk_180 0 21 (dk_at dksX4_number_7 2 rfl rfl)
theorem dX4_number_210 : decode cX4_number 210 = .ok (.bipush 13, 2) := dk_16 13 (dk_at dksX4_number_7 5 rfl rfl)
theorem dX4_number_212 : decode cX4_number 212 = .ok (.iconst 3, 1) := dk_6 (dk_at dksX4_number_7 7 rfl rfl)
theorem dX4_number_213 : decode cX4_number 213 = .ok (.iload_n 3, 1) := dk_29 (dk_at dksX4_number_7 8 rfl rfl)
theorem dX4_number_214 : decode cX4_number 214 = .ok (.imul, 1) := dk_104 (dk_at dksX4_number_7 9 rfl rfl)
theorem dX4_number_215 : decode cX4_number 215 = .ok (.iadd, 1) := dk_96 (dk_at dksX4_number_7 10 rfl rfl)
theorem dX4_number_216 : decode cX4_number 216 = .ok (.iaload, 1) := dk_46 (dk_at dksX4_number_7 11 rfl rfl)
theorem dX4_number_217 : decode cX4_number 217 = .ok (.iadd, 1) := dk_96 (dk_at dksX4_number_7 12 rfl rfl)
theorem dX4_number_218 : decode cX4_number 218 = .ok (.istore_n 2, 1) := dk_61 (dk_at dksX4_number_7 13 rfl rfl)
theorem dX4_number_219 : decode cX4_number 219 = .ok (.iinc 3 1, 3) := dk_132 3 1 (dk_at dksX4_number_7 14 rfl rfl)
theorem dX4_number_222 : decode cX4_number 222 = .ok (.goto (-27), 3) := dk_167 255 229 (dk_at dksX4_number_7 17 rfl rfl)
theorem dX4_number_225 : decode cX4_number 225 = .ok (.iload_n 2, 1) := dk_28 (dk_at dksX4_number_7 20 rfl rfl)
theorem dX4_number_226 : decode cX4_number 226 = .ok (.ireturn, 1) := dk_172 (dk_at dksX4_number_7 21 rfl rfl)
theorem dX4_number_227 : decode cX4_number 227 = .ok (.aload_n 0, 1) := dk_42 (dk_at dksX4_number_7 22 rfl rfl)
theorem dX4_number_228 : decode cX4_number 228 = .ok (.getfield 61, 3) := dk_180 0 61 (dk_at dksX4_number_8 0 rfl rfl)
theorem dX4_number_231 : decode cX4_number 231 = .ok (.ireturn, 1) := dk_172 (dk_at dksX4_number_8 3 rfl rfl)
theorem dX4_number_232 : decode cX4_number 232 = .ok (.aload_n 0, 1) := dk_42 (dk_at dksX4_number_8 4 rfl rfl)
theorem dX4_number_233 : decode cX4_number 233 = .ok (.getfield 223, 3) := dk_180 0 223 (dk_at dksX4_number_8 5 rfl rfl)
theorem dX4_number_236 : decode cX4_number 236 = .ok (.ireturn, 1) := dk_172 (dk_at dksX4_number_8 8 rfl rfl)
theorem dX4_number_237 : decode cX4_number 237 = .ok (.aload_n 0, 1) := dk_42 (dk_at dksX4_number_8 9 rfl rfl)
theorem dX4_number_238 : decode cX4_number 238 = .ok (.iconst 1, 1) := dk_4 (dk_at dksX4_number_8 10 rfl rfl)
theorem dX4_number_239 : decode cX4_number 239 = .ok (.invokevirtual 77, 3) := dk_182 0 77 (dk_at dksX4_number_8 11 rfl rfl)
theorem dX4_number_242 : decode cX4_number 242 = .ok (.ireturn, 1) := dk_172 (dk_at dksX4_number_8 14 rfl rfl)
abbrev cX4_all : ByteArray := prog_29_method_62_code
def yX4_all : MethodName := ⟨RX4, "all", "(I)I"⟩
def dkwX4_all_1 : List UInt8 := [132, 3, 1, 167, 255, 235, 28, 172]
abbrev dktX4_all_1 : List UInt8 := dkwX4_all_1 ++ []
def dkwX4_all_0 : List UInt8 := [3, 61, 3, 62, 29, 17, 0, 147, 162, 0, 20, 28, 42, 180, 0, 21, 27, 29, 96, 46, 96, 61]
abbrev dktX4_all_0 : List UInt8 := dkwX4_all_0 ++ dktX4_all_1
theorem dksX4_all_0 : cX4_all.data.toList.drop 0 = dktX4_all_0 := by decide +kernel
theorem dksX4_all_1 : cX4_all.data.toList.drop 22 = dktX4_all_1 := dk_seg dksX4_all_0 22 rfl rfl
theorem dX4_all_0 : decode cX4_all 0 = .ok (.iconst 0, 1) := dk_3 (dk_at dksX4_all_0 0 rfl rfl)
theorem dX4_all_1 : decode cX4_all 1 = .ok (.istore_n 2, 1) := dk_61 (dk_at dksX4_all_0 1 rfl rfl)
theorem dX4_all_2 : decode cX4_all 2 = .ok (.iconst 0, 1) := dk_3 (dk_at dksX4_all_0 2 rfl rfl)
theorem dX4_all_3 : decode cX4_all 3 = .ok (.istore_n 3, 1) := dk_62 (dk_at dksX4_all_0 3 rfl rfl)
theorem dX4_all_4 : decode cX4_all 4 = .ok (.iload_n 3, 1) := dk_29 (dk_at dksX4_all_0 4 rfl rfl)
theorem dX4_all_5 : decode cX4_all 5 = .ok (.sipush 147, 3) := dk_17 0 147 (dk_at dksX4_all_0 5 rfl rfl)
theorem dX4_all_8 : decode cX4_all 8 = .ok (.if_icmp .ge 20, 3) := dk_162 0 20 (dk_at dksX4_all_0 8 rfl rfl)
theorem dX4_all_11 : decode cX4_all 11 = .ok (.iload_n 2, 1) := dk_28 (dk_at dksX4_all_0 11 rfl rfl)
theorem dX4_all_12 : decode cX4_all 12 = .ok (.aload_n 0, 1) := dk_42 (dk_at dksX4_all_0 12 rfl rfl)
theorem dX4_all_13 : decode cX4_all 13 = .ok (.getfield 21, 3) := dk_180 0 21 (dk_at dksX4_all_0 13 rfl rfl)
theorem dX4_all_16 : decode cX4_all 16 = .ok (.iload_n 1, 1) := dk_27 (dk_at dksX4_all_0 16 rfl rfl)
theorem dX4_all_17 : decode cX4_all 17 = .ok (.iload_n 3, 1) := dk_29 (dk_at dksX4_all_0 17 rfl rfl)
theorem dX4_all_18 : decode cX4_all 18 = .ok (.iadd, 1) := dk_96 (dk_at dksX4_all_0 18 rfl rfl)
theorem dX4_all_19 : decode cX4_all 19 = .ok (.iaload, 1) := dk_46 (dk_at dksX4_all_0 19 rfl rfl)
theorem dX4_all_20 : decode cX4_all 20 = .ok (.iadd, 1) := dk_96 (dk_at dksX4_all_0 20 rfl rfl)
theorem dX4_all_21 : decode cX4_all 21 = .ok (.istore_n 2, 1) := dk_61 (dk_at dksX4_all_0 21 rfl rfl)
theorem dX4_all_22 : decode cX4_all 22 = .ok (.iinc 3 1, 3) := dk_132 3 1 (dk_at dksX4_all_1 0 rfl rfl)
theorem dX4_all_25 : decode cX4_all 25 = .ok (.goto (-21), 3) := dk_167 255 235 (dk_at dksX4_all_1 3 rfl rfl)
theorem dX4_all_28 : decode cX4_all 28 = .ok (.iload_n 2, 1) := dk_28 (dk_at dksX4_all_1 6 rfl rfl)
theorem dX4_all_29 : decode cX4_all 29 = .ok (.ireturn, 1) := dk_172 (dk_at dksX4_all_1 7 rfl rfl)
abbrev cX4_meanFare : ByteArray := prog_29_method_64_code
def yX4_meanFare : MethodName := ⟨RX4, "meanFare", "()D"⟩
def dkwX4_meanFare_1 : List UInt8 := [42, 180, 0, 21, 16, 7, 46, 135, 42, 180, 0, 21, 16, 6, 46, 135, 111, 175]
abbrev dktX4_meanFare_1 : List UInt8 := dkwX4_meanFare_1 ++ []
def dkwX4_meanFare_0 : List UInt8 := [42, 3, 181, 0, 58, 42, 180, 0, 21, 16, 6, 46, 154, 0, 12, 42, 4, 182, 0, 77, 135, 167, 0, 20]
abbrev dktX4_meanFare_0 : List UInt8 := dkwX4_meanFare_0 ++ dktX4_meanFare_1
theorem dksX4_meanFare_0 : cX4_meanFare.data.toList.drop 0 = dktX4_meanFare_0 := by decide +kernel
theorem dksX4_meanFare_1 : cX4_meanFare.data.toList.drop 24 = dktX4_meanFare_1 := dk_seg dksX4_meanFare_0 24 rfl rfl
theorem dX4_meanFare_0 : decode cX4_meanFare 0 = .ok (.aload_n 0, 1) := dk_42 (dk_at dksX4_meanFare_0 0 rfl rfl)
theorem dX4_meanFare_1 : decode cX4_meanFare 1 = .ok (.iconst 0, 1) := dk_3 (dk_at dksX4_meanFare_0 1 rfl rfl)
theorem dX4_meanFare_2 : decode cX4_meanFare 2 = .ok (.putfield 58, 3) := dk_181 0 58 (dk_at dksX4_meanFare_0 2 rfl rfl)
theorem dX4_meanFare_5 : decode cX4_meanFare 5 = .ok (.aload_n 0, 1) := dk_42 (dk_at dksX4_meanFare_0 5 rfl rfl)
theorem dX4_meanFare_6 : decode cX4_meanFare 6 = .ok (.getfield 21, 3) := dk_180 0 21 (dk_at dksX4_meanFare_0 6 rfl rfl)
theorem dX4_meanFare_9 : decode cX4_meanFare 9 = .ok (.bipush 6, 2) := dk_16 6 (dk_at dksX4_meanFare_0 9 rfl rfl)
theorem dX4_meanFare_11 : decode cX4_meanFare 11 = .ok (.iaload, 1) := dk_46 (dk_at dksX4_meanFare_0 11 rfl rfl)
theorem dX4_meanFare_12 : decode cX4_meanFare 12 = .ok (.ifCond .ne 12, 3) := dk_154 0 12 (dk_at dksX4_meanFare_0 12 rfl rfl)
theorem dX4_meanFare_15 : decode cX4_meanFare 15 = .ok (.aload_n 0, 1) := dk_42 (dk_at dksX4_meanFare_0 15 rfl rfl)
theorem dX4_meanFare_16 : decode cX4_meanFare 16 = .ok (.iconst 1, 1) := dk_4 (dk_at dksX4_meanFare_0 16 rfl rfl)
theorem dX4_meanFare_17 : decode cX4_meanFare 17 = .ok (.invokevirtual 77, 3) := dk_182 0 77 (dk_at dksX4_meanFare_0 17 rfl rfl)
theorem dX4_meanFare_20 : decode cX4_meanFare 20 = .ok (.i2d, 1) := dk_135 (dk_at dksX4_meanFare_0 20 rfl rfl)
theorem dX4_meanFare_21 : decode cX4_meanFare 21 = .ok (.goto 20, 3) := dk_167 0 20 (dk_at dksX4_meanFare_0 21 rfl rfl)
theorem dX4_meanFare_24 : decode cX4_meanFare 24 = .ok (.aload_n 0, 1) := dk_42 (dk_at dksX4_meanFare_1 0 rfl rfl)
theorem dX4_meanFare_25 : decode cX4_meanFare 25 = .ok (.getfield 21, 3) := dk_180 0 21 (dk_at dksX4_meanFare_1 1 rfl rfl)
theorem dX4_meanFare_28 : decode cX4_meanFare 28 = .ok (.bipush 7, 2) := dk_16 7 (dk_at dksX4_meanFare_1 4 rfl rfl)
theorem dX4_meanFare_30 : decode cX4_meanFare 30 = .ok (.iaload, 1) := dk_46 (dk_at dksX4_meanFare_1 6 rfl rfl)
theorem dX4_meanFare_31 : decode cX4_meanFare 31 = .ok (.i2d, 1) := dk_135 (dk_at dksX4_meanFare_1 7 rfl rfl)
theorem dX4_meanFare_32 : decode cX4_meanFare 32 = .ok (.aload_n 0, 1) := dk_42 (dk_at dksX4_meanFare_1 8 rfl rfl)
theorem dX4_meanFare_33 : decode cX4_meanFare 33 = .ok (.getfield 21, 3) := dk_180 0 21 (dk_at dksX4_meanFare_1 9 rfl rfl)
theorem dX4_meanFare_36 : decode cX4_meanFare 36 = .ok (.bipush 6, 2) := dk_16 6 (dk_at dksX4_meanFare_1 12 rfl rfl)
theorem dX4_meanFare_38 : decode cX4_meanFare 38 = .ok (.iaload, 1) := dk_46 (dk_at dksX4_meanFare_1 14 rfl rfl)
theorem dX4_meanFare_39 : decode cX4_meanFare 39 = .ok (.i2d, 1) := dk_135 (dk_at dksX4_meanFare_1 15 rfl rfl)
theorem dX4_meanFare_40 : decode cX4_meanFare 40 = .ok (.ddiv, 1) := dk_111 (dk_at dksX4_meanFare_1 16 rfl rfl)
theorem dX4_meanFare_41 : decode cX4_meanFare 41 = .ok (.dreturn, 1) := dk_175 (dk_at dksX4_meanFare_1 17 rfl rfl)
abbrev cX4_fore : ByteArray := prog_29_method_65_code
def yX4_fore : MethodName := ⟨RX4, "fore", "()F"⟩
def dkwX4_fore_1 : List UInt8 := [17, 1, 102, 182, 0, 139, 134, 42, 182, 0, 142, 134, 110, 174]
abbrev dktX4_fore_1 : List UInt8 := dkwX4_fore_1 ++ []
def dkwX4_fore_0 : List UInt8 := [42, 3, 181, 0, 58, 42, 182, 0, 142, 154, 0, 12, 42, 4, 182, 0, 77, 134, 167, 0, 17, 42]
abbrev dktX4_fore_0 : List UInt8 := dkwX4_fore_0 ++ dktX4_fore_1
theorem dksX4_fore_0 : cX4_fore.data.toList.drop 0 = dktX4_fore_0 := by decide +kernel
theorem dksX4_fore_1 : cX4_fore.data.toList.drop 22 = dktX4_fore_1 := dk_seg dksX4_fore_0 22 rfl rfl
theorem dX4_fore_0 : decode cX4_fore 0 = .ok (.aload_n 0, 1) := dk_42 (dk_at dksX4_fore_0 0 rfl rfl)
theorem dX4_fore_1 : decode cX4_fore 1 = .ok (.iconst 0, 1) := dk_3 (dk_at dksX4_fore_0 1 rfl rfl)
theorem dX4_fore_2 : decode cX4_fore 2 = .ok (.putfield 58, 3) := dk_181 0 58 (dk_at dksX4_fore_0 2 rfl rfl)
theorem dX4_fore_5 : decode cX4_fore 5 = .ok (.aload_n 0, 1) := dk_42 (dk_at dksX4_fore_0 5 rfl rfl)
theorem dX4_fore_6 : decode cX4_fore 6 = .ok (.invokevirtual 142, 3) := dk_182 0 142 (dk_at dksX4_fore_0 6 rfl rfl)
theorem dX4_fore_9 : decode cX4_fore 9 = .ok (.ifCond .ne 12, 3) := dk_154 0 12 (dk_at dksX4_fore_0 9 rfl rfl)
theorem dX4_fore_12 : decode cX4_fore 12 = .ok (.aload_n 0, 1) := dk_42 (dk_at dksX4_fore_0 12 rfl rfl)
theorem dX4_fore_13 : decode cX4_fore 13 = .ok (.iconst 1, 1) := dk_4 (dk_at dksX4_fore_0 13 rfl rfl)
theorem dX4_fore_14 : decode cX4_fore 14 = .ok (.invokevirtual 77, 3) := dk_182 0 77 (dk_at dksX4_fore_0 14 rfl rfl)
theorem dX4_fore_17 : decode cX4_fore 17 = .ok (.i2f, 1) := dk_134 (dk_at dksX4_fore_0 17 rfl rfl)
theorem dX4_fore_18 : decode cX4_fore 18 = .ok (.goto 17, 3) := dk_167 0 17 (dk_at dksX4_fore_0 18 rfl rfl)
theorem dX4_fore_21 : decode cX4_fore 21 = .ok (.aload_n 0, 1) := dk_42 (dk_at dksX4_fore_0 21 rfl rfl)
theorem dX4_fore_22 : decode cX4_fore 22 = .ok (.sipush 358, 3) := dk_17 1 102 (dk_at dksX4_fore_1 0 rfl rfl)
theorem dX4_fore_25 : decode cX4_fore 25 = .ok (.invokevirtual 139, 3) := dk_182 0 139 (dk_at dksX4_fore_1 3 rfl rfl)
theorem dX4_fore_28 : decode cX4_fore 28 = .ok (.i2f, 1) := dk_134 (dk_at dksX4_fore_1 6 rfl rfl)
theorem dX4_fore_29 : decode cX4_fore 29 = .ok (.aload_n 0, 1) := dk_42 (dk_at dksX4_fore_1 7 rfl rfl)
theorem dX4_fore_30 : decode cX4_fore 30 = .ok (.invokevirtual 142, 3) := dk_182 0 142 (dk_at dksX4_fore_1 8 rfl rfl)
theorem dX4_fore_33 : decode cX4_fore 33 = .ok (.i2f, 1) := dk_134 (dk_at dksX4_fore_1 11 rfl rfl)
theorem dX4_fore_34 : decode cX4_fore 34 = .ok (.fdiv, 1) := dk_110 (dk_at dksX4_fore_1 12 rfl rfl)
theorem dX4_fore_35 : decode cX4_fore 35 = .ok (.freturn, 1) := dk_174 (dk_at dksX4_fore_1 13 rfl rfl)
abbrev cX4_feed : ByteArray := prog_29_method_66_code
def yX4_feed : MethodName := ⟨RX4, "feed", "(C)I"⟩
def dkwX4_feed_1 : List UInt8 := [42, 89, 180, 0, 223, 90, 4, 96, 181, 0, 223, 27, 85, 42, 180, 0, 223, 172]
abbrev dktX4_feed_1 : List UInt8 := dkwX4_feed_1 ++ []
def dkwX4_feed_0 : List UInt8 := [42, 3, 181, 0, 58, 42, 180, 0, 223, 16, 60, 160, 0, 9, 42, 4, 182, 0, 77, 172, 42, 180, 0, 48]
abbrev dktX4_feed_0 : List UInt8 := dkwX4_feed_0 ++ dktX4_feed_1
theorem dksX4_feed_0 : cX4_feed.data.toList.drop 0 = dktX4_feed_0 := by decide +kernel
theorem dksX4_feed_1 : cX4_feed.data.toList.drop 24 = dktX4_feed_1 := dk_seg dksX4_feed_0 24 rfl rfl
theorem dX4_feed_0 : decode cX4_feed 0 = .ok (.aload_n 0, 1) := dk_42 (dk_at dksX4_feed_0 0 rfl rfl)
theorem dX4_feed_1 : decode cX4_feed 1 = .ok (.iconst 0, 1) := dk_3 (dk_at dksX4_feed_0 1 rfl rfl)
theorem dX4_feed_2 : decode cX4_feed 2 = .ok (.putfield 58, 3) := dk_181 0 58 (dk_at dksX4_feed_0 2 rfl rfl)
theorem dX4_feed_5 : decode cX4_feed 5 = .ok (.aload_n 0, 1) := dk_42 (dk_at dksX4_feed_0 5 rfl rfl)
theorem dX4_feed_6 : decode cX4_feed 6 = .ok (.getfield 223, 3) := dk_180 0 223 (dk_at dksX4_feed_0 6 rfl rfl)
theorem dX4_feed_9 : decode cX4_feed 9 = .ok (.bipush 60, 2) := dk_16 60 (dk_at dksX4_feed_0 9 rfl rfl)
theorem dX4_feed_11 : decode cX4_feed 11 = .ok (.if_icmp .ne 9, 3) := dk_160 0 9 (dk_at dksX4_feed_0 11 rfl rfl)
theorem dX4_feed_14 : decode cX4_feed 14 = .ok (.aload_n 0, 1) := dk_42 (dk_at dksX4_feed_0 14 rfl rfl)
theorem dX4_feed_15 : decode cX4_feed 15 = .ok (.iconst 1, 1) := dk_4 (dk_at dksX4_feed_0 15 rfl rfl)
theorem dX4_feed_16 : decode cX4_feed 16 = .ok (.invokevirtual 77, 3) := dk_182 0 77 (dk_at dksX4_feed_0 16 rfl rfl)
theorem dX4_feed_19 : decode cX4_feed 19 = .ok (.ireturn, 1) := dk_172 (dk_at dksX4_feed_0 19 rfl rfl)
theorem dX4_feed_20 : decode cX4_feed 20 = .ok (.aload_n 0, 1) := dk_42 (dk_at dksX4_feed_0 20 rfl rfl)
theorem dX4_feed_21 : decode cX4_feed 21 = .ok (.getfield 48, 3) := dk_180 0 48 (dk_at dksX4_feed_0 21 rfl rfl)
theorem dX4_feed_24 : decode cX4_feed 24 = .ok (.aload_n 0, 1) := dk_42 (dk_at dksX4_feed_1 0 rfl rfl)
theorem dX4_feed_25 : decode cX4_feed 25 = .ok (.dup, 1) := dk_89 (dk_at dksX4_feed_1 1 rfl rfl)
theorem dX4_feed_26 : decode cX4_feed 26 = .ok (.getfield 223, 3) := dk_180 0 223 (dk_at dksX4_feed_1 2 rfl rfl)
theorem dX4_feed_29 : decode cX4_feed 29 = .ok (.dup_x1, 1) := dk_90 (dk_at dksX4_feed_1 5 rfl rfl)
theorem dX4_feed_30 : decode cX4_feed 30 = .ok (.iconst 1, 1) := dk_4 (dk_at dksX4_feed_1 6 rfl rfl)
theorem dX4_feed_31 : decode cX4_feed 31 = .ok (.iadd, 1) := dk_96 (dk_at dksX4_feed_1 7 rfl rfl)
theorem dX4_feed_32 : decode cX4_feed 32 = .ok (.putfield 223, 3) := dk_181 0 223 (dk_at dksX4_feed_1 8 rfl rfl)
theorem dX4_feed_35 : decode cX4_feed 35 = .ok (.iload_n 1, 1) := dk_27 (dk_at dksX4_feed_1 11 rfl rfl)
theorem dX4_feed_36 : decode cX4_feed 36 = .ok (.castore, 1) := dk_85 (dk_at dksX4_feed_1 12 rfl rfl)
theorem dX4_feed_37 : decode cX4_feed 37 = .ok (.aload_n 0, 1) := dk_42 (dk_at dksX4_feed_1 13 rfl rfl)
theorem dX4_feed_38 : decode cX4_feed 38 = .ok (.getfield 223, 3) := dk_180 0 223 (dk_at dksX4_feed_1 14 rfl rfl)
theorem dX4_feed_41 : decode cX4_feed 41 = .ok (.ireturn, 1) := dk_172 (dk_at dksX4_feed_1 17 rfl rfl)
abbrev cX4_read : ByteArray := prog_29_method_72_code
def yX4_read : MethodName := ⟨RX4, "read", "()I"⟩
def dkwX4_read_7 : List UInt8 := [28, 182, 0, 87, 62, 42, 5, 182, 0, 77, 172]
abbrev dktX4_read_7 : List UInt8 := dkwX4_read_7 ++ []
def dkwX4_read_6 : List UInt8 := [181, 0, 223, 29, 154, 0, 9, 42, 28, 182, 0, 73, 172, 42, 182, 1, 12, 29, 156, 0, 11, 42, 16, 20]
abbrev dktX4_read_6 : List UInt8 := dkwX4_read_6 ++ dktX4_read_7
def dkwX4_read_5 : List UInt8 := [42, 19, 1, 7, 182, 0, 228, 153, 0, 7, 4, 167, 0, 4, 3, 54, 4, 167, 255, 213, 42, 3]
abbrev dktX4_read_5 : List UInt8 := dkwX4_read_5 ++ dktX4_read_6
def dkwX4_read_4 : List UInt8 := [153, 0, 44, 42, 182, 1, 3, 60, 42, 182, 1, 9, 62, 29, 154, 0, 6, 132, 2, 1, 29, 154, 0, 17]
abbrev dktX4_read_4 : List UInt8 := dkwX4_read_4 ++ dktX4_read_5
def dkwX4_read_3 : List UInt8 := [181, 0, 54, 42, 4, 182, 0, 77, 172, 42, 3, 181, 0, 225, 3, 61, 3, 62, 4, 54, 4, 21, 4]
abbrev dktX4_read_3 : List UInt8 := dkwX4_read_3 ++ dktX4_read_4
def dkwX4_read_2 : List UInt8 := [167, 0, 4, 3, 60, 167, 255, 218, 27, 154, 0, 22, 42, 3, 181, 0, 223, 42, 42, 180, 0, 225]
abbrev dktX4_read_2 : List UInt8 := dkwX4_read_2 ++ dktX4_read_3
def dkwX4_read_1 : List UInt8 := [180, 0, 223, 162, 0, 29, 42, 19, 1, 7, 182, 0, 228, 153, 0, 14, 42, 182, 1, 3, 153, 0, 7, 4]
abbrev dktX4_read_1 : List UInt8 := dkwX4_read_1 ++ dktX4_read_2
def dkwX4_read_0 : List UInt8 := [42, 182, 0, 84, 42, 3, 181, 0, 225, 42, 182, 1, 3, 60, 27, 153, 0, 40, 42, 180, 0, 225, 42]
abbrev dktX4_read_0 : List UInt8 := dkwX4_read_0 ++ dktX4_read_1
theorem dksX4_read_0 : cX4_read.data.toList.drop 0 = dktX4_read_0 := by decide +kernel
theorem dksX4_read_1 : cX4_read.data.toList.drop 23 = dktX4_read_1 := dk_seg dksX4_read_0 23 rfl rfl
theorem dksX4_read_2 : cX4_read.data.toList.drop 47 = dktX4_read_2 := dk_seg dksX4_read_1 24 rfl rfl
theorem dksX4_read_3 : cX4_read.data.toList.drop 69 = dktX4_read_3 := dk_seg dksX4_read_2 22 rfl rfl
theorem dksX4_read_4 : cX4_read.data.toList.drop 92 = dktX4_read_4 := dk_seg dksX4_read_3 23 rfl rfl
theorem dksX4_read_5 : cX4_read.data.toList.drop 116 = dktX4_read_5 := dk_seg dksX4_read_4 24 rfl rfl
theorem dksX4_read_6 : cX4_read.data.toList.drop 138 = dktX4_read_6 := dk_seg dksX4_read_5 22 rfl rfl
theorem dksX4_read_7 : cX4_read.data.toList.drop 162 = dktX4_read_7 := dk_seg dksX4_read_6 24 rfl rfl
theorem dX4_read_0 : decode cX4_read 0 = .ok (.aload_n 0, 1) := dk_42 (dk_at dksX4_read_0 0 rfl rfl)
theorem dX4_read_1 : decode cX4_read 1 = .ok (.invokevirtual 84, 3) := dk_182 0 84 (dk_at dksX4_read_0 1 rfl rfl)
theorem dX4_read_4 : decode cX4_read 4 = .ok (.aload_n 0, 1) := dk_42 (dk_at dksX4_read_0 4 rfl rfl)
theorem dX4_read_5 : decode cX4_read 5 = .ok (.iconst 0, 1) := dk_3 (dk_at dksX4_read_0 5 rfl rfl)
theorem dX4_read_6 : decode cX4_read 6 = .ok (.putfield 225, 3) := dk_181 0 225 (dk_at dksX4_read_0 6 rfl rfl)
theorem dX4_read_9 : decode cX4_read 9 = .ok (.aload_n 0, 1) := dk_42 (dk_at dksX4_read_0 9 rfl rfl)
theorem dX4_read_10 : decode cX4_read 10 = .ok (.invokevirtual 259, 3) := dk_182 1 3 (dk_at dksX4_read_0 10 rfl rfl)
theorem dX4_read_13 : decode cX4_read 13 = .ok (.istore_n 1, 1) := dk_60 (dk_at dksX4_read_0 13 rfl rfl)
theorem dX4_read_14 : decode cX4_read 14 = .ok (.iload_n 1, 1) := dk_27 (dk_at dksX4_read_0 14 rfl rfl)
theorem dX4_read_15 : decode cX4_read 15 = .ok (.ifCond .eq 40, 3) := dk_153 0 40 (dk_at dksX4_read_0 15 rfl rfl)
theorem dX4_read_18 : decode cX4_read 18 = .ok (.aload_n 0, 1) := dk_42 (dk_at dksX4_read_0 18 rfl rfl)
theorem dX4_read_19 : decode cX4_read 19 = .ok (.getfield 225, 3) := dk_180 0 225 (dk_at dksX4_read_0 19 rfl rfl)
theorem dX4_read_22 : decode cX4_read 22 = .ok (.aload_n 0, 1) := dk_42 (dk_at dksX4_read_0 22 rfl rfl)
theorem dX4_read_23 : decode cX4_read 23 = .ok (.getfield 223, 3) := dk_180 0 223 (dk_at dksX4_read_1 0 rfl rfl)
theorem dX4_read_26 : decode cX4_read 26 = .ok (.if_icmp .ge 29, 3) := dk_162 0 29 (dk_at dksX4_read_1 3 rfl rfl)
theorem dX4_read_29 : decode cX4_read 29 = .ok (.aload_n 0, 1) := dk_42 (dk_at dksX4_read_1 6 rfl rfl)
theorem dX4_read_30 : decode cX4_read 30 = .ok (.ldc_w 263, 3) := dk_19 1 7 (dk_at dksX4_read_1 7 rfl rfl)
theorem dX4_read_33 : decode cX4_read 33 = .ok (.invokevirtual 228, 3) := dk_182 0 228 (dk_at dksX4_read_1 10 rfl rfl)
theorem dX4_read_36 : decode cX4_read 36 = .ok (.ifCond .eq 14, 3) := dk_153 0 14 (dk_at dksX4_read_1 13 rfl rfl)
theorem dX4_read_39 : decode cX4_read 39 = .ok (.aload_n 0, 1) := dk_42 (dk_at dksX4_read_1 16 rfl rfl)
theorem dX4_read_40 : decode cX4_read 40 = .ok (.invokevirtual 259, 3) := dk_182 1 3 (dk_at dksX4_read_1 17 rfl rfl)
theorem dX4_read_43 : decode cX4_read 43 = .ok (.ifCond .eq 7, 3) := dk_153 0 7 (dk_at dksX4_read_1 20 rfl rfl)
theorem dX4_read_46 : decode cX4_read 46 = .ok (.iconst 1, 1) := dk_4 (dk_at dksX4_read_1 23 rfl rfl)
theorem dX4_read_47 : decode cX4_read 47 = .ok (.goto 4, 3) := dk_167 0 4 (dk_at dksX4_read_2 0 rfl rfl)
theorem dX4_read_50 : decode cX4_read 50 = .ok (.iconst 0, 1) := dk_3 (dk_at dksX4_read_2 3 rfl rfl)
theorem dX4_read_51 : decode cX4_read 51 = .ok (.istore_n 1, 1) := dk_60 (dk_at dksX4_read_2 4 rfl rfl)
theorem dX4_read_52 : decode cX4_read 52 = .ok (.goto (-38), 3) := dk_167 255 218 (dk_at dksX4_read_2 5 rfl rfl)
theorem dX4_read_55 : decode cX4_read 55 = .ok (.iload_n 1, 1) := dk_27 (dk_at dksX4_read_2 8 rfl rfl)
theorem dX4_read_56 : decode cX4_read 56 = .ok (.ifCond .ne 22, 3) := dk_154 0 22 (dk_at dksX4_read_2 9 rfl rfl)
theorem dX4_read_59 : decode cX4_read 59 = .ok (.aload_n 0, 1) := dk_42 (dk_at dksX4_read_2 12 rfl rfl)
theorem dX4_read_60 : decode cX4_read 60 = .ok (.iconst 0, 1) := dk_3 (dk_at dksX4_read_2 13 rfl rfl)
theorem dX4_read_61 : decode cX4_read 61 = .ok (.putfield 223, 3) := dk_181 0 223 (dk_at dksX4_read_2 14 rfl rfl)
theorem dX4_read_64 : decode cX4_read 64 = .ok (.aload_n 0, 1) := dk_42 (dk_at dksX4_read_2 17 rfl rfl)
theorem dX4_read_65 : decode cX4_read 65 = .ok (.aload_n 0, 1) := dk_42 (dk_at dksX4_read_2 18 rfl rfl)
theorem dX4_read_66 : decode cX4_read 66 = .ok (.getfield 225, 3) := dk_180 0 225 (dk_at dksX4_read_2 19 rfl rfl)
theorem dX4_read_69 : decode cX4_read 69 = .ok (.putfield 54, 3) := dk_181 0 54 (dk_at dksX4_read_3 0 rfl rfl)
theorem dX4_read_72 : decode cX4_read 72 = .ok (.aload_n 0, 1) := dk_42 (dk_at dksX4_read_3 3 rfl rfl)
theorem dX4_read_73 : decode cX4_read 73 = .ok (.iconst 1, 1) := dk_4 (dk_at dksX4_read_3 4 rfl rfl)
theorem dX4_read_74 : decode cX4_read 74 = .ok (.invokevirtual 77, 3) := dk_182 0 77 (dk_at dksX4_read_3 5 rfl rfl)
theorem dX4_read_77 : decode cX4_read 77 = .ok (.ireturn, 1) := dk_172 (dk_at dksX4_read_3 8 rfl rfl)
theorem dX4_read_78 : decode cX4_read 78 = .ok (.aload_n 0, 1) := dk_42 (dk_at dksX4_read_3 9 rfl rfl)
theorem dX4_read_79 : decode cX4_read 79 = .ok (.iconst 0, 1) := dk_3 (dk_at dksX4_read_3 10 rfl rfl)
theorem dX4_read_80 : decode cX4_read 80 = .ok (.putfield 225, 3) := dk_181 0 225 (dk_at dksX4_read_3 11 rfl rfl)
theorem dX4_read_83 : decode cX4_read 83 = .ok (.iconst 0, 1) := dk_3 (dk_at dksX4_read_3 14 rfl rfl)
theorem dX4_read_84 : decode cX4_read 84 = .ok (.istore_n 2, 1) := dk_61 (dk_at dksX4_read_3 15 rfl rfl)
theorem dX4_read_85 : decode cX4_read 85 = .ok (.iconst 0, 1) := dk_3 (dk_at dksX4_read_3 16 rfl rfl)
theorem dX4_read_86 : decode cX4_read 86 = .ok (.istore_n 3, 1) := dk_62 (dk_at dksX4_read_3 17 rfl rfl)
theorem dX4_read_87 : decode cX4_read 87 = .ok (.iconst 1, 1) := dk_4 (dk_at dksX4_read_3 18 rfl rfl)
theorem dX4_read_88 : decode cX4_read 88 = .ok (.istore 4, 2) := dk_54 4 (dk_at dksX4_read_3 19 rfl rfl)
theorem dX4_read_90 : decode cX4_read 90 = .ok (.iload 4, 2) := dk_21 4 (dk_at dksX4_read_3 21 rfl rfl)
theorem dX4_read_92 : decode cX4_read 92 = .ok (.ifCond .eq 44, 3) := dk_153 0 44 (dk_at dksX4_read_4 0 rfl rfl)
theorem dX4_read_95 : decode cX4_read 95 = .ok (.aload_n 0, 1) := dk_42 (dk_at dksX4_read_4 3 rfl rfl)
theorem dX4_read_96 : decode cX4_read 96 = .ok (.invokevirtual 259, 3) := dk_182 1 3 (dk_at dksX4_read_4 4 rfl rfl)
theorem dX4_read_99 : decode cX4_read 99 = .ok (.istore_n 1, 1) := dk_60 (dk_at dksX4_read_4 7 rfl rfl)
theorem dX4_read_100 : decode cX4_read 100 = .ok (.aload_n 0, 1) := dk_42 (dk_at dksX4_read_4 8 rfl rfl)
theorem dX4_read_101 : decode cX4_read 101 = .ok (.invokevirtual 265, 3) := dk_182 1 9 (dk_at dksX4_read_4 9 rfl rfl)
theorem dX4_read_104 : decode cX4_read 104 = .ok (.istore_n 3, 1) := dk_62 (dk_at dksX4_read_4 12 rfl rfl)
theorem dX4_read_105 : decode cX4_read 105 = .ok (.iload_n 3, 1) := dk_29 (dk_at dksX4_read_4 13 rfl rfl)
theorem dX4_read_106 : decode cX4_read 106 = .ok (.ifCond .ne 6, 3) := dk_154 0 6 (dk_at dksX4_read_4 14 rfl rfl)
theorem dX4_read_109 : decode cX4_read 109 = .ok (.iinc 2 1, 3) := dk_132 2 1 (dk_at dksX4_read_4 17 rfl rfl)
theorem dX4_read_112 : decode cX4_read 112 = .ok (.iload_n 3, 1) := dk_29 (dk_at dksX4_read_4 20 rfl rfl)
theorem dX4_read_113 : decode cX4_read 113 = .ok (.ifCond .ne 17, 3) := dk_154 0 17 (dk_at dksX4_read_4 21 rfl rfl)
theorem dX4_read_116 : decode cX4_read 116 = .ok (.aload_n 0, 1) := dk_42 (dk_at dksX4_read_5 0 rfl rfl)
theorem dX4_read_117 : decode cX4_read 117 = .ok (.ldc_w 263, 3) := dk_19 1 7 (dk_at dksX4_read_5 1 rfl rfl)
theorem dX4_read_120 : decode cX4_read 120 = .ok (.invokevirtual 228, 3) := dk_182 0 228 (dk_at dksX4_read_5 4 rfl rfl)
theorem dX4_read_123 : decode cX4_read 123 = .ok (.ifCond .eq 7, 3) := dk_153 0 7 (dk_at dksX4_read_5 7 rfl rfl)
theorem dX4_read_126 : decode cX4_read 126 = .ok (.iconst 1, 1) := dk_4 (dk_at dksX4_read_5 10 rfl rfl)
theorem dX4_read_127 : decode cX4_read 127 = .ok (.goto 4, 3) := dk_167 0 4 (dk_at dksX4_read_5 11 rfl rfl)
theorem dX4_read_130 : decode cX4_read 130 = .ok (.iconst 0, 1) := dk_3 (dk_at dksX4_read_5 14 rfl rfl)
theorem dX4_read_131 : decode cX4_read 131 = .ok (.istore 4, 2) := dk_54 4 (dk_at dksX4_read_5 15 rfl rfl)
theorem dX4_read_133 : decode cX4_read 133 = .ok (.goto (-43), 3) := dk_167 255 213 (dk_at dksX4_read_5 17 rfl rfl)
theorem dX4_read_136 : decode cX4_read 136 = .ok (.aload_n 0, 1) := dk_42 (dk_at dksX4_read_5 20 rfl rfl)
theorem dX4_read_137 : decode cX4_read 137 = .ok (.iconst 0, 1) := dk_3 (dk_at dksX4_read_5 21 rfl rfl)
theorem dX4_read_138 : decode cX4_read 138 = .ok (.putfield 223, 3) := dk_181 0 223 (dk_at dksX4_read_6 0 rfl rfl)
theorem dX4_read_141 : decode cX4_read 141 = .ok (.iload_n 3, 1) := dk_29 (dk_at dksX4_read_6 3 rfl rfl)
theorem dX4_read_142 : decode cX4_read 142 = .ok (.ifCond .ne 9, 3) := dk_154 0 9 (dk_at dksX4_read_6 4 rfl rfl)
theorem dX4_read_145 : decode cX4_read 145 = .ok (.aload_n 0, 1) := dk_42 (dk_at dksX4_read_6 7 rfl rfl)
theorem dX4_read_146 : decode cX4_read 146 = .ok (.iload_n 2, 1) := dk_28 (dk_at dksX4_read_6 8 rfl rfl)
theorem dX4_read_147 : decode cX4_read 147 = .ok (.invokevirtual 73, 3) := dk_182 0 73 (dk_at dksX4_read_6 9 rfl rfl)
theorem dX4_read_150 : decode cX4_read 150 = .ok (.ireturn, 1) := dk_172 (dk_at dksX4_read_6 12 rfl rfl)
theorem dX4_read_151 : decode cX4_read 151 = .ok (.aload_n 0, 1) := dk_42 (dk_at dksX4_read_6 13 rfl rfl)
theorem dX4_read_152 : decode cX4_read 152 = .ok (.invokevirtual 268, 3) := dk_182 1 12 (dk_at dksX4_read_6 14 rfl rfl)
theorem dX4_read_155 : decode cX4_read 155 = .ok (.iload_n 3, 1) := dk_29 (dk_at dksX4_read_6 17 rfl rfl)
theorem dX4_read_156 : decode cX4_read 156 = .ok (.ifCond .ge 11, 3) := dk_156 0 11 (dk_at dksX4_read_6 18 rfl rfl)
theorem dX4_read_159 : decode cX4_read 159 = .ok (.aload_n 0, 1) := dk_42 (dk_at dksX4_read_6 21 rfl rfl)
theorem dX4_read_160 : decode cX4_read 160 = .ok (.bipush 20, 2) := dk_16 20 (dk_at dksX4_read_6 22 rfl rfl)
theorem dX4_read_162 : decode cX4_read 162 = .ok (.iload_n 2, 1) := dk_28 (dk_at dksX4_read_7 0 rfl rfl)
theorem dX4_read_163 : decode cX4_read 163 = .ok (.invokevirtual 87, 3) := dk_182 0 87 (dk_at dksX4_read_7 1 rfl rfl)
theorem dX4_read_166 : decode cX4_read 166 = .ok (.istore_n 3, 1) := dk_62 (dk_at dksX4_read_7 4 rfl rfl)
theorem dX4_read_167 : decode cX4_read 167 = .ok (.aload_n 0, 1) := dk_42 (dk_at dksX4_read_7 5 rfl rfl)
theorem dX4_read_168 : decode cX4_read 168 = .ok (.iconst 2, 1) := dk_5 (dk_at dksX4_read_7 6 rfl rfl)
theorem dX4_read_169 : decode cX4_read 169 = .ok (.invokevirtual 77, 3) := dk_182 0 77 (dk_at dksX4_read_7 7 rfl rfl)
theorem dX4_read_172 : decode cX4_read 172 = .ok (.ireturn, 1) := dk_172 (dk_at dksX4_read_7 10 rfl rfl)
abbrev cX4_isCommand : ByteArray := prog_29_method_70_code
def yX4_isCommand : MethodName := ⟨RX4, "isCommand", "()Z"⟩
def dkwX4_isCommand_18 : List UInt8 := [4, 167, 0, 4, 3, 172, 3, 172]
abbrev dktX4_isCommand_18 : List UInt8 := dkwX4_isCommand_18 ++ []
def dkwX4_isCommand_17 : List UInt8 := [182, 0, 243, 153, 0, 25, 42, 18, 241, 182, 0, 228, 153, 0, 16, 42, 4, 4, 182, 0, 243, 153, 0, 7]
abbrev dktX4_isCommand_17 : List UInt8 := dkwX4_isCommand_17 ++ dktX4_isCommand_18
def dkwX4_isCommand_16 : List UInt8 := [167, 0, 4, 3, 172, 42, 8, 181, 0, 232, 42, 19, 1, 1, 182, 0, 228, 153, 0, 34, 42, 3, 4]
abbrev dktX4_isCommand_16 : List UInt8 := dkwX4_isCommand_16 ++ dktX4_isCommand_17
def dkwX4_isCommand_15 : List UInt8 := [153, 0, 25, 42, 18, 241, 182, 0, 228, 153, 0, 16, 42, 6, 4, 182, 0, 243, 153, 0, 7, 4]
abbrev dktX4_isCommand_15 : List UInt8 := dkwX4_isCommand_15 ++ dktX4_isCommand_16
def dkwX4_isCommand_14 : List UInt8 := [42, 4, 4, 182, 0, 243, 153, 0, 43, 42, 18, 241, 182, 0, 228, 153, 0, 34, 42, 5, 6, 182, 0, 243]
abbrev dktX4_isCommand_14 : List UInt8 := dkwX4_isCommand_14 ++ dktX4_isCommand_15
def dkwX4_isCommand_13 : List UInt8 := [153, 0, 73, 42, 3, 42, 180, 0, 17, 182, 0, 237, 153, 0, 61, 42, 18, 241, 182, 0, 228, 153, 0, 52]
abbrev dktX4_isCommand_13 : List UInt8 := dkwX4_isCommand_13 ++ dktX4_isCommand_14
def dkwX4_isCommand_12 : List UInt8 := [5, 181, 0, 232, 42, 18, 253, 182, 0, 228, 172, 42, 7, 181, 0, 232, 42, 18, 255, 182, 0, 228]
abbrev dktX4_isCommand_12 : List UInt8 := dkwX4_isCommand_12 ++ dktX4_isCommand_13
def dkwX4_isCommand_11 : List UInt8 := [18, 251, 182, 0, 228, 153, 0, 16, 42, 3, 6, 182, 0, 243, 153, 0, 7, 4, 167, 0, 4, 3, 172, 42]
abbrev dktX4_isCommand_11 : List UInt8 := dkwX4_isCommand_11 ++ dktX4_isCommand_12
def dkwX4_isCommand_10 : List UInt8 := [153, 0, 16, 42, 3, 4, 182, 0, 243, 153, 0, 7, 4, 167, 0, 4, 3, 172, 42, 4, 181, 0, 232, 42]
abbrev dktX4_isCommand_10 : List UInt8 := dkwX4_isCommand_10 ++ dktX4_isCommand_11
def dkwX4_isCommand_9 : List UInt8 := [4, 167, 0, 4, 3, 172, 27, 16, 101, 160, 0, 33, 42, 16, 6, 181, 0, 232, 42, 18, 249, 182, 0, 228]
abbrev dktX4_isCommand_9 : List UInt8 := dkwX4_isCommand_9 ++ dktX4_isCommand_10
def dkwX4_isCommand_8 : List UInt8 := [181, 0, 232, 42, 18, 247, 182, 0, 228, 153, 0, 19, 42, 3, 42, 180, 0, 41, 182, 0, 237, 153, 0, 7]
abbrev dktX4_isCommand_8 : List UInt8 := dkwX4_isCommand_8 ++ dktX4_isCommand_9
def dkwX4_isCommand_7 : List UInt8 := [182, 0, 228, 153, 0, 16, 42, 6, 6, 182, 0, 243, 153, 0, 7, 4, 167, 0, 4, 3, 172, 42, 3]
abbrev dktX4_isCommand_7 : List UInt8 := dkwX4_isCommand_7 ++ dktX4_isCommand_8
def dkwX4_isCommand_6 : List UInt8 := [153, 0, 43, 42, 18, 241, 182, 0, 228, 153, 0, 34, 42, 5, 4, 182, 0, 243, 153, 0, 25, 42, 18, 241]
abbrev dktX4_isCommand_6 : List UInt8 := dkwX4_isCommand_6 ++ dktX4_isCommand_7
def dkwX4_isCommand_5 : List UInt8 := [180, 0, 17, 182, 0, 237, 153, 0, 61, 42, 18, 241, 182, 0, 228, 153, 0, 52, 42, 4, 4, 182, 0, 243]
abbrev dktX4_isCommand_5 : List UInt8 := dkwX4_isCommand_5 ++ dktX4_isCommand_6
def dkwX4_isCommand_4 : List UInt8 := [27, 16, 111, 160, 0, 89, 42, 6, 181, 0, 232, 42, 18, 235, 182, 0, 228, 153, 0, 73, 42, 3, 42]
abbrev dktX4_isCommand_4 : List UInt8 := dkwX4_isCommand_4 ++ dktX4_isCommand_5
def dkwX4_isCommand_3 : List UInt8 := [171, 0, 0, 1, 128, 0, 0, 0, 5, 0, 0, 0, 97, 0, 0, 1, 80, 0, 0, 0, 98, 0, 0, 0, 250, 0, 0, 0, 99, 0, 0, 0, 49, 0, 0, 0, 108, 0, 0, 0, 238, 0, 0, 0, 119, 0, 0, 0, 173]
abbrev dktX4_isCommand_3 : List UInt8 := dkwX4_isCommand_3 ++ dktX4_isCommand_4
def dkwX4_isCommand_2 : List UInt8 := [180, 0, 225, 52]
abbrev dktX4_isCommand_2 : List UInt8 := dkwX4_isCommand_2 ++ dktX4_isCommand_3
def dkwX4_isCommand_1 : List UInt8 := [162, 0, 17, 42, 180, 0, 48, 42, 180, 0, 225, 4, 96, 52, 167, 0, 4, 3, 60, 42, 180, 0, 48, 42]
abbrev dktX4_isCommand_1 : List UInt8 := dkwX4_isCommand_1 ++ dktX4_isCommand_2
def dkwX4_isCommand_0 : List UInt8 := [42, 180, 0, 225, 42, 180, 0, 223, 160, 0, 5, 3, 172, 42, 180, 0, 225, 4, 96, 42, 180, 0, 223]
abbrev dktX4_isCommand_0 : List UInt8 := dkwX4_isCommand_0 ++ dktX4_isCommand_1
theorem dksX4_isCommand_0 : cX4_isCommand.data.toList.drop 0 = dktX4_isCommand_0 := by decide +kernel
theorem dksX4_isCommand_1 : cX4_isCommand.data.toList.drop 23 = dktX4_isCommand_1 := dk_seg dksX4_isCommand_0 23 rfl rfl
theorem dksX4_isCommand_2 : cX4_isCommand.data.toList.drop 47 = dktX4_isCommand_2 := dk_seg dksX4_isCommand_1 24 rfl rfl
theorem dksX4_isCommand_3 : cX4_isCommand.data.toList.drop 51 = dktX4_isCommand_3 := dk_seg dksX4_isCommand_2 4 rfl rfl
theorem dksX4_isCommand_4 : cX4_isCommand.data.toList.drop 100 = dktX4_isCommand_4 := dk_seg dksX4_isCommand_3 49 rfl rfl
theorem dksX4_isCommand_5 : cX4_isCommand.data.toList.drop 123 = dktX4_isCommand_5 := dk_seg dksX4_isCommand_4 23 rfl rfl
theorem dksX4_isCommand_6 : cX4_isCommand.data.toList.drop 147 = dktX4_isCommand_6 := dk_seg dksX4_isCommand_5 24 rfl rfl
theorem dksX4_isCommand_7 : cX4_isCommand.data.toList.drop 171 = dktX4_isCommand_7 := dk_seg dksX4_isCommand_6 24 rfl rfl
theorem dksX4_isCommand_8 : cX4_isCommand.data.toList.drop 194 = dktX4_isCommand_8 := dk_seg dksX4_isCommand_7 23 rfl rfl
theorem dksX4_isCommand_9 : cX4_isCommand.data.toList.drop 218 = dktX4_isCommand_9 := dk_seg dksX4_isCommand_8 24 rfl rfl
theorem dksX4_isCommand_10 : cX4_isCommand.data.toList.drop 242 = dktX4_isCommand_10 := dk_seg dksX4_isCommand_9 24 rfl rfl
theorem dksX4_isCommand_11 : cX4_isCommand.data.toList.drop 266 = dktX4_isCommand_11 := dk_seg dksX4_isCommand_10 24 rfl rfl
theorem dksX4_isCommand_12 : cX4_isCommand.data.toList.drop 290 = dktX4_isCommand_12 := dk_seg dksX4_isCommand_11 24 rfl rfl
theorem dksX4_isCommand_13 : cX4_isCommand.data.toList.drop 312 = dktX4_isCommand_13 := dk_seg dksX4_isCommand_12 22 rfl rfl
theorem dksX4_isCommand_14 : cX4_isCommand.data.toList.drop 336 = dktX4_isCommand_14 := dk_seg dksX4_isCommand_13 24 rfl rfl
theorem dksX4_isCommand_15 : cX4_isCommand.data.toList.drop 360 = dktX4_isCommand_15 := dk_seg dksX4_isCommand_14 24 rfl rfl
theorem dksX4_isCommand_16 : cX4_isCommand.data.toList.drop 382 = dktX4_isCommand_16 := dk_seg dksX4_isCommand_15 22 rfl rfl
theorem dksX4_isCommand_17 : cX4_isCommand.data.toList.drop 405 = dktX4_isCommand_17 := dk_seg dksX4_isCommand_16 23 rfl rfl
theorem dksX4_isCommand_18 : cX4_isCommand.data.toList.drop 429 = dktX4_isCommand_18 := dk_seg dksX4_isCommand_17 24 rfl rfl
theorem dX4_isCommand_0 : decode cX4_isCommand 0 = .ok (.aload_n 0, 1) := dk_42 (dk_at dksX4_isCommand_0 0 rfl rfl)
theorem dX4_isCommand_1 : decode cX4_isCommand 1 = .ok (.getfield 225, 3) := dk_180 0 225 (dk_at dksX4_isCommand_0 1 rfl rfl)
theorem dX4_isCommand_4 : decode cX4_isCommand 4 = .ok (.aload_n 0, 1) := dk_42 (dk_at dksX4_isCommand_0 4 rfl rfl)
theorem dX4_isCommand_5 : decode cX4_isCommand 5 = .ok (.getfield 223, 3) := dk_180 0 223 (dk_at dksX4_isCommand_0 5 rfl rfl)
theorem dX4_isCommand_8 : decode cX4_isCommand 8 = .ok (.if_icmp .ne 5, 3) := dk_160 0 5 (dk_at dksX4_isCommand_0 8 rfl rfl)
theorem dX4_isCommand_11 : decode cX4_isCommand 11 = .ok (.iconst 0, 1) := dk_3 (dk_at dksX4_isCommand_0 11 rfl rfl)
theorem dX4_isCommand_12 : decode cX4_isCommand 12 = .ok (.ireturn, 1) := dk_172 (dk_at dksX4_isCommand_0 12 rfl rfl)
theorem dX4_isCommand_13 : decode cX4_isCommand 13 = .ok (.aload_n 0, 1) := dk_42 (dk_at dksX4_isCommand_0 13 rfl rfl)
theorem dX4_isCommand_14 : decode cX4_isCommand 14 = .ok (.getfield 225, 3) := dk_180 0 225 (dk_at dksX4_isCommand_0 14 rfl rfl)
theorem dX4_isCommand_17 : decode cX4_isCommand 17 = .ok (.iconst 1, 1) := dk_4 (dk_at dksX4_isCommand_0 17 rfl rfl)
theorem dX4_isCommand_18 : decode cX4_isCommand 18 = .ok (.iadd, 1) := dk_96 (dk_at dksX4_isCommand_0 18 rfl rfl)
theorem dX4_isCommand_19 : decode cX4_isCommand 19 = .ok (.aload_n 0, 1) := dk_42 (dk_at dksX4_isCommand_0 19 rfl rfl)
theorem dX4_isCommand_20 : decode cX4_isCommand 20 = .ok (.getfield 223, 3) := dk_180 0 223 (dk_at dksX4_isCommand_0 20 rfl rfl)
theorem dX4_isCommand_23 : decode cX4_isCommand 23 = .ok (.if_icmp .ge 17, 3) := dk_162 0 17 (dk_at dksX4_isCommand_1 0 rfl rfl)
theorem dX4_isCommand_26 : decode cX4_isCommand 26 = .ok (.aload_n 0, 1) := dk_42 (dk_at dksX4_isCommand_1 3 rfl rfl)
theorem dX4_isCommand_27 : decode cX4_isCommand 27 = .ok (.getfield 48, 3) := dk_180 0 48 (dk_at dksX4_isCommand_1 4 rfl rfl)
theorem dX4_isCommand_30 : decode cX4_isCommand 30 = .ok (.aload_n 0, 1) := dk_42 (dk_at dksX4_isCommand_1 7 rfl rfl)
theorem dX4_isCommand_31 : decode cX4_isCommand 31 = .ok (.getfield 225, 3) := dk_180 0 225 (dk_at dksX4_isCommand_1 8 rfl rfl)
theorem dX4_isCommand_34 : decode cX4_isCommand 34 = .ok (.iconst 1, 1) := dk_4 (dk_at dksX4_isCommand_1 11 rfl rfl)
theorem dX4_isCommand_35 : decode cX4_isCommand 35 = .ok (.iadd, 1) := dk_96 (dk_at dksX4_isCommand_1 12 rfl rfl)
theorem dX4_isCommand_36 : decode cX4_isCommand 36 = .ok (.caload, 1) := dk_52 (dk_at dksX4_isCommand_1 13 rfl rfl)
theorem dX4_isCommand_37 : decode cX4_isCommand 37 = .ok (.goto 4, 3) := dk_167 0 4 (dk_at dksX4_isCommand_1 14 rfl rfl)
theorem dX4_isCommand_40 : decode cX4_isCommand 40 = .ok (.iconst 0, 1) := dk_3 (dk_at dksX4_isCommand_1 17 rfl rfl)
theorem dX4_isCommand_41 : decode cX4_isCommand 41 = .ok (.istore_n 1, 1) := dk_60 (dk_at dksX4_isCommand_1 18 rfl rfl)
theorem dX4_isCommand_42 : decode cX4_isCommand 42 = .ok (.aload_n 0, 1) := dk_42 (dk_at dksX4_isCommand_1 19 rfl rfl)
theorem dX4_isCommand_43 : decode cX4_isCommand 43 = .ok (.getfield 48, 3) := dk_180 0 48 (dk_at dksX4_isCommand_1 20 rfl rfl)
theorem dX4_isCommand_46 : decode cX4_isCommand 46 = .ok (.aload_n 0, 1) := dk_42 (dk_at dksX4_isCommand_1 23 rfl rfl)
theorem dX4_isCommand_47 : decode cX4_isCommand 47 = .ok (.getfield 225, 3) := dk_180 0 225 (dk_at dksX4_isCommand_2 0 rfl rfl)
theorem dX4_isCommand_50 : decode cX4_isCommand 50 = .ok (.caload, 1) := dk_52 (dk_at dksX4_isCommand_2 3 rfl rfl)
theorem dX4_isCommand_51 : decode cX4_isCommand 51 = .ok (.lookupswitch 384 #[(97, 336), (98, 250), (99, 49), (108, 238), (119, 173)], 49) := by decide +kernel
theorem dX4_isCommand_100 : decode cX4_isCommand 100 = .ok (.iload_n 1, 1) := dk_27 (dk_at dksX4_isCommand_4 0 rfl rfl)
theorem dX4_isCommand_101 : decode cX4_isCommand 101 = .ok (.bipush 111, 2) := dk_16 111 (dk_at dksX4_isCommand_4 1 rfl rfl)
theorem dX4_isCommand_103 : decode cX4_isCommand 103 = .ok (.if_icmp .ne 89, 3) := dk_160 0 89 (dk_at dksX4_isCommand_4 3 rfl rfl)
theorem dX4_isCommand_106 : decode cX4_isCommand 106 = .ok (.aload_n 0, 1) := dk_42 (dk_at dksX4_isCommand_4 6 rfl rfl)
theorem dX4_isCommand_107 : decode cX4_isCommand 107 = .ok (.iconst 3, 1) := dk_6 (dk_at dksX4_isCommand_4 7 rfl rfl)
theorem dX4_isCommand_108 : decode cX4_isCommand 108 = .ok (.putfield 232, 3) := dk_181 0 232 (dk_at dksX4_isCommand_4 8 rfl rfl)
theorem dX4_isCommand_111 : decode cX4_isCommand 111 = .ok (.aload_n 0, 1) := dk_42 (dk_at dksX4_isCommand_4 11 rfl rfl)
theorem dX4_isCommand_112 : decode cX4_isCommand 112 = .ok (.ldc 235, 2) := dk_18 235 (dk_at dksX4_isCommand_4 12 rfl rfl)
theorem dX4_isCommand_114 : decode cX4_isCommand 114 = .ok (.invokevirtual 228, 3) := dk_182 0 228 (dk_at dksX4_isCommand_4 14 rfl rfl)
theorem dX4_isCommand_117 : decode cX4_isCommand 117 = .ok (.ifCond .eq 73, 3) := dk_153 0 73 (dk_at dksX4_isCommand_4 17 rfl rfl)
theorem dX4_isCommand_120 : decode cX4_isCommand 120 = .ok (.aload_n 0, 1) := dk_42 (dk_at dksX4_isCommand_4 20 rfl rfl)
theorem dX4_isCommand_121 : decode cX4_isCommand 121 = .ok (.iconst 0, 1) := dk_3 (dk_at dksX4_isCommand_4 21 rfl rfl)
theorem dX4_isCommand_122 : decode cX4_isCommand 122 = .ok (.aload_n 0, 1) := dk_42 (dk_at dksX4_isCommand_4 22 rfl rfl)
theorem dX4_isCommand_123 : decode cX4_isCommand 123 = .ok (.getfield 17, 3) := dk_180 0 17 (dk_at dksX4_isCommand_5 0 rfl rfl)
theorem dX4_isCommand_126 : decode cX4_isCommand 126 = .ok (.invokevirtual 237, 3) := dk_182 0 237 (dk_at dksX4_isCommand_5 3 rfl rfl)
theorem dX4_isCommand_129 : decode cX4_isCommand 129 = .ok (.ifCond .eq 61, 3) := dk_153 0 61 (dk_at dksX4_isCommand_5 6 rfl rfl)
theorem dX4_isCommand_132 : decode cX4_isCommand 132 = .ok (.aload_n 0, 1) := dk_42 (dk_at dksX4_isCommand_5 9 rfl rfl)
theorem dX4_isCommand_133 : decode cX4_isCommand 133 = .ok (.ldc 241, 2) := dk_18 241 (dk_at dksX4_isCommand_5 10 rfl rfl)
theorem dX4_isCommand_135 : decode cX4_isCommand 135 = .ok (.invokevirtual 228, 3) := dk_182 0 228 (dk_at dksX4_isCommand_5 12 rfl rfl)
theorem dX4_isCommand_138 : decode cX4_isCommand 138 = .ok (.ifCond .eq 52, 3) := dk_153 0 52 (dk_at dksX4_isCommand_5 15 rfl rfl)
theorem dX4_isCommand_141 : decode cX4_isCommand 141 = .ok (.aload_n 0, 1) := dk_42 (dk_at dksX4_isCommand_5 18 rfl rfl)
theorem dX4_isCommand_142 : decode cX4_isCommand 142 = .ok (.iconst 1, 1) := dk_4 (dk_at dksX4_isCommand_5 19 rfl rfl)
theorem dX4_isCommand_143 : decode cX4_isCommand 143 = .ok (.iconst 1, 1) := dk_4 (dk_at dksX4_isCommand_5 20 rfl rfl)
theorem dX4_isCommand_144 : decode cX4_isCommand 144 = .ok (.invokevirtual 243, 3) := dk_182 0 243 (dk_at dksX4_isCommand_5 21 rfl rfl)
theorem dX4_isCommand_147 : decode cX4_isCommand 147 = .ok (.ifCond .eq 43, 3) := dk_153 0 43 (dk_at dksX4_isCommand_6 0 rfl rfl)
theorem dX4_isCommand_150 : decode cX4_isCommand 150 = .ok (.aload_n 0, 1) := dk_42 (dk_at dksX4_isCommand_6 3 rfl rfl)
theorem dX4_isCommand_151 : decode cX4_isCommand 151 = .ok (.ldc 241, 2) := dk_18 241 (dk_at dksX4_isCommand_6 4 rfl rfl)
theorem dX4_isCommand_153 : decode cX4_isCommand 153 = .ok (.invokevirtual 228, 3) := dk_182 0 228 (dk_at dksX4_isCommand_6 6 rfl rfl)
theorem dX4_isCommand_156 : decode cX4_isCommand 156 = .ok (.ifCond .eq 34, 3) := dk_153 0 34 (dk_at dksX4_isCommand_6 9 rfl rfl)
theorem dX4_isCommand_159 : decode cX4_isCommand 159 = .ok (.aload_n 0, 1) := dk_42 (dk_at dksX4_isCommand_6 12 rfl rfl)
theorem dX4_isCommand_160 : decode cX4_isCommand 160 = .ok (.iconst 2, 1) := dk_5 (dk_at dksX4_isCommand_6 13 rfl rfl)
theorem dX4_isCommand_161 : decode cX4_isCommand 161 = .ok (.iconst 1, 1) := dk_4 (dk_at dksX4_isCommand_6 14 rfl rfl)
theorem dX4_isCommand_162 : decode cX4_isCommand 162 = .ok (.invokevirtual 243, 3) := dk_182 0 243 (dk_at dksX4_isCommand_6 15 rfl rfl)
theorem dX4_isCommand_165 : decode cX4_isCommand 165 = .ok (.ifCond .eq 25, 3) := dk_153 0 25 (dk_at dksX4_isCommand_6 18 rfl rfl)
theorem dX4_isCommand_168 : decode cX4_isCommand 168 = .ok (.aload_n 0, 1) := dk_42 (dk_at dksX4_isCommand_6 21 rfl rfl)
theorem dX4_isCommand_169 : decode cX4_isCommand 169 = .ok (.ldc 241, 2) := dk_18 241 (dk_at dksX4_isCommand_6 22 rfl rfl)
theorem dX4_isCommand_171 : decode cX4_isCommand 171 = .ok (.invokevirtual 228, 3) := dk_182 0 228 (dk_at dksX4_isCommand_7 0 rfl rfl)
theorem dX4_isCommand_174 : decode cX4_isCommand 174 = .ok (.ifCond .eq 16, 3) := dk_153 0 16 (dk_at dksX4_isCommand_7 3 rfl rfl)
theorem dX4_isCommand_177 : decode cX4_isCommand 177 = .ok (.aload_n 0, 1) := dk_42 (dk_at dksX4_isCommand_7 6 rfl rfl)
theorem dX4_isCommand_178 : decode cX4_isCommand 178 = .ok (.iconst 3, 1) := dk_6 (dk_at dksX4_isCommand_7 7 rfl rfl)
theorem dX4_isCommand_179 : decode cX4_isCommand 179 = .ok (.iconst 3, 1) := dk_6 (dk_at dksX4_isCommand_7 8 rfl rfl)
theorem dX4_isCommand_180 : decode cX4_isCommand 180 = .ok (.invokevirtual 243, 3) := dk_182 0 243 (dk_at dksX4_isCommand_7 9 rfl rfl)
theorem dX4_isCommand_183 : decode cX4_isCommand 183 = .ok (.ifCond .eq 7, 3) := dk_153 0 7 (dk_at dksX4_isCommand_7 12 rfl rfl)
theorem dX4_isCommand_186 : decode cX4_isCommand 186 = .ok (.iconst 1, 1) := dk_4 (dk_at dksX4_isCommand_7 15 rfl rfl)
theorem dX4_isCommand_187 : decode cX4_isCommand 187 = .ok (.goto 4, 3) := dk_167 0 4 (dk_at dksX4_isCommand_7 16 rfl rfl)
theorem dX4_isCommand_190 : decode cX4_isCommand 190 = .ok (.iconst 0, 1) := dk_3 (dk_at dksX4_isCommand_7 19 rfl rfl)
theorem dX4_isCommand_191 : decode cX4_isCommand 191 = .ok (.ireturn, 1) := dk_172 (dk_at dksX4_isCommand_7 20 rfl rfl)
theorem dX4_isCommand_192 : decode cX4_isCommand 192 = .ok (.aload_n 0, 1) := dk_42 (dk_at dksX4_isCommand_7 21 rfl rfl)
theorem dX4_isCommand_193 : decode cX4_isCommand 193 = .ok (.iconst 0, 1) := dk_3 (dk_at dksX4_isCommand_7 22 rfl rfl)
theorem dX4_isCommand_194 : decode cX4_isCommand 194 = .ok (.putfield 232, 3) := dk_181 0 232 (dk_at dksX4_isCommand_8 0 rfl rfl)
theorem dX4_isCommand_197 : decode cX4_isCommand 197 = .ok (.aload_n 0, 1) := dk_42 (dk_at dksX4_isCommand_8 3 rfl rfl)
theorem dX4_isCommand_198 : decode cX4_isCommand 198 = .ok (.ldc 247, 2) := dk_18 247 (dk_at dksX4_isCommand_8 4 rfl rfl)
theorem dX4_isCommand_200 : decode cX4_isCommand 200 = .ok (.invokevirtual 228, 3) := dk_182 0 228 (dk_at dksX4_isCommand_8 6 rfl rfl)
theorem dX4_isCommand_203 : decode cX4_isCommand 203 = .ok (.ifCond .eq 19, 3) := dk_153 0 19 (dk_at dksX4_isCommand_8 9 rfl rfl)
theorem dX4_isCommand_206 : decode cX4_isCommand 206 = .ok (.aload_n 0, 1) := dk_42 (dk_at dksX4_isCommand_8 12 rfl rfl)
theorem dX4_isCommand_207 : decode cX4_isCommand 207 = .ok (.iconst 0, 1) := dk_3 (dk_at dksX4_isCommand_8 13 rfl rfl)
theorem dX4_isCommand_208 : decode cX4_isCommand 208 = .ok (.aload_n 0, 1) := dk_42 (dk_at dksX4_isCommand_8 14 rfl rfl)
theorem dX4_isCommand_209 : decode cX4_isCommand 209 = .ok (.getfield 41, 3) := dk_180 0 41 (dk_at dksX4_isCommand_8 15 rfl rfl)
theorem dX4_isCommand_212 : decode cX4_isCommand 212 = .ok (.invokevirtual 237, 3) := dk_182 0 237 (dk_at dksX4_isCommand_8 18 rfl rfl)
theorem dX4_isCommand_215 : decode cX4_isCommand 215 = .ok (.ifCond .eq 7, 3) := dk_153 0 7 (dk_at dksX4_isCommand_8 21 rfl rfl)
theorem dX4_isCommand_218 : decode cX4_isCommand 218 = .ok (.iconst 1, 1) := dk_4 (dk_at dksX4_isCommand_9 0 rfl rfl)
theorem dX4_isCommand_219 : decode cX4_isCommand 219 = .ok (.goto 4, 3) := dk_167 0 4 (dk_at dksX4_isCommand_9 1 rfl rfl)
theorem dX4_isCommand_222 : decode cX4_isCommand 222 = .ok (.iconst 0, 1) := dk_3 (dk_at dksX4_isCommand_9 4 rfl rfl)
theorem dX4_isCommand_223 : decode cX4_isCommand 223 = .ok (.ireturn, 1) := dk_172 (dk_at dksX4_isCommand_9 5 rfl rfl)
theorem dX4_isCommand_224 : decode cX4_isCommand 224 = .ok (.iload_n 1, 1) := dk_27 (dk_at dksX4_isCommand_9 6 rfl rfl)
theorem dX4_isCommand_225 : decode cX4_isCommand 225 = .ok (.bipush 101, 2) := dk_16 101 (dk_at dksX4_isCommand_9 7 rfl rfl)
theorem dX4_isCommand_227 : decode cX4_isCommand 227 = .ok (.if_icmp .ne 33, 3) := dk_160 0 33 (dk_at dksX4_isCommand_9 9 rfl rfl)
theorem dX4_isCommand_230 : decode cX4_isCommand 230 = .ok (.aload_n 0, 1) := dk_42 (dk_at dksX4_isCommand_9 12 rfl rfl)
theorem dX4_isCommand_231 : decode cX4_isCommand 231 = .ok (.bipush 6, 2) := dk_16 6 (dk_at dksX4_isCommand_9 13 rfl rfl)
theorem dX4_isCommand_233 : decode cX4_isCommand 233 = .ok (.putfield 232, 3) := dk_181 0 232 (dk_at dksX4_isCommand_9 15 rfl rfl)
theorem dX4_isCommand_236 : decode cX4_isCommand 236 = .ok (.aload_n 0, 1) := dk_42 (dk_at dksX4_isCommand_9 18 rfl rfl)
theorem dX4_isCommand_237 : decode cX4_isCommand 237 = .ok (.ldc 249, 2) := dk_18 249 (dk_at dksX4_isCommand_9 19 rfl rfl)
theorem dX4_isCommand_239 : decode cX4_isCommand 239 = .ok (.invokevirtual 228, 3) := dk_182 0 228 (dk_at dksX4_isCommand_9 21 rfl rfl)
theorem dX4_isCommand_242 : decode cX4_isCommand 242 = .ok (.ifCond .eq 16, 3) := dk_153 0 16 (dk_at dksX4_isCommand_10 0 rfl rfl)
theorem dX4_isCommand_245 : decode cX4_isCommand 245 = .ok (.aload_n 0, 1) := dk_42 (dk_at dksX4_isCommand_10 3 rfl rfl)
theorem dX4_isCommand_246 : decode cX4_isCommand 246 = .ok (.iconst 0, 1) := dk_3 (dk_at dksX4_isCommand_10 4 rfl rfl)
theorem dX4_isCommand_247 : decode cX4_isCommand 247 = .ok (.iconst 1, 1) := dk_4 (dk_at dksX4_isCommand_10 5 rfl rfl)
theorem dX4_isCommand_248 : decode cX4_isCommand 248 = .ok (.invokevirtual 243, 3) := dk_182 0 243 (dk_at dksX4_isCommand_10 6 rfl rfl)
theorem dX4_isCommand_251 : decode cX4_isCommand 251 = .ok (.ifCond .eq 7, 3) := dk_153 0 7 (dk_at dksX4_isCommand_10 9 rfl rfl)
theorem dX4_isCommand_254 : decode cX4_isCommand 254 = .ok (.iconst 1, 1) := dk_4 (dk_at dksX4_isCommand_10 12 rfl rfl)
theorem dX4_isCommand_255 : decode cX4_isCommand 255 = .ok (.goto 4, 3) := dk_167 0 4 (dk_at dksX4_isCommand_10 13 rfl rfl)
theorem dX4_isCommand_258 : decode cX4_isCommand 258 = .ok (.iconst 0, 1) := dk_3 (dk_at dksX4_isCommand_10 16 rfl rfl)
theorem dX4_isCommand_259 : decode cX4_isCommand 259 = .ok (.ireturn, 1) := dk_172 (dk_at dksX4_isCommand_10 17 rfl rfl)
theorem dX4_isCommand_260 : decode cX4_isCommand 260 = .ok (.aload_n 0, 1) := dk_42 (dk_at dksX4_isCommand_10 18 rfl rfl)
theorem dX4_isCommand_261 : decode cX4_isCommand 261 = .ok (.iconst 1, 1) := dk_4 (dk_at dksX4_isCommand_10 19 rfl rfl)
theorem dX4_isCommand_262 : decode cX4_isCommand 262 = .ok (.putfield 232, 3) := dk_181 0 232 (dk_at dksX4_isCommand_10 20 rfl rfl)
theorem dX4_isCommand_265 : decode cX4_isCommand 265 = .ok (.aload_n 0, 1) := dk_42 (dk_at dksX4_isCommand_10 23 rfl rfl)
theorem dX4_isCommand_266 : decode cX4_isCommand 266 = .ok (.ldc 251, 2) := dk_18 251 (dk_at dksX4_isCommand_11 0 rfl rfl)
theorem dX4_isCommand_268 : decode cX4_isCommand 268 = .ok (.invokevirtual 228, 3) := dk_182 0 228 (dk_at dksX4_isCommand_11 2 rfl rfl)
theorem dX4_isCommand_271 : decode cX4_isCommand 271 = .ok (.ifCond .eq 16, 3) := dk_153 0 16 (dk_at dksX4_isCommand_11 5 rfl rfl)
theorem dX4_isCommand_274 : decode cX4_isCommand 274 = .ok (.aload_n 0, 1) := dk_42 (dk_at dksX4_isCommand_11 8 rfl rfl)
theorem dX4_isCommand_275 : decode cX4_isCommand 275 = .ok (.iconst 0, 1) := dk_3 (dk_at dksX4_isCommand_11 9 rfl rfl)
theorem dX4_isCommand_276 : decode cX4_isCommand 276 = .ok (.iconst 3, 1) := dk_6 (dk_at dksX4_isCommand_11 10 rfl rfl)
theorem dX4_isCommand_277 : decode cX4_isCommand 277 = .ok (.invokevirtual 243, 3) := dk_182 0 243 (dk_at dksX4_isCommand_11 11 rfl rfl)
theorem dX4_isCommand_280 : decode cX4_isCommand 280 = .ok (.ifCond .eq 7, 3) := dk_153 0 7 (dk_at dksX4_isCommand_11 14 rfl rfl)
theorem dX4_isCommand_283 : decode cX4_isCommand 283 = .ok (.iconst 1, 1) := dk_4 (dk_at dksX4_isCommand_11 17 rfl rfl)
theorem dX4_isCommand_284 : decode cX4_isCommand 284 = .ok (.goto 4, 3) := dk_167 0 4 (dk_at dksX4_isCommand_11 18 rfl rfl)
theorem dX4_isCommand_287 : decode cX4_isCommand 287 = .ok (.iconst 0, 1) := dk_3 (dk_at dksX4_isCommand_11 21 rfl rfl)
theorem dX4_isCommand_288 : decode cX4_isCommand 288 = .ok (.ireturn, 1) := dk_172 (dk_at dksX4_isCommand_11 22 rfl rfl)
theorem dX4_isCommand_289 : decode cX4_isCommand 289 = .ok (.aload_n 0, 1) := dk_42 (dk_at dksX4_isCommand_11 23 rfl rfl)
theorem dX4_isCommand_290 : decode cX4_isCommand 290 = .ok (.iconst 2, 1) := dk_5 (dk_at dksX4_isCommand_12 0 rfl rfl)
theorem dX4_isCommand_291 : decode cX4_isCommand 291 = .ok (.putfield 232, 3) := dk_181 0 232 (dk_at dksX4_isCommand_12 1 rfl rfl)
theorem dX4_isCommand_294 : decode cX4_isCommand 294 = .ok (.aload_n 0, 1) := dk_42 (dk_at dksX4_isCommand_12 4 rfl rfl)
theorem dX4_isCommand_295 : decode cX4_isCommand 295 = .ok (.ldc 253, 2) := dk_18 253 (dk_at dksX4_isCommand_12 5 rfl rfl)
theorem dX4_isCommand_297 : decode cX4_isCommand 297 = .ok (.invokevirtual 228, 3) := dk_182 0 228 (dk_at dksX4_isCommand_12 7 rfl rfl)
theorem dX4_isCommand_300 : decode cX4_isCommand 300 = .ok (.ireturn, 1) := dk_172 (dk_at dksX4_isCommand_12 10 rfl rfl)
theorem dX4_isCommand_301 : decode cX4_isCommand 301 = .ok (.aload_n 0, 1) := dk_42 (dk_at dksX4_isCommand_12 11 rfl rfl)
theorem dX4_isCommand_302 : decode cX4_isCommand 302 = .ok (.iconst 4, 1) := dk_7 (dk_at dksX4_isCommand_12 12 rfl rfl)
theorem dX4_isCommand_303 : decode cX4_isCommand 303 = .ok (.putfield 232, 3) := dk_181 0 232 (dk_at dksX4_isCommand_12 13 rfl rfl)
theorem dX4_isCommand_306 : decode cX4_isCommand 306 = .ok (.aload_n 0, 1) := dk_42 (dk_at dksX4_isCommand_12 16 rfl rfl)
theorem dX4_isCommand_307 : decode cX4_isCommand 307 = .ok (.ldc 255, 2) := dk_18 255 (dk_at dksX4_isCommand_12 17 rfl rfl)
theorem dX4_isCommand_309 : decode cX4_isCommand 309 = .ok (.invokevirtual 228, 3) := dk_182 0 228 (dk_at dksX4_isCommand_12 19 rfl rfl)
theorem dX4_isCommand_312 : decode cX4_isCommand 312 = .ok (.ifCond .eq 73, 3) := dk_153 0 73 (dk_at dksX4_isCommand_13 0 rfl rfl)
theorem dX4_isCommand_315 : decode cX4_isCommand 315 = .ok (.aload_n 0, 1) := dk_42 (dk_at dksX4_isCommand_13 3 rfl rfl)
theorem dX4_isCommand_316 : decode cX4_isCommand 316 = .ok (.iconst 0, 1) := dk_3 (dk_at dksX4_isCommand_13 4 rfl rfl)
theorem dX4_isCommand_317 : decode cX4_isCommand 317 = .ok (.aload_n 0, 1) := dk_42 (dk_at dksX4_isCommand_13 5 rfl rfl)
theorem dX4_isCommand_318 : decode cX4_isCommand 318 = .ok (.getfield 17, 3) := dk_180 0 17 (dk_at dksX4_isCommand_13 6 rfl rfl)
theorem dX4_isCommand_321 : decode cX4_isCommand 321 = .ok (.invokevirtual 237, 3) := dk_182 0 237 (dk_at dksX4_isCommand_13 9 rfl rfl)
theorem dX4_isCommand_324 : decode cX4_isCommand 324 = .ok (.ifCond .eq 61, 3) := dk_153 0 61 (dk_at dksX4_isCommand_13 12 rfl rfl)
theorem dX4_isCommand_327 : decode cX4_isCommand 327 = .ok (.aload_n 0, 1) := dk_42 (dk_at dksX4_isCommand_13 15 rfl rfl)
theorem dX4_isCommand_328 : decode cX4_isCommand 328 = .ok (.ldc 241, 2) := dk_18 241 (dk_at dksX4_isCommand_13 16 rfl rfl)
theorem dX4_isCommand_330 : decode cX4_isCommand 330 = .ok (.invokevirtual 228, 3) := dk_182 0 228 (dk_at dksX4_isCommand_13 18 rfl rfl)
theorem dX4_isCommand_333 : decode cX4_isCommand 333 = .ok (.ifCond .eq 52, 3) := dk_153 0 52 (dk_at dksX4_isCommand_13 21 rfl rfl)
theorem dX4_isCommand_336 : decode cX4_isCommand 336 = .ok (.aload_n 0, 1) := dk_42 (dk_at dksX4_isCommand_14 0 rfl rfl)
theorem dX4_isCommand_337 : decode cX4_isCommand 337 = .ok (.iconst 1, 1) := dk_4 (dk_at dksX4_isCommand_14 1 rfl rfl)
theorem dX4_isCommand_338 : decode cX4_isCommand 338 = .ok (.iconst 1, 1) := dk_4 (dk_at dksX4_isCommand_14 2 rfl rfl)
theorem dX4_isCommand_339 : decode cX4_isCommand 339 = .ok (.invokevirtual 243, 3) := dk_182 0 243 (dk_at dksX4_isCommand_14 3 rfl rfl)
theorem dX4_isCommand_342 : decode cX4_isCommand 342 = .ok (.ifCond .eq 43, 3) := dk_153 0 43 (dk_at dksX4_isCommand_14 6 rfl rfl)
theorem dX4_isCommand_345 : decode cX4_isCommand 345 = .ok (.aload_n 0, 1) := dk_42 (dk_at dksX4_isCommand_14 9 rfl rfl)
theorem dX4_isCommand_346 : decode cX4_isCommand 346 = .ok (.ldc 241, 2) := dk_18 241 (dk_at dksX4_isCommand_14 10 rfl rfl)
theorem dX4_isCommand_348 : decode cX4_isCommand 348 = .ok (.invokevirtual 228, 3) := dk_182 0 228 (dk_at dksX4_isCommand_14 12 rfl rfl)
theorem dX4_isCommand_351 : decode cX4_isCommand 351 = .ok (.ifCond .eq 34, 3) := dk_153 0 34 (dk_at dksX4_isCommand_14 15 rfl rfl)
theorem dX4_isCommand_354 : decode cX4_isCommand 354 = .ok (.aload_n 0, 1) := dk_42 (dk_at dksX4_isCommand_14 18 rfl rfl)
theorem dX4_isCommand_355 : decode cX4_isCommand 355 = .ok (.iconst 2, 1) := dk_5 (dk_at dksX4_isCommand_14 19 rfl rfl)
theorem dX4_isCommand_356 : decode cX4_isCommand 356 = .ok (.iconst 3, 1) := dk_6 (dk_at dksX4_isCommand_14 20 rfl rfl)
theorem dX4_isCommand_357 : decode cX4_isCommand 357 = .ok (.invokevirtual 243, 3) := dk_182 0 243 (dk_at dksX4_isCommand_14 21 rfl rfl)
theorem dX4_isCommand_360 : decode cX4_isCommand 360 = .ok (.ifCond .eq 25, 3) := dk_153 0 25 (dk_at dksX4_isCommand_15 0 rfl rfl)
theorem dX4_isCommand_363 : decode cX4_isCommand 363 = .ok (.aload_n 0, 1) := dk_42 (dk_at dksX4_isCommand_15 3 rfl rfl)
theorem dX4_isCommand_364 : decode cX4_isCommand 364 = .ok (.ldc 241, 2) := dk_18 241 (dk_at dksX4_isCommand_15 4 rfl rfl)
theorem dX4_isCommand_366 : decode cX4_isCommand 366 = .ok (.invokevirtual 228, 3) := dk_182 0 228 (dk_at dksX4_isCommand_15 6 rfl rfl)
theorem dX4_isCommand_369 : decode cX4_isCommand 369 = .ok (.ifCond .eq 16, 3) := dk_153 0 16 (dk_at dksX4_isCommand_15 9 rfl rfl)
theorem dX4_isCommand_372 : decode cX4_isCommand 372 = .ok (.aload_n 0, 1) := dk_42 (dk_at dksX4_isCommand_15 12 rfl rfl)
theorem dX4_isCommand_373 : decode cX4_isCommand 373 = .ok (.iconst 3, 1) := dk_6 (dk_at dksX4_isCommand_15 13 rfl rfl)
theorem dX4_isCommand_374 : decode cX4_isCommand 374 = .ok (.iconst 1, 1) := dk_4 (dk_at dksX4_isCommand_15 14 rfl rfl)
theorem dX4_isCommand_375 : decode cX4_isCommand 375 = .ok (.invokevirtual 243, 3) := dk_182 0 243 (dk_at dksX4_isCommand_15 15 rfl rfl)
theorem dX4_isCommand_378 : decode cX4_isCommand 378 = .ok (.ifCond .eq 7, 3) := dk_153 0 7 (dk_at dksX4_isCommand_15 18 rfl rfl)
theorem dX4_isCommand_381 : decode cX4_isCommand 381 = .ok (.iconst 1, 1) := dk_4 (dk_at dksX4_isCommand_15 21 rfl rfl)
theorem dX4_isCommand_382 : decode cX4_isCommand 382 = .ok (.goto 4, 3) := dk_167 0 4 (dk_at dksX4_isCommand_16 0 rfl rfl)
theorem dX4_isCommand_385 : decode cX4_isCommand 385 = .ok (.iconst 0, 1) := dk_3 (dk_at dksX4_isCommand_16 3 rfl rfl)
theorem dX4_isCommand_386 : decode cX4_isCommand 386 = .ok (.ireturn, 1) := dk_172 (dk_at dksX4_isCommand_16 4 rfl rfl)
theorem dX4_isCommand_387 : decode cX4_isCommand 387 = .ok (.aload_n 0, 1) := dk_42 (dk_at dksX4_isCommand_16 5 rfl rfl)
theorem dX4_isCommand_388 : decode cX4_isCommand 388 = .ok (.iconst 5, 1) := dk_8 (dk_at dksX4_isCommand_16 6 rfl rfl)
theorem dX4_isCommand_389 : decode cX4_isCommand 389 = .ok (.putfield 232, 3) := dk_181 0 232 (dk_at dksX4_isCommand_16 7 rfl rfl)
theorem dX4_isCommand_392 : decode cX4_isCommand 392 = .ok (.aload_n 0, 1) := dk_42 (dk_at dksX4_isCommand_16 10 rfl rfl)
theorem dX4_isCommand_393 : decode cX4_isCommand 393 = .ok (.ldc_w 257, 3) := dk_19 1 1 (dk_at dksX4_isCommand_16 11 rfl rfl)
theorem dX4_isCommand_396 : decode cX4_isCommand 396 = .ok (.invokevirtual 228, 3) := dk_182 0 228 (dk_at dksX4_isCommand_16 14 rfl rfl)
theorem dX4_isCommand_399 : decode cX4_isCommand 399 = .ok (.ifCond .eq 34, 3) := dk_153 0 34 (dk_at dksX4_isCommand_16 17 rfl rfl)
theorem dX4_isCommand_402 : decode cX4_isCommand 402 = .ok (.aload_n 0, 1) := dk_42 (dk_at dksX4_isCommand_16 20 rfl rfl)
theorem dX4_isCommand_403 : decode cX4_isCommand 403 = .ok (.iconst 0, 1) := dk_3 (dk_at dksX4_isCommand_16 21 rfl rfl)
theorem dX4_isCommand_404 : decode cX4_isCommand 404 = .ok (.iconst 1, 1) := dk_4 (dk_at dksX4_isCommand_16 22 rfl rfl)
theorem dX4_isCommand_405 : decode cX4_isCommand 405 = .ok (.invokevirtual 243, 3) := dk_182 0 243 (dk_at dksX4_isCommand_17 0 rfl rfl)
theorem dX4_isCommand_408 : decode cX4_isCommand 408 = .ok (.ifCond .eq 25, 3) := dk_153 0 25 (dk_at dksX4_isCommand_17 3 rfl rfl)
theorem dX4_isCommand_411 : decode cX4_isCommand 411 = .ok (.aload_n 0, 1) := dk_42 (dk_at dksX4_isCommand_17 6 rfl rfl)
theorem dX4_isCommand_412 : decode cX4_isCommand 412 = .ok (.ldc 241, 2) := dk_18 241 (dk_at dksX4_isCommand_17 7 rfl rfl)
theorem dX4_isCommand_414 : decode cX4_isCommand 414 = .ok (.invokevirtual 228, 3) := dk_182 0 228 (dk_at dksX4_isCommand_17 9 rfl rfl)
theorem dX4_isCommand_417 : decode cX4_isCommand 417 = .ok (.ifCond .eq 16, 3) := dk_153 0 16 (dk_at dksX4_isCommand_17 12 rfl rfl)
theorem dX4_isCommand_420 : decode cX4_isCommand 420 = .ok (.aload_n 0, 1) := dk_42 (dk_at dksX4_isCommand_17 15 rfl rfl)
theorem dX4_isCommand_421 : decode cX4_isCommand 421 = .ok (.iconst 1, 1) := dk_4 (dk_at dksX4_isCommand_17 16 rfl rfl)
theorem dX4_isCommand_422 : decode cX4_isCommand 422 = .ok (.iconst 1, 1) := dk_4 (dk_at dksX4_isCommand_17 17 rfl rfl)
theorem dX4_isCommand_423 : decode cX4_isCommand 423 = .ok (.invokevirtual 243, 3) := dk_182 0 243 (dk_at dksX4_isCommand_17 18 rfl rfl)
theorem dX4_isCommand_426 : decode cX4_isCommand 426 = .ok (.ifCond .eq 7, 3) := dk_153 0 7 (dk_at dksX4_isCommand_17 21 rfl rfl)
theorem dX4_isCommand_429 : decode cX4_isCommand 429 = .ok (.iconst 1, 1) := dk_4 (dk_at dksX4_isCommand_18 0 rfl rfl)
theorem dX4_isCommand_430 : decode cX4_isCommand 430 = .ok (.goto 4, 3) := dk_167 0 4 (dk_at dksX4_isCommand_18 1 rfl rfl)
theorem dX4_isCommand_433 : decode cX4_isCommand 433 = .ok (.iconst 0, 1) := dk_3 (dk_at dksX4_isCommand_18 4 rfl rfl)
theorem dX4_isCommand_434 : decode cX4_isCommand 434 = .ok (.ireturn, 1) := dk_172 (dk_at dksX4_isCommand_18 5 rfl rfl)
theorem dX4_isCommand_435 : decode cX4_isCommand 435 = .ok (.iconst 0, 1) := dk_3 (dk_at dksX4_isCommand_18 6 rfl rfl)
theorem dX4_isCommand_436 : decode cX4_isCommand 436 = .ok (.ireturn, 1) := dk_172 (dk_at dksX4_isCommand_18 7 rfl rfl)
abbrev cX4_word : ByteArray := prog_29_method_67_code
def yX4_word : MethodName := ⟨RX4, "word", "(Ljava/lang/String;)Z"⟩
def dkwX4_word_2 : List UInt8 := [96, 181, 0, 225, 132, 2, 1, 167, 255, 205, 4, 172]
abbrev dktX4_word_2 : List UInt8 := dkwX4_word_2 ++ []
def dkwX4_word_1 : List UInt8 := [180, 0, 48, 42, 180, 0, 225, 52, 43, 28, 182, 0, 184, 159, 0, 5, 3, 172, 42, 89, 180, 0, 225, 4]
abbrev dktX4_word_1 : List UInt8 := dkwX4_word_1 ++ dktX4_word_2
def dkwX4_word_0 : List UInt8 := [3, 61, 28, 43, 182, 0, 178, 162, 0, 49, 42, 180, 0, 225, 42, 180, 0, 223, 159, 0, 20, 42]
abbrev dktX4_word_0 : List UInt8 := dkwX4_word_0 ++ dktX4_word_1
theorem dksX4_word_0 : cX4_word.data.toList.drop 0 = dktX4_word_0 := by decide +kernel
theorem dksX4_word_1 : cX4_word.data.toList.drop 22 = dktX4_word_1 := dk_seg dksX4_word_0 22 rfl rfl
theorem dksX4_word_2 : cX4_word.data.toList.drop 46 = dktX4_word_2 := dk_seg dksX4_word_1 24 rfl rfl
theorem dX4_word_0 : decode cX4_word 0 = .ok (.iconst 0, 1) := dk_3 (dk_at dksX4_word_0 0 rfl rfl)
theorem dX4_word_1 : decode cX4_word 1 = .ok (.istore_n 2, 1) := dk_61 (dk_at dksX4_word_0 1 rfl rfl)
theorem dX4_word_2 : decode cX4_word 2 = .ok (.iload_n 2, 1) := dk_28 (dk_at dksX4_word_0 2 rfl rfl)
theorem dX4_word_3 : decode cX4_word 3 = .ok (.aload_n 1, 1) := dk_43 (dk_at dksX4_word_0 3 rfl rfl)
theorem dX4_word_4 : decode cX4_word 4 = .ok (.invokevirtual 178, 3) := dk_182 0 178 (dk_at dksX4_word_0 4 rfl rfl)
theorem dX4_word_7 : decode cX4_word 7 = .ok (.if_icmp .ge 49, 3) := dk_162 0 49 (dk_at dksX4_word_0 7 rfl rfl)
theorem dX4_word_10 : decode cX4_word 10 = .ok (.aload_n 0, 1) := dk_42 (dk_at dksX4_word_0 10 rfl rfl)
theorem dX4_word_11 : decode cX4_word 11 = .ok (.getfield 225, 3) := dk_180 0 225 (dk_at dksX4_word_0 11 rfl rfl)
theorem dX4_word_14 : decode cX4_word 14 = .ok (.aload_n 0, 1) := dk_42 (dk_at dksX4_word_0 14 rfl rfl)
theorem dX4_word_15 : decode cX4_word 15 = .ok (.getfield 223, 3) := dk_180 0 223 (dk_at dksX4_word_0 15 rfl rfl)
theorem dX4_word_18 : decode cX4_word 18 = .ok (.if_icmp .eq 20, 3) := dk_159 0 20 (dk_at dksX4_word_0 18 rfl rfl)
theorem dX4_word_21 : decode cX4_word 21 = .ok (.aload_n 0, 1) := dk_42 (dk_at dksX4_word_0 21 rfl rfl)
theorem dX4_word_22 : decode cX4_word 22 = .ok (.getfield 48, 3) := dk_180 0 48 (dk_at dksX4_word_1 0 rfl rfl)
theorem dX4_word_25 : decode cX4_word 25 = .ok (.aload_n 0, 1) := dk_42 (dk_at dksX4_word_1 3 rfl rfl)
theorem dX4_word_26 : decode cX4_word 26 = .ok (.getfield 225, 3) := dk_180 0 225 (dk_at dksX4_word_1 4 rfl rfl)
theorem dX4_word_29 : decode cX4_word 29 = .ok (.caload, 1) := dk_52 (dk_at dksX4_word_1 7 rfl rfl)
theorem dX4_word_30 : decode cX4_word 30 = .ok (.aload_n 1, 1) := dk_43 (dk_at dksX4_word_1 8 rfl rfl)
theorem dX4_word_31 : decode cX4_word 31 = .ok (.iload_n 2, 1) := dk_28 (dk_at dksX4_word_1 9 rfl rfl)
theorem dX4_word_32 : decode cX4_word 32 = .ok (.invokevirtual 184, 3) := dk_182 0 184 (dk_at dksX4_word_1 10 rfl rfl)
theorem dX4_word_35 : decode cX4_word 35 = .ok (.if_icmp .eq 5, 3) := dk_159 0 5 (dk_at dksX4_word_1 13 rfl rfl)
theorem dX4_word_38 : decode cX4_word 38 = .ok (.iconst 0, 1) := dk_3 (dk_at dksX4_word_1 16 rfl rfl)
theorem dX4_word_39 : decode cX4_word 39 = .ok (.ireturn, 1) := dk_172 (dk_at dksX4_word_1 17 rfl rfl)
theorem dX4_word_40 : decode cX4_word 40 = .ok (.aload_n 0, 1) := dk_42 (dk_at dksX4_word_1 18 rfl rfl)
theorem dX4_word_41 : decode cX4_word 41 = .ok (.dup, 1) := dk_89 (dk_at dksX4_word_1 19 rfl rfl)
theorem dX4_word_42 : decode cX4_word 42 = .ok (.getfield 225, 3) := dk_180 0 225 (dk_at dksX4_word_1 20 rfl rfl)
theorem dX4_word_45 : decode cX4_word 45 = .ok (.iconst 1, 1) := dk_4 (dk_at dksX4_word_1 23 rfl rfl)
theorem dX4_word_46 : decode cX4_word 46 = .ok (.iadd, 1) := dk_96 (dk_at dksX4_word_2 0 rfl rfl)
theorem dX4_word_47 : decode cX4_word 47 = .ok (.putfield 225, 3) := dk_181 0 225 (dk_at dksX4_word_2 1 rfl rfl)
theorem dX4_word_50 : decode cX4_word 50 = .ok (.iinc 2 1, 3) := dk_132 2 1 (dk_at dksX4_word_2 4 rfl rfl)
theorem dX4_word_53 : decode cX4_word 53 = .ok (.goto (-51), 3) := dk_167 255 205 (dk_at dksX4_word_2 7 rfl rfl)
theorem dX4_word_56 : decode cX4_word 56 = .ok (.iconst 1, 1) := dk_4 (dk_at dksX4_word_2 10 rfl rfl)
theorem dX4_word_57 : decode cX4_word 57 = .ok (.ireturn, 1) := dk_172 (dk_at dksX4_word_2 11 rfl rfl)
abbrev cX4_oneOf : ByteArray := prog_29_method_69_code
def yX4_oneOf : MethodName := ⟨RX4, "oneOf", "(I[Ljava/lang/String;)Z"⟩
def dkwX4_oneOf_2 : List UInt8 := [42, 44, 29, 50, 182, 0, 228, 172, 132, 3, 1, 167, 255, 199, 3, 172]
abbrev dktX4_oneOf_2 : List UInt8 := dkwX4_oneOf_2 ++ []
def dkwX4_oneOf_1 : List UInt8 := [180, 0, 225, 52, 44, 29, 50, 3, 182, 0, 184, 159, 0, 6, 167, 0, 18, 42, 180, 0, 51, 27, 29, 79]
abbrev dktX4_oneOf_1 : List UInt8 := dkwX4_oneOf_1 ++ dktX4_oneOf_2
def dkwX4_oneOf_0 : List UInt8 := [3, 62, 29, 44, 190, 162, 0, 57, 42, 180, 0, 225, 42, 180, 0, 223, 159, 0, 40, 42, 180, 0, 48, 42]
abbrev dktX4_oneOf_0 : List UInt8 := dkwX4_oneOf_0 ++ dktX4_oneOf_1
theorem dksX4_oneOf_0 : cX4_oneOf.data.toList.drop 0 = dktX4_oneOf_0 := by decide +kernel
theorem dksX4_oneOf_1 : cX4_oneOf.data.toList.drop 24 = dktX4_oneOf_1 := dk_seg dksX4_oneOf_0 24 rfl rfl
theorem dksX4_oneOf_2 : cX4_oneOf.data.toList.drop 48 = dktX4_oneOf_2 := dk_seg dksX4_oneOf_1 24 rfl rfl
theorem dX4_oneOf_0 : decode cX4_oneOf 0 = .ok (.iconst 0, 1) := dk_3 (dk_at dksX4_oneOf_0 0 rfl rfl)
theorem dX4_oneOf_1 : decode cX4_oneOf 1 = .ok (.istore_n 3, 1) := dk_62 (dk_at dksX4_oneOf_0 1 rfl rfl)
theorem dX4_oneOf_2 : decode cX4_oneOf 2 = .ok (.iload_n 3, 1) := dk_29 (dk_at dksX4_oneOf_0 2 rfl rfl)
theorem dX4_oneOf_3 : decode cX4_oneOf 3 = .ok (.aload_n 2, 1) := dk_44 (dk_at dksX4_oneOf_0 3 rfl rfl)
theorem dX4_oneOf_4 : decode cX4_oneOf 4 = .ok (.arraylength, 1) := dk_190 (dk_at dksX4_oneOf_0 4 rfl rfl)
theorem dX4_oneOf_5 : decode cX4_oneOf 5 = .ok (.if_icmp .ge 57, 3) := dk_162 0 57 (dk_at dksX4_oneOf_0 5 rfl rfl)
theorem dX4_oneOf_8 : decode cX4_oneOf 8 = .ok (.aload_n 0, 1) := dk_42 (dk_at dksX4_oneOf_0 8 rfl rfl)
theorem dX4_oneOf_9 : decode cX4_oneOf 9 = .ok (.getfield 225, 3) := dk_180 0 225 (dk_at dksX4_oneOf_0 9 rfl rfl)
theorem dX4_oneOf_12 : decode cX4_oneOf 12 = .ok (.aload_n 0, 1) := dk_42 (dk_at dksX4_oneOf_0 12 rfl rfl)
theorem dX4_oneOf_13 : decode cX4_oneOf 13 = .ok (.getfield 223, 3) := dk_180 0 223 (dk_at dksX4_oneOf_0 13 rfl rfl)
theorem dX4_oneOf_16 : decode cX4_oneOf 16 = .ok (.if_icmp .eq 40, 3) := dk_159 0 40 (dk_at dksX4_oneOf_0 16 rfl rfl)
theorem dX4_oneOf_19 : decode cX4_oneOf 19 = .ok (.aload_n 0, 1) := dk_42 (dk_at dksX4_oneOf_0 19 rfl rfl)
theorem dX4_oneOf_20 : decode cX4_oneOf 20 = .ok (.getfield 48, 3) := dk_180 0 48 (dk_at dksX4_oneOf_0 20 rfl rfl)
theorem dX4_oneOf_23 : decode cX4_oneOf 23 = .ok (.aload_n 0, 1) := dk_42 (dk_at dksX4_oneOf_0 23 rfl rfl)
theorem dX4_oneOf_24 : decode cX4_oneOf 24 = .ok (.getfield 225, 3) := dk_180 0 225 (dk_at dksX4_oneOf_1 0 rfl rfl)
theorem dX4_oneOf_27 : decode cX4_oneOf 27 = .ok (.caload, 1) := dk_52 (dk_at dksX4_oneOf_1 3 rfl rfl)
theorem dX4_oneOf_28 : decode cX4_oneOf 28 = .ok (.aload_n 2, 1) := dk_44 (dk_at dksX4_oneOf_1 4 rfl rfl)
theorem dX4_oneOf_29 : decode cX4_oneOf 29 = .ok (.iload_n 3, 1) := dk_29 (dk_at dksX4_oneOf_1 5 rfl rfl)
theorem dX4_oneOf_30 : decode cX4_oneOf 30 = .ok (.aaload, 1) := dk_50 (dk_at dksX4_oneOf_1 6 rfl rfl)
theorem dX4_oneOf_31 : decode cX4_oneOf 31 = .ok (.iconst 0, 1) := dk_3 (dk_at dksX4_oneOf_1 7 rfl rfl)
theorem dX4_oneOf_32 : decode cX4_oneOf 32 = .ok (.invokevirtual 184, 3) := dk_182 0 184 (dk_at dksX4_oneOf_1 8 rfl rfl)
theorem dX4_oneOf_35 : decode cX4_oneOf 35 = .ok (.if_icmp .eq 6, 3) := dk_159 0 6 (dk_at dksX4_oneOf_1 11 rfl rfl)
theorem dX4_oneOf_38 : decode cX4_oneOf 38 = .ok (.goto 18, 3) := dk_167 0 18 (dk_at dksX4_oneOf_1 14 rfl rfl)
theorem dX4_oneOf_41 : decode cX4_oneOf 41 = .ok (.aload_n 0, 1) := dk_42 (dk_at dksX4_oneOf_1 17 rfl rfl)
theorem dX4_oneOf_42 : decode cX4_oneOf 42 = .ok (.getfield 51, 3) := dk_180 0 51 (dk_at dksX4_oneOf_1 18 rfl rfl)
theorem dX4_oneOf_45 : decode cX4_oneOf 45 = .ok (.iload_n 1, 1) := dk_27 (dk_at dksX4_oneOf_1 21 rfl rfl)
theorem dX4_oneOf_46 : decode cX4_oneOf 46 = .ok (.iload_n 3, 1) := dk_29 (dk_at dksX4_oneOf_1 22 rfl rfl)
theorem dX4_oneOf_47 : decode cX4_oneOf 47 = .ok (.iastore, 1) := dk_79 (dk_at dksX4_oneOf_1 23 rfl rfl)
theorem dX4_oneOf_48 : decode cX4_oneOf 48 = .ok (.aload_n 0, 1) := dk_42 (dk_at dksX4_oneOf_2 0 rfl rfl)
theorem dX4_oneOf_49 : decode cX4_oneOf 49 = .ok (.aload_n 2, 1) := dk_44 (dk_at dksX4_oneOf_2 1 rfl rfl)
theorem dX4_oneOf_50 : decode cX4_oneOf 50 = .ok (.iload_n 3, 1) := dk_29 (dk_at dksX4_oneOf_2 2 rfl rfl)
theorem dX4_oneOf_51 : decode cX4_oneOf 51 = .ok (.aaload, 1) := dk_50 (dk_at dksX4_oneOf_2 3 rfl rfl)
theorem dX4_oneOf_52 : decode cX4_oneOf 52 = .ok (.invokevirtual 228, 3) := dk_182 0 228 (dk_at dksX4_oneOf_2 4 rfl rfl)
theorem dX4_oneOf_55 : decode cX4_oneOf 55 = .ok (.ireturn, 1) := dk_172 (dk_at dksX4_oneOf_2 7 rfl rfl)
theorem dX4_oneOf_56 : decode cX4_oneOf 56 = .ok (.iinc 3 1, 3) := dk_132 3 1 (dk_at dksX4_oneOf_2 8 rfl rfl)
theorem dX4_oneOf_59 : decode cX4_oneOf 59 = .ok (.goto (-57), 3) := dk_167 255 199 (dk_at dksX4_oneOf_2 11 rfl rfl)
theorem dX4_oneOf_62 : decode cX4_oneOf 62 = .ok (.iconst 0, 1) := dk_3 (dk_at dksX4_oneOf_2 14 rfl rfl)
theorem dX4_oneOf_63 : decode cX4_oneOf 63 = .ok (.ireturn, 1) := dk_172 (dk_at dksX4_oneOf_2 15 rfl rfl)
abbrev cX4_digits : ByteArray := prog_29_method_68_code
def yX4_digits : MethodName := ⟨RX4, "digits", "(II)Z"⟩
def dkwX4_digits_4 : List UInt8 := [3, 172]
abbrev dktX4_digits_4 : List UInt8 := dkwX4_digits_4 ++ []
def dkwX4_digits_3 : List UInt8 := [96, 181, 0, 225, 52, 96, 16, 48, 100, 79, 132, 3, 1, 167, 255, 183, 29, 158, 0, 7, 4, 167, 0, 4]
abbrev dktX4_digits_3 : List UInt8 := dkwX4_digits_3 ++ dktX4_digits_4
def dkwX4_digits_2 : List UInt8 := [180, 0, 51, 27, 16, 10, 42, 180, 0, 51, 27, 46, 104, 42, 180, 0, 48, 42, 89, 180, 0, 225, 90, 4]
abbrev dktX4_digits_2 : List UInt8 := dkwX4_digits_2 ++ dktX4_digits_3
def dkwX4_digits_1 : List UInt8 := [162, 0, 63, 42, 180, 0, 48, 42, 180, 0, 225, 52, 16, 48, 16, 57, 184, 0, 80, 153, 0, 44, 42]
abbrev dktX4_digits_1 : List UInt8 := dkwX4_digits_1 ++ dktX4_digits_2
def dkwX4_digits_0 : List UInt8 := [3, 62, 42, 180, 0, 51, 27, 3, 79, 29, 28, 162, 0, 74, 42, 180, 0, 225, 42, 180, 0, 223]
abbrev dktX4_digits_0 : List UInt8 := dkwX4_digits_0 ++ dktX4_digits_1
theorem dksX4_digits_0 : cX4_digits.data.toList.drop 0 = dktX4_digits_0 := by decide +kernel
theorem dksX4_digits_1 : cX4_digits.data.toList.drop 22 = dktX4_digits_1 := dk_seg dksX4_digits_0 22 rfl rfl
theorem dksX4_digits_2 : cX4_digits.data.toList.drop 45 = dktX4_digits_2 := dk_seg dksX4_digits_1 23 rfl rfl
theorem dksX4_digits_3 : cX4_digits.data.toList.drop 69 = dktX4_digits_3 := dk_seg dksX4_digits_2 24 rfl rfl
theorem dksX4_digits_4 : cX4_digits.data.toList.drop 93 = dktX4_digits_4 := dk_seg dksX4_digits_3 24 rfl rfl
theorem dX4_digits_0 : decode cX4_digits 0 = .ok (.iconst 0, 1) := dk_3 (dk_at dksX4_digits_0 0 rfl rfl)
theorem dX4_digits_1 : decode cX4_digits 1 = .ok (.istore_n 3, 1) := dk_62 (dk_at dksX4_digits_0 1 rfl rfl)
theorem dX4_digits_2 : decode cX4_digits 2 = .ok (.aload_n 0, 1) := dk_42 (dk_at dksX4_digits_0 2 rfl rfl)
theorem dX4_digits_3 : decode cX4_digits 3 = .ok (.getfield 51, 3) := dk_180 0 51 (dk_at dksX4_digits_0 3 rfl rfl)
theorem dX4_digits_6 : decode cX4_digits 6 = .ok (.iload_n 1, 1) := dk_27 (dk_at dksX4_digits_0 6 rfl rfl)
theorem dX4_digits_7 : decode cX4_digits 7 = .ok (.iconst 0, 1) := dk_3 (dk_at dksX4_digits_0 7 rfl rfl)
theorem dX4_digits_8 : decode cX4_digits 8 = .ok (.iastore, 1) := dk_79 (dk_at dksX4_digits_0 8 rfl rfl)
theorem dX4_digits_9 : decode cX4_digits 9 = .ok (.iload_n 3, 1) := dk_29 (dk_at dksX4_digits_0 9 rfl rfl)
theorem dX4_digits_10 : decode cX4_digits 10 = .ok (.iload_n 2, 1) := dk_28 (dk_at dksX4_digits_0 10 rfl rfl)
theorem dX4_digits_11 : decode cX4_digits 11 = .ok (.if_icmp .ge 74, 3) := dk_162 0 74 (dk_at dksX4_digits_0 11 rfl rfl)
theorem dX4_digits_14 : decode cX4_digits 14 = .ok (.aload_n 0, 1) := dk_42 (dk_at dksX4_digits_0 14 rfl rfl)
theorem dX4_digits_15 : decode cX4_digits 15 = .ok (.getfield 225, 3) := dk_180 0 225 (dk_at dksX4_digits_0 15 rfl rfl)
theorem dX4_digits_18 : decode cX4_digits 18 = .ok (.aload_n 0, 1) := dk_42 (dk_at dksX4_digits_0 18 rfl rfl)
theorem dX4_digits_19 : decode cX4_digits 19 = .ok (.getfield 223, 3) := dk_180 0 223 (dk_at dksX4_digits_0 19 rfl rfl)
theorem dX4_digits_22 : decode cX4_digits 22 = .ok (.if_icmp .ge 63, 3) := dk_162 0 63 (dk_at dksX4_digits_1 0 rfl rfl)
theorem dX4_digits_25 : decode cX4_digits 25 = .ok (.aload_n 0, 1) := dk_42 (dk_at dksX4_digits_1 3 rfl rfl)
theorem dX4_digits_26 : decode cX4_digits 26 = .ok (.getfield 48, 3) := dk_180 0 48 (dk_at dksX4_digits_1 4 rfl rfl)
theorem dX4_digits_29 : decode cX4_digits 29 = .ok (.aload_n 0, 1) := dk_42 (dk_at dksX4_digits_1 7 rfl rfl)
theorem dX4_digits_30 : decode cX4_digits 30 = .ok (.getfield 225, 3) := dk_180 0 225 (dk_at dksX4_digits_1 8 rfl rfl)
theorem dX4_digits_33 : decode cX4_digits 33 = .ok (.caload, 1) := dk_52 (dk_at dksX4_digits_1 11 rfl rfl)
theorem dX4_digits_34 : decode cX4_digits 34 = .ok (.bipush 48, 2) := dk_16 48 (dk_at dksX4_digits_1 12 rfl rfl)
theorem dX4_digits_36 : decode cX4_digits 36 = .ok (.bipush 57, 2) := dk_16 57 (dk_at dksX4_digits_1 14 rfl rfl)
theorem dX4_digits_38 : decode cX4_digits 38 = .ok (.invokestatic 80, 3) := dk_184 0 80 (dk_at dksX4_digits_1 16 rfl rfl)
theorem dX4_digits_41 : decode cX4_digits 41 = .ok (.ifCond .eq 44, 3) := dk_153 0 44 (dk_at dksX4_digits_1 19 rfl rfl)
theorem dX4_digits_44 : decode cX4_digits 44 = .ok (.aload_n 0, 1) := dk_42 (dk_at dksX4_digits_1 22 rfl rfl)
theorem dX4_digits_45 : decode cX4_digits 45 = .ok (.getfield 51, 3) := dk_180 0 51 (dk_at dksX4_digits_2 0 rfl rfl)
theorem dX4_digits_48 : decode cX4_digits 48 = .ok (.iload_n 1, 1) := dk_27 (dk_at dksX4_digits_2 3 rfl rfl)
theorem dX4_digits_49 : decode cX4_digits 49 = .ok (.bipush 10, 2) := dk_16 10 (dk_at dksX4_digits_2 4 rfl rfl)
theorem dX4_digits_51 : decode cX4_digits 51 = .ok (.aload_n 0, 1) := dk_42 (dk_at dksX4_digits_2 6 rfl rfl)
theorem dX4_digits_52 : decode cX4_digits 52 = .ok (.getfield 51, 3) := dk_180 0 51 (dk_at dksX4_digits_2 7 rfl rfl)
theorem dX4_digits_55 : decode cX4_digits 55 = .ok (.iload_n 1, 1) := dk_27 (dk_at dksX4_digits_2 10 rfl rfl)
theorem dX4_digits_56 : decode cX4_digits 56 = .ok (.iaload, 1) := dk_46 (dk_at dksX4_digits_2 11 rfl rfl)
theorem dX4_digits_57 : decode cX4_digits 57 = .ok (.imul, 1) := dk_104 (dk_at dksX4_digits_2 12 rfl rfl)
theorem dX4_digits_58 : decode cX4_digits 58 = .ok (.aload_n 0, 1) := dk_42 (dk_at dksX4_digits_2 13 rfl rfl)
theorem dX4_digits_59 : decode cX4_digits 59 = .ok (.getfield 48, 3) := dk_180 0 48 (dk_at dksX4_digits_2 14 rfl rfl)
theorem dX4_digits_62 : decode cX4_digits 62 = .ok (.aload_n 0, 1) := dk_42 (dk_at dksX4_digits_2 17 rfl rfl)
theorem dX4_digits_63 : decode cX4_digits 63 = .ok (.dup, 1) := dk_89 (dk_at dksX4_digits_2 18 rfl rfl)
theorem dX4_digits_64 : decode cX4_digits 64 = .ok (.getfield 225, 3) := dk_180 0 225 (dk_at dksX4_digits_2 19 rfl rfl)
theorem dX4_digits_67 : decode cX4_digits 67 = .ok (.dup_x1, 1) := dk_90 (dk_at dksX4_digits_2 22 rfl rfl)
theorem dX4_digits_68 : decode cX4_digits 68 = .ok (.iconst 1, 1) := dk_4 (dk_at dksX4_digits_2 23 rfl rfl)
theorem dX4_digits_69 : decode cX4_digits 69 = .ok (.iadd, 1) := dk_96 (dk_at dksX4_digits_3 0 rfl rfl)
theorem dX4_digits_70 : decode cX4_digits 70 = .ok (.putfield 225, 3) := dk_181 0 225 (dk_at dksX4_digits_3 1 rfl rfl)
theorem dX4_digits_73 : decode cX4_digits 73 = .ok (.caload, 1) := dk_52 (dk_at dksX4_digits_3 4 rfl rfl)
theorem dX4_digits_74 : decode cX4_digits 74 = .ok (.iadd, 1) := dk_96 (dk_at dksX4_digits_3 5 rfl rfl)
theorem dX4_digits_75 : decode cX4_digits 75 = .ok (.bipush 48, 2) := dk_16 48 (dk_at dksX4_digits_3 6 rfl rfl)
theorem dX4_digits_77 : decode cX4_digits 77 = .ok (.isub, 1) := dk_100 (dk_at dksX4_digits_3 8 rfl rfl)
theorem dX4_digits_78 : decode cX4_digits 78 = .ok (.iastore, 1) := dk_79 (dk_at dksX4_digits_3 9 rfl rfl)
theorem dX4_digits_79 : decode cX4_digits 79 = .ok (.iinc 3 1, 3) := dk_132 3 1 (dk_at dksX4_digits_3 10 rfl rfl)
theorem dX4_digits_82 : decode cX4_digits 82 = .ok (.goto (-73), 3) := dk_167 255 183 (dk_at dksX4_digits_3 13 rfl rfl)
theorem dX4_digits_85 : decode cX4_digits 85 = .ok (.iload_n 3, 1) := dk_29 (dk_at dksX4_digits_3 16 rfl rfl)
theorem dX4_digits_86 : decode cX4_digits 86 = .ok (.ifCond .le 7, 3) := dk_158 0 7 (dk_at dksX4_digits_3 17 rfl rfl)
theorem dX4_digits_89 : decode cX4_digits 89 = .ok (.iconst 1, 1) := dk_4 (dk_at dksX4_digits_3 20 rfl rfl)
theorem dX4_digits_90 : decode cX4_digits 90 = .ok (.goto 4, 3) := dk_167 0 4 (dk_at dksX4_digits_3 21 rfl rfl)
theorem dX4_digits_93 : decode cX4_digits 93 = .ok (.iconst 0, 1) := dk_3 (dk_at dksX4_digits_4 0 rfl rfl)
theorem dX4_digits_94 : decode cX4_digits 94 = .ok (.ireturn, 1) := dk_172 (dk_at dksX4_digits_4 1 rfl rfl)
abbrev cX4_carries : ByteArray := prog_29_method_71_code
def yX4_carries : MethodName := ⟨RX4, "carries", "()I"⟩
def dkwX4_carries_8 : List UInt8 := [182, 0, 133, 172]
abbrev dktX4_carries_8 : List UInt8 := dkwX4_carries_8 ++ []
def dkwX4_carries_7 : List UInt8 := [180, 0, 51, 3, 46, 42, 180, 0, 51, 4, 46, 182, 0, 127, 172, 42, 42, 180, 0, 51, 3, 46]
abbrev dktX4_carries_7 : List UInt8 := dkwX4_carries_7 ++ dktX4_carries_8
def dkwX4_carries_6 : List UInt8 := [5, 46, 42, 180, 0, 51, 6, 46, 4, 160, 0, 7, 4, 167, 0, 4, 3, 182, 0, 168, 172, 42, 42]
abbrev dktX4_carries_6 : List UInt8 := dkwX4_carries_6 ++ dktX4_carries_7
def dkwX4_carries_5 : List UInt8 := [164, 0, 7, 2, 167, 0, 40, 42, 42, 180, 0, 51, 3, 46, 42, 180, 0, 51, 4, 46, 42, 180, 0, 51]
abbrev dktX4_carries_5 : List UInt8 := dkwX4_carries_5 ++ dktX4_carries_6
def dkwX4_carries_4 : List UInt8 := [42, 180, 0, 51, 5, 46, 42, 180, 0, 51, 6, 46, 182, 0, 164, 172, 42, 180, 0, 51, 6, 46, 4]
abbrev dktX4_carries_4 : List UInt8 := dkwX4_carries_4 ++ dktX4_carries_5
def dkwX4_carries_3 : List UInt8 := [3, 46, 182, 0, 217, 172, 42, 182, 0, 175, 172, 42, 42, 180, 0, 51, 3, 46, 42, 180, 0, 51, 4, 46]
abbrev dktX4_carries_3 : List UInt8 := dkwX4_carries_3 ++ dktX4_carries_4
def dkwX4_carries_2 : List UInt8 := [42, 42, 180, 0, 51, 3, 46, 154, 0, 7, 4, 167, 0, 4, 3, 182, 0, 214, 172, 42, 42, 180, 0, 51]
abbrev dktX4_carries_2 : List UInt8 := dkwX4_carries_2 ++ dktX4_carries_3
def dkwX4_carries_1 : List UInt8 := [170, 0, 0, 0, 0, 0, 0, 173, 0, 0, 0, 0, 0, 0, 0, 5, 0, 0, 0, 40, 0, 0, 0, 59, 0, 0, 0, 70, 0, 0, 0, 75, 0, 0, 0, 104, 0, 0, 0, 156]
abbrev dktX4_carries_1 : List UInt8 := dkwX4_carries_1 ++ dktX4_carries_2
def dkwX4_carries_0 : List UInt8 := [42, 180, 0, 232]
abbrev dktX4_carries_0 : List UInt8 := dkwX4_carries_0 ++ dktX4_carries_1
theorem dksX4_carries_0 : cX4_carries.data.toList.drop 0 = dktX4_carries_0 := by decide +kernel
theorem dksX4_carries_1 : cX4_carries.data.toList.drop 4 = dktX4_carries_1 := dk_seg dksX4_carries_0 4 rfl rfl
theorem dksX4_carries_2 : cX4_carries.data.toList.drop 44 = dktX4_carries_2 := dk_seg dksX4_carries_1 40 rfl rfl
theorem dksX4_carries_3 : cX4_carries.data.toList.drop 68 = dktX4_carries_3 := dk_seg dksX4_carries_2 24 rfl rfl
theorem dksX4_carries_4 : cX4_carries.data.toList.drop 92 = dktX4_carries_4 := dk_seg dksX4_carries_3 24 rfl rfl
theorem dksX4_carries_5 : cX4_carries.data.toList.drop 115 = dktX4_carries_5 := dk_seg dksX4_carries_4 23 rfl rfl
theorem dksX4_carries_6 : cX4_carries.data.toList.drop 139 = dktX4_carries_6 := dk_seg dksX4_carries_5 24 rfl rfl
theorem dksX4_carries_7 : cX4_carries.data.toList.drop 162 = dktX4_carries_7 := dk_seg dksX4_carries_6 23 rfl rfl
theorem dksX4_carries_8 : cX4_carries.data.toList.drop 184 = dktX4_carries_8 := dk_seg dksX4_carries_7 22 rfl rfl
theorem dX4_carries_0 : decode cX4_carries 0 = .ok (.aload_n 0, 1) := dk_42 (dk_at dksX4_carries_0 0 rfl rfl)
theorem dX4_carries_1 : decode cX4_carries 1 = .ok (.getfield 232, 3) := dk_180 0 232 (dk_at dksX4_carries_0 1 rfl rfl)
theorem dX4_carries_4 : decode cX4_carries 4 = .ok (.tableswitch 173 0 5 #[40, 59, 70, 75, 104, 156], 40) := by decide +kernel
theorem dX4_carries_44 : decode cX4_carries 44 = .ok (.aload_n 0, 1) := dk_42 (dk_at dksX4_carries_2 0 rfl rfl)
theorem dX4_carries_45 : decode cX4_carries 45 = .ok (.aload_n 0, 1) := dk_42 (dk_at dksX4_carries_2 1 rfl rfl)
theorem dX4_carries_46 : decode cX4_carries 46 = .ok (.getfield 51, 3) := dk_180 0 51 (dk_at dksX4_carries_2 2 rfl rfl)
theorem dX4_carries_49 : decode cX4_carries 49 = .ok (.iconst 0, 1) := dk_3 (dk_at dksX4_carries_2 5 rfl rfl)
theorem dX4_carries_50 : decode cX4_carries 50 = .ok (.iaload, 1) := dk_46 (dk_at dksX4_carries_2 6 rfl rfl)
theorem dX4_carries_51 : decode cX4_carries 51 = .ok (.ifCond .ne 7, 3) := dk_154 0 7 (dk_at dksX4_carries_2 7 rfl rfl)
theorem dX4_carries_54 : decode cX4_carries 54 = .ok (.iconst 1, 1) := dk_4 (dk_at dksX4_carries_2 10 rfl rfl)
theorem dX4_carries_55 : decode cX4_carries 55 = .ok (.goto 4, 3) := dk_167 0 4 (dk_at dksX4_carries_2 11 rfl rfl)
theorem dX4_carries_58 : decode cX4_carries 58 = .ok (.iconst 0, 1) := dk_3 (dk_at dksX4_carries_2 14 rfl rfl)
theorem dX4_carries_59 : decode cX4_carries 59 = .ok (.invokevirtual 214, 3) := dk_182 0 214 (dk_at dksX4_carries_2 15 rfl rfl)
theorem dX4_carries_62 : decode cX4_carries 62 = .ok (.ireturn, 1) := dk_172 (dk_at dksX4_carries_2 18 rfl rfl)
theorem dX4_carries_63 : decode cX4_carries 63 = .ok (.aload_n 0, 1) := dk_42 (dk_at dksX4_carries_2 19 rfl rfl)
theorem dX4_carries_64 : decode cX4_carries 64 = .ok (.aload_n 0, 1) := dk_42 (dk_at dksX4_carries_2 20 rfl rfl)
theorem dX4_carries_65 : decode cX4_carries 65 = .ok (.getfield 51, 3) := dk_180 0 51 (dk_at dksX4_carries_2 21 rfl rfl)
theorem dX4_carries_68 : decode cX4_carries 68 = .ok (.iconst 0, 1) := dk_3 (dk_at dksX4_carries_3 0 rfl rfl)
theorem dX4_carries_69 : decode cX4_carries 69 = .ok (.iaload, 1) := dk_46 (dk_at dksX4_carries_3 1 rfl rfl)
theorem dX4_carries_70 : decode cX4_carries 70 = .ok (.invokevirtual 217, 3) := dk_182 0 217 (dk_at dksX4_carries_3 2 rfl rfl)
theorem dX4_carries_73 : decode cX4_carries 73 = .ok (.ireturn, 1) := dk_172 (dk_at dksX4_carries_3 5 rfl rfl)
theorem dX4_carries_74 : decode cX4_carries 74 = .ok (.aload_n 0, 1) := dk_42 (dk_at dksX4_carries_3 6 rfl rfl)
theorem dX4_carries_75 : decode cX4_carries 75 = .ok (.invokevirtual 175, 3) := dk_182 0 175 (dk_at dksX4_carries_3 7 rfl rfl)
theorem dX4_carries_78 : decode cX4_carries 78 = .ok (.ireturn, 1) := dk_172 (dk_at dksX4_carries_3 10 rfl rfl)
theorem dX4_carries_79 : decode cX4_carries 79 = .ok (.aload_n 0, 1) := dk_42 (dk_at dksX4_carries_3 11 rfl rfl)
theorem dX4_carries_80 : decode cX4_carries 80 = .ok (.aload_n 0, 1) := dk_42 (dk_at dksX4_carries_3 12 rfl rfl)
theorem dX4_carries_81 : decode cX4_carries 81 = .ok (.getfield 51, 3) := dk_180 0 51 (dk_at dksX4_carries_3 13 rfl rfl)
theorem dX4_carries_84 : decode cX4_carries 84 = .ok (.iconst 0, 1) := dk_3 (dk_at dksX4_carries_3 16 rfl rfl)
theorem dX4_carries_85 : decode cX4_carries 85 = .ok (.iaload, 1) := dk_46 (dk_at dksX4_carries_3 17 rfl rfl)
theorem dX4_carries_86 : decode cX4_carries 86 = .ok (.aload_n 0, 1) := dk_42 (dk_at dksX4_carries_3 18 rfl rfl)
theorem dX4_carries_87 : decode cX4_carries 87 = .ok (.getfield 51, 3) := dk_180 0 51 (dk_at dksX4_carries_3 19 rfl rfl)
theorem dX4_carries_90 : decode cX4_carries 90 = .ok (.iconst 1, 1) := dk_4 (dk_at dksX4_carries_3 22 rfl rfl)
theorem dX4_carries_91 : decode cX4_carries 91 = .ok (.iaload, 1) := dk_46 (dk_at dksX4_carries_3 23 rfl rfl)
theorem dX4_carries_92 : decode cX4_carries 92 = .ok (.aload_n 0, 1) := dk_42 (dk_at dksX4_carries_4 0 rfl rfl)
theorem dX4_carries_93 : decode cX4_carries 93 = .ok (.getfield 51, 3) := dk_180 0 51 (dk_at dksX4_carries_4 1 rfl rfl)
theorem dX4_carries_96 : decode cX4_carries 96 = .ok (.iconst 2, 1) := dk_5 (dk_at dksX4_carries_4 4 rfl rfl)
theorem dX4_carries_97 : decode cX4_carries 97 = .ok (.iaload, 1) := dk_46 (dk_at dksX4_carries_4 5 rfl rfl)
theorem dX4_carries_98 : decode cX4_carries 98 = .ok (.aload_n 0, 1) := dk_42 (dk_at dksX4_carries_4 6 rfl rfl)
theorem dX4_carries_99 : decode cX4_carries 99 = .ok (.getfield 51, 3) := dk_180 0 51 (dk_at dksX4_carries_4 7 rfl rfl)
theorem dX4_carries_102 : decode cX4_carries 102 = .ok (.iconst 3, 1) := dk_6 (dk_at dksX4_carries_4 10 rfl rfl)
theorem dX4_carries_103 : decode cX4_carries 103 = .ok (.iaload, 1) := dk_46 (dk_at dksX4_carries_4 11 rfl rfl)
theorem dX4_carries_104 : decode cX4_carries 104 = .ok (.invokevirtual 164, 3) := dk_182 0 164 (dk_at dksX4_carries_4 12 rfl rfl)
theorem dX4_carries_107 : decode cX4_carries 107 = .ok (.ireturn, 1) := dk_172 (dk_at dksX4_carries_4 15 rfl rfl)
theorem dX4_carries_108 : decode cX4_carries 108 = .ok (.aload_n 0, 1) := dk_42 (dk_at dksX4_carries_4 16 rfl rfl)
theorem dX4_carries_109 : decode cX4_carries 109 = .ok (.getfield 51, 3) := dk_180 0 51 (dk_at dksX4_carries_4 17 rfl rfl)
theorem dX4_carries_112 : decode cX4_carries 112 = .ok (.iconst 3, 1) := dk_6 (dk_at dksX4_carries_4 20 rfl rfl)
theorem dX4_carries_113 : decode cX4_carries 113 = .ok (.iaload, 1) := dk_46 (dk_at dksX4_carries_4 21 rfl rfl)
theorem dX4_carries_114 : decode cX4_carries 114 = .ok (.iconst 1, 1) := dk_4 (dk_at dksX4_carries_4 22 rfl rfl)
theorem dX4_carries_115 : decode cX4_carries 115 = .ok (.if_icmp .le 7, 3) := dk_164 0 7 (dk_at dksX4_carries_5 0 rfl rfl)
theorem dX4_carries_118 : decode cX4_carries 118 = .ok (.iconst (-1), 1) := dk_2 (dk_at dksX4_carries_5 3 rfl rfl)
theorem dX4_carries_119 : decode cX4_carries 119 = .ok (.goto 40, 3) := dk_167 0 40 (dk_at dksX4_carries_5 4 rfl rfl)
theorem dX4_carries_122 : decode cX4_carries 122 = .ok (.aload_n 0, 1) := dk_42 (dk_at dksX4_carries_5 7 rfl rfl)
theorem dX4_carries_123 : decode cX4_carries 123 = .ok (.aload_n 0, 1) := dk_42 (dk_at dksX4_carries_5 8 rfl rfl)
theorem dX4_carries_124 : decode cX4_carries 124 = .ok (.getfield 51, 3) := dk_180 0 51 (dk_at dksX4_carries_5 9 rfl rfl)
theorem dX4_carries_127 : decode cX4_carries 127 = .ok (.iconst 0, 1) := dk_3 (dk_at dksX4_carries_5 12 rfl rfl)
theorem dX4_carries_128 : decode cX4_carries 128 = .ok (.iaload, 1) := dk_46 (dk_at dksX4_carries_5 13 rfl rfl)
theorem dX4_carries_129 : decode cX4_carries 129 = .ok (.aload_n 0, 1) := dk_42 (dk_at dksX4_carries_5 14 rfl rfl)
theorem dX4_carries_130 : decode cX4_carries 130 = .ok (.getfield 51, 3) := dk_180 0 51 (dk_at dksX4_carries_5 15 rfl rfl)
theorem dX4_carries_133 : decode cX4_carries 133 = .ok (.iconst 1, 1) := dk_4 (dk_at dksX4_carries_5 18 rfl rfl)
theorem dX4_carries_134 : decode cX4_carries 134 = .ok (.iaload, 1) := dk_46 (dk_at dksX4_carries_5 19 rfl rfl)
theorem dX4_carries_135 : decode cX4_carries 135 = .ok (.aload_n 0, 1) := dk_42 (dk_at dksX4_carries_5 20 rfl rfl)
theorem dX4_carries_136 : decode cX4_carries 136 = .ok (.getfield 51, 3) := dk_180 0 51 (dk_at dksX4_carries_5 21 rfl rfl)
theorem dX4_carries_139 : decode cX4_carries 139 = .ok (.iconst 2, 1) := dk_5 (dk_at dksX4_carries_6 0 rfl rfl)
theorem dX4_carries_140 : decode cX4_carries 140 = .ok (.iaload, 1) := dk_46 (dk_at dksX4_carries_6 1 rfl rfl)
theorem dX4_carries_141 : decode cX4_carries 141 = .ok (.aload_n 0, 1) := dk_42 (dk_at dksX4_carries_6 2 rfl rfl)
theorem dX4_carries_142 : decode cX4_carries 142 = .ok (.getfield 51, 3) := dk_180 0 51 (dk_at dksX4_carries_6 3 rfl rfl)
theorem dX4_carries_145 : decode cX4_carries 145 = .ok (.iconst 3, 1) := dk_6 (dk_at dksX4_carries_6 6 rfl rfl)
theorem dX4_carries_146 : decode cX4_carries 146 = .ok (.iaload, 1) := dk_46 (dk_at dksX4_carries_6 7 rfl rfl)
theorem dX4_carries_147 : decode cX4_carries 147 = .ok (.iconst 1, 1) := dk_4 (dk_at dksX4_carries_6 8 rfl rfl)
theorem dX4_carries_148 : decode cX4_carries 148 = .ok (.if_icmp .ne 7, 3) := dk_160 0 7 (dk_at dksX4_carries_6 9 rfl rfl)
theorem dX4_carries_151 : decode cX4_carries 151 = .ok (.iconst 1, 1) := dk_4 (dk_at dksX4_carries_6 12 rfl rfl)
theorem dX4_carries_152 : decode cX4_carries 152 = .ok (.goto 4, 3) := dk_167 0 4 (dk_at dksX4_carries_6 13 rfl rfl)
theorem dX4_carries_155 : decode cX4_carries 155 = .ok (.iconst 0, 1) := dk_3 (dk_at dksX4_carries_6 16 rfl rfl)
theorem dX4_carries_156 : decode cX4_carries 156 = .ok (.invokevirtual 168, 3) := dk_182 0 168 (dk_at dksX4_carries_6 17 rfl rfl)
theorem dX4_carries_159 : decode cX4_carries 159 = .ok (.ireturn, 1) := dk_172 (dk_at dksX4_carries_6 20 rfl rfl)
theorem dX4_carries_160 : decode cX4_carries 160 = .ok (.aload_n 0, 1) := dk_42 (dk_at dksX4_carries_6 21 rfl rfl)
theorem dX4_carries_161 : decode cX4_carries 161 = .ok (.aload_n 0, 1) := dk_42 (dk_at dksX4_carries_6 22 rfl rfl)
theorem dX4_carries_162 : decode cX4_carries 162 = .ok (.getfield 51, 3) := dk_180 0 51 (dk_at dksX4_carries_7 0 rfl rfl)
theorem dX4_carries_165 : decode cX4_carries 165 = .ok (.iconst 0, 1) := dk_3 (dk_at dksX4_carries_7 3 rfl rfl)
theorem dX4_carries_166 : decode cX4_carries 166 = .ok (.iaload, 1) := dk_46 (dk_at dksX4_carries_7 4 rfl rfl)
theorem dX4_carries_167 : decode cX4_carries 167 = .ok (.aload_n 0, 1) := dk_42 (dk_at dksX4_carries_7 5 rfl rfl)
theorem dX4_carries_168 : decode cX4_carries 168 = .ok (.getfield 51, 3) := dk_180 0 51 (dk_at dksX4_carries_7 6 rfl rfl)
theorem dX4_carries_171 : decode cX4_carries 171 = .ok (.iconst 1, 1) := dk_4 (dk_at dksX4_carries_7 9 rfl rfl)
theorem dX4_carries_172 : decode cX4_carries 172 = .ok (.iaload, 1) := dk_46 (dk_at dksX4_carries_7 10 rfl rfl)
theorem dX4_carries_173 : decode cX4_carries 173 = .ok (.invokevirtual 127, 3) := dk_182 0 127 (dk_at dksX4_carries_7 11 rfl rfl)
theorem dX4_carries_176 : decode cX4_carries 176 = .ok (.ireturn, 1) := dk_172 (dk_at dksX4_carries_7 14 rfl rfl)
theorem dX4_carries_177 : decode cX4_carries 177 = .ok (.aload_n 0, 1) := dk_42 (dk_at dksX4_carries_7 15 rfl rfl)
theorem dX4_carries_178 : decode cX4_carries 178 = .ok (.aload_n 0, 1) := dk_42 (dk_at dksX4_carries_7 16 rfl rfl)
theorem dX4_carries_179 : decode cX4_carries 179 = .ok (.getfield 51, 3) := dk_180 0 51 (dk_at dksX4_carries_7 17 rfl rfl)
theorem dX4_carries_182 : decode cX4_carries 182 = .ok (.iconst 0, 1) := dk_3 (dk_at dksX4_carries_7 20 rfl rfl)
theorem dX4_carries_183 : decode cX4_carries 183 = .ok (.iaload, 1) := dk_46 (dk_at dksX4_carries_7 21 rfl rfl)
theorem dX4_carries_184 : decode cX4_carries 184 = .ok (.invokevirtual 133, 3) := dk_182 0 133 (dk_at dksX4_carries_8 0 rfl rfl)
theorem dX4_carries_187 : decode cX4_carries 187 = .ok (.ireturn, 1) := dk_172 (dk_at dksX4_carries_8 3 rfl rfl)
abbrev cX4_comesBack : ByteArray := prog_29_method_6_code
def yX4_comesBack : MethodName := ⟨RX4, "comesBack", "()V"⟩
def dkwX4_comesBack_1 : List UInt8 := [167, 255, 234, 177]
abbrev dktX4_comesBack_1 : List UInt8 := dkwX4_comesBack_1 ++ []
def dkwX4_comesBack_0 : List UInt8 := [3, 60, 27, 17, 2, 140, 162, 0, 21, 42, 180, 0, 21, 27, 42, 180, 0, 25, 27, 46, 79, 132, 1, 1]
abbrev dktX4_comesBack_0 : List UInt8 := dkwX4_comesBack_0 ++ dktX4_comesBack_1
theorem dksX4_comesBack_0 : cX4_comesBack.data.toList.drop 0 = dktX4_comesBack_0 := by decide +kernel
theorem dksX4_comesBack_1 : cX4_comesBack.data.toList.drop 24 = dktX4_comesBack_1 := dk_seg dksX4_comesBack_0 24 rfl rfl
theorem dX4_comesBack_0 : decode cX4_comesBack 0 = .ok (.iconst 0, 1) := dk_3 (dk_at dksX4_comesBack_0 0 rfl rfl)
theorem dX4_comesBack_1 : decode cX4_comesBack 1 = .ok (.istore_n 1, 1) := dk_60 (dk_at dksX4_comesBack_0 1 rfl rfl)
theorem dX4_comesBack_2 : decode cX4_comesBack 2 = .ok (.iload_n 1, 1) := dk_27 (dk_at dksX4_comesBack_0 2 rfl rfl)
theorem dX4_comesBack_3 : decode cX4_comesBack 3 = .ok (.sipush 652, 3) := dk_17 2 140 (dk_at dksX4_comesBack_0 3 rfl rfl)
theorem dX4_comesBack_6 : decode cX4_comesBack 6 = .ok (.if_icmp .ge 21, 3) := dk_162 0 21 (dk_at dksX4_comesBack_0 6 rfl rfl)
theorem dX4_comesBack_9 : decode cX4_comesBack 9 = .ok (.aload_n 0, 1) := dk_42 (dk_at dksX4_comesBack_0 9 rfl rfl)
theorem dX4_comesBack_10 : decode cX4_comesBack 10 = .ok (.getfield 21, 3) := dk_180 0 21 (dk_at dksX4_comesBack_0 10 rfl rfl)
theorem dX4_comesBack_13 : decode cX4_comesBack 13 = .ok (.iload_n 1, 1) := dk_27 (dk_at dksX4_comesBack_0 13 rfl rfl)
theorem dX4_comesBack_14 : decode cX4_comesBack 14 = .ok (.aload_n 0, 1) := dk_42 (dk_at dksX4_comesBack_0 14 rfl rfl)
theorem dX4_comesBack_15 : decode cX4_comesBack 15 = .ok (.getfield 25, 3) := dk_180 0 25 (dk_at dksX4_comesBack_0 15 rfl rfl)
theorem dX4_comesBack_18 : decode cX4_comesBack 18 = .ok (.iload_n 1, 1) := dk_27 (dk_at dksX4_comesBack_0 18 rfl rfl)
theorem dX4_comesBack_19 : decode cX4_comesBack 19 = .ok (.iaload, 1) := dk_46 (dk_at dksX4_comesBack_0 19 rfl rfl)
theorem dX4_comesBack_20 : decode cX4_comesBack 20 = .ok (.iastore, 1) := dk_79 (dk_at dksX4_comesBack_0 20 rfl rfl)
theorem dX4_comesBack_21 : decode cX4_comesBack 21 = .ok (.iinc 1 1, 3) := dk_132 1 1 (dk_at dksX4_comesBack_0 21 rfl rfl)
theorem dX4_comesBack_24 : decode cX4_comesBack 24 = .ok (.goto (-22), 3) := dk_167 255 234 (dk_at dksX4_comesBack_1 0 rfl rfl)
theorem dX4_comesBack_27 : decode cX4_comesBack 27 = .ok (.return_, 1) := dk_177 (dk_at dksX4_comesBack_1 3 rfl rfl)
abbrev cX4_faultPosition : ByteArray := prog_29_method_73_code
def yX4_faultPosition : MethodName := ⟨RX4, "faultPosition", "()I"⟩
def dkwX4_faultPosition_1 : List UInt8 := [172]
abbrev dktX4_faultPosition_1 : List UInt8 := dkwX4_faultPosition_1 ++ []
def dkwX4_faultPosition_0 : List UInt8 := [42, 3, 181, 0, 58, 42, 180, 0, 54, 156, 0, 11, 42, 4, 182, 0, 77, 167, 0, 7, 42, 180, 0, 54]
abbrev dktX4_faultPosition_0 : List UInt8 := dkwX4_faultPosition_0 ++ dktX4_faultPosition_1
theorem dksX4_faultPosition_0 : cX4_faultPosition.data.toList.drop 0 = dktX4_faultPosition_0 := by decide +kernel
theorem dksX4_faultPosition_1 : cX4_faultPosition.data.toList.drop 24 = dktX4_faultPosition_1 := dk_seg dksX4_faultPosition_0 24 rfl rfl
theorem dX4_faultPosition_0 : decode cX4_faultPosition 0 = .ok (.aload_n 0, 1) := dk_42 (dk_at dksX4_faultPosition_0 0 rfl rfl)
theorem dX4_faultPosition_1 : decode cX4_faultPosition 1 = .ok (.iconst 0, 1) := dk_3 (dk_at dksX4_faultPosition_0 1 rfl rfl)
theorem dX4_faultPosition_2 : decode cX4_faultPosition 2 = .ok (.putfield 58, 3) := dk_181 0 58 (dk_at dksX4_faultPosition_0 2 rfl rfl)
theorem dX4_faultPosition_5 : decode cX4_faultPosition 5 = .ok (.aload_n 0, 1) := dk_42 (dk_at dksX4_faultPosition_0 5 rfl rfl)
theorem dX4_faultPosition_6 : decode cX4_faultPosition 6 = .ok (.getfield 54, 3) := dk_180 0 54 (dk_at dksX4_faultPosition_0 6 rfl rfl)
theorem dX4_faultPosition_9 : decode cX4_faultPosition 9 = .ok (.ifCond .ge 11, 3) := dk_156 0 11 (dk_at dksX4_faultPosition_0 9 rfl rfl)
theorem dX4_faultPosition_12 : decode cX4_faultPosition 12 = .ok (.aload_n 0, 1) := dk_42 (dk_at dksX4_faultPosition_0 12 rfl rfl)
theorem dX4_faultPosition_13 : decode cX4_faultPosition 13 = .ok (.iconst 1, 1) := dk_4 (dk_at dksX4_faultPosition_0 13 rfl rfl)
theorem dX4_faultPosition_14 : decode cX4_faultPosition 14 = .ok (.invokevirtual 77, 3) := dk_182 0 77 (dk_at dksX4_faultPosition_0 14 rfl rfl)
theorem dX4_faultPosition_17 : decode cX4_faultPosition 17 = .ok (.goto 7, 3) := dk_167 0 7 (dk_at dksX4_faultPosition_0 17 rfl rfl)
theorem dX4_faultPosition_20 : decode cX4_faultPosition 20 = .ok (.aload_n 0, 1) := dk_42 (dk_at dksX4_faultPosition_0 20 rfl rfl)
theorem dX4_faultPosition_21 : decode cX4_faultPosition 21 = .ok (.getfield 54, 3) := dk_180 0 54 (dk_at dksX4_faultPosition_0 21 rfl rfl)
theorem dX4_faultPosition_24 : decode cX4_faultPosition 24 = .ok (.ireturn, 1) := dk_172 (dk_at dksX4_faultPosition_1 0 rfl rfl)
abbrev cX4_refusal : ByteArray := prog_29_method_74_code
def yX4_refusal : MethodName := ⟨RX4, "refusal", "(Z)I"⟩
def dkwX4_refusal_1 : List UInt8 := [180, 0, 67, 167, 0, 7, 42, 180, 0, 70, 172]
abbrev dktX4_refusal_1 : List UInt8 := dkwX4_refusal_1 ++ []
def dkwX4_refusal_0 : List UInt8 := [42, 3, 181, 0, 58, 42, 180, 0, 67, 154, 0, 9, 42, 4, 182, 0, 77, 172, 27, 153, 0, 10, 42]
abbrev dktX4_refusal_0 : List UInt8 := dkwX4_refusal_0 ++ dktX4_refusal_1
theorem dksX4_refusal_0 : cX4_refusal.data.toList.drop 0 = dktX4_refusal_0 := by decide +kernel
theorem dksX4_refusal_1 : cX4_refusal.data.toList.drop 23 = dktX4_refusal_1 := dk_seg dksX4_refusal_0 23 rfl rfl
theorem dX4_refusal_0 : decode cX4_refusal 0 = .ok (.aload_n 0, 1) := dk_42 (dk_at dksX4_refusal_0 0 rfl rfl)
theorem dX4_refusal_1 : decode cX4_refusal 1 = .ok (.iconst 0, 1) := dk_3 (dk_at dksX4_refusal_0 1 rfl rfl)
theorem dX4_refusal_2 : decode cX4_refusal 2 = .ok (.putfield 58, 3) := dk_181 0 58 (dk_at dksX4_refusal_0 2 rfl rfl)
theorem dX4_refusal_5 : decode cX4_refusal 5 = .ok (.aload_n 0, 1) := dk_42 (dk_at dksX4_refusal_0 5 rfl rfl)
theorem dX4_refusal_6 : decode cX4_refusal 6 = .ok (.getfield 67, 3) := dk_180 0 67 (dk_at dksX4_refusal_0 6 rfl rfl)
theorem dX4_refusal_9 : decode cX4_refusal 9 = .ok (.ifCond .ne 9, 3) := dk_154 0 9 (dk_at dksX4_refusal_0 9 rfl rfl)
theorem dX4_refusal_12 : decode cX4_refusal 12 = .ok (.aload_n 0, 1) := dk_42 (dk_at dksX4_refusal_0 12 rfl rfl)
theorem dX4_refusal_13 : decode cX4_refusal 13 = .ok (.iconst 1, 1) := dk_4 (dk_at dksX4_refusal_0 13 rfl rfl)
theorem dX4_refusal_14 : decode cX4_refusal 14 = .ok (.invokevirtual 77, 3) := dk_182 0 77 (dk_at dksX4_refusal_0 14 rfl rfl)
theorem dX4_refusal_17 : decode cX4_refusal 17 = .ok (.ireturn, 1) := dk_172 (dk_at dksX4_refusal_0 17 rfl rfl)
theorem dX4_refusal_18 : decode cX4_refusal 18 = .ok (.iload_n 1, 1) := dk_27 (dk_at dksX4_refusal_0 18 rfl rfl)
theorem dX4_refusal_19 : decode cX4_refusal 19 = .ok (.ifCond .eq 10, 3) := dk_153 0 10 (dk_at dksX4_refusal_0 19 rfl rfl)
theorem dX4_refusal_22 : decode cX4_refusal 22 = .ok (.aload_n 0, 1) := dk_42 (dk_at dksX4_refusal_0 22 rfl rfl)
theorem dX4_refusal_23 : decode cX4_refusal 23 = .ok (.getfield 67, 3) := dk_180 0 67 (dk_at dksX4_refusal_1 0 rfl rfl)
theorem dX4_refusal_26 : decode cX4_refusal 26 = .ok (.goto 7, 3) := dk_167 0 7 (dk_at dksX4_refusal_1 3 rfl rfl)
theorem dX4_refusal_29 : decode cX4_refusal 29 = .ok (.aload_n 0, 1) := dk_42 (dk_at dksX4_refusal_1 6 rfl rfl)
theorem dX4_refusal_30 : decode cX4_refusal 30 = .ok (.getfield 70, 3) := dk_180 0 70 (dk_at dksX4_refusal_1 7 rfl rfl)
theorem dX4_refusal_33 : decode cX4_refusal 33 = .ok (.ireturn, 1) := dk_172 (dk_at dksX4_refusal_1 10 rfl rfl)
abbrev cX4_undo : ByteArray := prog_29_method_75_code
def yX4_undo : MethodName := ⟨RX4, "undo", "()I"⟩
def dkwX4_undo_2 : List UInt8 := [17, 2, 140, 42, 180, 0, 61, 104, 27, 96, 46, 79, 132, 1, 1, 167, 255, 225, 42, 180, 0, 61, 172]
abbrev dktX4_undo_2 : List UInt8 := dkwX4_undo_2 ++ []
def dkwX4_undo_1 : List UInt8 := [100, 181, 0, 61, 3, 60, 27, 17, 2, 140, 162, 0, 30, 42, 180, 0, 21, 27, 42, 180, 0, 28]
abbrev dktX4_undo_1 : List UInt8 := dkwX4_undo_1 ++ dktX4_undo_2
def dkwX4_undo_0 : List UInt8 := [42, 3, 181, 0, 58, 42, 180, 0, 61, 154, 0, 9, 42, 4, 182, 0, 77, 172, 42, 89, 180, 0, 61, 4]
abbrev dktX4_undo_0 : List UInt8 := dkwX4_undo_0 ++ dktX4_undo_1
theorem dksX4_undo_0 : cX4_undo.data.toList.drop 0 = dktX4_undo_0 := by decide +kernel
theorem dksX4_undo_1 : cX4_undo.data.toList.drop 24 = dktX4_undo_1 := dk_seg dksX4_undo_0 24 rfl rfl
theorem dksX4_undo_2 : cX4_undo.data.toList.drop 46 = dktX4_undo_2 := dk_seg dksX4_undo_1 22 rfl rfl
theorem dX4_undo_0 : decode cX4_undo 0 = .ok (.aload_n 0, 1) := dk_42 (dk_at dksX4_undo_0 0 rfl rfl)
theorem dX4_undo_1 : decode cX4_undo 1 = .ok (.iconst 0, 1) := dk_3 (dk_at dksX4_undo_0 1 rfl rfl)
theorem dX4_undo_2 : decode cX4_undo 2 = .ok (.putfield 58, 3) := dk_181 0 58 (dk_at dksX4_undo_0 2 rfl rfl)
theorem dX4_undo_5 : decode cX4_undo 5 = .ok (.aload_n 0, 1) := dk_42 (dk_at dksX4_undo_0 5 rfl rfl)
theorem dX4_undo_6 : decode cX4_undo 6 = .ok (.getfield 61, 3) := dk_180 0 61 (dk_at dksX4_undo_0 6 rfl rfl)
theorem dX4_undo_9 : decode cX4_undo 9 = .ok (.ifCond .ne 9, 3) := dk_154 0 9 (dk_at dksX4_undo_0 9 rfl rfl)
theorem dX4_undo_12 : decode cX4_undo 12 = .ok (.aload_n 0, 1) := dk_42 (dk_at dksX4_undo_0 12 rfl rfl)
theorem dX4_undo_13 : decode cX4_undo 13 = .ok (.iconst 1, 1) := dk_4 (dk_at dksX4_undo_0 13 rfl rfl)
theorem dX4_undo_14 : decode cX4_undo 14 = .ok (.invokevirtual 77, 3) := dk_182 0 77 (dk_at dksX4_undo_0 14 rfl rfl)
theorem dX4_undo_17 : decode cX4_undo 17 = .ok (.ireturn, 1) := dk_172 (dk_at dksX4_undo_0 17 rfl rfl)
theorem dX4_undo_18 : decode cX4_undo 18 = .ok (.aload_n 0, 1) := dk_42 (dk_at dksX4_undo_0 18 rfl rfl)
theorem dX4_undo_19 : decode cX4_undo 19 = .ok (.dup, 1) := dk_89 (dk_at dksX4_undo_0 19 rfl rfl)
theorem dX4_undo_20 : decode cX4_undo 20 = .ok (.getfield 61, 3) := dk_180 0 61 (dk_at dksX4_undo_0 20 rfl rfl)
theorem dX4_undo_23 : decode cX4_undo 23 = .ok (.iconst 1, 1) := dk_4 (dk_at dksX4_undo_0 23 rfl rfl)
theorem dX4_undo_24 : decode cX4_undo 24 = .ok (.isub, 1) := dk_100 (dk_at dksX4_undo_1 0 rfl rfl)
theorem dX4_undo_25 : decode cX4_undo 25 = .ok (.putfield 61, 3) := dk_181 0 61 (dk_at dksX4_undo_1 1 rfl rfl)
theorem dX4_undo_28 : decode cX4_undo 28 = .ok (.iconst 0, 1) := dk_3 (dk_at dksX4_undo_1 4 rfl rfl)
theorem dX4_undo_29 : decode cX4_undo 29 = .ok (.istore_n 1, 1) := dk_60 (dk_at dksX4_undo_1 5 rfl rfl)
theorem dX4_undo_30 : decode cX4_undo 30 = .ok (.iload_n 1, 1) := dk_27 (dk_at dksX4_undo_1 6 rfl rfl)
theorem dX4_undo_31 : decode cX4_undo 31 = .ok (.sipush 652, 3) := dk_17 2 140 (dk_at dksX4_undo_1 7 rfl rfl)
theorem dX4_undo_34 : decode cX4_undo 34 = .ok (.if_icmp .ge 30, 3) := dk_162 0 30 (dk_at dksX4_undo_1 10 rfl rfl)
theorem dX4_undo_37 : decode cX4_undo 37 = .ok (.aload_n 0, 1) := dk_42 (dk_at dksX4_undo_1 13 rfl rfl)
theorem dX4_undo_38 : decode cX4_undo 38 = .ok (.getfield 21, 3) := dk_180 0 21 (dk_at dksX4_undo_1 14 rfl rfl)
theorem dX4_undo_41 : decode cX4_undo 41 = .ok (.iload_n 1, 1) := dk_27 (dk_at dksX4_undo_1 17 rfl rfl)
theorem dX4_undo_42 : decode cX4_undo 42 = .ok (.aload_n 0, 1) := dk_42 (dk_at dksX4_undo_1 18 rfl rfl)
theorem dX4_undo_43 : decode cX4_undo 43 = .ok (.getfield 28, 3) := dk_180 0 28 (dk_at dksX4_undo_1 19 rfl rfl)
theorem dX4_undo_46 : decode cX4_undo 46 = .ok (.sipush 652, 3) := dk_17 2 140 (dk_at dksX4_undo_2 0 rfl rfl)
theorem dX4_undo_49 : decode cX4_undo 49 = .ok (.aload_n 0, 1) := dk_42 (dk_at dksX4_undo_2 3 rfl rfl)
theorem dX4_undo_50 : decode cX4_undo 50 = .ok (.getfield 61, 3) := dk_180 0 61 (dk_at dksX4_undo_2 4 rfl rfl)
theorem dX4_undo_53 : decode cX4_undo 53 = .ok (.imul, 1) := dk_104 (dk_at dksX4_undo_2 7 rfl rfl)
theorem dX4_undo_54 : decode cX4_undo 54 = .ok (.iload_n 1, 1) := dk_27 (dk_at dksX4_undo_2 8 rfl rfl)
theorem dX4_undo_55 : decode cX4_undo 55 = .ok (.iadd, 1) := dk_96 (dk_at dksX4_undo_2 9 rfl rfl)
theorem dX4_undo_56 : decode cX4_undo 56 = .ok (.iaload, 1) := dk_46 (dk_at dksX4_undo_2 10 rfl rfl)
theorem dX4_undo_57 : decode cX4_undo 57 = .ok (.iastore, 1) := dk_79 (dk_at dksX4_undo_2 11 rfl rfl)
theorem dX4_undo_58 : decode cX4_undo 58 = .ok (.iinc 1 1, 3) := dk_132 1 1 (dk_at dksX4_undo_2 12 rfl rfl)
theorem dX4_undo_61 : decode cX4_undo 61 = .ok (.goto (-31), 3) := dk_167 255 225 (dk_at dksX4_undo_2 15 rfl rfl)
theorem dX4_undo_64 : decode cX4_undo 64 = .ok (.aload_n 0, 1) := dk_42 (dk_at dksX4_undo_2 18 rfl rfl)
theorem dX4_undo_65 : decode cX4_undo 65 = .ok (.getfield 61, 3) := dk_180 0 61 (dk_at dksX4_undo_2 19 rfl rfl)
theorem dX4_undo_68 : decode cX4_undo 68 = .ok (.ireturn, 1) := dk_172 (dk_at dksX4_undo_2 22 rfl rfl)
abbrev cX4_saveSnapshot : ByteArray := prog_29_method_76_code
def yX4_saveSnapshot : MethodName := ⟨RX4, "saveSnapshot", "()I"⟩
def dkwX4_saveSnapshot_1 : List UInt8 := [42, 180, 0, 21, 27, 46, 79, 132, 1, 1, 167, 255, 234, 42, 180, 0, 21, 3, 46, 172]
abbrev dktX4_saveSnapshot_1 : List UInt8 := dkwX4_saveSnapshot_1 ++ []
def dkwX4_saveSnapshot_0 : List UInt8 := [42, 3, 181, 0, 58, 42, 4, 181, 1, 15, 3, 60, 27, 17, 2, 140, 162, 0, 21, 42, 180, 0, 31, 27]
abbrev dktX4_saveSnapshot_0 : List UInt8 := dkwX4_saveSnapshot_0 ++ dktX4_saveSnapshot_1
theorem dksX4_saveSnapshot_0 : cX4_saveSnapshot.data.toList.drop 0 = dktX4_saveSnapshot_0 := by decide +kernel
theorem dksX4_saveSnapshot_1 : cX4_saveSnapshot.data.toList.drop 24 = dktX4_saveSnapshot_1 := dk_seg dksX4_saveSnapshot_0 24 rfl rfl
theorem dX4_saveSnapshot_0 : decode cX4_saveSnapshot 0 = .ok (.aload_n 0, 1) := dk_42 (dk_at dksX4_saveSnapshot_0 0 rfl rfl)
theorem dX4_saveSnapshot_1 : decode cX4_saveSnapshot 1 = .ok (.iconst 0, 1) := dk_3 (dk_at dksX4_saveSnapshot_0 1 rfl rfl)
theorem dX4_saveSnapshot_2 : decode cX4_saveSnapshot 2 = .ok (.putfield 58, 3) := dk_181 0 58 (dk_at dksX4_saveSnapshot_0 2 rfl rfl)
theorem dX4_saveSnapshot_5 : decode cX4_saveSnapshot 5 = .ok (.aload_n 0, 1) := dk_42 (dk_at dksX4_saveSnapshot_0 5 rfl rfl)
theorem dX4_saveSnapshot_6 : decode cX4_saveSnapshot 6 = .ok (.iconst 1, 1) := dk_4 (dk_at dksX4_saveSnapshot_0 6 rfl rfl)
theorem dX4_saveSnapshot_7 : decode cX4_saveSnapshot 7 = .ok (.putfield 271, 3) := dk_181 1 15 (dk_at dksX4_saveSnapshot_0 7 rfl rfl)
theorem dX4_saveSnapshot_10 : decode cX4_saveSnapshot 10 = .ok (.iconst 0, 1) := dk_3 (dk_at dksX4_saveSnapshot_0 10 rfl rfl)
theorem dX4_saveSnapshot_11 : decode cX4_saveSnapshot 11 = .ok (.istore_n 1, 1) := dk_60 (dk_at dksX4_saveSnapshot_0 11 rfl rfl)
theorem dX4_saveSnapshot_12 : decode cX4_saveSnapshot 12 = .ok (.iload_n 1, 1) := dk_27 (dk_at dksX4_saveSnapshot_0 12 rfl rfl)
theorem dX4_saveSnapshot_13 : decode cX4_saveSnapshot 13 = .ok (.sipush 652, 3) := dk_17 2 140 (dk_at dksX4_saveSnapshot_0 13 rfl rfl)
theorem dX4_saveSnapshot_16 : decode cX4_saveSnapshot 16 = .ok (.if_icmp .ge 21, 3) := dk_162 0 21 (dk_at dksX4_saveSnapshot_0 16 rfl rfl)
theorem dX4_saveSnapshot_19 : decode cX4_saveSnapshot 19 = .ok (.aload_n 0, 1) := dk_42 (dk_at dksX4_saveSnapshot_0 19 rfl rfl)
theorem dX4_saveSnapshot_20 : decode cX4_saveSnapshot 20 = .ok (.getfield 31, 3) := dk_180 0 31 (dk_at dksX4_saveSnapshot_0 20 rfl rfl)
theorem dX4_saveSnapshot_23 : decode cX4_saveSnapshot 23 = .ok (.iload_n 1, 1) := dk_27 (dk_at dksX4_saveSnapshot_0 23 rfl rfl)
theorem dX4_saveSnapshot_24 : decode cX4_saveSnapshot 24 = .ok (.aload_n 0, 1) := dk_42 (dk_at dksX4_saveSnapshot_1 0 rfl rfl)
theorem dX4_saveSnapshot_25 : decode cX4_saveSnapshot 25 = .ok (.getfield 21, 3) := dk_180 0 21 (dk_at dksX4_saveSnapshot_1 1 rfl rfl)
theorem dX4_saveSnapshot_28 : decode cX4_saveSnapshot 28 = .ok (.iload_n 1, 1) := dk_27 (dk_at dksX4_saveSnapshot_1 4 rfl rfl)
theorem dX4_saveSnapshot_29 : decode cX4_saveSnapshot 29 = .ok (.iaload, 1) := dk_46 (dk_at dksX4_saveSnapshot_1 5 rfl rfl)
theorem dX4_saveSnapshot_30 : decode cX4_saveSnapshot 30 = .ok (.iastore, 1) := dk_79 (dk_at dksX4_saveSnapshot_1 6 rfl rfl)
theorem dX4_saveSnapshot_31 : decode cX4_saveSnapshot 31 = .ok (.iinc 1 1, 3) := dk_132 1 1 (dk_at dksX4_saveSnapshot_1 7 rfl rfl)
theorem dX4_saveSnapshot_34 : decode cX4_saveSnapshot 34 = .ok (.goto (-22), 3) := dk_167 255 234 (dk_at dksX4_saveSnapshot_1 10 rfl rfl)
theorem dX4_saveSnapshot_37 : decode cX4_saveSnapshot 37 = .ok (.aload_n 0, 1) := dk_42 (dk_at dksX4_saveSnapshot_1 13 rfl rfl)
theorem dX4_saveSnapshot_38 : decode cX4_saveSnapshot 38 = .ok (.getfield 21, 3) := dk_180 0 21 (dk_at dksX4_saveSnapshot_1 14 rfl rfl)
theorem dX4_saveSnapshot_41 : decode cX4_saveSnapshot 41 = .ok (.iconst 0, 1) := dk_3 (dk_at dksX4_saveSnapshot_1 17 rfl rfl)
theorem dX4_saveSnapshot_42 : decode cX4_saveSnapshot 42 = .ok (.iaload, 1) := dk_46 (dk_at dksX4_saveSnapshot_1 18 rfl rfl)
theorem dX4_saveSnapshot_43 : decode cX4_saveSnapshot 43 = .ok (.ireturn, 1) := dk_172 (dk_at dksX4_saveSnapshot_1 19 rfl rfl)
abbrev cX4_restoreSnapshot : ByteArray := prog_29_method_77_code
def yX4_restoreSnapshot : MethodName := ⟨RX4, "restoreSnapshot", "()I"⟩
def dkwX4_restoreSnapshot_2 : List UInt8 := [181, 0, 61, 42, 180, 0, 21, 3, 46, 172]
abbrev dktX4_restoreSnapshot_2 : List UInt8 := dkwX4_restoreSnapshot_2 ++ []
def dkwX4_restoreSnapshot_1 : List UInt8 := [162, 0, 21, 42, 180, 0, 21, 27, 42, 180, 0, 31, 27, 46, 79, 132, 1, 1, 167, 255, 234, 42, 3]
abbrev dktX4_restoreSnapshot_1 : List UInt8 := dkwX4_restoreSnapshot_1 ++ dktX4_restoreSnapshot_2
def dkwX4_restoreSnapshot_0 : List UInt8 := [42, 3, 181, 0, 58, 42, 180, 1, 15, 154, 0, 9, 42, 4, 182, 0, 77, 172, 3, 60, 27, 17, 2, 140]
abbrev dktX4_restoreSnapshot_0 : List UInt8 := dkwX4_restoreSnapshot_0 ++ dktX4_restoreSnapshot_1
theorem dksX4_restoreSnapshot_0 : cX4_restoreSnapshot.data.toList.drop 0 = dktX4_restoreSnapshot_0 := by decide +kernel
theorem dksX4_restoreSnapshot_1 : cX4_restoreSnapshot.data.toList.drop 24 = dktX4_restoreSnapshot_1 := dk_seg dksX4_restoreSnapshot_0 24 rfl rfl
theorem dksX4_restoreSnapshot_2 : cX4_restoreSnapshot.data.toList.drop 47 = dktX4_restoreSnapshot_2 := dk_seg dksX4_restoreSnapshot_1 23 rfl rfl
theorem dX4_restoreSnapshot_0 : decode cX4_restoreSnapshot 0 = .ok (.aload_n 0, 1) := dk_42 (dk_at dksX4_restoreSnapshot_0 0 rfl rfl)
theorem dX4_restoreSnapshot_1 : decode cX4_restoreSnapshot 1 = .ok (.iconst 0, 1) := dk_3 (dk_at dksX4_restoreSnapshot_0 1 rfl rfl)
theorem dX4_restoreSnapshot_2 : decode cX4_restoreSnapshot 2 = .ok (.putfield 58, 3) := dk_181 0 58 (dk_at dksX4_restoreSnapshot_0 2 rfl rfl)
theorem dX4_restoreSnapshot_5 : decode cX4_restoreSnapshot 5 = .ok (.aload_n 0, 1) := dk_42 (dk_at dksX4_restoreSnapshot_0 5 rfl rfl)
theorem dX4_restoreSnapshot_6 : decode cX4_restoreSnapshot 6 = .ok (.getfield 271, 3) := dk_180 1 15 (dk_at dksX4_restoreSnapshot_0 6 rfl rfl)
theorem dX4_restoreSnapshot_9 : decode cX4_restoreSnapshot 9 = .ok (.ifCond .ne 9, 3) := dk_154 0 9 (dk_at dksX4_restoreSnapshot_0 9 rfl rfl)
theorem dX4_restoreSnapshot_12 : decode cX4_restoreSnapshot 12 = .ok (.aload_n 0, 1) := dk_42 (dk_at dksX4_restoreSnapshot_0 12 rfl rfl)
theorem dX4_restoreSnapshot_13 : decode cX4_restoreSnapshot 13 = .ok (.iconst 1, 1) := dk_4 (dk_at dksX4_restoreSnapshot_0 13 rfl rfl)
theorem dX4_restoreSnapshot_14 : decode cX4_restoreSnapshot 14 = .ok (.invokevirtual 77, 3) := dk_182 0 77 (dk_at dksX4_restoreSnapshot_0 14 rfl rfl)
theorem dX4_restoreSnapshot_17 : decode cX4_restoreSnapshot 17 = .ok (.ireturn, 1) := dk_172 (dk_at dksX4_restoreSnapshot_0 17 rfl rfl)
theorem dX4_restoreSnapshot_18 : decode cX4_restoreSnapshot 18 = .ok (.iconst 0, 1) := dk_3 (dk_at dksX4_restoreSnapshot_0 18 rfl rfl)
theorem dX4_restoreSnapshot_19 : decode cX4_restoreSnapshot 19 = .ok (.istore_n 1, 1) := dk_60 (dk_at dksX4_restoreSnapshot_0 19 rfl rfl)
theorem dX4_restoreSnapshot_20 : decode cX4_restoreSnapshot 20 = .ok (.iload_n 1, 1) := dk_27 (dk_at dksX4_restoreSnapshot_0 20 rfl rfl)
theorem dX4_restoreSnapshot_21 : decode cX4_restoreSnapshot 21 = .ok (.sipush 652, 3) := dk_17 2 140 (dk_at dksX4_restoreSnapshot_0 21 rfl rfl)
theorem dX4_restoreSnapshot_24 : decode cX4_restoreSnapshot 24 = .ok (.if_icmp .ge 21, 3) := dk_162 0 21 (dk_at dksX4_restoreSnapshot_1 0 rfl rfl)
theorem dX4_restoreSnapshot_27 : decode cX4_restoreSnapshot 27 = .ok (.aload_n 0, 1) := dk_42 (dk_at dksX4_restoreSnapshot_1 3 rfl rfl)
theorem dX4_restoreSnapshot_28 : decode cX4_restoreSnapshot 28 = .ok (.getfield 21, 3) := dk_180 0 21 (dk_at dksX4_restoreSnapshot_1 4 rfl rfl)
theorem dX4_restoreSnapshot_31 : decode cX4_restoreSnapshot 31 = .ok (.iload_n 1, 1) := dk_27 (dk_at dksX4_restoreSnapshot_1 7 rfl rfl)
theorem dX4_restoreSnapshot_32 : decode cX4_restoreSnapshot 32 = .ok (.aload_n 0, 1) := dk_42 (dk_at dksX4_restoreSnapshot_1 8 rfl rfl)
theorem dX4_restoreSnapshot_33 : decode cX4_restoreSnapshot 33 = .ok (.getfield 31, 3) := dk_180 0 31 (dk_at dksX4_restoreSnapshot_1 9 rfl rfl)
theorem dX4_restoreSnapshot_36 : decode cX4_restoreSnapshot 36 = .ok (.iload_n 1, 1) := dk_27 (dk_at dksX4_restoreSnapshot_1 12 rfl rfl)
theorem dX4_restoreSnapshot_37 : decode cX4_restoreSnapshot 37 = .ok (.iaload, 1) := dk_46 (dk_at dksX4_restoreSnapshot_1 13 rfl rfl)
theorem dX4_restoreSnapshot_38 : decode cX4_restoreSnapshot 38 = .ok (.iastore, 1) := dk_79 (dk_at dksX4_restoreSnapshot_1 14 rfl rfl)
theorem dX4_restoreSnapshot_39 : decode cX4_restoreSnapshot 39 = .ok (.iinc 1 1, 3) := dk_132 1 1 (dk_at dksX4_restoreSnapshot_1 15 rfl rfl)
theorem dX4_restoreSnapshot_42 : decode cX4_restoreSnapshot 42 = .ok (.goto (-22), 3) := dk_167 255 234 (dk_at dksX4_restoreSnapshot_1 18 rfl rfl)
theorem dX4_restoreSnapshot_45 : decode cX4_restoreSnapshot 45 = .ok (.aload_n 0, 1) := dk_42 (dk_at dksX4_restoreSnapshot_1 21 rfl rfl)
theorem dX4_restoreSnapshot_46 : decode cX4_restoreSnapshot 46 = .ok (.iconst 0, 1) := dk_3 (dk_at dksX4_restoreSnapshot_1 22 rfl rfl)
theorem dX4_restoreSnapshot_47 : decode cX4_restoreSnapshot 47 = .ok (.putfield 61, 3) := dk_181 0 61 (dk_at dksX4_restoreSnapshot_2 0 rfl rfl)
theorem dX4_restoreSnapshot_50 : decode cX4_restoreSnapshot 50 = .ok (.aload_n 0, 1) := dk_42 (dk_at dksX4_restoreSnapshot_2 3 rfl rfl)
theorem dX4_restoreSnapshot_51 : decode cX4_restoreSnapshot 51 = .ok (.getfield 21, 3) := dk_180 0 21 (dk_at dksX4_restoreSnapshot_2 4 rfl rfl)
theorem dX4_restoreSnapshot_54 : decode cX4_restoreSnapshot 54 = .ok (.iconst 0, 1) := dk_3 (dk_at dksX4_restoreSnapshot_2 7 rfl rfl)
theorem dX4_restoreSnapshot_55 : decode cX4_restoreSnapshot 55 = .ok (.iaload, 1) := dk_46 (dk_at dksX4_restoreSnapshot_2 8 rfl rfl)
theorem dX4_restoreSnapshot_56 : decode cX4_restoreSnapshot 56 = .ok (.ireturn, 1) := dk_172 (dk_at dksX4_restoreSnapshot_2 9 rfl rfl)
theorem q87 : (Jvm.Cond.initialized "BraidedFerryModel") ∈ lw_all := lw_g (lw_at lw_m1 15 rfl) rfl
theorem q617 : (Jvm.Cond.selects "BraidedFerryModel" ({ cls := "java/lang/Object", name := "getClass", desc := "()Ljava/lang/Class;" } : Jvm.MethodName) ({ cls := "java/lang/Object", name := "getClass", desc := "()Ljava/lang/Class;" } : Jvm.MethodName)) ∈ lw_all := lw_g (lw_at lw_m3 65 rfl) rfl
theorem q811 : (Jvm.Cond.selects "BraidedFerryModel" ({ cls := "java/lang/Object", name := "hashCode", desc := "()I" } : Jvm.MethodName) ({ cls := "java/lang/Object", name := "hashCode", desc := "()I" } : Jvm.MethodName)) ∈ lw_all := lw_g (lw_at lw_m4 19 rfl) rfl
theorem q1137 : (Jvm.Cond.selects "BraidedFerryModel" ({ cls := "java/lang/Object", name := "equals", desc := "(Ljava/lang/Object;)Z" } : Jvm.MethodName) ({ cls := "java/lang/Object", name := "equals", desc := "(Ljava/lang/Object;)Z" } : Jvm.MethodName)) ∈ lw_all := lw_g (lw_at lw_m5 105 rfl) rfl
theorem q2699 : (Jvm.Cond.selects "BraidedFerryModel" ({ cls := "java/lang/Object", name := "toString", desc := "()Ljava/lang/String;" } : Jvm.MethodName) ({ cls := "java/lang/Object", name := "toString", desc := "()Ljava/lang/String;" } : Jvm.MethodName)) ∈ lw_all := lw_g (lw_at lw_m11 227 rfl) rfl
theorem q3258 : (Jvm.Cond.instantiable "BraidedFerryModel" (21 : Nat)) ∈ lw_all := lw_g (lw_at lw_m14 66 rfl) rfl
theorem q3260 : (Jvm.Cond.instanceMethod ({ cls := "BraidedFerryModel", name := "<init>", desc := "()V" } : Jvm.MethodName)) ∈ lw_all := lw_g (lw_at lw_m14 68 rfl) rfl
theorem q3261 : (Jvm.Cond.code ({ cls := "BraidedFerryModel", name := "<init>", desc := "()V" } : Jvm.MethodName) prog_29_method_1_code (1 : Nat) (Option.none : Option Jvm.ClassFile.FieldType)) ∈ lw_all := lw_g (lw_at lw_m14 69 rfl) rfl
theorem q3262 : (Jvm.Cond.methodLink "BraidedFerryModel" (3 : Nat) ({ cls := "java/lang/Object", name := "<init>", desc := "()V" } : Jvm.MethodName)) ∈ lw_all := lw_g (lw_at lw_m14 70 rfl) rfl
theorem q3263 : (Jvm.Cond.classLink "BraidedFerryModel" (9 : Nat) "java/lang/String") ∈ lw_all := lw_g (lw_at lw_m14 71 rfl) rfl
theorem q3265 : (Jvm.Cond.stringRef "BraidedFerryModel" (11 : Nat) "foot") ∈ lw_tbl := lw_at lw_m14 73 rfl
theorem q3266 : (Jvm.Cond.stringRef "BraidedFerryModel" (13 : Nat) "hoof") ∈ lw_tbl := lw_at lw_m14 74 rfl
theorem q3267 : (Jvm.Cond.stringRef "BraidedFerryModel" (15 : Nat) "wheel") ∈ lw_tbl := lw_at lw_m14 75 rfl
theorem q3268 : (Jvm.Cond.stringRef "BraidedFerryModel" (37 : Nat) "forth") ∈ lw_tbl := lw_at lw_m14 76 rfl
theorem q3269 : (Jvm.Cond.stringRef "BraidedFerryModel" (39 : Nat) "back") ∈ lw_tbl := lw_at lw_m14 77 rfl
theorem q3270 : (Jvm.Cond.fieldLink "BraidedFerryModel" (17 : Nat) "BraidedFerryModel" "names" "[Ljava/lang/String;") ∈ lw_all := lw_g (lw_at lw_m14 78 rfl) rfl
theorem q3271 : (Jvm.Cond.fieldLink "BraidedFerryModel" (21 : Nat) "BraidedFerryModel" "now" "[I") ∈ lw_all := lw_g (lw_at lw_m14 79 rfl) rfl
theorem q3272 : (Jvm.Cond.fieldLink "BraidedFerryModel" (25 : Nat) "BraidedFerryModel" "tried" "[I") ∈ lw_all := lw_g (lw_at lw_m14 80 rfl) rfl
theorem q3273 : (Jvm.Cond.fieldLink "BraidedFerryModel" (28 : Nat) "BraidedFerryModel" "kept" "[I") ∈ lw_all := lw_g (lw_at lw_m14 81 rfl) rfl
theorem q3274 : (Jvm.Cond.fieldLink "BraidedFerryModel" (61 : Nat) "BraidedFerryModel" "undos" "I") ∈ lw_all := lw_g (lw_at lw_m14 82 rfl) rfl
theorem q3275 : (Jvm.Cond.fieldLink "BraidedFerryModel" (31 : Nat) "BraidedFerryModel" "saved" "[I") ∈ lw_all := lw_g (lw_at lw_m14 83 rfl) rfl
theorem q3276 : (Jvm.Cond.fieldLink "BraidedFerryModel" (271 : Nat) "BraidedFerryModel" "isSaved" "Z") ∈ lw_all := lw_g (lw_at lw_m14 84 rfl) rfl
theorem q3277 : (Jvm.Cond.fieldLink "BraidedFerryModel" (34 : Nat) "BraidedFerryModel" "moved" "[I") ∈ lw_all := lw_g (lw_at lw_m14 85 rfl) rfl
theorem q3278 : (Jvm.Cond.fieldLink "BraidedFerryModel" (41 : Nat) "BraidedFerryModel" "ways" "[Ljava/lang/String;") ∈ lw_all := lw_g (lw_at lw_m14 86 rfl) rfl
theorem q3279 : (Jvm.Cond.fieldLink "BraidedFerryModel" (44 : Nat) "BraidedFerryModel" "line" "[C") ∈ lw_all := lw_g (lw_at lw_m14 87 rfl) rfl
theorem q3280 : (Jvm.Cond.fieldLink "BraidedFerryModel" (181 : Nat) "BraidedFerryModel" "lined" "I") ∈ lw_all := lw_g (lw_at lw_m14 88 rfl) rfl
theorem q3281 : (Jvm.Cond.fieldLink "BraidedFerryModel" (48 : Nat) "BraidedFerryModel" "text" "[C") ∈ lw_all := lw_g (lw_at lw_m14 89 rfl) rfl
theorem q3282 : (Jvm.Cond.fieldLink "BraidedFerryModel" (223 : Nat) "BraidedFerryModel" "length" "I") ∈ lw_all := lw_g (lw_at lw_m14 90 rfl) rfl
theorem q3283 : (Jvm.Cond.fieldLink "BraidedFerryModel" (225 : Nat) "BraidedFerryModel" "at" "I") ∈ lw_all := lw_g (lw_at lw_m14 91 rfl) rfl
theorem q3284 : (Jvm.Cond.fieldLink "BraidedFerryModel" (51 : Nat) "BraidedFerryModel" "told" "[I") ∈ lw_all := lw_g (lw_at lw_m14 92 rfl) rfl
theorem q3285 : (Jvm.Cond.fieldLink "BraidedFerryModel" (232 : Nat) "BraidedFerryModel" "command" "I") ∈ lw_all := lw_g (lw_at lw_m14 93 rfl) rfl
theorem q3286 : (Jvm.Cond.fieldLink "BraidedFerryModel" (54 : Nat) "BraidedFerryModel" "fault" "I") ∈ lw_all := lw_g (lw_at lw_m14 94 rfl) rfl
theorem q3287 : (Jvm.Cond.fieldLink "BraidedFerryModel" (67 : Nat) "BraidedFerryModel" "reason" "I") ∈ lw_all := lw_g (lw_at lw_m14 95 rfl) rfl
theorem q3288 : (Jvm.Cond.fieldLink "BraidedFerryModel" (70 : Nat) "BraidedFerryModel" "detail" "I") ∈ lw_all := lw_g (lw_at lw_m14 96 rfl) rfl
theorem q3289 : (Jvm.Cond.fieldLink "BraidedFerryModel" (64 : Nat) "BraidedFerryModel" "answer" "I") ∈ lw_all := lw_g (lw_at lw_m14 97 rfl) rfl
theorem q3290 : (Jvm.Cond.fieldLink "BraidedFerryModel" (58 : Nat) "BraidedFerryModel" "thrown" "I") ∈ lw_all := lw_g (lw_at lw_m14 98 rfl) rfl
theorem q3291 : (Jvm.Cond.laysFinal "BraidedFerryModel" "BraidedFerryModel" "names" "[Ljava/lang/String;") ∈ lw_all := lw_g (lw_at lw_m14 99 rfl) rfl
theorem q3292 : (Jvm.Cond.soleField "BraidedFerryModel" "names") ∈ lw_all := lw_g (lw_at lw_m14 100 rfl) rfl
theorem q3293 : (Jvm.Cond.laysFinal "BraidedFerryModel" "BraidedFerryModel" "now" "[I") ∈ lw_all := lw_g (lw_at lw_m14 101 rfl) rfl
theorem q3294 : (Jvm.Cond.soleField "BraidedFerryModel" "now") ∈ lw_all := lw_g (lw_at lw_m14 102 rfl) rfl
theorem q3295 : (Jvm.Cond.laysFinal "BraidedFerryModel" "BraidedFerryModel" "tried" "[I") ∈ lw_all := lw_g (lw_at lw_m14 103 rfl) rfl
theorem q3296 : (Jvm.Cond.soleField "BraidedFerryModel" "tried") ∈ lw_all := lw_g (lw_at lw_m14 104 rfl) rfl
theorem q3297 : (Jvm.Cond.laysFinal "BraidedFerryModel" "BraidedFerryModel" "kept" "[I") ∈ lw_all := lw_g (lw_at lw_m14 105 rfl) rfl
theorem q3298 : (Jvm.Cond.soleField "BraidedFerryModel" "kept") ∈ lw_all := lw_g (lw_at lw_m14 106 rfl) rfl
theorem q3299 : (Jvm.Cond.lays "BraidedFerryModel" "BraidedFerryModel" "undos" "I") ∈ lw_all := lw_g (lw_at lw_m14 107 rfl) rfl
theorem q3300 : (Jvm.Cond.soleField "BraidedFerryModel" "undos") ∈ lw_all := lw_g (lw_at lw_m14 108 rfl) rfl
theorem q3301 : (Jvm.Cond.laysFinal "BraidedFerryModel" "BraidedFerryModel" "saved" "[I") ∈ lw_all := lw_g (lw_at lw_m14 109 rfl) rfl
theorem q3302 : (Jvm.Cond.soleField "BraidedFerryModel" "saved") ∈ lw_all := lw_g (lw_at lw_m14 110 rfl) rfl
theorem q3303 : (Jvm.Cond.lays "BraidedFerryModel" "BraidedFerryModel" "isSaved" "Z") ∈ lw_all := lw_g (lw_at lw_m14 111 rfl) rfl
theorem q3304 : (Jvm.Cond.soleField "BraidedFerryModel" "isSaved") ∈ lw_all := lw_g (lw_at lw_m14 112 rfl) rfl
theorem q3305 : (Jvm.Cond.laysFinal "BraidedFerryModel" "BraidedFerryModel" "moved" "[I") ∈ lw_all := lw_g (lw_at lw_m14 113 rfl) rfl
theorem q3306 : (Jvm.Cond.soleField "BraidedFerryModel" "moved") ∈ lw_all := lw_g (lw_at lw_m14 114 rfl) rfl
theorem q3307 : (Jvm.Cond.laysFinal "BraidedFerryModel" "BraidedFerryModel" "ways" "[Ljava/lang/String;") ∈ lw_all := lw_g (lw_at lw_m14 115 rfl) rfl
theorem q3308 : (Jvm.Cond.soleField "BraidedFerryModel" "ways") ∈ lw_all := lw_g (lw_at lw_m14 116 rfl) rfl
theorem q3309 : (Jvm.Cond.laysFinal "BraidedFerryModel" "BraidedFerryModel" "line" "[C") ∈ lw_all := lw_g (lw_at lw_m14 117 rfl) rfl
theorem q3310 : (Jvm.Cond.soleField "BraidedFerryModel" "line") ∈ lw_all := lw_g (lw_at lw_m14 118 rfl) rfl
theorem q3311 : (Jvm.Cond.lays "BraidedFerryModel" "BraidedFerryModel" "lined" "I") ∈ lw_all := lw_g (lw_at lw_m14 119 rfl) rfl
theorem q3312 : (Jvm.Cond.soleField "BraidedFerryModel" "lined") ∈ lw_all := lw_g (lw_at lw_m14 120 rfl) rfl
theorem q3313 : (Jvm.Cond.laysFinal "BraidedFerryModel" "BraidedFerryModel" "text" "[C") ∈ lw_all := lw_g (lw_at lw_m14 121 rfl) rfl
theorem q3314 : (Jvm.Cond.soleField "BraidedFerryModel" "text") ∈ lw_all := lw_g (lw_at lw_m14 122 rfl) rfl
theorem q3315 : (Jvm.Cond.lays "BraidedFerryModel" "BraidedFerryModel" "length" "I") ∈ lw_all := lw_g (lw_at lw_m14 123 rfl) rfl
theorem q3316 : (Jvm.Cond.soleField "BraidedFerryModel" "length") ∈ lw_all := lw_g (lw_at lw_m14 124 rfl) rfl
theorem q3317 : (Jvm.Cond.lays "BraidedFerryModel" "BraidedFerryModel" "at" "I") ∈ lw_all := lw_g (lw_at lw_m14 125 rfl) rfl
theorem q3318 : (Jvm.Cond.soleField "BraidedFerryModel" "at") ∈ lw_all := lw_g (lw_at lw_m14 126 rfl) rfl
theorem q3319 : (Jvm.Cond.laysFinal "BraidedFerryModel" "BraidedFerryModel" "told" "[I") ∈ lw_all := lw_g (lw_at lw_m14 127 rfl) rfl
theorem q3320 : (Jvm.Cond.soleField "BraidedFerryModel" "told") ∈ lw_all := lw_g (lw_at lw_m14 128 rfl) rfl
theorem q3321 : (Jvm.Cond.lays "BraidedFerryModel" "BraidedFerryModel" "command" "I") ∈ lw_all := lw_g (lw_at lw_m14 129 rfl) rfl
theorem q3322 : (Jvm.Cond.soleField "BraidedFerryModel" "command") ∈ lw_all := lw_g (lw_at lw_m14 130 rfl) rfl
theorem q3323 : (Jvm.Cond.lays "BraidedFerryModel" "BraidedFerryModel" "fault" "I") ∈ lw_all := lw_g (lw_at lw_m14 131 rfl) rfl
theorem q3324 : (Jvm.Cond.soleField "BraidedFerryModel" "fault") ∈ lw_all := lw_g (lw_at lw_m14 132 rfl) rfl
theorem q3325 : (Jvm.Cond.lays "BraidedFerryModel" "BraidedFerryModel" "reason" "I") ∈ lw_all := lw_g (lw_at lw_m14 133 rfl) rfl
theorem q3326 : (Jvm.Cond.soleField "BraidedFerryModel" "reason") ∈ lw_all := lw_g (lw_at lw_m14 134 rfl) rfl
theorem q3327 : (Jvm.Cond.lays "BraidedFerryModel" "BraidedFerryModel" "detail" "I") ∈ lw_all := lw_g (lw_at lw_m14 135 rfl) rfl
theorem q3328 : (Jvm.Cond.soleField "BraidedFerryModel" "detail") ∈ lw_all := lw_g (lw_at lw_m14 136 rfl) rfl
theorem q3329 : (Jvm.Cond.lays "BraidedFerryModel" "BraidedFerryModel" "answer" "I") ∈ lw_all := lw_g (lw_at lw_m14 137 rfl) rfl
theorem q3330 : (Jvm.Cond.soleField "BraidedFerryModel" "answer") ∈ lw_all := lw_g (lw_at lw_m14 138 rfl) rfl
theorem q3331 : (Jvm.Cond.lays "BraidedFerryModel" "BraidedFerryModel" "thrown" "I") ∈ lw_all := lw_g (lw_at lw_m14 139 rfl) rfl
theorem q3332 : (Jvm.Cond.soleField "BraidedFerryModel" "thrown") ∈ lw_all := lw_g (lw_at lw_m14 140 rfl) rfl
theorem q3333 : (Jvm.Cond.superclass "BraidedFerryModel" "java/lang/Object") ∈ lw_all := lw_g (lw_at lw_m14 141 rfl) rfl
theorem q3336 : (Jvm.Cond.instanceMethod ({ cls := "BraidedFerryModel", name := "thrown", desc := "()I" } : Jvm.MethodName)) ∈ lw_all := lw_g (lw_at lw_m14 144 rfl) rfl
theorem q3337 : (Jvm.Cond.selects "BraidedFerryModel" ({ cls := "BraidedFerryModel", name := "thrown", desc := "()I" } : Jvm.MethodName) ({ cls := "BraidedFerryModel", name := "thrown", desc := "()I" } : Jvm.MethodName)) ∈ lw_all := lw_g (lw_at lw_m14 145 rfl) rfl
theorem q3338 : (Jvm.Cond.code ({ cls := "BraidedFerryModel", name := "thrown", desc := "()I" } : Jvm.MethodName) prog_29_method_2_code (1 : Nat) (Option.some Jvm.ClassFile.FieldType.int)) ∈ lw_all := lw_g (lw_at lw_m14 146 rfl) rfl
theorem q3340 : (Jvm.Cond.instanceMethod ({ cls := "BraidedFerryModel", name := "channel", desc := "(III)I" } : Jvm.MethodName)) ∈ lw_all := lw_g (lw_at lw_m14 148 rfl) rfl
theorem q3341 : (Jvm.Cond.selects "BraidedFerryModel" ({ cls := "BraidedFerryModel", name := "channel", desc := "(III)I" } : Jvm.MethodName) ({ cls := "BraidedFerryModel", name := "channel", desc := "(III)I" } : Jvm.MethodName)) ∈ lw_all := lw_g (lw_at lw_m14 149 rfl) rfl
theorem q3342 : (Jvm.Cond.code ({ cls := "BraidedFerryModel", name := "channel", desc := "(III)I" } : Jvm.MethodName) prog_29_method_17_code (5 : Nat) (Option.some Jvm.ClassFile.FieldType.int)) ∈ lw_all := lw_g (lw_at lw_m14 150 rfl) rfl
theorem q3343 : (Jvm.Cond.methodLink "BraidedFerryModel" (84 : Nat) ({ cls := "BraidedFerryModel", name := "tries", desc := "()V" } : Jvm.MethodName)) ∈ lw_all := lw_g (lw_at lw_m14 151 rfl) rfl
theorem q3344 : (Jvm.Cond.privateMethod ({ cls := "BraidedFerryModel", name := "tries", desc := "()V" } : Jvm.MethodName)) ∈ lw_tbl := lw_at lw_m14 152 rfl
theorem q3345 : (Jvm.Cond.instanceMethod ({ cls := "BraidedFerryModel", name := "tries", desc := "()V" } : Jvm.MethodName)) ∈ lw_all := lw_g (lw_at lw_m14 153 rfl) rfl
theorem q3346 : (Jvm.Cond.code ({ cls := "BraidedFerryModel", name := "tries", desc := "()V" } : Jvm.MethodName) prog_29_method_5_code (2 : Nat) (Option.none : Option Jvm.ClassFile.FieldType)) ∈ lw_all := lw_g (lw_at lw_m14 154 rfl) rfl
theorem q3347 : (Jvm.Cond.methodLink "BraidedFerryModel" (80 : Nat) ({ cls := "BraidedFerryModel", name := "in", desc := "(III)Z" } : Jvm.MethodName)) ∈ lw_all := lw_g (lw_at lw_m14 155 rfl) rfl
theorem q3348 : (Jvm.Cond.static ({ cls := "BraidedFerryModel", name := "in", desc := "(III)Z" } : Jvm.MethodName)) ∈ lw_all := lw_g (lw_at lw_m14 156 rfl) rfl
theorem q3349 : (Jvm.Cond.code ({ cls := "BraidedFerryModel", name := "in", desc := "(III)Z" } : Jvm.MethodName) prog_29_method_4_code (3 : Nat) (Option.some Jvm.ClassFile.FieldType.boolean)) ∈ lw_all := lw_g (lw_at lw_m14 157 rfl) rfl
theorem q3350 : (Jvm.Cond.methodLink "BraidedFerryModel" (77 : Nat) ({ cls := "BraidedFerryModel", name := "raises", desc := "(I)I" } : Jvm.MethodName)) ∈ lw_all := lw_g (lw_at lw_m14 158 rfl) rfl
theorem q3351 : (Jvm.Cond.privateMethod ({ cls := "BraidedFerryModel", name := "raises", desc := "(I)I" } : Jvm.MethodName)) ∈ lw_tbl := lw_at lw_m14 159 rfl
theorem q3352 : (Jvm.Cond.instanceMethod ({ cls := "BraidedFerryModel", name := "raises", desc := "(I)I" } : Jvm.MethodName)) ∈ lw_all := lw_g (lw_at lw_m14 160 rfl) rfl
theorem q3353 : (Jvm.Cond.code ({ cls := "BraidedFerryModel", name := "raises", desc := "(I)I" } : Jvm.MethodName) prog_29_method_3_code (2 : Nat) (Option.some Jvm.ClassFile.FieldType.int)) ∈ lw_all := lw_g (lw_at lw_m14 161 rfl) rfl
theorem q3354 : (Jvm.Cond.methodLink "BraidedFerryModel" (87 : Nat) ({ cls := "BraidedFerryModel", name := "why", desc := "(II)I" } : Jvm.MethodName)) ∈ lw_all := lw_g (lw_at lw_m14 162 rfl) rfl
theorem q3355 : (Jvm.Cond.privateMethod ({ cls := "BraidedFerryModel", name := "why", desc := "(II)I" } : Jvm.MethodName)) ∈ lw_tbl := lw_at lw_m14 163 rfl
theorem q3356 : (Jvm.Cond.instanceMethod ({ cls := "BraidedFerryModel", name := "why", desc := "(II)I" } : Jvm.MethodName)) ∈ lw_all := lw_g (lw_at lw_m14 164 rfl) rfl
theorem q3357 : (Jvm.Cond.code ({ cls := "BraidedFerryModel", name := "why", desc := "(II)I" } : Jvm.MethodName) prog_29_method_9_code (3 : Nat) (Option.some Jvm.ClassFile.FieldType.int)) ∈ lw_all := lw_g (lw_at lw_m14 165 rfl) rfl
theorem q3358 : (Jvm.Cond.methodLink "BraidedFerryModel" (91 : Nat) ({ cls := "BraidedFerryModel", name := "ends", desc := "(II)I" } : Jvm.MethodName)) ∈ lw_all := lw_g (lw_at lw_m14 166 rfl) rfl
theorem q3359 : (Jvm.Cond.privateMethod ({ cls := "BraidedFerryModel", name := "ends", desc := "(II)I" } : Jvm.MethodName)) ∈ lw_tbl := lw_at lw_m14 167 rfl
theorem q3360 : (Jvm.Cond.instanceMethod ({ cls := "BraidedFerryModel", name := "ends", desc := "(II)I" } : Jvm.MethodName)) ∈ lw_all := lw_g (lw_at lw_m14 168 rfl) rfl
theorem q3361 : (Jvm.Cond.code ({ cls := "BraidedFerryModel", name := "ends", desc := "(II)I" } : Jvm.MethodName) prog_29_method_10_code (3 : Nat) (Option.some Jvm.ClassFile.FieldType.int)) ∈ lw_all := lw_g (lw_at lw_m14 169 rfl) rfl
theorem q3362 : (Jvm.Cond.methodLink "BraidedFerryModel" (73 : Nat) ({ cls := "BraidedFerryModel", name := "keeps", desc := "(I)I" } : Jvm.MethodName)) ∈ lw_all := lw_g (lw_at lw_m14 170 rfl) rfl
theorem q3363 : (Jvm.Cond.privateMethod ({ cls := "BraidedFerryModel", name := "keeps", desc := "(I)I" } : Jvm.MethodName)) ∈ lw_tbl := lw_at lw_m14 171 rfl
theorem q3364 : (Jvm.Cond.instanceMethod ({ cls := "BraidedFerryModel", name := "keeps", desc := "(I)I" } : Jvm.MethodName)) ∈ lw_all := lw_g (lw_at lw_m14 172 rfl) rfl
theorem q3365 : (Jvm.Cond.code ({ cls := "BraidedFerryModel", name := "keeps", desc := "(I)I" } : Jvm.MethodName) prog_29_method_7_code (3 : Nat) (Option.some Jvm.ClassFile.FieldType.int)) ∈ lw_all := lw_g (lw_at lw_m14 173 rfl) rfl
theorem q3367 : (Jvm.Cond.instanceMethod ({ cls := "BraidedFerryModel", name := "split", desc := "(II)I" } : Jvm.MethodName)) ∈ lw_all := lw_g (lw_at lw_m14 175 rfl) rfl
theorem q3368 : (Jvm.Cond.selects "BraidedFerryModel" ({ cls := "BraidedFerryModel", name := "split", desc := "(II)I" } : Jvm.MethodName) ({ cls := "BraidedFerryModel", name := "split", desc := "(II)I" } : Jvm.MethodName)) ∈ lw_all := lw_g (lw_at lw_m14 176 rfl) rfl
theorem q3369 : (Jvm.Cond.code ({ cls := "BraidedFerryModel", name := "split", desc := "(II)I" } : Jvm.MethodName) prog_29_method_19_code (6 : Nat) (Option.some Jvm.ClassFile.FieldType.int)) ∈ lw_all := lw_g (lw_at lw_m14 177 rfl) rfl
theorem q3370 : (Jvm.Cond.methodLink "BraidedFerryModel" (98 : Nat) ({ cls := "BraidedFerryModel", name := "isChannel", desc := "(I)Z" } : Jvm.MethodName)) ∈ lw_all := lw_g (lw_at lw_m14 178 rfl) rfl
theorem q3371 : (Jvm.Cond.privateMethod ({ cls := "BraidedFerryModel", name := "isChannel", desc := "(I)Z" } : Jvm.MethodName)) ∈ lw_tbl := lw_at lw_m14 179 rfl
theorem q3372 : (Jvm.Cond.instanceMethod ({ cls := "BraidedFerryModel", name := "isChannel", desc := "(I)Z" } : Jvm.MethodName)) ∈ lw_all := lw_g (lw_at lw_m14 180 rfl) rfl
theorem q3373 : (Jvm.Cond.code ({ cls := "BraidedFerryModel", name := "isChannel", desc := "(I)Z" } : Jvm.MethodName) prog_29_method_11_code (2 : Nat) (Option.some Jvm.ClassFile.FieldType.boolean)) ∈ lw_all := lw_g (lw_at lw_m14 181 rfl) rfl
theorem q3374 : (Jvm.Cond.methodLink "BraidedFerryModel" (102 : Nat) ({ cls := "BraidedFerryModel", name := "renumbers", desc := "(II)V" } : Jvm.MethodName)) ∈ lw_all := lw_g (lw_at lw_m14 182 rfl) rfl
theorem q3375 : (Jvm.Cond.privateMethod ({ cls := "BraidedFerryModel", name := "renumbers", desc := "(II)V" } : Jvm.MethodName)) ∈ lw_tbl := lw_at lw_m14 183 rfl
theorem q3376 : (Jvm.Cond.instanceMethod ({ cls := "BraidedFerryModel", name := "renumbers", desc := "(II)V" } : Jvm.MethodName)) ∈ lw_all := lw_g (lw_at lw_m14 184 rfl) rfl
theorem q3377 : (Jvm.Cond.code ({ cls := "BraidedFerryModel", name := "renumbers", desc := "(II)V" } : Jvm.MethodName) prog_29_method_18_code (6 : Nat) (Option.none : Option Jvm.ClassFile.FieldType)) ∈ lw_all := lw_g (lw_at lw_m14 185 rfl) rfl
theorem q3378 : (Jvm.Cond.methodLink "BraidedFerryModel" (94 : Nat) ({ cls := "BraidedFerryModel", name := "groupAt", desc := "(III)I" } : Jvm.MethodName)) ∈ lw_all := lw_g (lw_at lw_m14 186 rfl) rfl
theorem q3379 : (Jvm.Cond.static ({ cls := "BraidedFerryModel", name := "groupAt", desc := "(III)I" } : Jvm.MethodName)) ∈ lw_all := lw_g (lw_at lw_m14 187 rfl) rfl
theorem q3380 : (Jvm.Cond.code ({ cls := "BraidedFerryModel", name := "groupAt", desc := "(III)I" } : Jvm.MethodName) prog_29_method_15_code (3 : Nat) (Option.some Jvm.ClassFile.FieldType.int)) ∈ lw_all := lw_g (lw_at lw_m14 188 rfl) rfl
theorem q3382 : (Jvm.Cond.instanceMethod ({ cls := "BraidedFerryModel", name := "shift", desc := "(II)I" } : Jvm.MethodName)) ∈ lw_all := lw_g (lw_at lw_m14 190 rfl) rfl
theorem q3383 : (Jvm.Cond.selects "BraidedFerryModel" ({ cls := "BraidedFerryModel", name := "shift", desc := "(II)I" } : Jvm.MethodName) ({ cls := "BraidedFerryModel", name := "shift", desc := "(II)I" } : Jvm.MethodName)) ∈ lw_all := lw_g (lw_at lw_m14 191 rfl) rfl
theorem q3384 : (Jvm.Cond.code ({ cls := "BraidedFerryModel", name := "shift", desc := "(II)I" } : Jvm.MethodName) prog_29_method_20_code (4 : Nat) (Option.some Jvm.ClassFile.FieldType.int)) ∈ lw_all := lw_g (lw_at lw_m14 192 rfl) rfl
theorem q3386 : (Jvm.Cond.instanceMethod ({ cls := "BraidedFerryModel", name := "channelOf", desc := "(II)I" } : Jvm.MethodName)) ∈ lw_all := lw_g (lw_at lw_m14 194 rfl) rfl
theorem q3387 : (Jvm.Cond.selects "BraidedFerryModel" ({ cls := "BraidedFerryModel", name := "channelOf", desc := "(II)I" } : Jvm.MethodName) ({ cls := "BraidedFerryModel", name := "channelOf", desc := "(II)I" } : Jvm.MethodName)) ∈ lw_all := lw_g (lw_at lw_m14 195 rfl) rfl
theorem q3388 : (Jvm.Cond.code ({ cls := "BraidedFerryModel", name := "channelOf", desc := "(II)I" } : Jvm.MethodName) prog_29_method_25_code (3 : Nat) (Option.some Jvm.ClassFile.FieldType.int)) ∈ lw_all := lw_g (lw_at lw_m14 196 rfl) rfl
theorem q3389 : (Jvm.Cond.methodLink "BraidedFerryModel" (114 : Nat) ({ cls := "BraidedFerryModel", name := "flowAt", desc := "(II)I" } : Jvm.MethodName)) ∈ lw_all := lw_g (lw_at lw_m14 197 rfl) rfl
theorem q3390 : (Jvm.Cond.privateMethod ({ cls := "BraidedFerryModel", name := "flowAt", desc := "(II)I" } : Jvm.MethodName)) ∈ lw_tbl := lw_at lw_m14 198 rfl
theorem q3391 : (Jvm.Cond.instanceMethod ({ cls := "BraidedFerryModel", name := "flowAt", desc := "(II)I" } : Jvm.MethodName)) ∈ lw_all := lw_g (lw_at lw_m14 199 rfl) rfl
theorem q3392 : (Jvm.Cond.code ({ cls := "BraidedFerryModel", name := "flowAt", desc := "(II)I" } : Jvm.MethodName) prog_29_method_21_code (5 : Nat) (Option.some Jvm.ClassFile.FieldType.int)) ∈ lw_all := lw_g (lw_at lw_m14 200 rfl) rfl
theorem q3393 : (Jvm.Cond.methodLink "BraidedFerryModel" (106 : Nat) ({ cls := "java/lang/Math", name := "min", desc := "(II)I" } : Jvm.MethodName)) ∈ lw_all := lw_g (lw_at lw_m14 201 rfl) rfl
theorem q3394 : (Jvm.Cond.methodLink "BraidedFerryModel" (117 : Nat) ({ cls := "BraidedFerryModel", name := "anchorsIn", desc := "(IZ)I" } : Jvm.MethodName)) ∈ lw_all := lw_g (lw_at lw_m14 202 rfl) rfl
theorem q3395 : (Jvm.Cond.privateMethod ({ cls := "BraidedFerryModel", name := "anchorsIn", desc := "(IZ)I" } : Jvm.MethodName)) ∈ lw_tbl := lw_at lw_m14 203 rfl
theorem q3396 : (Jvm.Cond.instanceMethod ({ cls := "BraidedFerryModel", name := "anchorsIn", desc := "(IZ)I" } : Jvm.MethodName)) ∈ lw_all := lw_g (lw_at lw_m14 204 rfl) rfl
theorem q3397 : (Jvm.Cond.code ({ cls := "BraidedFerryModel", name := "anchorsIn", desc := "(IZ)I" } : Jvm.MethodName) prog_29_method_24_code (5 : Nat) (Option.some Jvm.ClassFile.FieldType.int)) ∈ lw_all := lw_g (lw_at lw_m14 205 rfl) rfl
theorem q3398 : (Jvm.Cond.methodLink "BraidedFerryModel" (111 : Nat) ({ cls := "BraidedFerryModel", name := "holds", desc := "(I)Z" } : Jvm.MethodName)) ∈ lw_all := lw_g (lw_at lw_m14 206 rfl) rfl
theorem q3399 : (Jvm.Cond.privateMethod ({ cls := "BraidedFerryModel", name := "holds", desc := "(I)Z" } : Jvm.MethodName)) ∈ lw_tbl := lw_at lw_m14 207 rfl
theorem q3400 : (Jvm.Cond.instanceMethod ({ cls := "BraidedFerryModel", name := "holds", desc := "(I)Z" } : Jvm.MethodName)) ∈ lw_all := lw_g (lw_at lw_m14 208 rfl) rfl
theorem q3401 : (Jvm.Cond.code ({ cls := "BraidedFerryModel", name := "holds", desc := "(I)Z" } : Jvm.MethodName) prog_29_method_22_code (2 : Nat) (Option.some Jvm.ClassFile.FieldType.boolean)) ∈ lw_all := lw_g (lw_at lw_m14 209 rfl) rfl
theorem q3402 : (Jvm.Cond.methodLink "BraidedFerryModel" (121 : Nat) ({ cls := "BraidedFerryModel", name := "leastDrag", desc := "(I)I" } : Jvm.MethodName)) ∈ lw_all := lw_g (lw_at lw_m14 210 rfl) rfl
theorem q3403 : (Jvm.Cond.privateMethod ({ cls := "BraidedFerryModel", name := "leastDrag", desc := "(I)I" } : Jvm.MethodName)) ∈ lw_tbl := lw_at lw_m14 211 rfl
theorem q3404 : (Jvm.Cond.instanceMethod ({ cls := "BraidedFerryModel", name := "leastDrag", desc := "(I)I" } : Jvm.MethodName)) ∈ lw_all := lw_g (lw_at lw_m14 212 rfl) rfl
theorem q3405 : (Jvm.Cond.code ({ cls := "BraidedFerryModel", name := "leastDrag", desc := "(I)I" } : Jvm.MethodName) prog_29_method_23_code (5 : Nat) (Option.some Jvm.ClassFile.FieldType.int)) ∈ lw_all := lw_g (lw_at lw_m14 213 rfl) rfl
theorem q3407 : (Jvm.Cond.instanceMethod ({ cls := "BraidedFerryModel", name := "flood", desc := "(III)I" } : Jvm.MethodName)) ∈ lw_all := lw_g (lw_at lw_m14 215 rfl) rfl
theorem q3408 : (Jvm.Cond.selects "BraidedFerryModel" ({ cls := "BraidedFerryModel", name := "flood", desc := "(III)I" } : Jvm.MethodName) ({ cls := "BraidedFerryModel", name := "flood", desc := "(III)I" } : Jvm.MethodName)) ∈ lw_all := lw_g (lw_at lw_m14 216 rfl) rfl
theorem q3409 : (Jvm.Cond.code ({ cls := "BraidedFerryModel", name := "flood", desc := "(III)I" } : Jvm.MethodName) prog_29_method_26_code (5 : Nat) (Option.some Jvm.ClassFile.FieldType.int)) ∈ lw_all := lw_g (lw_at lw_m14 217 rfl) rfl
theorem q3411 : (Jvm.Cond.instanceMethod ({ cls := "BraidedFerryModel", name := "flow", desc := "(II)I" } : Jvm.MethodName)) ∈ lw_all := lw_g (lw_at lw_m14 219 rfl) rfl
theorem q3412 : (Jvm.Cond.selects "BraidedFerryModel" ({ cls := "BraidedFerryModel", name := "flow", desc := "(II)I" } : Jvm.MethodName) ({ cls := "BraidedFerryModel", name := "flow", desc := "(II)I" } : Jvm.MethodName)) ∈ lw_all := lw_g (lw_at lw_m14 220 rfl) rfl
theorem q3413 : (Jvm.Cond.code ({ cls := "BraidedFerryModel", name := "flow", desc := "(II)I" } : Jvm.MethodName) prog_29_method_27_code (3 : Nat) (Option.some Jvm.ClassFile.FieldType.int)) ∈ lw_all := lw_g (lw_at lw_m14 221 rfl) rfl
theorem q3415 : (Jvm.Cond.instanceMethod ({ cls := "BraidedFerryModel", name := "anchor", desc := "(II)I" } : Jvm.MethodName)) ∈ lw_all := lw_g (lw_at lw_m14 223 rfl) rfl
theorem q3416 : (Jvm.Cond.selects "BraidedFerryModel" ({ cls := "BraidedFerryModel", name := "anchor", desc := "(II)I" } : Jvm.MethodName) ({ cls := "BraidedFerryModel", name := "anchor", desc := "(II)I" } : Jvm.MethodName)) ∈ lw_all := lw_g (lw_at lw_m14 224 rfl) rfl
theorem q3417 : (Jvm.Cond.code ({ cls := "BraidedFerryModel", name := "anchor", desc := "(II)I" } : Jvm.MethodName) prog_29_method_29_code (3 : Nat) (Option.some Jvm.ClassFile.FieldType.int)) ∈ lw_all := lw_g (lw_at lw_m14 225 rfl) rfl
theorem q3418 : (Jvm.Cond.methodLink "BraidedFerryModel" (127 : Nat) ({ cls := "BraidedFerryModel", name := "sets", desc := "(II)I" } : Jvm.MethodName)) ∈ lw_all := lw_g (lw_at lw_m14 226 rfl) rfl
theorem q3419 : (Jvm.Cond.privateMethod ({ cls := "BraidedFerryModel", name := "sets", desc := "(II)I" } : Jvm.MethodName)) ∈ lw_tbl := lw_at lw_m14 227 rfl
theorem q3420 : (Jvm.Cond.instanceMethod ({ cls := "BraidedFerryModel", name := "sets", desc := "(II)I" } : Jvm.MethodName)) ∈ lw_all := lw_g (lw_at lw_m14 228 rfl) rfl
theorem q3421 : (Jvm.Cond.code ({ cls := "BraidedFerryModel", name := "sets", desc := "(II)I" } : Jvm.MethodName) prog_29_method_28_code (4 : Nat) (Option.some Jvm.ClassFile.FieldType.int)) ∈ lw_all := lw_g (lw_at lw_m14 229 rfl) rfl
theorem q3422 : (Jvm.Cond.methodLink "BraidedFerryModel" (124 : Nat) ({ cls := "BraidedFerryModel", name := "does", desc := "(I)I" } : Jvm.MethodName)) ∈ lw_all := lw_g (lw_at lw_m14 230 rfl) rfl
theorem q3423 : (Jvm.Cond.privateMethod ({ cls := "BraidedFerryModel", name := "does", desc := "(I)I" } : Jvm.MethodName)) ∈ lw_tbl := lw_at lw_m14 231 rfl
theorem q3424 : (Jvm.Cond.instanceMethod ({ cls := "BraidedFerryModel", name := "does", desc := "(I)I" } : Jvm.MethodName)) ∈ lw_all := lw_g (lw_at lw_m14 232 rfl) rfl
theorem q3425 : (Jvm.Cond.code ({ cls := "BraidedFerryModel", name := "does", desc := "(I)I" } : Jvm.MethodName) prog_29_method_8_code (2 : Nat) (Option.some Jvm.ClassFile.FieldType.int)) ∈ lw_all := lw_g (lw_at lw_m14 233 rfl) rfl
theorem q3427 : (Jvm.Cond.instanceMethod ({ cls := "BraidedFerryModel", name := "weigh", desc := "(I)I" } : Jvm.MethodName)) ∈ lw_all := lw_g (lw_at lw_m14 235 rfl) rfl
theorem q3428 : (Jvm.Cond.selects "BraidedFerryModel" ({ cls := "BraidedFerryModel", name := "weigh", desc := "(I)I" } : Jvm.MethodName) ({ cls := "BraidedFerryModel", name := "weigh", desc := "(I)I" } : Jvm.MethodName)) ∈ lw_all := lw_g (lw_at lw_m14 236 rfl) rfl
theorem q3429 : (Jvm.Cond.code ({ cls := "BraidedFerryModel", name := "weigh", desc := "(I)I" } : Jvm.MethodName) prog_29_method_31_code (2 : Nat) (Option.some Jvm.ClassFile.FieldType.int)) ∈ lw_all := lw_g (lw_at lw_m14 237 rfl) rfl
theorem q3430 : (Jvm.Cond.methodLink "BraidedFerryModel" (133 : Nat) ({ cls := "BraidedFerryModel", name := "weighsOne", desc := "(I)I" } : Jvm.MethodName)) ∈ lw_all := lw_g (lw_at lw_m14 238 rfl) rfl
theorem q3431 : (Jvm.Cond.privateMethod ({ cls := "BraidedFerryModel", name := "weighsOne", desc := "(I)I" } : Jvm.MethodName)) ∈ lw_tbl := lw_at lw_m14 239 rfl
theorem q3432 : (Jvm.Cond.instanceMethod ({ cls := "BraidedFerryModel", name := "weighsOne", desc := "(I)I" } : Jvm.MethodName)) ∈ lw_all := lw_g (lw_at lw_m15 0 rfl) rfl
theorem q3433 : (Jvm.Cond.code ({ cls := "BraidedFerryModel", name := "weighsOne", desc := "(I)I" } : Jvm.MethodName) prog_29_method_30_code (4 : Nat) (Option.some Jvm.ClassFile.FieldType.int)) ∈ lw_all := lw_g (lw_at lw_m15 1 rfl) rfl
theorem q3434 : (Jvm.Cond.methodLink "BraidedFerryModel" (130 : Nat) ({ cls := "BraidedFerryModel", name := "isAnchor", desc := "(I)Z" } : Jvm.MethodName)) ∈ lw_all := lw_g (lw_at lw_m15 2 rfl) rfl
theorem q3435 : (Jvm.Cond.privateMethod ({ cls := "BraidedFerryModel", name := "isAnchor", desc := "(I)Z" } : Jvm.MethodName)) ∈ lw_tbl := lw_at lw_m15 3 rfl
theorem q3436 : (Jvm.Cond.instanceMethod ({ cls := "BraidedFerryModel", name := "isAnchor", desc := "(I)Z" } : Jvm.MethodName)) ∈ lw_all := lw_g (lw_at lw_m15 4 rfl) rfl
theorem q3437 : (Jvm.Cond.code ({ cls := "BraidedFerryModel", name := "isAnchor", desc := "(I)Z" } : Jvm.MethodName) prog_29_method_13_code (2 : Nat) (Option.some Jvm.ClassFile.FieldType.boolean)) ∈ lw_all := lw_g (lw_at lw_m15 5 rfl) rfl
theorem q3439 : (Jvm.Cond.instanceMethod ({ cls := "BraidedFerryModel", name := "anchorOf", desc := "(II)I" } : Jvm.MethodName)) ∈ lw_all := lw_g (lw_at lw_m15 7 rfl) rfl
theorem q3440 : (Jvm.Cond.selects "BraidedFerryModel" ({ cls := "BraidedFerryModel", name := "anchorOf", desc := "(II)I" } : Jvm.MethodName) ({ cls := "BraidedFerryModel", name := "anchorOf", desc := "(II)I" } : Jvm.MethodName)) ∈ lw_all := lw_g (lw_at lw_m15 8 rfl) rfl
theorem q3441 : (Jvm.Cond.code ({ cls := "BraidedFerryModel", name := "anchorOf", desc := "(II)I" } : Jvm.MethodName) prog_29_method_37_code (3 : Nat) (Option.some Jvm.ClassFile.FieldType.int)) ∈ lw_all := lw_g (lw_at lw_m15 9 rfl) rfl
theorem q3442 : (Jvm.Cond.methodLink "BraidedFerryModel" (149 : Nat) ({ cls := "BraidedFerryModel", name := "holdOf", desc := "(I)I" } : Jvm.MethodName)) ∈ lw_all := lw_g (lw_at lw_m15 10 rfl) rfl
theorem q3443 : (Jvm.Cond.privateMethod ({ cls := "BraidedFerryModel", name := "holdOf", desc := "(I)I" } : Jvm.MethodName)) ∈ lw_tbl := lw_at lw_m15 11 rfl
theorem q3444 : (Jvm.Cond.instanceMethod ({ cls := "BraidedFerryModel", name := "holdOf", desc := "(I)I" } : Jvm.MethodName)) ∈ lw_all := lw_g (lw_at lw_m15 12 rfl) rfl
theorem q3445 : (Jvm.Cond.code ({ cls := "BraidedFerryModel", name := "holdOf", desc := "(I)I" } : Jvm.MethodName) prog_29_method_34_code (2 : Nat) (Option.some Jvm.ClassFile.FieldType.int)) ∈ lw_all := lw_g (lw_at lw_m15 13 rfl) rfl
theorem q3446 : (Jvm.Cond.methodLink "BraidedFerryModel" (146 : Nat) ({ cls := "BraidedFerryModel", name := "pullAt", desc := "(II)I" } : Jvm.MethodName)) ∈ lw_all := lw_g (lw_at lw_m15 14 rfl) rfl
theorem q3447 : (Jvm.Cond.privateMethod ({ cls := "BraidedFerryModel", name := "pullAt", desc := "(II)I" } : Jvm.MethodName)) ∈ lw_tbl := lw_at lw_m15 15 rfl
theorem q3448 : (Jvm.Cond.instanceMethod ({ cls := "BraidedFerryModel", name := "pullAt", desc := "(II)I" } : Jvm.MethodName)) ∈ lw_all := lw_g (lw_at lw_m15 16 rfl) rfl
theorem q3449 : (Jvm.Cond.code ({ cls := "BraidedFerryModel", name := "pullAt", desc := "(II)I" } : Jvm.MethodName) prog_29_method_35_code (4 : Nat) (Option.some Jvm.ClassFile.FieldType.int)) ∈ lw_all := lw_g (lw_at lw_m15 17 rfl) rfl
theorem q3450 : (Jvm.Cond.methodLink "BraidedFerryModel" (142 : Nat) ({ cls := "BraidedFerryModel", name := "aboard", desc := "()I" } : Jvm.MethodName)) ∈ lw_all := lw_g (lw_at lw_m15 18 rfl) rfl
theorem q3451 : (Jvm.Cond.privateMethod ({ cls := "BraidedFerryModel", name := "aboard", desc := "()I" } : Jvm.MethodName)) ∈ lw_tbl := lw_at lw_m15 19 rfl
theorem q3452 : (Jvm.Cond.instanceMethod ({ cls := "BraidedFerryModel", name := "aboard", desc := "()I" } : Jvm.MethodName)) ∈ lw_all := lw_g (lw_at lw_m15 20 rfl) rfl
theorem q3453 : (Jvm.Cond.code ({ cls := "BraidedFerryModel", name := "aboard", desc := "()I" } : Jvm.MethodName) prog_29_method_33_code (1 : Nat) (Option.some Jvm.ClassFile.FieldType.int)) ∈ lw_all := lw_g (lw_at lw_m15 21 rfl) rfl
theorem q3454 : (Jvm.Cond.methodLink "BraidedFerryModel" (139 : Nat) ({ cls := "BraidedFerryModel", name := "weightOf", desc := "(I)I" } : Jvm.MethodName)) ∈ lw_all := lw_g (lw_at lw_m15 22 rfl) rfl
theorem q3455 : (Jvm.Cond.privateMethod ({ cls := "BraidedFerryModel", name := "weightOf", desc := "(I)I" } : Jvm.MethodName)) ∈ lw_tbl := lw_at lw_m15 23 rfl
theorem q3456 : (Jvm.Cond.instanceMethod ({ cls := "BraidedFerryModel", name := "weightOf", desc := "(I)I" } : Jvm.MethodName)) ∈ lw_all := lw_g (lw_at lw_m15 24 rfl) rfl
theorem q3457 : (Jvm.Cond.code ({ cls := "BraidedFerryModel", name := "weightOf", desc := "(I)I" } : Jvm.MethodName) prog_29_method_32_code (4 : Nat) (Option.some Jvm.ClassFile.FieldType.int)) ∈ lw_all := lw_g (lw_at lw_m15 25 rfl) rfl
theorem q3458 : (Jvm.Cond.methodLink "BraidedFerryModel" (136 : Nat) ({ cls := "BraidedFerryModel", name := "weighs", desc := "(I)I" } : Jvm.MethodName)) ∈ lw_all := lw_g (lw_at lw_m15 26 rfl) rfl
theorem q3459 : (Jvm.Cond.static ({ cls := "BraidedFerryModel", name := "weighs", desc := "(I)I" } : Jvm.MethodName)) ∈ lw_all := lw_g (lw_at lw_m15 27 rfl) rfl
theorem q3460 : (Jvm.Cond.code ({ cls := "BraidedFerryModel", name := "weighs", desc := "(I)I" } : Jvm.MethodName) prog_29_method_16_code (1 : Nat) (Option.some Jvm.ClassFile.FieldType.int)) ∈ lw_all := lw_g (lw_at lw_m15 28 rfl) rfl
theorem q3462 : (Jvm.Cond.instanceMethod ({ cls := "BraidedFerryModel", name := "dragIn", desc := "(II)I" } : Jvm.MethodName)) ∈ lw_all := lw_g (lw_at lw_m15 30 rfl) rfl
theorem q3463 : (Jvm.Cond.selects "BraidedFerryModel" ({ cls := "BraidedFerryModel", name := "dragIn", desc := "(II)I" } : Jvm.MethodName) ({ cls := "BraidedFerryModel", name := "dragIn", desc := "(II)I" } : Jvm.MethodName)) ∈ lw_all := lw_g (lw_at lw_m15 31 rfl) rfl
theorem q3464 : (Jvm.Cond.code ({ cls := "BraidedFerryModel", name := "dragIn", desc := "(II)I" } : Jvm.MethodName) prog_29_method_38_code (5 : Nat) (Option.some Jvm.ClassFile.FieldType.int)) ∈ lw_all := lw_g (lw_at lw_m15 32 rfl) rfl
theorem q3465 : (Jvm.Cond.methodLink "BraidedFerryModel" (152 : Nat) ({ cls := "BraidedFerryModel", name := "draggedAt", desc := "(III)I" } : Jvm.MethodName)) ∈ lw_all := lw_g (lw_at lw_m15 33 rfl) rfl
theorem q3466 : (Jvm.Cond.privateMethod ({ cls := "BraidedFerryModel", name := "draggedAt", desc := "(III)I" } : Jvm.MethodName)) ∈ lw_tbl := lw_at lw_m15 34 rfl
theorem q3467 : (Jvm.Cond.instanceMethod ({ cls := "BraidedFerryModel", name := "draggedAt", desc := "(III)I" } : Jvm.MethodName)) ∈ lw_all := lw_g (lw_at lw_m15 35 rfl) rfl
theorem q3468 : (Jvm.Cond.code ({ cls := "BraidedFerryModel", name := "draggedAt", desc := "(III)I" } : Jvm.MethodName) prog_29_method_36_code (5 : Nat) (Option.some Jvm.ClassFile.FieldType.int)) ∈ lw_all := lw_g (lw_at lw_m15 36 rfl) rfl
theorem q3470 : (Jvm.Cond.instanceMethod ({ cls := "BraidedFerryModel", name := "dragAgain", desc := "(II)I" } : Jvm.MethodName)) ∈ lw_all := lw_g (lw_at lw_m15 38 rfl) rfl
theorem q3471 : (Jvm.Cond.selects "BraidedFerryModel" ({ cls := "BraidedFerryModel", name := "dragAgain", desc := "(II)I" } : Jvm.MethodName) ({ cls := "BraidedFerryModel", name := "dragAgain", desc := "(II)I" } : Jvm.MethodName)) ∈ lw_all := lw_g (lw_at lw_m15 39 rfl) rfl
theorem q3472 : (Jvm.Cond.code ({ cls := "BraidedFerryModel", name := "dragAgain", desc := "(II)I" } : Jvm.MethodName) prog_29_method_39_code (3 : Nat) (Option.some Jvm.ClassFile.FieldType.int)) ∈ lw_all := lw_g (lw_at lw_m15 40 rfl) rfl
theorem q3473 : (Jvm.Cond.methodLink "BraidedFerryModel" (155 : Nat) ({ cls := "BraidedFerryModel", name := "dragIn", desc := "(II)I" } : Jvm.MethodName)) ∈ lw_all := lw_g (lw_at lw_m15 41 rfl) rfl
theorem q3475 : (Jvm.Cond.instanceMethod ({ cls := "BraidedFerryModel", name := "come", desc := "(IIII)I" } : Jvm.MethodName)) ∈ lw_all := lw_g (lw_at lw_m15 43 rfl) rfl
theorem q3476 : (Jvm.Cond.selects "BraidedFerryModel" ({ cls := "BraidedFerryModel", name := "come", desc := "(IIII)I" } : Jvm.MethodName) ({ cls := "BraidedFerryModel", name := "come", desc := "(IIII)I" } : Jvm.MethodName)) ∈ lw_all := lw_g (lw_at lw_m15 44 rfl) rfl
theorem q3477 : (Jvm.Cond.code ({ cls := "BraidedFerryModel", name := "come", desc := "(IIII)I" } : Jvm.MethodName) prog_29_method_41_code (5 : Nat) (Option.some Jvm.ClassFile.FieldType.int)) ∈ lw_all := lw_g (lw_at lw_m15 45 rfl) rfl
theorem q3478 : (Jvm.Cond.methodLink "BraidedFerryModel" (164 : Nat) ({ cls := "BraidedFerryModel", name := "comes", desc := "(IIII)I" } : Jvm.MethodName)) ∈ lw_all := lw_g (lw_at lw_m15 46 rfl) rfl
theorem q3479 : (Jvm.Cond.privateMethod ({ cls := "BraidedFerryModel", name := "comes", desc := "(IIII)I" } : Jvm.MethodName)) ∈ lw_tbl := lw_at lw_m15 47 rfl
theorem q3480 : (Jvm.Cond.instanceMethod ({ cls := "BraidedFerryModel", name := "comes", desc := "(IIII)I" } : Jvm.MethodName)) ∈ lw_all := lw_g (lw_at lw_m15 48 rfl) rfl
theorem q3481 : (Jvm.Cond.code ({ cls := "BraidedFerryModel", name := "comes", desc := "(IIII)I" } : Jvm.MethodName) prog_29_method_40_code (6 : Nat) (Option.some Jvm.ClassFile.FieldType.int)) ∈ lw_all := lw_g (lw_at lw_m15 49 rfl) rfl
theorem q3482 : (Jvm.Cond.methodLink "BraidedFerryModel" (158 : Nat) ({ cls := "BraidedFerryModel", name := "isStop", desc := "(I)Z" } : Jvm.MethodName)) ∈ lw_all := lw_g (lw_at lw_m15 50 rfl) rfl
theorem q3483 : (Jvm.Cond.privateMethod ({ cls := "BraidedFerryModel", name := "isStop", desc := "(I)Z" } : Jvm.MethodName)) ∈ lw_tbl := lw_at lw_m15 51 rfl
theorem q3484 : (Jvm.Cond.instanceMethod ({ cls := "BraidedFerryModel", name := "isStop", desc := "(I)Z" } : Jvm.MethodName)) ∈ lw_all := lw_g (lw_at lw_m15 52 rfl) rfl
theorem q3485 : (Jvm.Cond.code ({ cls := "BraidedFerryModel", name := "isStop", desc := "(I)Z" } : Jvm.MethodName) prog_29_method_12_code (2 : Nat) (Option.some Jvm.ClassFile.FieldType.boolean)) ∈ lw_all := lw_g (lw_at lw_m15 53 rfl) rfl
theorem q3486 : (Jvm.Cond.methodLink "BraidedFerryModel" (161 : Nat) ({ cls := "BraidedFerryModel", name := "isKind", desc := "(I)Z" } : Jvm.MethodName)) ∈ lw_all := lw_g (lw_at lw_m15 54 rfl) rfl
theorem q3487 : (Jvm.Cond.static ({ cls := "BraidedFerryModel", name := "isKind", desc := "(I)Z" } : Jvm.MethodName)) ∈ lw_all := lw_g (lw_at lw_m15 55 rfl) rfl
theorem q3488 : (Jvm.Cond.code ({ cls := "BraidedFerryModel", name := "isKind", desc := "(I)Z" } : Jvm.MethodName) prog_29_method_14_code (1 : Nat) (Option.some Jvm.ClassFile.FieldType.boolean)) ∈ lw_all := lw_g (lw_at lw_m15 56 rfl) rfl
theorem q3490 : (Jvm.Cond.instanceMethod ({ cls := "BraidedFerryModel", name := "group", desc := "(IIII)I" } : Jvm.MethodName)) ∈ lw_all := lw_g (lw_at lw_m15 58 rfl) rfl
theorem q3491 : (Jvm.Cond.selects "BraidedFerryModel" ({ cls := "BraidedFerryModel", name := "group", desc := "(IIII)I" } : Jvm.MethodName) ({ cls := "BraidedFerryModel", name := "group", desc := "(IIII)I" } : Jvm.MethodName)) ∈ lw_all := lw_g (lw_at lw_m15 59 rfl) rfl
theorem q3492 : (Jvm.Cond.code ({ cls := "BraidedFerryModel", name := "group", desc := "(IIII)I" } : Jvm.MethodName) prog_29_method_42_code (6 : Nat) (Option.some Jvm.ClassFile.FieldType.int)) ∈ lw_all := lw_g (lw_at lw_m15 60 rfl) rfl
theorem q3494 : (Jvm.Cond.instanceMethod ({ cls := "BraidedFerryModel", name := "board", desc := "(IIIZ)I" } : Jvm.MethodName)) ∈ lw_all := lw_g (lw_at lw_m15 62 rfl) rfl
theorem q3495 : (Jvm.Cond.selects "BraidedFerryModel" ({ cls := "BraidedFerryModel", name := "board", desc := "(IIIZ)I" } : Jvm.MethodName) ({ cls := "BraidedFerryModel", name := "board", desc := "(IIIZ)I" } : Jvm.MethodName)) ∈ lw_all := lw_g (lw_at lw_m15 63 rfl) rfl
theorem q3496 : (Jvm.Cond.code ({ cls := "BraidedFerryModel", name := "board", desc := "(IIIZ)I" } : Jvm.MethodName) prog_29_method_44_code (5 : Nat) (Option.some Jvm.ClassFile.FieldType.int)) ∈ lw_all := lw_g (lw_at lw_m15 64 rfl) rfl
theorem q3497 : (Jvm.Cond.methodLink "BraidedFerryModel" (168 : Nat) ({ cls := "BraidedFerryModel", name := "boards", desc := "(IIIZ)I" } : Jvm.MethodName)) ∈ lw_all := lw_g (lw_at lw_m15 65 rfl) rfl
theorem q3498 : (Jvm.Cond.privateMethod ({ cls := "BraidedFerryModel", name := "boards", desc := "(IIIZ)I" } : Jvm.MethodName)) ∈ lw_tbl := lw_at lw_m15 66 rfl
theorem q3499 : (Jvm.Cond.instanceMethod ({ cls := "BraidedFerryModel", name := "boards", desc := "(IIIZ)I" } : Jvm.MethodName)) ∈ lw_all := lw_g (lw_at lw_m15 67 rfl) rfl
theorem q3500 : (Jvm.Cond.code ({ cls := "BraidedFerryModel", name := "boards", desc := "(IIIZ)I" } : Jvm.MethodName) prog_29_method_43_code (7 : Nat) (Option.some Jvm.ClassFile.FieldType.int)) ∈ lw_all := lw_g (lw_at lw_m15 68 rfl) rfl
theorem q3502 : (Jvm.Cond.instanceMethod ({ cls := "BraidedFerryModel", name := "land", desc := "()I" } : Jvm.MethodName)) ∈ lw_all := lw_g (lw_at lw_m15 70 rfl) rfl
theorem q3503 : (Jvm.Cond.selects "BraidedFerryModel" ({ cls := "BraidedFerryModel", name := "land", desc := "()I" } : Jvm.MethodName) ({ cls := "BraidedFerryModel", name := "land", desc := "()I" } : Jvm.MethodName)) ∈ lw_all := lw_g (lw_at lw_m15 71 rfl) rfl
theorem q3504 : (Jvm.Cond.code ({ cls := "BraidedFerryModel", name := "land", desc := "()I" } : Jvm.MethodName) prog_29_method_46_code (1 : Nat) (Option.some Jvm.ClassFile.FieldType.int)) ∈ lw_all := lw_g (lw_at lw_m15 72 rfl) rfl
theorem q3505 : (Jvm.Cond.methodLink "BraidedFerryModel" (175 : Nat) ({ cls := "BraidedFerryModel", name := "lands", desc := "()I" } : Jvm.MethodName)) ∈ lw_all := lw_g (lw_at lw_m15 73 rfl) rfl
theorem q3506 : (Jvm.Cond.privateMethod ({ cls := "BraidedFerryModel", name := "lands", desc := "()I" } : Jvm.MethodName)) ∈ lw_tbl := lw_at lw_m15 74 rfl
theorem q3507 : (Jvm.Cond.instanceMethod ({ cls := "BraidedFerryModel", name := "lands", desc := "()I" } : Jvm.MethodName)) ∈ lw_all := lw_g (lw_at lw_m15 75 rfl) rfl
theorem q3508 : (Jvm.Cond.code ({ cls := "BraidedFerryModel", name := "lands", desc := "()I" } : Jvm.MethodName) prog_29_method_45_code (6 : Nat) (Option.some Jvm.ClassFile.FieldType.int)) ∈ lw_all := lw_g (lw_at lw_m15 76 rfl) rfl
theorem q3509 : (Jvm.Cond.methodLink "BraidedFerryModel" (172 : Nat) ({ cls := "java/lang/Math", name := "abs", desc := "(I)I" } : Jvm.MethodName)) ∈ lw_all := lw_g (lw_at lw_m15 77 rfl) rfl
theorem q3511 : (Jvm.Cond.instanceMethod ({ cls := "BraidedFerryModel", name := "fare", desc := "(II)I" } : Jvm.MethodName)) ∈ lw_all := lw_g (lw_at lw_m15 79 rfl) rfl
theorem q3512 : (Jvm.Cond.selects "BraidedFerryModel" ({ cls := "BraidedFerryModel", name := "fare", desc := "(II)I" } : Jvm.MethodName) ({ cls := "BraidedFerryModel", name := "fare", desc := "(II)I" } : Jvm.MethodName)) ∈ lw_all := lw_g (lw_at lw_m15 80 rfl) rfl
theorem q3513 : (Jvm.Cond.code ({ cls := "BraidedFerryModel", name := "fare", desc := "(II)I" } : Jvm.MethodName) prog_29_method_47_code (4 : Nat) (Option.some Jvm.ClassFile.FieldType.int)) ∈ lw_all := lw_g (lw_at lw_m15 81 rfl) rfl
theorem q3515 : (Jvm.Cond.instanceMethod ({ cls := "BraidedFerryModel", name := "line", desc := "(I)I" } : Jvm.MethodName)) ∈ lw_all := lw_g (lw_at lw_m15 83 rfl) rfl
theorem q3516 : (Jvm.Cond.selects "BraidedFerryModel" ({ cls := "BraidedFerryModel", name := "line", desc := "(I)I" } : Jvm.MethodName) ({ cls := "BraidedFerryModel", name := "line", desc := "(I)I" } : Jvm.MethodName)) ∈ lw_all := lw_g (lw_at lw_m15 84 rfl) rfl
theorem q3517 : (Jvm.Cond.code ({ cls := "BraidedFerryModel", name := "line", desc := "(I)I" } : Jvm.MethodName) prog_29_method_51_code (3 : Nat) (Option.some Jvm.ClassFile.FieldType.int)) ∈ lw_all := lw_g (lw_at lw_m15 85 rfl) rfl
theorem q3518 : (Jvm.Cond.methodLink "BraidedFerryModel" (188 : Nat) ({ cls := "BraidedFerryModel", name := "nextGroup", desc := "(II)I" } : Jvm.MethodName)) ∈ lw_all := lw_g (lw_at lw_m15 86 rfl) rfl
theorem q3519 : (Jvm.Cond.privateMethod ({ cls := "BraidedFerryModel", name := "nextGroup", desc := "(II)I" } : Jvm.MethodName)) ∈ lw_tbl := lw_at lw_m15 87 rfl
theorem q3520 : (Jvm.Cond.instanceMethod ({ cls := "BraidedFerryModel", name := "nextGroup", desc := "(II)I" } : Jvm.MethodName)) ∈ lw_all := lw_g (lw_at lw_m15 88 rfl) rfl
theorem q3521 : (Jvm.Cond.code ({ cls := "BraidedFerryModel", name := "nextGroup", desc := "(II)I" } : Jvm.MethodName) prog_29_method_50_code (7 : Nat) (Option.some Jvm.ClassFile.FieldType.int)) ∈ lw_all := lw_g (lw_at lw_m15 89 rfl) rfl
theorem q3522 : (Jvm.Cond.stringRef "BraidedFerryModel" (191 : Nat) ", ") ∈ lw_tbl := lw_at lw_m15 90 rfl
theorem q3523 : (Jvm.Cond.methodLink "BraidedFerryModel" (193 : Nat) ({ cls := "BraidedFerryModel", name := "writes", desc := "(Ljava/lang/String;)V" } : Jvm.MethodName)) ∈ lw_all := lw_g (lw_at lw_m15 91 rfl) rfl
theorem q3524 : (Jvm.Cond.privateMethod ({ cls := "BraidedFerryModel", name := "writes", desc := "(Ljava/lang/String;)V" } : Jvm.MethodName)) ∈ lw_tbl := lw_at lw_m15 92 rfl
theorem q3525 : (Jvm.Cond.instanceMethod ({ cls := "BraidedFerryModel", name := "writes", desc := "(Ljava/lang/String;)V" } : Jvm.MethodName)) ∈ lw_all := lw_g (lw_at lw_m15 93 rfl) rfl
theorem q3526 : (Jvm.Cond.code ({ cls := "BraidedFerryModel", name := "writes", desc := "(Ljava/lang/String;)V" } : Jvm.MethodName) prog_29_method_48_code (3 : Nat) (Option.none : Option Jvm.ClassFile.FieldType)) ∈ lw_all := lw_g (lw_at lw_m15 94 rfl) rfl
theorem q3527 : (Jvm.Cond.methodLink "BraidedFerryModel" (178 : Nat) ({ cls := "java/lang/String", name := "length", desc := "()I" } : Jvm.MethodName)) ∈ lw_all := lw_g (lw_at lw_m15 95 rfl) rfl
theorem q3528 : (Jvm.Cond.methodLink "BraidedFerryModel" (184 : Nat) ({ cls := "java/lang/String", name := "charAt", desc := "(I)C" } : Jvm.MethodName)) ∈ lw_all := lw_g (lw_at lw_m15 96 rfl) rfl
theorem q3529 : (Jvm.Cond.stringRef "BraidedFerryModel" (197 : Nat) " to ") ∈ lw_tbl := lw_at lw_m15 97 rfl
theorem q3530 : (Jvm.Cond.methodLink "BraidedFerryModel" (199 : Nat) ({ cls := "BraidedFerryModel", name := "writesNumber", desc := "(I)V" } : Jvm.MethodName)) ∈ lw_all := lw_g (lw_at lw_m15 98 rfl) rfl
theorem q3531 : (Jvm.Cond.privateMethod ({ cls := "BraidedFerryModel", name := "writesNumber", desc := "(I)V" } : Jvm.MethodName)) ∈ lw_tbl := lw_at lw_m15 99 rfl
theorem q3532 : (Jvm.Cond.instanceMethod ({ cls := "BraidedFerryModel", name := "writesNumber", desc := "(I)V" } : Jvm.MethodName)) ∈ lw_all := lw_g (lw_at lw_m15 100 rfl) rfl
theorem q3533 : (Jvm.Cond.code ({ cls := "BraidedFerryModel", name := "writesNumber", desc := "(I)V" } : Jvm.MethodName) prog_29_method_49_code (3 : Nat) (Option.none : Option Jvm.ClassFile.FieldType)) ∈ lw_all := lw_g (lw_at lw_m15 101 rfl) rfl
theorem q3534 : (Jvm.Cond.stringRef "BraidedFerryModel" (203 : Nat) " x") ∈ lw_tbl := lw_at lw_m15 102 rfl
theorem q3535 : (Jvm.Cond.stringRef "BraidedFerryModel" (205 : Nat) "nobody") ∈ lw_tbl := lw_at lw_m15 103 rfl
theorem q3537 : (Jvm.Cond.instanceMethod ({ cls := "BraidedFerryModel", name := "character", desc := "(I)C" } : Jvm.MethodName)) ∈ lw_all := lw_g (lw_at lw_m15 105 rfl) rfl
theorem q3538 : (Jvm.Cond.selects "BraidedFerryModel" ({ cls := "BraidedFerryModel", name := "character", desc := "(I)C" } : Jvm.MethodName) ({ cls := "BraidedFerryModel", name := "character", desc := "(I)C" } : Jvm.MethodName)) ∈ lw_all := lw_g (lw_at lw_m15 106 rfl) rfl
theorem q3539 : (Jvm.Cond.code ({ cls := "BraidedFerryModel", name := "character", desc := "(I)C" } : Jvm.MethodName) prog_29_method_52_code (2 : Nat) (Option.some Jvm.ClassFile.FieldType.char)) ∈ lw_all := lw_g (lw_at lw_m15 107 rfl) rfl
theorem q3541 : (Jvm.Cond.instanceMethod ({ cls := "BraidedFerryModel", name := "busiest", desc := "()I" } : Jvm.MethodName)) ∈ lw_all := lw_g (lw_at lw_m15 109 rfl) rfl
theorem q3542 : (Jvm.Cond.selects "BraidedFerryModel" ({ cls := "BraidedFerryModel", name := "busiest", desc := "()I" } : Jvm.MethodName) ({ cls := "BraidedFerryModel", name := "busiest", desc := "()I" } : Jvm.MethodName)) ∈ lw_all := lw_g (lw_at lw_m15 110 rfl) rfl
theorem q3543 : (Jvm.Cond.code ({ cls := "BraidedFerryModel", name := "busiest", desc := "()I" } : Jvm.MethodName) prog_29_method_53_code (7 : Nat) (Option.some Jvm.ClassFile.FieldType.int)) ∈ lw_all := lw_g (lw_at lw_m15 111 rfl) rfl
theorem q3545 : (Jvm.Cond.instanceMethod ({ cls := "BraidedFerryModel", name := "rope", desc := "(I)I" } : Jvm.MethodName)) ∈ lw_all := lw_g (lw_at lw_m15 113 rfl) rfl
theorem q3546 : (Jvm.Cond.selects "BraidedFerryModel" ({ cls := "BraidedFerryModel", name := "rope", desc := "(I)I" } : Jvm.MethodName) ({ cls := "BraidedFerryModel", name := "rope", desc := "(I)I" } : Jvm.MethodName)) ∈ lw_all := lw_g (lw_at lw_m15 114 rfl) rfl
theorem q3547 : (Jvm.Cond.code ({ cls := "BraidedFerryModel", name := "rope", desc := "(I)I" } : Jvm.MethodName) prog_29_method_54_code (3 : Nat) (Option.some Jvm.ClassFile.FieldType.int)) ∈ lw_all := lw_g (lw_at lw_m15 115 rfl) rfl
theorem q3549 : (Jvm.Cond.instanceMethod ({ cls := "BraidedFerryModel", name := "cross", desc := "(Z)I" } : Jvm.MethodName)) ∈ lw_all := lw_g (lw_at lw_m15 117 rfl) rfl
theorem q3550 : (Jvm.Cond.selects "BraidedFerryModel" ({ cls := "BraidedFerryModel", name := "cross", desc := "(Z)I" } : Jvm.MethodName) ({ cls := "BraidedFerryModel", name := "cross", desc := "(Z)I" } : Jvm.MethodName)) ∈ lw_all := lw_g (lw_at lw_m15 118 rfl) rfl
theorem q3551 : (Jvm.Cond.code ({ cls := "BraidedFerryModel", name := "cross", desc := "(Z)I" } : Jvm.MethodName) prog_29_method_58_code (2 : Nat) (Option.some Jvm.ClassFile.FieldType.int)) ∈ lw_all := lw_g (lw_at lw_m15 119 rfl) rfl
theorem q3552 : (Jvm.Cond.methodLink "BraidedFerryModel" (214 : Nat) ({ cls := "BraidedFerryModel", name := "crosses", desc := "(Z)I" } : Jvm.MethodName)) ∈ lw_all := lw_g (lw_at lw_m15 120 rfl) rfl
theorem q3553 : (Jvm.Cond.privateMethod ({ cls := "BraidedFerryModel", name := "crosses", desc := "(Z)I" } : Jvm.MethodName)) ∈ lw_tbl := lw_at lw_m15 121 rfl
theorem q3554 : (Jvm.Cond.instanceMethod ({ cls := "BraidedFerryModel", name := "crosses", desc := "(Z)I" } : Jvm.MethodName)) ∈ lw_all := lw_g (lw_at lw_m15 122 rfl) rfl
theorem q3555 : (Jvm.Cond.code ({ cls := "BraidedFerryModel", name := "crosses", desc := "(Z)I" } : Jvm.MethodName) prog_29_method_57_code (4 : Nat) (Option.some Jvm.ClassFile.FieldType.int)) ∈ lw_all := lw_g (lw_at lw_m15 123 rfl) rfl
theorem q3556 : (Jvm.Cond.methodLink "BraidedFerryModel" (207 : Nat) ({ cls := "BraidedFerryModel", name := "bars", desc := "(Z)I" } : Jvm.MethodName)) ∈ lw_all := lw_g (lw_at lw_m15 124 rfl) rfl
theorem q3557 : (Jvm.Cond.privateMethod ({ cls := "BraidedFerryModel", name := "bars", desc := "(Z)I" } : Jvm.MethodName)) ∈ lw_tbl := lw_at lw_m15 125 rfl
theorem q3558 : (Jvm.Cond.instanceMethod ({ cls := "BraidedFerryModel", name := "bars", desc := "(Z)I" } : Jvm.MethodName)) ∈ lw_all := lw_g (lw_at lw_m15 126 rfl) rfl
theorem q3559 : (Jvm.Cond.code ({ cls := "BraidedFerryModel", name := "bars", desc := "(Z)I" } : Jvm.MethodName) prog_29_method_55_code (5 : Nat) (Option.some Jvm.ClassFile.FieldType.int)) ∈ lw_all := lw_g (lw_at lw_m15 127 rfl) rfl
theorem q3560 : (Jvm.Cond.methodLink "BraidedFerryModel" (211 : Nat) ({ cls := "BraidedFerryModel", name := "hour", desc := "()I" } : Jvm.MethodName)) ∈ lw_all := lw_g (lw_at lw_m15 128 rfl) rfl
theorem q3561 : (Jvm.Cond.privateMethod ({ cls := "BraidedFerryModel", name := "hour", desc := "()I" } : Jvm.MethodName)) ∈ lw_tbl := lw_at lw_m15 129 rfl
theorem q3562 : (Jvm.Cond.instanceMethod ({ cls := "BraidedFerryModel", name := "hour", desc := "()I" } : Jvm.MethodName)) ∈ lw_all := lw_g (lw_at lw_m15 130 rfl) rfl
theorem q3563 : (Jvm.Cond.code ({ cls := "BraidedFerryModel", name := "hour", desc := "()I" } : Jvm.MethodName) prog_29_method_56_code (5 : Nat) (Option.some Jvm.ClassFile.FieldType.int)) ∈ lw_all := lw_g (lw_at lw_m15 131 rfl) rfl
theorem q3565 : (Jvm.Cond.instanceMethod ({ cls := "BraidedFerryModel", name := "why", desc := "(ZZ)I" } : Jvm.MethodName)) ∈ lw_all := lw_g (lw_at lw_m15 133 rfl) rfl
theorem q3566 : (Jvm.Cond.selects "BraidedFerryModel" ({ cls := "BraidedFerryModel", name := "why", desc := "(ZZ)I" } : Jvm.MethodName) ({ cls := "BraidedFerryModel", name := "why", desc := "(ZZ)I" } : Jvm.MethodName)) ∈ lw_all := lw_g (lw_at lw_m15 134 rfl) rfl
theorem q3567 : (Jvm.Cond.code ({ cls := "BraidedFerryModel", name := "why", desc := "(ZZ)I" } : Jvm.MethodName) prog_29_method_59_code (4 : Nat) (Option.some Jvm.ClassFile.FieldType.int)) ∈ lw_all := lw_g (lw_at lw_m15 135 rfl) rfl
theorem q3569 : (Jvm.Cond.instanceMethod ({ cls := "BraidedFerryModel", name := "pass", desc := "(I)I" } : Jvm.MethodName)) ∈ lw_all := lw_g (lw_at lw_m15 137 rfl) rfl
theorem q3570 : (Jvm.Cond.selects "BraidedFerryModel" ({ cls := "BraidedFerryModel", name := "pass", desc := "(I)I" } : Jvm.MethodName) ({ cls := "BraidedFerryModel", name := "pass", desc := "(I)I" } : Jvm.MethodName)) ∈ lw_all := lw_g (lw_at lw_m15 138 rfl) rfl
theorem q3571 : (Jvm.Cond.code ({ cls := "BraidedFerryModel", name := "pass", desc := "(I)I" } : Jvm.MethodName) prog_29_method_61_code (2 : Nat) (Option.some Jvm.ClassFile.FieldType.int)) ∈ lw_all := lw_g (lw_at lw_m15 139 rfl) rfl
theorem q3572 : (Jvm.Cond.methodLink "BraidedFerryModel" (217 : Nat) ({ cls := "BraidedFerryModel", name := "passes", desc := "(I)I" } : Jvm.MethodName)) ∈ lw_all := lw_g (lw_at lw_m15 140 rfl) rfl
theorem q3573 : (Jvm.Cond.privateMethod ({ cls := "BraidedFerryModel", name := "passes", desc := "(I)I" } : Jvm.MethodName)) ∈ lw_tbl := lw_at lw_m15 141 rfl
theorem q3574 : (Jvm.Cond.instanceMethod ({ cls := "BraidedFerryModel", name := "passes", desc := "(I)I" } : Jvm.MethodName)) ∈ lw_all := lw_g (lw_at lw_m15 142 rfl) rfl
theorem q3575 : (Jvm.Cond.code ({ cls := "BraidedFerryModel", name := "passes", desc := "(I)I" } : Jvm.MethodName) prog_29_method_60_code (4 : Nat) (Option.some Jvm.ClassFile.FieldType.int)) ∈ lw_all := lw_g (lw_at lw_m15 143 rfl) rfl
theorem q3577 : (Jvm.Cond.instanceMethod ({ cls := "BraidedFerryModel", name := "number", desc := "(I)I" } : Jvm.MethodName)) ∈ lw_all := lw_g (lw_at lw_m15 145 rfl) rfl
theorem q3578 : (Jvm.Cond.selects "BraidedFerryModel" ({ cls := "BraidedFerryModel", name := "number", desc := "(I)I" } : Jvm.MethodName) ({ cls := "BraidedFerryModel", name := "number", desc := "(I)I" } : Jvm.MethodName)) ∈ lw_all := lw_g (lw_at lw_m15 146 rfl) rfl
theorem q3579 : (Jvm.Cond.code ({ cls := "BraidedFerryModel", name := "number", desc := "(I)I" } : Jvm.MethodName) prog_29_method_63_code (4 : Nat) (Option.some Jvm.ClassFile.FieldType.int)) ∈ lw_all := lw_g (lw_at lw_m15 147 rfl) rfl
theorem q3580 : (Jvm.Cond.methodLink "BraidedFerryModel" (220 : Nat) ({ cls := "BraidedFerryModel", name := "all", desc := "(I)I" } : Jvm.MethodName)) ∈ lw_all := lw_g (lw_at lw_m15 148 rfl) rfl
theorem q3581 : (Jvm.Cond.privateMethod ({ cls := "BraidedFerryModel", name := "all", desc := "(I)I" } : Jvm.MethodName)) ∈ lw_tbl := lw_at lw_m15 149 rfl
theorem q3582 : (Jvm.Cond.instanceMethod ({ cls := "BraidedFerryModel", name := "all", desc := "(I)I" } : Jvm.MethodName)) ∈ lw_all := lw_g (lw_at lw_m15 150 rfl) rfl
theorem q3583 : (Jvm.Cond.code ({ cls := "BraidedFerryModel", name := "all", desc := "(I)I" } : Jvm.MethodName) prog_29_method_62_code (4 : Nat) (Option.some Jvm.ClassFile.FieldType.int)) ∈ lw_all := lw_g (lw_at lw_m15 151 rfl) rfl
theorem q3585 : (Jvm.Cond.instanceMethod ({ cls := "BraidedFerryModel", name := "meanFare", desc := "()D" } : Jvm.MethodName)) ∈ lw_all := lw_g (lw_at lw_m15 153 rfl) rfl
theorem q3586 : (Jvm.Cond.selects "BraidedFerryModel" ({ cls := "BraidedFerryModel", name := "meanFare", desc := "()D" } : Jvm.MethodName) ({ cls := "BraidedFerryModel", name := "meanFare", desc := "()D" } : Jvm.MethodName)) ∈ lw_all := lw_g (lw_at lw_m15 154 rfl) rfl
theorem q3587 : (Jvm.Cond.code ({ cls := "BraidedFerryModel", name := "meanFare", desc := "()D" } : Jvm.MethodName) prog_29_method_64_code (1 : Nat) (Option.some Jvm.ClassFile.FieldType.double)) ∈ lw_all := lw_g (lw_at lw_m15 155 rfl) rfl
theorem q3589 : (Jvm.Cond.instanceMethod ({ cls := "BraidedFerryModel", name := "fore", desc := "()F" } : Jvm.MethodName)) ∈ lw_all := lw_g (lw_at lw_m15 157 rfl) rfl
theorem q3590 : (Jvm.Cond.selects "BraidedFerryModel" ({ cls := "BraidedFerryModel", name := "fore", desc := "()F" } : Jvm.MethodName) ({ cls := "BraidedFerryModel", name := "fore", desc := "()F" } : Jvm.MethodName)) ∈ lw_all := lw_g (lw_at lw_m15 158 rfl) rfl
theorem q3591 : (Jvm.Cond.code ({ cls := "BraidedFerryModel", name := "fore", desc := "()F" } : Jvm.MethodName) prog_29_method_65_code (1 : Nat) (Option.some Jvm.ClassFile.FieldType.float)) ∈ lw_all := lw_g (lw_at lw_m15 159 rfl) rfl
theorem q3593 : (Jvm.Cond.instanceMethod ({ cls := "BraidedFerryModel", name := "feed", desc := "(C)I" } : Jvm.MethodName)) ∈ lw_all := lw_g (lw_at lw_m15 161 rfl) rfl
theorem q3594 : (Jvm.Cond.selects "BraidedFerryModel" ({ cls := "BraidedFerryModel", name := "feed", desc := "(C)I" } : Jvm.MethodName) ({ cls := "BraidedFerryModel", name := "feed", desc := "(C)I" } : Jvm.MethodName)) ∈ lw_all := lw_g (lw_at lw_m15 162 rfl) rfl
theorem q3595 : (Jvm.Cond.code ({ cls := "BraidedFerryModel", name := "feed", desc := "(C)I" } : Jvm.MethodName) prog_29_method_66_code (2 : Nat) (Option.some Jvm.ClassFile.FieldType.int)) ∈ lw_all := lw_g (lw_at lw_m15 163 rfl) rfl
theorem q3597 : (Jvm.Cond.instanceMethod ({ cls := "BraidedFerryModel", name := "read", desc := "()I" } : Jvm.MethodName)) ∈ lw_all := lw_g (lw_at lw_m15 165 rfl) rfl
theorem q3598 : (Jvm.Cond.selects "BraidedFerryModel" ({ cls := "BraidedFerryModel", name := "read", desc := "()I" } : Jvm.MethodName) ({ cls := "BraidedFerryModel", name := "read", desc := "()I" } : Jvm.MethodName)) ∈ lw_all := lw_g (lw_at lw_m15 166 rfl) rfl
theorem q3599 : (Jvm.Cond.code ({ cls := "BraidedFerryModel", name := "read", desc := "()I" } : Jvm.MethodName) prog_29_method_72_code (5 : Nat) (Option.some Jvm.ClassFile.FieldType.int)) ∈ lw_all := lw_g (lw_at lw_m15 167 rfl) rfl
theorem q3600 : (Jvm.Cond.methodLink "BraidedFerryModel" (259 : Nat) ({ cls := "BraidedFerryModel", name := "isCommand", desc := "()Z" } : Jvm.MethodName)) ∈ lw_all := lw_g (lw_at lw_m15 168 rfl) rfl
theorem q3601 : (Jvm.Cond.privateMethod ({ cls := "BraidedFerryModel", name := "isCommand", desc := "()Z" } : Jvm.MethodName)) ∈ lw_tbl := lw_at lw_m15 169 rfl
theorem q3602 : (Jvm.Cond.instanceMethod ({ cls := "BraidedFerryModel", name := "isCommand", desc := "()Z" } : Jvm.MethodName)) ∈ lw_all := lw_g (lw_at lw_m15 170 rfl) rfl
theorem q3603 : (Jvm.Cond.code ({ cls := "BraidedFerryModel", name := "isCommand", desc := "()Z" } : Jvm.MethodName) prog_29_method_70_code (2 : Nat) (Option.some Jvm.ClassFile.FieldType.boolean)) ∈ lw_all := lw_g (lw_at lw_m15 171 rfl) rfl
theorem q3604 : (Jvm.Cond.stringRef "BraidedFerryModel" (235 : Nat) "come ") ∈ lw_tbl := lw_at lw_m15 172 rfl
theorem q3605 : (Jvm.Cond.methodLink "BraidedFerryModel" (228 : Nat) ({ cls := "BraidedFerryModel", name := "word", desc := "(Ljava/lang/String;)Z" } : Jvm.MethodName)) ∈ lw_all := lw_g (lw_at lw_m15 173 rfl) rfl
theorem q3606 : (Jvm.Cond.privateMethod ({ cls := "BraidedFerryModel", name := "word", desc := "(Ljava/lang/String;)Z" } : Jvm.MethodName)) ∈ lw_tbl := lw_at lw_m15 174 rfl
theorem q3607 : (Jvm.Cond.instanceMethod ({ cls := "BraidedFerryModel", name := "word", desc := "(Ljava/lang/String;)Z" } : Jvm.MethodName)) ∈ lw_all := lw_g (lw_at lw_m15 175 rfl) rfl
theorem q3608 : (Jvm.Cond.code ({ cls := "BraidedFerryModel", name := "word", desc := "(Ljava/lang/String;)Z" } : Jvm.MethodName) prog_29_method_67_code (3 : Nat) (Option.some Jvm.ClassFile.FieldType.boolean)) ∈ lw_all := lw_g (lw_at lw_m15 176 rfl) rfl
theorem q3609 : (Jvm.Cond.methodLink "BraidedFerryModel" (237 : Nat) ({ cls := "BraidedFerryModel", name := "oneOf", desc := "(I[Ljava/lang/String;)Z" } : Jvm.MethodName)) ∈ lw_all := lw_g (lw_at lw_m15 177 rfl) rfl
theorem q3610 : (Jvm.Cond.privateMethod ({ cls := "BraidedFerryModel", name := "oneOf", desc := "(I[Ljava/lang/String;)Z" } : Jvm.MethodName)) ∈ lw_tbl := lw_at lw_m15 178 rfl
theorem q3611 : (Jvm.Cond.instanceMethod ({ cls := "BraidedFerryModel", name := "oneOf", desc := "(I[Ljava/lang/String;)Z" } : Jvm.MethodName)) ∈ lw_all := lw_g (lw_at lw_m15 179 rfl) rfl
theorem q3612 : (Jvm.Cond.code ({ cls := "BraidedFerryModel", name := "oneOf", desc := "(I[Ljava/lang/String;)Z" } : Jvm.MethodName) prog_29_method_69_code (4 : Nat) (Option.some Jvm.ClassFile.FieldType.boolean)) ∈ lw_all := lw_g (lw_at lw_m15 180 rfl) rfl
theorem q3613 : (Jvm.Cond.stringRef "BraidedFerryModel" (241 : Nat) " ") ∈ lw_tbl := lw_at lw_m15 181 rfl
theorem q3614 : (Jvm.Cond.methodLink "BraidedFerryModel" (243 : Nat) ({ cls := "BraidedFerryModel", name := "digits", desc := "(II)Z" } : Jvm.MethodName)) ∈ lw_all := lw_g (lw_at lw_m15 182 rfl) rfl
theorem q3615 : (Jvm.Cond.privateMethod ({ cls := "BraidedFerryModel", name := "digits", desc := "(II)Z" } : Jvm.MethodName)) ∈ lw_tbl := lw_at lw_m15 183 rfl
theorem q3616 : (Jvm.Cond.instanceMethod ({ cls := "BraidedFerryModel", name := "digits", desc := "(II)Z" } : Jvm.MethodName)) ∈ lw_all := lw_g (lw_at lw_m15 184 rfl) rfl
theorem q3617 : (Jvm.Cond.code ({ cls := "BraidedFerryModel", name := "digits", desc := "(II)Z" } : Jvm.MethodName) prog_29_method_68_code (4 : Nat) (Option.some Jvm.ClassFile.FieldType.boolean)) ∈ lw_all := lw_g (lw_at lw_m15 185 rfl) rfl
theorem q3618 : (Jvm.Cond.stringRef "BraidedFerryModel" (247 : Nat) "cross ") ∈ lw_tbl := lw_at lw_m15 186 rfl
theorem q3619 : (Jvm.Cond.stringRef "BraidedFerryModel" (249 : Nat) "weigh ") ∈ lw_tbl := lw_at lw_m15 187 rfl
theorem q3620 : (Jvm.Cond.stringRef "BraidedFerryModel" (251 : Nat) "wait ") ∈ lw_tbl := lw_at lw_m15 188 rfl
theorem q3621 : (Jvm.Cond.stringRef "BraidedFerryModel" (253 : Nat) "land") ∈ lw_tbl := lw_at lw_m15 189 rfl
theorem q3622 : (Jvm.Cond.stringRef "BraidedFerryModel" (255 : Nat) "board ") ∈ lw_tbl := lw_at lw_m15 190 rfl
theorem q3623 : (Jvm.Cond.stringRef "BraidedFerryModel" (257 : Nat) "anchor ") ∈ lw_tbl := lw_at lw_m15 191 rfl
theorem q3624 : (Jvm.Cond.stringRef "BraidedFerryModel" (263 : Nat) ";") ∈ lw_tbl := lw_at lw_m15 192 rfl
theorem q3625 : (Jvm.Cond.methodLink "BraidedFerryModel" (265 : Nat) ({ cls := "BraidedFerryModel", name := "carries", desc := "()I" } : Jvm.MethodName)) ∈ lw_all := lw_g (lw_at lw_m15 193 rfl) rfl
theorem q3626 : (Jvm.Cond.privateMethod ({ cls := "BraidedFerryModel", name := "carries", desc := "()I" } : Jvm.MethodName)) ∈ lw_tbl := lw_at lw_m15 194 rfl
theorem q3627 : (Jvm.Cond.instanceMethod ({ cls := "BraidedFerryModel", name := "carries", desc := "()I" } : Jvm.MethodName)) ∈ lw_all := lw_g (lw_at lw_m15 195 rfl) rfl
theorem q3628 : (Jvm.Cond.code ({ cls := "BraidedFerryModel", name := "carries", desc := "()I" } : Jvm.MethodName) prog_29_method_71_code (1 : Nat) (Option.some Jvm.ClassFile.FieldType.int)) ∈ lw_all := lw_g (lw_at lw_m15 196 rfl) rfl
theorem q3629 : (Jvm.Cond.methodLink "BraidedFerryModel" (268 : Nat) ({ cls := "BraidedFerryModel", name := "comesBack", desc := "()V" } : Jvm.MethodName)) ∈ lw_all := lw_g (lw_at lw_m15 197 rfl) rfl
theorem q3630 : (Jvm.Cond.privateMethod ({ cls := "BraidedFerryModel", name := "comesBack", desc := "()V" } : Jvm.MethodName)) ∈ lw_tbl := lw_at lw_m15 198 rfl
theorem q3631 : (Jvm.Cond.instanceMethod ({ cls := "BraidedFerryModel", name := "comesBack", desc := "()V" } : Jvm.MethodName)) ∈ lw_all := lw_g (lw_at lw_m15 199 rfl) rfl
theorem q3632 : (Jvm.Cond.code ({ cls := "BraidedFerryModel", name := "comesBack", desc := "()V" } : Jvm.MethodName) prog_29_method_6_code (2 : Nat) (Option.none : Option Jvm.ClassFile.FieldType)) ∈ lw_all := lw_g (lw_at lw_m15 200 rfl) rfl
theorem q3634 : (Jvm.Cond.instanceMethod ({ cls := "BraidedFerryModel", name := "faultPosition", desc := "()I" } : Jvm.MethodName)) ∈ lw_all := lw_g (lw_at lw_m15 202 rfl) rfl
theorem q3635 : (Jvm.Cond.selects "BraidedFerryModel" ({ cls := "BraidedFerryModel", name := "faultPosition", desc := "()I" } : Jvm.MethodName) ({ cls := "BraidedFerryModel", name := "faultPosition", desc := "()I" } : Jvm.MethodName)) ∈ lw_all := lw_g (lw_at lw_m15 203 rfl) rfl
theorem q3636 : (Jvm.Cond.code ({ cls := "BraidedFerryModel", name := "faultPosition", desc := "()I" } : Jvm.MethodName) prog_29_method_73_code (1 : Nat) (Option.some Jvm.ClassFile.FieldType.int)) ∈ lw_all := lw_g (lw_at lw_m15 204 rfl) rfl
theorem q3638 : (Jvm.Cond.instanceMethod ({ cls := "BraidedFerryModel", name := "refusal", desc := "(Z)I" } : Jvm.MethodName)) ∈ lw_all := lw_g (lw_at lw_m15 206 rfl) rfl
theorem q3639 : (Jvm.Cond.selects "BraidedFerryModel" ({ cls := "BraidedFerryModel", name := "refusal", desc := "(Z)I" } : Jvm.MethodName) ({ cls := "BraidedFerryModel", name := "refusal", desc := "(Z)I" } : Jvm.MethodName)) ∈ lw_all := lw_g (lw_at lw_m15 207 rfl) rfl
theorem q3640 : (Jvm.Cond.code ({ cls := "BraidedFerryModel", name := "refusal", desc := "(Z)I" } : Jvm.MethodName) prog_29_method_74_code (2 : Nat) (Option.some Jvm.ClassFile.FieldType.int)) ∈ lw_all := lw_g (lw_at lw_m15 208 rfl) rfl
theorem q3642 : (Jvm.Cond.instanceMethod ({ cls := "BraidedFerryModel", name := "undo", desc := "()I" } : Jvm.MethodName)) ∈ lw_all := lw_g (lw_at lw_m15 210 rfl) rfl
theorem q3643 : (Jvm.Cond.selects "BraidedFerryModel" ({ cls := "BraidedFerryModel", name := "undo", desc := "()I" } : Jvm.MethodName) ({ cls := "BraidedFerryModel", name := "undo", desc := "()I" } : Jvm.MethodName)) ∈ lw_all := lw_g (lw_at lw_m15 211 rfl) rfl
theorem q3644 : (Jvm.Cond.code ({ cls := "BraidedFerryModel", name := "undo", desc := "()I" } : Jvm.MethodName) prog_29_method_75_code (2 : Nat) (Option.some Jvm.ClassFile.FieldType.int)) ∈ lw_all := lw_g (lw_at lw_m15 212 rfl) rfl
theorem q3646 : (Jvm.Cond.instanceMethod ({ cls := "BraidedFerryModel", name := "saveSnapshot", desc := "()I" } : Jvm.MethodName)) ∈ lw_all := lw_g (lw_at lw_m15 214 rfl) rfl
theorem q3647 : (Jvm.Cond.selects "BraidedFerryModel" ({ cls := "BraidedFerryModel", name := "saveSnapshot", desc := "()I" } : Jvm.MethodName) ({ cls := "BraidedFerryModel", name := "saveSnapshot", desc := "()I" } : Jvm.MethodName)) ∈ lw_all := lw_g (lw_at lw_m15 215 rfl) rfl
theorem q3648 : (Jvm.Cond.code ({ cls := "BraidedFerryModel", name := "saveSnapshot", desc := "()I" } : Jvm.MethodName) prog_29_method_76_code (2 : Nat) (Option.some Jvm.ClassFile.FieldType.int)) ∈ lw_all := lw_g (lw_at lw_m15 216 rfl) rfl
theorem q3650 : (Jvm.Cond.instanceMethod ({ cls := "BraidedFerryModel", name := "restoreSnapshot", desc := "()I" } : Jvm.MethodName)) ∈ lw_all := lw_g (lw_at lw_m15 218 rfl) rfl
theorem q3651 : (Jvm.Cond.selects "BraidedFerryModel" ({ cls := "BraidedFerryModel", name := "restoreSnapshot", desc := "()I" } : Jvm.MethodName) ({ cls := "BraidedFerryModel", name := "restoreSnapshot", desc := "()I" } : Jvm.MethodName)) ∈ lw_all := lw_g (lw_at lw_m15 219 rfl) rfl
theorem q3652 : (Jvm.Cond.code ({ cls := "BraidedFerryModel", name := "restoreSnapshot", desc := "()I" } : Jvm.MethodName) prog_29_method_77_code (2 : Nat) (Option.some Jvm.ClassFile.FieldType.int)) ∈ lw_all := lw_g (lw_at lw_m15 220 rfl) rfl
theorem q3689 : (Jvm.Cond.castable "BraidedFerryModel" "java/lang/Object") ∈ lw_tbl := lw_at lw_m16 17 rfl
theorem in_X4 : ∀ w ∈ wsX40, w ∈ lw_all := lw_in wsX40 [3291, 3293, 3295, 3297, 3299, 3301, 3303, 3305, 3307, 3309, 3311, 3313, 3315, 3317, 3319, 3321, 3323, 3325, 3327, 3329, 3331] (by decide +kernel) (by decide +kernel)

