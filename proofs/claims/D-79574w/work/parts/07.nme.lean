/-! BraidedFerry$River -/
set_option maxRecDepth 100000
def RX2 : String := "BraidedFerry$River"
def TX2 : u_T := fun k => match k with
  | 0 => ("BraidedFerry$River", "channels", "Ljava/util/List;", true)
  | 1 => ("BraidedFerry$River", "floods", "Ljava/util/List;", true)
  | 2 => ("BraidedFerry$River", "anchors", "Ljava/util/List;", true)
  | 3 => ("BraidedFerry$River", "waiting", "LBraidedFerry$Tally;", true)
  | 4 => ("BraidedFerry$River", "fore", "LBraidedFerry$Tally;", true)
  | 5 => ("BraidedFerry$River", "aft", "LBraidedFerry$Tally;", true)
  | 6 => ("BraidedFerry$River", "fares", "[I", true)
  | 7 => ("BraidedFerry$River", "hour", "I", false)
  | 8 => ("BraidedFerry$River", "stop", "I", false)
  | 9 => ("BraidedFerry$River", "rope", "I", false)
  | 10 => ("BraidedFerry$River", "landed", "I", false)
  | 11 => ("BraidedFerry$River", "paid", "I", false)
  | _ => ("BraidedFerry$River", "crossings", "I", false)
def tyX2 : Nat → FieldType := fun k => match k with
  | 0 => .object "java/util/List"
  | 1 => .object "java/util/List"
  | 2 => .object "java/util/List"
  | 3 => .object "BraidedFerry$Tally"
  | 4 => .object "BraidedFerry$Tally"
  | 5 => .object "BraidedFerry$Tally"
  | 6 => .array .int
  | 7 => .int
  | 8 => .int
  | 9 => .int
  | 10 => .int
  | 11 => .int
  | _ => .int
abbrev wsX20 : List Cond := u_ws RX2 TX2 13
set_option maxRecDepth 100000 in
theorem nmX2 : ∀ a, a < 13 → ∀ b, b < 13 → a ≠ b → (TX2 a).2.1 ≠ (TX2 b).2.1 := by decide +kernel
set_option maxRecDepth 100000 in
theorem tyX2_ok : ∀ k, k < 13 → parseFieldDescriptor (TX2 k).2.2.1 = some (tyX2 k) := by decide +kernel
abbrev cX2_init : ByteArray := prog_21_method_1_code
def yX2_init : MethodName := ⟨RX2, "<init>", "()V"⟩
def dkwX2_init_4 : List UInt8 := [16, 100, 181, 0, 41, 177]
abbrev dktX2_init_4 : List UInt8 := dkwX2_init_4 ++ []
def dkwX2_init_3 : List UInt8 := [181, 0, 34, 42, 6, 188, 10, 89, 3, 4, 79, 89, 4, 6, 79, 89, 5, 16, 7, 79, 181, 0, 37, 42]
abbrev dktX2_init_3 : List UInt8 := dkwX2_init_3 ++ dktX2_init_4
def dkwX2_init_2 : List UInt8 := [181, 0, 27, 42, 187, 0, 24, 89, 183, 0, 26, 181, 0, 31, 42, 187, 0, 24, 89, 183, 0, 26]
abbrev dktX2_init_2 : List UInt8 := dkwX2_init_2 ++ dktX2_init_3
def dkwX2_init_1 : List UInt8 := [181, 0, 18, 42, 187, 0, 9, 89, 183, 0, 11, 181, 0, 21, 42, 187, 0, 24, 89, 183, 0, 26]
abbrev dktX2_init_1 : List UInt8 := dkwX2_init_1 ++ dktX2_init_2
def dkwX2_init_0 : List UInt8 := [42, 183, 0, 3, 42, 187, 0, 9, 89, 183, 0, 11, 181, 0, 12, 42, 187, 0, 9, 89, 183, 0, 11]
abbrev dktX2_init_0 : List UInt8 := dkwX2_init_0 ++ dktX2_init_1
theorem dksX2_init_0 : cX2_init.data.toList.drop 0 = dktX2_init_0 := by decide +kernel
theorem dksX2_init_1 : cX2_init.data.toList.drop 23 = dktX2_init_1 := dk_seg dksX2_init_0 23 rfl rfl
theorem dksX2_init_2 : cX2_init.data.toList.drop 45 = dktX2_init_2 := dk_seg dksX2_init_1 22 rfl rfl
theorem dksX2_init_3 : cX2_init.data.toList.drop 67 = dktX2_init_3 := dk_seg dksX2_init_2 22 rfl rfl
theorem dksX2_init_4 : cX2_init.data.toList.drop 91 = dktX2_init_4 := dk_seg dksX2_init_3 24 rfl rfl
theorem dX2_init_0 : decode cX2_init 0 = .ok (.aload_n 0, 1) := dk_42 (dk_at dksX2_init_0 0 rfl rfl)
theorem dX2_init_1 : decode cX2_init 1 = .ok (.invokespecial 3, 3) := dk_183 0 3 (dk_at dksX2_init_0 1 rfl rfl)
theorem dX2_init_4 : decode cX2_init 4 = .ok (.aload_n 0, 1) := dk_42 (dk_at dksX2_init_0 4 rfl rfl)
theorem dX2_init_5 : decode cX2_init 5 = .ok (.new 9, 3) := dk_187 0 9 (dk_at dksX2_init_0 5 rfl rfl)
theorem dX2_init_8 : decode cX2_init 8 = .ok (.dup, 1) := dk_89 (dk_at dksX2_init_0 8 rfl rfl)
theorem dX2_init_9 : decode cX2_init 9 = .ok (.invokespecial 11, 3) := dk_183 0 11 (dk_at dksX2_init_0 9 rfl rfl)
theorem dX2_init_12 : decode cX2_init 12 = .ok (.putfield 12, 3) := dk_181 0 12 (dk_at dksX2_init_0 12 rfl rfl)
theorem dX2_init_15 : decode cX2_init 15 = .ok (.aload_n 0, 1) := dk_42 (dk_at dksX2_init_0 15 rfl rfl)
theorem dX2_init_16 : decode cX2_init 16 = .ok (.new 9, 3) := dk_187 0 9 (dk_at dksX2_init_0 16 rfl rfl)
theorem dX2_init_19 : decode cX2_init 19 = .ok (.dup, 1) := dk_89 (dk_at dksX2_init_0 19 rfl rfl)
theorem dX2_init_20 : decode cX2_init 20 = .ok (.invokespecial 11, 3) := dk_183 0 11 (dk_at dksX2_init_0 20 rfl rfl)
theorem dX2_init_23 : decode cX2_init 23 = .ok (.putfield 18, 3) := dk_181 0 18 (dk_at dksX2_init_1 0 rfl rfl)
theorem dX2_init_26 : decode cX2_init 26 = .ok (.aload_n 0, 1) := dk_42 (dk_at dksX2_init_1 3 rfl rfl)
theorem dX2_init_27 : decode cX2_init 27 = .ok (.new 9, 3) := dk_187 0 9 (dk_at dksX2_init_1 4 rfl rfl)
theorem dX2_init_30 : decode cX2_init 30 = .ok (.dup, 1) := dk_89 (dk_at dksX2_init_1 7 rfl rfl)
theorem dX2_init_31 : decode cX2_init 31 = .ok (.invokespecial 11, 3) := dk_183 0 11 (dk_at dksX2_init_1 8 rfl rfl)
theorem dX2_init_34 : decode cX2_init 34 = .ok (.putfield 21, 3) := dk_181 0 21 (dk_at dksX2_init_1 11 rfl rfl)
theorem dX2_init_37 : decode cX2_init 37 = .ok (.aload_n 0, 1) := dk_42 (dk_at dksX2_init_1 14 rfl rfl)
theorem dX2_init_38 : decode cX2_init 38 = .ok (.new 24, 3) := dk_187 0 24 (dk_at dksX2_init_1 15 rfl rfl)
theorem dX2_init_41 : decode cX2_init 41 = .ok (.dup, 1) := dk_89 (dk_at dksX2_init_1 18 rfl rfl)
theorem dX2_init_42 : decode cX2_init 42 = .ok (.invokespecial 26, 3) := dk_183 0 26 (dk_at dksX2_init_1 19 rfl rfl)
theorem dX2_init_45 : decode cX2_init 45 = .ok (.putfield 27, 3) := dk_181 0 27 (dk_at dksX2_init_2 0 rfl rfl)
theorem dX2_init_48 : decode cX2_init 48 = .ok (.aload_n 0, 1) := dk_42 (dk_at dksX2_init_2 3 rfl rfl)
theorem dX2_init_49 : decode cX2_init 49 = .ok (.new 24, 3) := dk_187 0 24 (dk_at dksX2_init_2 4 rfl rfl)
theorem dX2_init_52 : decode cX2_init 52 = .ok (.dup, 1) := dk_89 (dk_at dksX2_init_2 7 rfl rfl)
theorem dX2_init_53 : decode cX2_init 53 = .ok (.invokespecial 26, 3) := dk_183 0 26 (dk_at dksX2_init_2 8 rfl rfl)
theorem dX2_init_56 : decode cX2_init 56 = .ok (.putfield 31, 3) := dk_181 0 31 (dk_at dksX2_init_2 11 rfl rfl)
theorem dX2_init_59 : decode cX2_init 59 = .ok (.aload_n 0, 1) := dk_42 (dk_at dksX2_init_2 14 rfl rfl)
theorem dX2_init_60 : decode cX2_init 60 = .ok (.new 24, 3) := dk_187 0 24 (dk_at dksX2_init_2 15 rfl rfl)
theorem dX2_init_63 : decode cX2_init 63 = .ok (.dup, 1) := dk_89 (dk_at dksX2_init_2 18 rfl rfl)
theorem dX2_init_64 : decode cX2_init 64 = .ok (.invokespecial 26, 3) := dk_183 0 26 (dk_at dksX2_init_2 19 rfl rfl)
theorem dX2_init_67 : decode cX2_init 67 = .ok (.putfield 34, 3) := dk_181 0 34 (dk_at dksX2_init_3 0 rfl rfl)
theorem dX2_init_70 : decode cX2_init 70 = .ok (.aload_n 0, 1) := dk_42 (dk_at dksX2_init_3 3 rfl rfl)
theorem dX2_init_71 : decode cX2_init 71 = .ok (.iconst 3, 1) := dk_6 (dk_at dksX2_init_3 4 rfl rfl)
theorem dX2_init_72 : decode cX2_init 72 = .ok (.newarray .int, 2) := dk_188_10 (dk_at dksX2_init_3 5 rfl rfl)
theorem dX2_init_74 : decode cX2_init 74 = .ok (.dup, 1) := dk_89 (dk_at dksX2_init_3 7 rfl rfl)
theorem dX2_init_75 : decode cX2_init 75 = .ok (.iconst 0, 1) := dk_3 (dk_at dksX2_init_3 8 rfl rfl)
theorem dX2_init_76 : decode cX2_init 76 = .ok (.iconst 1, 1) := dk_4 (dk_at dksX2_init_3 9 rfl rfl)
theorem dX2_init_77 : decode cX2_init 77 = .ok (.iastore, 1) := dk_79 (dk_at dksX2_init_3 10 rfl rfl)
theorem dX2_init_78 : decode cX2_init 78 = .ok (.dup, 1) := dk_89 (dk_at dksX2_init_3 11 rfl rfl)
theorem dX2_init_79 : decode cX2_init 79 = .ok (.iconst 1, 1) := dk_4 (dk_at dksX2_init_3 12 rfl rfl)
theorem dX2_init_80 : decode cX2_init 80 = .ok (.iconst 3, 1) := dk_6 (dk_at dksX2_init_3 13 rfl rfl)
theorem dX2_init_81 : decode cX2_init 81 = .ok (.iastore, 1) := dk_79 (dk_at dksX2_init_3 14 rfl rfl)
theorem dX2_init_82 : decode cX2_init 82 = .ok (.dup, 1) := dk_89 (dk_at dksX2_init_3 15 rfl rfl)
theorem dX2_init_83 : decode cX2_init 83 = .ok (.iconst 2, 1) := dk_5 (dk_at dksX2_init_3 16 rfl rfl)
theorem dX2_init_84 : decode cX2_init 84 = .ok (.bipush 7, 2) := dk_16 7 (dk_at dksX2_init_3 17 rfl rfl)
theorem dX2_init_86 : decode cX2_init 86 = .ok (.iastore, 1) := dk_79 (dk_at dksX2_init_3 19 rfl rfl)
theorem dX2_init_87 : decode cX2_init 87 = .ok (.putfield 37, 3) := dk_181 0 37 (dk_at dksX2_init_3 20 rfl rfl)
theorem dX2_init_90 : decode cX2_init 90 = .ok (.aload_n 0, 1) := dk_42 (dk_at dksX2_init_3 23 rfl rfl)
theorem dX2_init_91 : decode cX2_init 91 = .ok (.bipush 100, 2) := dk_16 100 (dk_at dksX2_init_4 0 rfl rfl)
theorem dX2_init_93 : decode cX2_init 93 = .ok (.putfield 41, 3) := dk_181 0 41 (dk_at dksX2_init_4 2 rfl rfl)
theorem dX2_init_96 : decode cX2_init 96 = .ok (.return_, 1) := dk_177 (dk_at dksX2_init_4 5 rfl rfl)
abbrev cX2_become : ByteArray := prog_21_method_2_code
def yX2_become : MethodName := ⟨RX2, "become", "(LBraidedFerry$River;)LBraidedFerry$River;"⟩
def dkwX2_become_9 : List UInt8 := [181, 0, 87, 42, 43, 180, 0, 90, 181, 0, 90, 42, 43, 180, 0, 93, 181, 0, 93, 42, 176]
abbrev dktX2_become_9 : List UInt8 := dkwX2_become_9 ++ []
def dkwX2_become_8 : List UInt8 := [181, 0, 81, 42, 43, 180, 0, 84, 181, 0, 84, 42, 43, 180, 0, 41, 181, 0, 41, 42, 43, 180, 0, 87]
abbrev dktX2_become_8 : List UInt8 := dkwX2_become_8 ++ dktX2_become_9
def dkwX2_become_7 : List UInt8 := [182, 0, 71, 43, 180, 0, 37, 3, 42, 180, 0, 37, 3, 6, 184, 0, 75, 42, 43, 180, 0, 81]
abbrev dktX2_become_7 : List UInt8 := dkwX2_become_7 ++ dktX2_become_8
def dkwX2_become_6 : List UInt8 := [182, 0, 71, 42, 180, 0, 31, 43, 180, 0, 31, 182, 0, 71, 42, 180, 0, 34, 43, 180, 0, 34]
abbrev dktX2_become_6 : List UInt8 := dkwX2_become_6 ++ dktX2_become_7
def dkwX2_become_5 : List UInt8 := [78, 42, 180, 0, 21, 45, 185, 0, 63, 2, 0, 87, 167, 255, 226, 42, 180, 0, 27, 43, 180, 0, 27]
abbrev dktX2_become_5 : List UInt8 := dkwX2_become_5 ++ dktX2_become_6
def dkwX2_become_4 : List UInt8 := [185, 0, 45, 1, 0, 77, 44, 185, 0, 51, 1, 0, 153, 0, 27, 44, 185, 0, 57, 1, 0, 192, 0, 69]
abbrev dktX2_become_4 : List UInt8 := dkwX2_become_4 ++ dktX2_become_5
def dkwX2_become_3 : List UInt8 := [192, 0, 67, 78, 42, 180, 0, 18, 45, 185, 0, 63, 2, 0, 87, 167, 255, 226, 43, 180, 0, 21]
abbrev dktX2_become_3 : List UInt8 := dkwX2_become_3 ++ dktX2_become_4
def dkwX2_become_2 : List UInt8 := [180, 0, 18, 185, 0, 45, 1, 0, 77, 44, 185, 0, 51, 1, 0, 153, 0, 27, 44, 185, 0, 57, 1, 0]
abbrev dktX2_become_2 : List UInt8 := dkwX2_become_2 ++ dktX2_become_3
def dkwX2_become_1 : List UInt8 := [185, 0, 57, 1, 0, 192, 0, 61, 78, 42, 180, 0, 12, 45, 185, 0, 63, 2, 0, 87, 167, 255, 226, 43]
abbrev dktX2_become_1 : List UInt8 := dkwX2_become_1 ++ dktX2_become_2
def dkwX2_become_0 : List UInt8 := [43, 180, 0, 12, 185, 0, 45, 1, 0, 77, 44, 185, 0, 51, 1, 0, 153, 0, 27, 44]
abbrev dktX2_become_0 : List UInt8 := dkwX2_become_0 ++ dktX2_become_1
theorem dksX2_become_0 : cX2_become.data.toList.drop 0 = dktX2_become_0 := by decide +kernel
theorem dksX2_become_1 : cX2_become.data.toList.drop 20 = dktX2_become_1 := dk_seg dksX2_become_0 20 rfl rfl
theorem dksX2_become_2 : cX2_become.data.toList.drop 44 = dktX2_become_2 := dk_seg dksX2_become_1 24 rfl rfl
theorem dksX2_become_3 : cX2_become.data.toList.drop 68 = dktX2_become_3 := dk_seg dksX2_become_2 24 rfl rfl
theorem dksX2_become_4 : cX2_become.data.toList.drop 90 = dktX2_become_4 := dk_seg dksX2_become_3 22 rfl rfl
theorem dksX2_become_5 : cX2_become.data.toList.drop 114 = dktX2_become_5 := dk_seg dksX2_become_4 24 rfl rfl
theorem dksX2_become_6 : cX2_become.data.toList.drop 137 = dktX2_become_6 := dk_seg dksX2_become_5 23 rfl rfl
theorem dksX2_become_7 : cX2_become.data.toList.drop 159 = dktX2_become_7 := dk_seg dksX2_become_6 22 rfl rfl
theorem dksX2_become_8 : cX2_become.data.toList.drop 181 = dktX2_become_8 := dk_seg dksX2_become_7 22 rfl rfl
theorem dksX2_become_9 : cX2_become.data.toList.drop 205 = dktX2_become_9 := dk_seg dksX2_become_8 24 rfl rfl
theorem dX2_become_0 : decode cX2_become 0 = .ok (.aload_n 1, 1) := dk_43 (dk_at dksX2_become_0 0 rfl rfl)
theorem dX2_become_1 : decode cX2_become 1 = .ok (.getfield 12, 3) := dk_180 0 12 (dk_at dksX2_become_0 1 rfl rfl)
theorem dX2_become_4 : decode cX2_become 4 = .ok (.invokeinterface 45 1, 5) := by decide +kernel
theorem dX2_become_9 : decode cX2_become 9 = .ok (.astore_n 2, 1) := dk_77 (dk_at dksX2_become_0 9 rfl rfl)
theorem dX2_become_10 : decode cX2_become 10 = .ok (.aload_n 2, 1) := dk_44 (dk_at dksX2_become_0 10 rfl rfl)
theorem dX2_become_11 : decode cX2_become 11 = .ok (.invokeinterface 51 1, 5) := by decide +kernel
theorem dX2_become_16 : decode cX2_become 16 = .ok (.ifCond .eq 27, 3) := dk_153 0 27 (dk_at dksX2_become_0 16 rfl rfl)
theorem dX2_become_19 : decode cX2_become 19 = .ok (.aload_n 2, 1) := dk_44 (dk_at dksX2_become_0 19 rfl rfl)
theorem dX2_become_20 : decode cX2_become 20 = .ok (.invokeinterface 57 1, 5) := by decide +kernel
theorem dX2_become_25 : decode cX2_become 25 = .ok (.checkcast 61, 3) := dk_192 0 61 (dk_at dksX2_become_1 5 rfl rfl)
theorem dX2_become_28 : decode cX2_become 28 = .ok (.astore_n 3, 1) := dk_78 (dk_at dksX2_become_1 8 rfl rfl)
theorem dX2_become_29 : decode cX2_become 29 = .ok (.aload_n 0, 1) := dk_42 (dk_at dksX2_become_1 9 rfl rfl)
theorem dX2_become_30 : decode cX2_become 30 = .ok (.getfield 12, 3) := dk_180 0 12 (dk_at dksX2_become_1 10 rfl rfl)
theorem dX2_become_33 : decode cX2_become 33 = .ok (.aload_n 3, 1) := dk_45 (dk_at dksX2_become_1 13 rfl rfl)
theorem dX2_become_34 : decode cX2_become 34 = .ok (.invokeinterface 63 2, 5) := by decide +kernel
theorem dX2_become_39 : decode cX2_become 39 = .ok (.pop, 1) := dk_87 (dk_at dksX2_become_1 19 rfl rfl)
theorem dX2_become_40 : decode cX2_become 40 = .ok (.goto (-30), 3) := dk_167 255 226 (dk_at dksX2_become_1 20 rfl rfl)
theorem dX2_become_43 : decode cX2_become 43 = .ok (.aload_n 1, 1) := dk_43 (dk_at dksX2_become_1 23 rfl rfl)
theorem dX2_become_44 : decode cX2_become 44 = .ok (.getfield 18, 3) := dk_180 0 18 (dk_at dksX2_become_2 0 rfl rfl)
theorem dX2_become_47 : decode cX2_become 47 = .ok (.invokeinterface 45 1, 5) := by decide +kernel
theorem dX2_become_52 : decode cX2_become 52 = .ok (.astore_n 2, 1) := dk_77 (dk_at dksX2_become_2 8 rfl rfl)
theorem dX2_become_53 : decode cX2_become 53 = .ok (.aload_n 2, 1) := dk_44 (dk_at dksX2_become_2 9 rfl rfl)
theorem dX2_become_54 : decode cX2_become 54 = .ok (.invokeinterface 51 1, 5) := by decide +kernel
theorem dX2_become_59 : decode cX2_become 59 = .ok (.ifCond .eq 27, 3) := dk_153 0 27 (dk_at dksX2_become_2 15 rfl rfl)
theorem dX2_become_62 : decode cX2_become 62 = .ok (.aload_n 2, 1) := dk_44 (dk_at dksX2_become_2 18 rfl rfl)
theorem dX2_become_63 : decode cX2_become 63 = .ok (.invokeinterface 57 1, 5) := by decide +kernel
theorem dX2_become_68 : decode cX2_become 68 = .ok (.checkcast 67, 3) := dk_192 0 67 (dk_at dksX2_become_3 0 rfl rfl)
theorem dX2_become_71 : decode cX2_become 71 = .ok (.astore_n 3, 1) := dk_78 (dk_at dksX2_become_3 3 rfl rfl)
theorem dX2_become_72 : decode cX2_become 72 = .ok (.aload_n 0, 1) := dk_42 (dk_at dksX2_become_3 4 rfl rfl)
theorem dX2_become_73 : decode cX2_become 73 = .ok (.getfield 18, 3) := dk_180 0 18 (dk_at dksX2_become_3 5 rfl rfl)
theorem dX2_become_76 : decode cX2_become 76 = .ok (.aload_n 3, 1) := dk_45 (dk_at dksX2_become_3 8 rfl rfl)
theorem dX2_become_77 : decode cX2_become 77 = .ok (.invokeinterface 63 2, 5) := by decide +kernel
theorem dX2_become_82 : decode cX2_become 82 = .ok (.pop, 1) := dk_87 (dk_at dksX2_become_3 14 rfl rfl)
theorem dX2_become_83 : decode cX2_become 83 = .ok (.goto (-30), 3) := dk_167 255 226 (dk_at dksX2_become_3 15 rfl rfl)
theorem dX2_become_86 : decode cX2_become 86 = .ok (.aload_n 1, 1) := dk_43 (dk_at dksX2_become_3 18 rfl rfl)
theorem dX2_become_87 : decode cX2_become 87 = .ok (.getfield 21, 3) := dk_180 0 21 (dk_at dksX2_become_3 19 rfl rfl)
theorem dX2_become_90 : decode cX2_become 90 = .ok (.invokeinterface 45 1, 5) := by decide +kernel
theorem dX2_become_95 : decode cX2_become 95 = .ok (.astore_n 2, 1) := dk_77 (dk_at dksX2_become_4 5 rfl rfl)
theorem dX2_become_96 : decode cX2_become 96 = .ok (.aload_n 2, 1) := dk_44 (dk_at dksX2_become_4 6 rfl rfl)
theorem dX2_become_97 : decode cX2_become 97 = .ok (.invokeinterface 51 1, 5) := by decide +kernel
theorem dX2_become_102 : decode cX2_become 102 = .ok (.ifCond .eq 27, 3) := dk_153 0 27 (dk_at dksX2_become_4 12 rfl rfl)
theorem dX2_become_105 : decode cX2_become 105 = .ok (.aload_n 2, 1) := dk_44 (dk_at dksX2_become_4 15 rfl rfl)
theorem dX2_become_106 : decode cX2_become 106 = .ok (.invokeinterface 57 1, 5) := by decide +kernel
theorem dX2_become_111 : decode cX2_become 111 = .ok (.checkcast 69, 3) := dk_192 0 69 (dk_at dksX2_become_4 21 rfl rfl)
theorem dX2_become_114 : decode cX2_become 114 = .ok (.astore_n 3, 1) := dk_78 (dk_at dksX2_become_5 0 rfl rfl)
theorem dX2_become_115 : decode cX2_become 115 = .ok (.aload_n 0, 1) := dk_42 (dk_at dksX2_become_5 1 rfl rfl)
theorem dX2_become_116 : decode cX2_become 116 = .ok (.getfield 21, 3) := dk_180 0 21 (dk_at dksX2_become_5 2 rfl rfl)
theorem dX2_become_119 : decode cX2_become 119 = .ok (.aload_n 3, 1) := dk_45 (dk_at dksX2_become_5 5 rfl rfl)
theorem dX2_become_120 : decode cX2_become 120 = .ok (.invokeinterface 63 2, 5) := by decide +kernel
theorem dX2_become_125 : decode cX2_become 125 = .ok (.pop, 1) := dk_87 (dk_at dksX2_become_5 11 rfl rfl)
theorem dX2_become_126 : decode cX2_become 126 = .ok (.goto (-30), 3) := dk_167 255 226 (dk_at dksX2_become_5 12 rfl rfl)
theorem dX2_become_129 : decode cX2_become 129 = .ok (.aload_n 0, 1) := dk_42 (dk_at dksX2_become_5 15 rfl rfl)
theorem dX2_become_130 : decode cX2_become 130 = .ok (.getfield 27, 3) := dk_180 0 27 (dk_at dksX2_become_5 16 rfl rfl)
theorem dX2_become_133 : decode cX2_become 133 = .ok (.aload_n 1, 1) := dk_43 (dk_at dksX2_become_5 19 rfl rfl)
theorem dX2_become_134 : decode cX2_become 134 = .ok (.getfield 27, 3) := dk_180 0 27 (dk_at dksX2_become_5 20 rfl rfl)
theorem dX2_become_137 : decode cX2_become 137 = .ok (.invokevirtual 71, 3) := dk_182 0 71 (dk_at dksX2_become_6 0 rfl rfl)
theorem dX2_become_140 : decode cX2_become 140 = .ok (.aload_n 0, 1) := dk_42 (dk_at dksX2_become_6 3 rfl rfl)
theorem dX2_become_141 : decode cX2_become 141 = .ok (.getfield 31, 3) := dk_180 0 31 (dk_at dksX2_become_6 4 rfl rfl)
theorem dX2_become_144 : decode cX2_become 144 = .ok (.aload_n 1, 1) := dk_43 (dk_at dksX2_become_6 7 rfl rfl)
theorem dX2_become_145 : decode cX2_become 145 = .ok (.getfield 31, 3) := dk_180 0 31 (dk_at dksX2_become_6 8 rfl rfl)
theorem dX2_become_148 : decode cX2_become 148 = .ok (.invokevirtual 71, 3) := dk_182 0 71 (dk_at dksX2_become_6 11 rfl rfl)
theorem dX2_become_151 : decode cX2_become 151 = .ok (.aload_n 0, 1) := dk_42 (dk_at dksX2_become_6 14 rfl rfl)
theorem dX2_become_152 : decode cX2_become 152 = .ok (.getfield 34, 3) := dk_180 0 34 (dk_at dksX2_become_6 15 rfl rfl)
theorem dX2_become_155 : decode cX2_become 155 = .ok (.aload_n 1, 1) := dk_43 (dk_at dksX2_become_6 18 rfl rfl)
theorem dX2_become_156 : decode cX2_become 156 = .ok (.getfield 34, 3) := dk_180 0 34 (dk_at dksX2_become_6 19 rfl rfl)
theorem dX2_become_159 : decode cX2_become 159 = .ok (.invokevirtual 71, 3) := dk_182 0 71 (dk_at dksX2_become_7 0 rfl rfl)
theorem dX2_become_162 : decode cX2_become 162 = .ok (.aload_n 1, 1) := dk_43 (dk_at dksX2_become_7 3 rfl rfl)
theorem dX2_become_163 : decode cX2_become 163 = .ok (.getfield 37, 3) := dk_180 0 37 (dk_at dksX2_become_7 4 rfl rfl)
theorem dX2_become_166 : decode cX2_become 166 = .ok (.iconst 0, 1) := dk_3 (dk_at dksX2_become_7 7 rfl rfl)
theorem dX2_become_167 : decode cX2_become 167 = .ok (.aload_n 0, 1) := dk_42 (dk_at dksX2_become_7 8 rfl rfl)
theorem dX2_become_168 : decode cX2_become 168 = .ok (.getfield 37, 3) := dk_180 0 37 (dk_at dksX2_become_7 9 rfl rfl)
theorem dX2_become_171 : decode cX2_become 171 = .ok (.iconst 0, 1) := dk_3 (dk_at dksX2_become_7 12 rfl rfl)
theorem dX2_become_172 : decode cX2_become 172 = .ok (.iconst 3, 1) := dk_6 (dk_at dksX2_become_7 13 rfl rfl)
theorem dX2_become_173 : decode cX2_become 173 = .ok (.invokestatic 75, 3) := dk_184 0 75 (dk_at dksX2_become_7 14 rfl rfl)
theorem dX2_become_176 : decode cX2_become 176 = .ok (.aload_n 0, 1) := dk_42 (dk_at dksX2_become_7 17 rfl rfl)
theorem dX2_become_177 : decode cX2_become 177 = .ok (.aload_n 1, 1) := dk_43 (dk_at dksX2_become_7 18 rfl rfl)
theorem dX2_become_178 : decode cX2_become 178 = .ok (.getfield 81, 3) := dk_180 0 81 (dk_at dksX2_become_7 19 rfl rfl)
theorem dX2_become_181 : decode cX2_become 181 = .ok (.putfield 81, 3) := dk_181 0 81 (dk_at dksX2_become_8 0 rfl rfl)
theorem dX2_become_184 : decode cX2_become 184 = .ok (.aload_n 0, 1) := dk_42 (dk_at dksX2_become_8 3 rfl rfl)
theorem dX2_become_185 : decode cX2_become 185 = .ok (.aload_n 1, 1) := dk_43 (dk_at dksX2_become_8 4 rfl rfl)
theorem dX2_become_186 : decode cX2_become 186 = .ok (.getfield 84, 3) := dk_180 0 84 (dk_at dksX2_become_8 5 rfl rfl)
theorem dX2_become_189 : decode cX2_become 189 = .ok (.putfield 84, 3) := dk_181 0 84 (dk_at dksX2_become_8 8 rfl rfl)
theorem dX2_become_192 : decode cX2_become 192 = .ok (.aload_n 0, 1) := dk_42 (dk_at dksX2_become_8 11 rfl rfl)
theorem dX2_become_193 : decode cX2_become 193 = .ok (.aload_n 1, 1) := dk_43 (dk_at dksX2_become_8 12 rfl rfl)
theorem dX2_become_194 : decode cX2_become 194 = .ok (.getfield 41, 3) := dk_180 0 41 (dk_at dksX2_become_8 13 rfl rfl)
theorem dX2_become_197 : decode cX2_become 197 = .ok (.putfield 41, 3) := dk_181 0 41 (dk_at dksX2_become_8 16 rfl rfl)
theorem dX2_become_200 : decode cX2_become 200 = .ok (.aload_n 0, 1) := dk_42 (dk_at dksX2_become_8 19 rfl rfl)
theorem dX2_become_201 : decode cX2_become 201 = .ok (.aload_n 1, 1) := dk_43 (dk_at dksX2_become_8 20 rfl rfl)
theorem dX2_become_202 : decode cX2_become 202 = .ok (.getfield 87, 3) := dk_180 0 87 (dk_at dksX2_become_8 21 rfl rfl)
theorem dX2_become_205 : decode cX2_become 205 = .ok (.putfield 87, 3) := dk_181 0 87 (dk_at dksX2_become_9 0 rfl rfl)
theorem dX2_become_208 : decode cX2_become 208 = .ok (.aload_n 0, 1) := dk_42 (dk_at dksX2_become_9 3 rfl rfl)
theorem dX2_become_209 : decode cX2_become 209 = .ok (.aload_n 1, 1) := dk_43 (dk_at dksX2_become_9 4 rfl rfl)
theorem dX2_become_210 : decode cX2_become 210 = .ok (.getfield 90, 3) := dk_180 0 90 (dk_at dksX2_become_9 5 rfl rfl)
theorem dX2_become_213 : decode cX2_become 213 = .ok (.putfield 90, 3) := dk_181 0 90 (dk_at dksX2_become_9 8 rfl rfl)
theorem dX2_become_216 : decode cX2_become 216 = .ok (.aload_n 0, 1) := dk_42 (dk_at dksX2_become_9 11 rfl rfl)
theorem dX2_become_217 : decode cX2_become 217 = .ok (.aload_n 1, 1) := dk_43 (dk_at dksX2_become_9 12 rfl rfl)
theorem dX2_become_218 : decode cX2_become 218 = .ok (.getfield 93, 3) := dk_180 0 93 (dk_at dksX2_become_9 13 rfl rfl)
theorem dX2_become_221 : decode cX2_become 221 = .ok (.putfield 93, 3) := dk_181 0 93 (dk_at dksX2_become_9 16 rfl rfl)
theorem dX2_become_224 : decode cX2_become 224 = .ok (.aload_n 0, 1) := dk_42 (dk_at dksX2_become_9 19 rfl rfl)
theorem dX2_become_225 : decode cX2_become 225 = .ok (.areturn, 1) := dk_176 (dk_at dksX2_become_9 20 rfl rfl)
abbrev cX2_channel : ByteArray := prog_21_method_3_code
def yX2_channel : MethodName := ⟨RX2, "channel", "(I)LBraidedFerry$Channel;"⟩
def dkwX2_channel_1 : List UInt8 := [185, 0, 108, 2, 0, 192, 0, 61, 176]
abbrev dktX2_channel_1 : List UInt8 := dkwX2_channel_1 ++ []
def dkwX2_channel_0 : List UInt8 := [27, 3, 42, 180, 0, 12, 185, 0, 96, 1, 0, 4, 100, 184, 0, 100, 184, 0, 104, 42, 180, 0, 12, 27]
abbrev dktX2_channel_0 : List UInt8 := dkwX2_channel_0 ++ dktX2_channel_1
theorem dksX2_channel_0 : cX2_channel.data.toList.drop 0 = dktX2_channel_0 := by decide +kernel
theorem dksX2_channel_1 : cX2_channel.data.toList.drop 24 = dktX2_channel_1 := dk_seg dksX2_channel_0 24 rfl rfl
theorem dX2_channel_0 : decode cX2_channel 0 = .ok (.iload_n 1, 1) := dk_27 (dk_at dksX2_channel_0 0 rfl rfl)
theorem dX2_channel_1 : decode cX2_channel 1 = .ok (.iconst 0, 1) := dk_3 (dk_at dksX2_channel_0 1 rfl rfl)
theorem dX2_channel_2 : decode cX2_channel 2 = .ok (.aload_n 0, 1) := dk_42 (dk_at dksX2_channel_0 2 rfl rfl)
theorem dX2_channel_3 : decode cX2_channel 3 = .ok (.getfield 12, 3) := dk_180 0 12 (dk_at dksX2_channel_0 3 rfl rfl)
theorem dX2_channel_6 : decode cX2_channel 6 = .ok (.invokeinterface 96 1, 5) := by decide +kernel
theorem dX2_channel_11 : decode cX2_channel 11 = .ok (.iconst 1, 1) := dk_4 (dk_at dksX2_channel_0 11 rfl rfl)
theorem dX2_channel_12 : decode cX2_channel 12 = .ok (.isub, 1) := dk_100 (dk_at dksX2_channel_0 12 rfl rfl)
theorem dX2_channel_13 : decode cX2_channel 13 = .ok (.invokestatic 100, 3) := dk_184 0 100 (dk_at dksX2_channel_0 13 rfl rfl)
theorem dX2_channel_16 : decode cX2_channel 16 = .ok (.invokestatic 104, 3) := dk_184 0 104 (dk_at dksX2_channel_0 16 rfl rfl)
theorem dX2_channel_19 : decode cX2_channel 19 = .ok (.aload_n 0, 1) := dk_42 (dk_at dksX2_channel_0 19 rfl rfl)
theorem dX2_channel_20 : decode cX2_channel 20 = .ok (.getfield 12, 3) := dk_180 0 12 (dk_at dksX2_channel_0 20 rfl rfl)
theorem dX2_channel_23 : decode cX2_channel 23 = .ok (.iload_n 1, 1) := dk_27 (dk_at dksX2_channel_0 23 rfl rfl)
theorem dX2_channel_24 : decode cX2_channel 24 = .ok (.invokeinterface 108 2, 5) := by decide +kernel
theorem dX2_channel_29 : decode cX2_channel 29 = .ok (.checkcast 61, 3) := dk_192 0 61 (dk_at dksX2_channel_1 5 rfl rfl)
theorem dX2_channel_32 : decode cX2_channel 32 = .ok (.areturn, 1) := dk_176 (dk_at dksX2_channel_1 8 rfl rfl)
abbrev cX2_addAnchor : ByteArray := prog_21_method_24_code
def yX2_addAnchor : MethodName := ⟨RX2, "addAnchor", "(II)I"⟩
def dkwX2_addAnchor_2 : List UInt8 := [180, 0, 21, 185, 0, 96, 1, 0, 4, 100, 172]
abbrev dktX2_addAnchor_2 : List UInt8 := dkwX2_addAnchor_2 ++ []
def dkwX2_addAnchor_1 : List UInt8 := [184, 0, 176, 42, 180, 0, 21, 187, 0, 69, 89, 27, 28, 3, 183, 1, 3, 185, 0, 63, 2, 0, 87, 42]
abbrev dktX2_addAnchor_1 : List UInt8 := dkwX2_addAnchor_1 ++ dktX2_addAnchor_2
def dkwX2_addAnchor_0 : List UInt8 := [42, 180, 0, 21, 185, 0, 96, 1, 0, 16, 6, 162, 0, 7, 4, 167, 0, 4, 3, 4, 16, 6]
abbrev dktX2_addAnchor_0 : List UInt8 := dkwX2_addAnchor_0 ++ dktX2_addAnchor_1
theorem dksX2_addAnchor_0 : cX2_addAnchor.data.toList.drop 0 = dktX2_addAnchor_0 := by decide +kernel
theorem dksX2_addAnchor_1 : cX2_addAnchor.data.toList.drop 22 = dktX2_addAnchor_1 := dk_seg dksX2_addAnchor_0 22 rfl rfl
theorem dksX2_addAnchor_2 : cX2_addAnchor.data.toList.drop 46 = dktX2_addAnchor_2 := dk_seg dksX2_addAnchor_1 24 rfl rfl
theorem dX2_addAnchor_0 : decode cX2_addAnchor 0 = .ok (.aload_n 0, 1) := dk_42 (dk_at dksX2_addAnchor_0 0 rfl rfl)
theorem dX2_addAnchor_1 : decode cX2_addAnchor 1 = .ok (.getfield 21, 3) := dk_180 0 21 (dk_at dksX2_addAnchor_0 1 rfl rfl)
theorem dX2_addAnchor_4 : decode cX2_addAnchor 4 = .ok (.invokeinterface 96 1, 5) := by decide +kernel
theorem dX2_addAnchor_9 : decode cX2_addAnchor 9 = .ok (.bipush 6, 2) := dk_16 6 (dk_at dksX2_addAnchor_0 9 rfl rfl)
theorem dX2_addAnchor_11 : decode cX2_addAnchor 11 = .ok (.if_icmp .ge 7, 3) := dk_162 0 7 (dk_at dksX2_addAnchor_0 11 rfl rfl)
theorem dX2_addAnchor_14 : decode cX2_addAnchor 14 = .ok (.iconst 1, 1) := dk_4 (dk_at dksX2_addAnchor_0 14 rfl rfl)
theorem dX2_addAnchor_15 : decode cX2_addAnchor 15 = .ok (.goto 4, 3) := dk_167 0 4 (dk_at dksX2_addAnchor_0 15 rfl rfl)
theorem dX2_addAnchor_18 : decode cX2_addAnchor 18 = .ok (.iconst 0, 1) := dk_3 (dk_at dksX2_addAnchor_0 18 rfl rfl)
theorem dX2_addAnchor_19 : decode cX2_addAnchor 19 = .ok (.iconst 1, 1) := dk_4 (dk_at dksX2_addAnchor_0 19 rfl rfl)
theorem dX2_addAnchor_20 : decode cX2_addAnchor 20 = .ok (.bipush 6, 2) := dk_16 6 (dk_at dksX2_addAnchor_0 20 rfl rfl)
theorem dX2_addAnchor_22 : decode cX2_addAnchor 22 = .ok (.invokestatic 176, 3) := dk_184 0 176 (dk_at dksX2_addAnchor_1 0 rfl rfl)
theorem dX2_addAnchor_25 : decode cX2_addAnchor 25 = .ok (.aload_n 0, 1) := dk_42 (dk_at dksX2_addAnchor_1 3 rfl rfl)
theorem dX2_addAnchor_26 : decode cX2_addAnchor 26 = .ok (.getfield 21, 3) := dk_180 0 21 (dk_at dksX2_addAnchor_1 4 rfl rfl)
theorem dX2_addAnchor_29 : decode cX2_addAnchor 29 = .ok (.new 69, 3) := dk_187 0 69 (dk_at dksX2_addAnchor_1 7 rfl rfl)
theorem dX2_addAnchor_32 : decode cX2_addAnchor 32 = .ok (.dup, 1) := dk_89 (dk_at dksX2_addAnchor_1 10 rfl rfl)
theorem dX2_addAnchor_33 : decode cX2_addAnchor 33 = .ok (.iload_n 1, 1) := dk_27 (dk_at dksX2_addAnchor_1 11 rfl rfl)
theorem dX2_addAnchor_34 : decode cX2_addAnchor 34 = .ok (.iload_n 2, 1) := dk_28 (dk_at dksX2_addAnchor_1 12 rfl rfl)
theorem dX2_addAnchor_35 : decode cX2_addAnchor 35 = .ok (.iconst 0, 1) := dk_3 (dk_at dksX2_addAnchor_1 13 rfl rfl)
theorem dX2_addAnchor_36 : decode cX2_addAnchor 36 = .ok (.invokespecial 259, 3) := dk_183 1 3 (dk_at dksX2_addAnchor_1 14 rfl rfl)
theorem dX2_addAnchor_39 : decode cX2_addAnchor 39 = .ok (.invokeinterface 63 2, 5) := by decide +kernel
theorem dX2_addAnchor_44 : decode cX2_addAnchor 44 = .ok (.pop, 1) := dk_87 (dk_at dksX2_addAnchor_1 22 rfl rfl)
theorem dX2_addAnchor_45 : decode cX2_addAnchor 45 = .ok (.aload_n 0, 1) := dk_42 (dk_at dksX2_addAnchor_1 23 rfl rfl)
theorem dX2_addAnchor_46 : decode cX2_addAnchor 46 = .ok (.getfield 21, 3) := dk_180 0 21 (dk_at dksX2_addAnchor_2 0 rfl rfl)
theorem dX2_addAnchor_49 : decode cX2_addAnchor 49 = .ok (.invokeinterface 96 1, 5) := by decide +kernel
theorem dX2_addAnchor_54 : decode cX2_addAnchor 54 = .ok (.iconst 1, 1) := dk_4 (dk_at dksX2_addAnchor_2 8 rfl rfl)
theorem dX2_addAnchor_55 : decode cX2_addAnchor 55 = .ok (.isub, 1) := dk_100 (dk_at dksX2_addAnchor_2 9 rfl rfl)
theorem dX2_addAnchor_56 : decode cX2_addAnchor 56 = .ok (.ireturn, 1) := dk_172 (dk_at dksX2_addAnchor_2 10 rfl rfl)
abbrev cX2_stop : ByteArray := prog_21_method_5_code
def yX2_stop : MethodName := ⟨RX2, "stop", "(I)I"⟩
def dkwX2_stop_0 : List UInt8 := [27, 3, 42, 180, 0, 12, 185, 0, 96, 1, 0, 184, 0, 100, 184, 0, 104, 27, 172]
abbrev dktX2_stop_0 : List UInt8 := dkwX2_stop_0 ++ []
theorem dksX2_stop_0 : cX2_stop.data.toList.drop 0 = dktX2_stop_0 := by decide +kernel
theorem dX2_stop_0 : decode cX2_stop 0 = .ok (.iload_n 1, 1) := dk_27 (dk_at dksX2_stop_0 0 rfl rfl)
theorem dX2_stop_1 : decode cX2_stop 1 = .ok (.iconst 0, 1) := dk_3 (dk_at dksX2_stop_0 1 rfl rfl)
theorem dX2_stop_2 : decode cX2_stop 2 = .ok (.aload_n 0, 1) := dk_42 (dk_at dksX2_stop_0 2 rfl rfl)
theorem dX2_stop_3 : decode cX2_stop 3 = .ok (.getfield 12, 3) := dk_180 0 12 (dk_at dksX2_stop_0 3 rfl rfl)
theorem dX2_stop_6 : decode cX2_stop 6 = .ok (.invokeinterface 96 1, 5) := by decide +kernel
theorem dX2_stop_11 : decode cX2_stop 11 = .ok (.invokestatic 100, 3) := dk_184 0 100 (dk_at dksX2_stop_0 11 rfl rfl)
theorem dX2_stop_14 : decode cX2_stop 14 = .ok (.invokestatic 104, 3) := dk_184 0 104 (dk_at dksX2_stop_0 14 rfl rfl)
theorem dX2_stop_17 : decode cX2_stop 17 = .ok (.iload_n 1, 1) := dk_27 (dk_at dksX2_stop_0 17 rfl rfl)
theorem dX2_stop_18 : decode cX2_stop 18 = .ok (.ireturn, 1) := dk_172 (dk_at dksX2_stop_0 18 rfl rfl)
abbrev cX2_board : ByteArray := prog_21_method_27_code
def yX2_board : MethodName := ⟨RX2, "board", "(LBraidedFerry$Group;IZ)I"⟩
def dkwX2_board_3 : List UInt8 := [153, 0, 10, 42, 180, 0, 34, 167, 0, 7, 42, 180, 0, 31, 182, 1, 14, 21, 5, 172]
abbrev dktX2_board_3 : List UInt8 := dkwX2_board_3 ++ []
def dkwX2_board_2 : List UInt8 := [163, 0, 7, 4, 167, 0, 4, 3, 16, 7, 21, 5, 184, 0, 176, 42, 180, 0, 27, 43, 28, 29]
abbrev dktX2_board_2 : List UInt8 := dkwX2_board_2 ++ dktX2_board_3
def dkwX2_board_1 : List UInt8 := [21, 4, 184, 0, 176, 42, 182, 0, 139, 28, 43, 182, 1, 13, 104, 96, 54, 5, 21, 5, 16, 60]
abbrev dktX2_board_1 : List UInt8 := dkwX2_board_1 ++ dktX2_board_2
def dkwX2_board_0 : List UInt8 := [42, 180, 0, 27, 43, 182, 1, 9, 54, 4, 21, 4, 28, 161, 0, 7, 4, 167, 0, 4, 3, 16, 8]
abbrev dktX2_board_0 : List UInt8 := dkwX2_board_0 ++ dktX2_board_1
theorem dksX2_board_0 : cX2_board.data.toList.drop 0 = dktX2_board_0 := by decide +kernel
theorem dksX2_board_1 : cX2_board.data.toList.drop 23 = dktX2_board_1 := dk_seg dksX2_board_0 23 rfl rfl
theorem dksX2_board_2 : cX2_board.data.toList.drop 45 = dktX2_board_2 := dk_seg dksX2_board_1 22 rfl rfl
theorem dksX2_board_3 : cX2_board.data.toList.drop 67 = dktX2_board_3 := dk_seg dksX2_board_2 22 rfl rfl
theorem dX2_board_0 : decode cX2_board 0 = .ok (.aload_n 0, 1) := dk_42 (dk_at dksX2_board_0 0 rfl rfl)
theorem dX2_board_1 : decode cX2_board 1 = .ok (.getfield 27, 3) := dk_180 0 27 (dk_at dksX2_board_0 1 rfl rfl)
theorem dX2_board_4 : decode cX2_board 4 = .ok (.aload_n 1, 1) := dk_43 (dk_at dksX2_board_0 4 rfl rfl)
theorem dX2_board_5 : decode cX2_board 5 = .ok (.invokevirtual 265, 3) := dk_182 1 9 (dk_at dksX2_board_0 5 rfl rfl)
theorem dX2_board_8 : decode cX2_board 8 = .ok (.istore 4, 2) := dk_54 4 (dk_at dksX2_board_0 8 rfl rfl)
theorem dX2_board_10 : decode cX2_board 10 = .ok (.iload 4, 2) := dk_21 4 (dk_at dksX2_board_0 10 rfl rfl)
theorem dX2_board_12 : decode cX2_board 12 = .ok (.iload_n 2, 1) := dk_28 (dk_at dksX2_board_0 12 rfl rfl)
theorem dX2_board_13 : decode cX2_board 13 = .ok (.if_icmp .lt 7, 3) := dk_161 0 7 (dk_at dksX2_board_0 13 rfl rfl)
theorem dX2_board_16 : decode cX2_board 16 = .ok (.iconst 1, 1) := dk_4 (dk_at dksX2_board_0 16 rfl rfl)
theorem dX2_board_17 : decode cX2_board 17 = .ok (.goto 4, 3) := dk_167 0 4 (dk_at dksX2_board_0 17 rfl rfl)
theorem dX2_board_20 : decode cX2_board 20 = .ok (.iconst 0, 1) := dk_3 (dk_at dksX2_board_0 20 rfl rfl)
theorem dX2_board_21 : decode cX2_board 21 = .ok (.bipush 8, 2) := dk_16 8 (dk_at dksX2_board_0 21 rfl rfl)
theorem dX2_board_23 : decode cX2_board 23 = .ok (.iload 4, 2) := dk_21 4 (dk_at dksX2_board_1 0 rfl rfl)
theorem dX2_board_25 : decode cX2_board 25 = .ok (.invokestatic 176, 3) := dk_184 0 176 (dk_at dksX2_board_1 2 rfl rfl)
theorem dX2_board_28 : decode cX2_board 28 = .ok (.aload_n 0, 1) := dk_42 (dk_at dksX2_board_1 5 rfl rfl)
theorem dX2_board_29 : decode cX2_board 29 = .ok (.invokevirtual 139, 3) := dk_182 0 139 (dk_at dksX2_board_1 6 rfl rfl)
theorem dX2_board_32 : decode cX2_board 32 = .ok (.iload_n 2, 1) := dk_28 (dk_at dksX2_board_1 9 rfl rfl)
theorem dX2_board_33 : decode cX2_board 33 = .ok (.aload_n 1, 1) := dk_43 (dk_at dksX2_board_1 10 rfl rfl)
theorem dX2_board_34 : decode cX2_board 34 = .ok (.invokevirtual 269, 3) := dk_182 1 13 (dk_at dksX2_board_1 11 rfl rfl)
theorem dX2_board_37 : decode cX2_board 37 = .ok (.imul, 1) := dk_104 (dk_at dksX2_board_1 14 rfl rfl)
theorem dX2_board_38 : decode cX2_board 38 = .ok (.iadd, 1) := dk_96 (dk_at dksX2_board_1 15 rfl rfl)
theorem dX2_board_39 : decode cX2_board 39 = .ok (.istore 5, 2) := dk_54 5 (dk_at dksX2_board_1 16 rfl rfl)
theorem dX2_board_41 : decode cX2_board 41 = .ok (.iload 5, 2) := dk_21 5 (dk_at dksX2_board_1 18 rfl rfl)
theorem dX2_board_43 : decode cX2_board 43 = .ok (.bipush 60, 2) := dk_16 60 (dk_at dksX2_board_1 20 rfl rfl)
theorem dX2_board_45 : decode cX2_board 45 = .ok (.if_icmp .gt 7, 3) := dk_163 0 7 (dk_at dksX2_board_2 0 rfl rfl)
theorem dX2_board_48 : decode cX2_board 48 = .ok (.iconst 1, 1) := dk_4 (dk_at dksX2_board_2 3 rfl rfl)
theorem dX2_board_49 : decode cX2_board 49 = .ok (.goto 4, 3) := dk_167 0 4 (dk_at dksX2_board_2 4 rfl rfl)
theorem dX2_board_52 : decode cX2_board 52 = .ok (.iconst 0, 1) := dk_3 (dk_at dksX2_board_2 7 rfl rfl)
theorem dX2_board_53 : decode cX2_board 53 = .ok (.bipush 7, 2) := dk_16 7 (dk_at dksX2_board_2 8 rfl rfl)
theorem dX2_board_55 : decode cX2_board 55 = .ok (.iload 5, 2) := dk_21 5 (dk_at dksX2_board_2 10 rfl rfl)
theorem dX2_board_57 : decode cX2_board 57 = .ok (.invokestatic 176, 3) := dk_184 0 176 (dk_at dksX2_board_2 12 rfl rfl)
theorem dX2_board_60 : decode cX2_board 60 = .ok (.aload_n 0, 1) := dk_42 (dk_at dksX2_board_2 15 rfl rfl)
theorem dX2_board_61 : decode cX2_board 61 = .ok (.getfield 27, 3) := dk_180 0 27 (dk_at dksX2_board_2 16 rfl rfl)
theorem dX2_board_64 : decode cX2_board 64 = .ok (.aload_n 1, 1) := dk_43 (dk_at dksX2_board_2 19 rfl rfl)
theorem dX2_board_65 : decode cX2_board 65 = .ok (.iload_n 2, 1) := dk_28 (dk_at dksX2_board_2 20 rfl rfl)
theorem dX2_board_66 : decode cX2_board 66 = .ok (.iload_n 3, 1) := dk_29 (dk_at dksX2_board_2 21 rfl rfl)
theorem dX2_board_67 : decode cX2_board 67 = .ok (.ifCond .eq 10, 3) := dk_153 0 10 (dk_at dksX2_board_3 0 rfl rfl)
theorem dX2_board_70 : decode cX2_board 70 = .ok (.aload_n 0, 1) := dk_42 (dk_at dksX2_board_3 3 rfl rfl)
theorem dX2_board_71 : decode cX2_board 71 = .ok (.getfield 34, 3) := dk_180 0 34 (dk_at dksX2_board_3 4 rfl rfl)
theorem dX2_board_74 : decode cX2_board 74 = .ok (.goto 7, 3) := dk_167 0 7 (dk_at dksX2_board_3 7 rfl rfl)
theorem dX2_board_77 : decode cX2_board 77 = .ok (.aload_n 0, 1) := dk_42 (dk_at dksX2_board_3 10 rfl rfl)
theorem dX2_board_78 : decode cX2_board 78 = .ok (.getfield 31, 3) := dk_180 0 31 (dk_at dksX2_board_3 11 rfl rfl)
theorem dX2_board_81 : decode cX2_board 81 = .ok (.invokevirtual 270, 3) := dk_182 1 14 (dk_at dksX2_board_3 14 rfl rfl)
theorem dX2_board_84 : decode cX2_board 84 = .ok (.iload 5, 2) := dk_21 5 (dk_at dksX2_board_3 17 rfl rfl)
theorem dX2_board_86 : decode cX2_board 86 = .ok (.ireturn, 1) := dk_172 (dk_at dksX2_board_3 19 rfl rfl)
abbrev cX2_load : ByteArray := prog_21_method_6_code
def yX2_load : MethodName := ⟨RX2, "load", "()I"⟩
def dkwX2_load_0 : List UInt8 := [42, 180, 0, 31, 182, 0, 112, 42, 180, 0, 34, 182, 0, 112, 96, 172]
abbrev dktX2_load_0 : List UInt8 := dkwX2_load_0 ++ []
theorem dksX2_load_0 : cX2_load.data.toList.drop 0 = dktX2_load_0 := by decide +kernel
theorem dX2_load_0 : decode cX2_load 0 = .ok (.aload_n 0, 1) := dk_42 (dk_at dksX2_load_0 0 rfl rfl)
theorem dX2_load_1 : decode cX2_load 1 = .ok (.getfield 31, 3) := dk_180 0 31 (dk_at dksX2_load_0 1 rfl rfl)
theorem dX2_load_4 : decode cX2_load 4 = .ok (.invokevirtual 112, 3) := dk_182 0 112 (dk_at dksX2_load_0 4 rfl rfl)
theorem dX2_load_7 : decode cX2_load 7 = .ok (.aload_n 0, 1) := dk_42 (dk_at dksX2_load_0 7 rfl rfl)
theorem dX2_load_8 : decode cX2_load 8 = .ok (.getfield 34, 3) := dk_180 0 34 (dk_at dksX2_load_0 8 rfl rfl)
theorem dX2_load_11 : decode cX2_load 11 = .ok (.invokevirtual 112, 3) := dk_182 0 112 (dk_at dksX2_load_0 11 rfl rfl)
theorem dX2_load_14 : decode cX2_load 14 = .ok (.iadd, 1) := dk_96 (dk_at dksX2_load_0 14 rfl rfl)
theorem dX2_load_15 : decode cX2_load 15 = .ok (.ireturn, 1) := dk_172 (dk_at dksX2_load_0 15 rfl rfl)
abbrev cX2_come : ByteArray := prog_21_method_26_code
def yX2_come : MethodName := ⟨RX2, "come", "(LBraidedFerry$Group;I)I"⟩
def dkwX2_come_1 : List UInt8 := [17, 3, 231, 184, 0, 176, 42, 180, 0, 27, 43, 28, 182, 0, 222, 29, 172]
abbrev dktX2_come_1 : List UInt8 := dkwX2_come_1 ++ []
def dkwX2_come_0 : List UInt8 := [42, 180, 0, 27, 43, 182, 1, 9, 28, 96, 62, 29, 17, 3, 231, 163, 0, 7, 4, 167, 0, 4, 3, 4]
abbrev dktX2_come_0 : List UInt8 := dkwX2_come_0 ++ dktX2_come_1
theorem dksX2_come_0 : cX2_come.data.toList.drop 0 = dktX2_come_0 := by decide +kernel
theorem dksX2_come_1 : cX2_come.data.toList.drop 24 = dktX2_come_1 := dk_seg dksX2_come_0 24 rfl rfl
theorem dX2_come_0 : decode cX2_come 0 = .ok (.aload_n 0, 1) := dk_42 (dk_at dksX2_come_0 0 rfl rfl)
theorem dX2_come_1 : decode cX2_come 1 = .ok (.getfield 27, 3) := dk_180 0 27 (dk_at dksX2_come_0 1 rfl rfl)
theorem dX2_come_4 : decode cX2_come 4 = .ok (.aload_n 1, 1) := dk_43 (dk_at dksX2_come_0 4 rfl rfl)
theorem dX2_come_5 : decode cX2_come 5 = .ok (.invokevirtual 265, 3) := dk_182 1 9 (dk_at dksX2_come_0 5 rfl rfl)
theorem dX2_come_8 : decode cX2_come 8 = .ok (.iload_n 2, 1) := dk_28 (dk_at dksX2_come_0 8 rfl rfl)
theorem dX2_come_9 : decode cX2_come 9 = .ok (.iadd, 1) := dk_96 (dk_at dksX2_come_0 9 rfl rfl)
theorem dX2_come_10 : decode cX2_come 10 = .ok (.istore_n 3, 1) := dk_62 (dk_at dksX2_come_0 10 rfl rfl)
theorem dX2_come_11 : decode cX2_come 11 = .ok (.iload_n 3, 1) := dk_29 (dk_at dksX2_come_0 11 rfl rfl)
theorem dX2_come_12 : decode cX2_come 12 = .ok (.sipush 999, 3) := dk_17 3 231 (dk_at dksX2_come_0 12 rfl rfl)
theorem dX2_come_15 : decode cX2_come 15 = .ok (.if_icmp .gt 7, 3) := dk_163 0 7 (dk_at dksX2_come_0 15 rfl rfl)
theorem dX2_come_18 : decode cX2_come 18 = .ok (.iconst 1, 1) := dk_4 (dk_at dksX2_come_0 18 rfl rfl)
theorem dX2_come_19 : decode cX2_come 19 = .ok (.goto 4, 3) := dk_167 0 4 (dk_at dksX2_come_0 19 rfl rfl)
theorem dX2_come_22 : decode cX2_come 22 = .ok (.iconst 0, 1) := dk_3 (dk_at dksX2_come_0 22 rfl rfl)
theorem dX2_come_23 : decode cX2_come 23 = .ok (.iconst 1, 1) := dk_4 (dk_at dksX2_come_0 23 rfl rfl)
theorem dX2_come_24 : decode cX2_come 24 = .ok (.sipush 999, 3) := dk_17 3 231 (dk_at dksX2_come_1 0 rfl rfl)
theorem dX2_come_27 : decode cX2_come 27 = .ok (.invokestatic 176, 3) := dk_184 0 176 (dk_at dksX2_come_1 3 rfl rfl)
theorem dX2_come_30 : decode cX2_come 30 = .ok (.aload_n 0, 1) := dk_42 (dk_at dksX2_come_1 6 rfl rfl)
theorem dX2_come_31 : decode cX2_come 31 = .ok (.getfield 27, 3) := dk_180 0 27 (dk_at dksX2_come_1 7 rfl rfl)
theorem dX2_come_34 : decode cX2_come 34 = .ok (.aload_n 1, 1) := dk_43 (dk_at dksX2_come_1 10 rfl rfl)
theorem dX2_come_35 : decode cX2_come 35 = .ok (.iload_n 2, 1) := dk_28 (dk_at dksX2_come_1 11 rfl rfl)
theorem dX2_come_36 : decode cX2_come 36 = .ok (.invokevirtual 222, 3) := dk_182 0 222 (dk_at dksX2_come_1 12 rfl rfl)
theorem dX2_come_39 : decode cX2_come 39 = .ok (.iload_n 3, 1) := dk_29 (dk_at dksX2_come_1 15 rfl rfl)
theorem dX2_come_40 : decode cX2_come 40 = .ok (.ireturn, 1) := dk_172 (dk_at dksX2_come_1 16 rfl rfl)
abbrev cX2_cross : ByteArray := prog_21_method_33_code
def yX2_cross : MethodName := ⟨RX2, "cross", "(Z)I"⟩
def dkwX2_cross_1 : List UInt8 := [181, 0, 84, 42, 89, 180, 0, 93, 4, 96, 181, 0, 93, 42, 180, 0, 84, 172]
abbrev dktX2_cross_1 : List UInt8 := dkwX2_cross_1 ++ []
def dkwX2_cross_0 : List UInt8 := [42, 27, 182, 1, 36, 42, 182, 0, 187, 42, 89, 180, 0, 84, 27, 153, 0, 7, 4, 167, 0, 4, 2, 96]
abbrev dktX2_cross_0 : List UInt8 := dkwX2_cross_0 ++ dktX2_cross_1
theorem dksX2_cross_0 : cX2_cross.data.toList.drop 0 = dktX2_cross_0 := by decide +kernel
theorem dksX2_cross_1 : cX2_cross.data.toList.drop 24 = dktX2_cross_1 := dk_seg dksX2_cross_0 24 rfl rfl
theorem dX2_cross_0 : decode cX2_cross 0 = .ok (.aload_n 0, 1) := dk_42 (dk_at dksX2_cross_0 0 rfl rfl)
theorem dX2_cross_1 : decode cX2_cross 1 = .ok (.iload_n 1, 1) := dk_27 (dk_at dksX2_cross_0 1 rfl rfl)
theorem dX2_cross_2 : decode cX2_cross 2 = .ok (.invokevirtual 292, 3) := dk_182 1 36 (dk_at dksX2_cross_0 2 rfl rfl)
theorem dX2_cross_5 : decode cX2_cross 5 = .ok (.aload_n 0, 1) := dk_42 (dk_at dksX2_cross_0 5 rfl rfl)
theorem dX2_cross_6 : decode cX2_cross 6 = .ok (.invokevirtual 187, 3) := dk_182 0 187 (dk_at dksX2_cross_0 6 rfl rfl)
theorem dX2_cross_9 : decode cX2_cross 9 = .ok (.aload_n 0, 1) := dk_42 (dk_at dksX2_cross_0 9 rfl rfl)
theorem dX2_cross_10 : decode cX2_cross 10 = .ok (.dup, 1) := dk_89 (dk_at dksX2_cross_0 10 rfl rfl)
theorem dX2_cross_11 : decode cX2_cross 11 = .ok (.getfield 84, 3) := dk_180 0 84 (dk_at dksX2_cross_0 11 rfl rfl)
theorem dX2_cross_14 : decode cX2_cross 14 = .ok (.iload_n 1, 1) := dk_27 (dk_at dksX2_cross_0 14 rfl rfl)
theorem dX2_cross_15 : decode cX2_cross 15 = .ok (.ifCond .eq 7, 3) := dk_153 0 7 (dk_at dksX2_cross_0 15 rfl rfl)
theorem dX2_cross_18 : decode cX2_cross 18 = .ok (.iconst 1, 1) := dk_4 (dk_at dksX2_cross_0 18 rfl rfl)
theorem dX2_cross_19 : decode cX2_cross 19 = .ok (.goto 4, 3) := dk_167 0 4 (dk_at dksX2_cross_0 19 rfl rfl)
theorem dX2_cross_22 : decode cX2_cross 22 = .ok (.iconst (-1), 1) := dk_2 (dk_at dksX2_cross_0 22 rfl rfl)
theorem dX2_cross_23 : decode cX2_cross 23 = .ok (.iadd, 1) := dk_96 (dk_at dksX2_cross_0 23 rfl rfl)
theorem dX2_cross_24 : decode cX2_cross 24 = .ok (.putfield 84, 3) := dk_181 0 84 (dk_at dksX2_cross_1 0 rfl rfl)
theorem dX2_cross_27 : decode cX2_cross 27 = .ok (.aload_n 0, 1) := dk_42 (dk_at dksX2_cross_1 3 rfl rfl)
theorem dX2_cross_28 : decode cX2_cross 28 = .ok (.dup, 1) := dk_89 (dk_at dksX2_cross_1 4 rfl rfl)
theorem dX2_cross_29 : decode cX2_cross 29 = .ok (.getfield 93, 3) := dk_180 0 93 (dk_at dksX2_cross_1 5 rfl rfl)
theorem dX2_cross_32 : decode cX2_cross 32 = .ok (.iconst 1, 1) := dk_4 (dk_at dksX2_cross_1 8 rfl rfl)
theorem dX2_cross_33 : decode cX2_cross 33 = .ok (.iadd, 1) := dk_96 (dk_at dksX2_cross_1 9 rfl rfl)
theorem dX2_cross_34 : decode cX2_cross 34 = .ok (.putfield 93, 3) := dk_181 0 93 (dk_at dksX2_cross_1 10 rfl rfl)
theorem dX2_cross_37 : decode cX2_cross 37 = .ok (.aload_n 0, 1) := dk_42 (dk_at dksX2_cross_1 13 rfl rfl)
theorem dX2_cross_38 : decode cX2_cross 38 = .ok (.getfield 84, 3) := dk_180 0 84 (dk_at dksX2_cross_1 14 rfl rfl)
theorem dX2_cross_41 : decode cX2_cross 41 = .ok (.ireturn, 1) := dk_172 (dk_at dksX2_cross_1 17 rfl rfl)
abbrev cX2_check : ByteArray := prog_21_method_32_code
def yX2_check : MethodName := ⟨RX2, "check", "(Z)V"⟩
def dkwX2_check_7 : List UInt8 := [163, 0, 7, 4, 167, 0, 4, 3, 16, 9, 21, 6, 184, 0, 176, 42, 4, 182, 0, 180, 177]
abbrev dktX2_check_7 : List UInt8 := dkwX2_check_7 ++ []
def dkwX2_check_6 : List UInt8 := [16, 6, 21, 5, 184, 0, 176, 42, 28, 42, 180, 0, 81, 182, 0, 137, 54, 6, 21, 6, 16, 12]
abbrev dktX2_check_6 : List UInt8 := dkwX2_check_6 ++ dktX2_check_7
def dkwX2_check_5 : List UInt8 := [180, 0, 34, 182, 0, 112, 100, 184, 1, 33, 54, 5, 21, 5, 16, 10, 163, 0, 7, 4, 167, 0, 4, 3]
abbrev dktX2_check_5 : List UInt8 := dkwX2_check_5 ++ dktX2_check_6
def dkwX2_check_4 : List UInt8 := [157, 0, 7, 4, 167, 0, 4, 3, 8, 21, 4, 184, 0, 176, 42, 180, 0, 31, 182, 0, 112, 42]
abbrev dktX2_check_4 : List UInt8 := dkwX2_check_4 ++ dktX2_check_5
def dkwX2_check_3 : List UInt8 := [185, 0, 108, 2, 0, 192, 0, 61, 180, 0, 234, 29, 96, 42, 180, 0, 41, 100, 54, 4, 21, 4]
abbrev dktX2_check_3 : List UInt8 := dkwX2_check_3 ++ dktX2_check_4
def dkwX2_check_2 : List UInt8 := [29, 2, 159, 0, 7, 4, 167, 0, 4, 3, 7, 28, 184, 0, 176, 42, 180, 0, 12, 28]
abbrev dktX2_check_2 : List UInt8 := dkwX2_check_2 ++ dktX2_check_3
def dkwX2_check_1 : List UInt8 := [185, 0, 96, 1, 0, 4, 100, 184, 0, 100, 6, 42, 180, 0, 84, 184, 0, 176, 42, 28, 182, 1, 30, 62]
abbrev dktX2_check_1 : List UInt8 := dkwX2_check_1 ++ dktX2_check_2
def dkwX2_check_0 : List UInt8 := [27, 153, 0, 10, 42, 180, 0, 84, 167, 0, 9, 42, 180, 0, 84, 4, 100, 61, 28, 3, 42, 180, 0, 12]
abbrev dktX2_check_0 : List UInt8 := dkwX2_check_0 ++ dktX2_check_1
theorem dksX2_check_0 : cX2_check.data.toList.drop 0 = dktX2_check_0 := by decide +kernel
theorem dksX2_check_1 : cX2_check.data.toList.drop 24 = dktX2_check_1 := dk_seg dksX2_check_0 24 rfl rfl
theorem dksX2_check_2 : cX2_check.data.toList.drop 48 = dktX2_check_2 := dk_seg dksX2_check_1 24 rfl rfl
theorem dksX2_check_3 : cX2_check.data.toList.drop 68 = dktX2_check_3 := dk_seg dksX2_check_2 20 rfl rfl
theorem dksX2_check_4 : cX2_check.data.toList.drop 90 = dktX2_check_4 := dk_seg dksX2_check_3 22 rfl rfl
theorem dksX2_check_5 : cX2_check.data.toList.drop 112 = dktX2_check_5 := dk_seg dksX2_check_4 22 rfl rfl
theorem dksX2_check_6 : cX2_check.data.toList.drop 136 = dktX2_check_6 := dk_seg dksX2_check_5 24 rfl rfl
theorem dksX2_check_7 : cX2_check.data.toList.drop 158 = dktX2_check_7 := dk_seg dksX2_check_6 22 rfl rfl
theorem dX2_check_0 : decode cX2_check 0 = .ok (.iload_n 1, 1) := dk_27 (dk_at dksX2_check_0 0 rfl rfl)
theorem dX2_check_1 : decode cX2_check 1 = .ok (.ifCond .eq 10, 3) := dk_153 0 10 (dk_at dksX2_check_0 1 rfl rfl)
theorem dX2_check_4 : decode cX2_check 4 = .ok (.aload_n 0, 1) := dk_42 (dk_at dksX2_check_0 4 rfl rfl)
theorem dX2_check_5 : decode cX2_check 5 = .ok (.getfield 84, 3) := dk_180 0 84 (dk_at dksX2_check_0 5 rfl rfl)
theorem dX2_check_8 : decode cX2_check 8 = .ok (.goto 9, 3) := dk_167 0 9 (dk_at dksX2_check_0 8 rfl rfl)
theorem dX2_check_11 : decode cX2_check 11 = .ok (.aload_n 0, 1) := dk_42 (dk_at dksX2_check_0 11 rfl rfl)
theorem dX2_check_12 : decode cX2_check 12 = .ok (.getfield 84, 3) := dk_180 0 84 (dk_at dksX2_check_0 12 rfl rfl)
theorem dX2_check_15 : decode cX2_check 15 = .ok (.iconst 1, 1) := dk_4 (dk_at dksX2_check_0 15 rfl rfl)
theorem dX2_check_16 : decode cX2_check 16 = .ok (.isub, 1) := dk_100 (dk_at dksX2_check_0 16 rfl rfl)
theorem dX2_check_17 : decode cX2_check 17 = .ok (.istore_n 2, 1) := dk_61 (dk_at dksX2_check_0 17 rfl rfl)
theorem dX2_check_18 : decode cX2_check 18 = .ok (.iload_n 2, 1) := dk_28 (dk_at dksX2_check_0 18 rfl rfl)
theorem dX2_check_19 : decode cX2_check 19 = .ok (.iconst 0, 1) := dk_3 (dk_at dksX2_check_0 19 rfl rfl)
theorem dX2_check_20 : decode cX2_check 20 = .ok (.aload_n 0, 1) := dk_42 (dk_at dksX2_check_0 20 rfl rfl)
theorem dX2_check_21 : decode cX2_check 21 = .ok (.getfield 12, 3) := dk_180 0 12 (dk_at dksX2_check_0 21 rfl rfl)
theorem dX2_check_24 : decode cX2_check 24 = .ok (.invokeinterface 96 1, 5) := by decide +kernel
theorem dX2_check_29 : decode cX2_check 29 = .ok (.iconst 1, 1) := dk_4 (dk_at dksX2_check_1 5 rfl rfl)
theorem dX2_check_30 : decode cX2_check 30 = .ok (.isub, 1) := dk_100 (dk_at dksX2_check_1 6 rfl rfl)
theorem dX2_check_31 : decode cX2_check 31 = .ok (.invokestatic 100, 3) := dk_184 0 100 (dk_at dksX2_check_1 7 rfl rfl)
theorem dX2_check_34 : decode cX2_check 34 = .ok (.iconst 3, 1) := dk_6 (dk_at dksX2_check_1 10 rfl rfl)
theorem dX2_check_35 : decode cX2_check 35 = .ok (.aload_n 0, 1) := dk_42 (dk_at dksX2_check_1 11 rfl rfl)
theorem dX2_check_36 : decode cX2_check 36 = .ok (.getfield 84, 3) := dk_180 0 84 (dk_at dksX2_check_1 12 rfl rfl)
theorem dX2_check_39 : decode cX2_check 39 = .ok (.invokestatic 176, 3) := dk_184 0 176 (dk_at dksX2_check_1 15 rfl rfl)
theorem dX2_check_42 : decode cX2_check 42 = .ok (.aload_n 0, 1) := dk_42 (dk_at dksX2_check_1 18 rfl rfl)
theorem dX2_check_43 : decode cX2_check 43 = .ok (.iload_n 2, 1) := dk_28 (dk_at dksX2_check_1 19 rfl rfl)
theorem dX2_check_44 : decode cX2_check 44 = .ok (.invokevirtual 286, 3) := dk_182 1 30 (dk_at dksX2_check_1 20 rfl rfl)
theorem dX2_check_47 : decode cX2_check 47 = .ok (.istore_n 3, 1) := dk_62 (dk_at dksX2_check_1 23 rfl rfl)
theorem dX2_check_48 : decode cX2_check 48 = .ok (.iload_n 3, 1) := dk_29 (dk_at dksX2_check_2 0 rfl rfl)
theorem dX2_check_49 : decode cX2_check 49 = .ok (.iconst (-1), 1) := dk_2 (dk_at dksX2_check_2 1 rfl rfl)
theorem dX2_check_50 : decode cX2_check 50 = .ok (.if_icmp .eq 7, 3) := dk_159 0 7 (dk_at dksX2_check_2 2 rfl rfl)
theorem dX2_check_53 : decode cX2_check 53 = .ok (.iconst 1, 1) := dk_4 (dk_at dksX2_check_2 5 rfl rfl)
theorem dX2_check_54 : decode cX2_check 54 = .ok (.goto 4, 3) := dk_167 0 4 (dk_at dksX2_check_2 6 rfl rfl)
theorem dX2_check_57 : decode cX2_check 57 = .ok (.iconst 0, 1) := dk_3 (dk_at dksX2_check_2 9 rfl rfl)
theorem dX2_check_58 : decode cX2_check 58 = .ok (.iconst 4, 1) := dk_7 (dk_at dksX2_check_2 10 rfl rfl)
theorem dX2_check_59 : decode cX2_check 59 = .ok (.iload_n 2, 1) := dk_28 (dk_at dksX2_check_2 11 rfl rfl)
theorem dX2_check_60 : decode cX2_check 60 = .ok (.invokestatic 176, 3) := dk_184 0 176 (dk_at dksX2_check_2 12 rfl rfl)
theorem dX2_check_63 : decode cX2_check 63 = .ok (.aload_n 0, 1) := dk_42 (dk_at dksX2_check_2 15 rfl rfl)
theorem dX2_check_64 : decode cX2_check 64 = .ok (.getfield 12, 3) := dk_180 0 12 (dk_at dksX2_check_2 16 rfl rfl)
theorem dX2_check_67 : decode cX2_check 67 = .ok (.iload_n 2, 1) := dk_28 (dk_at dksX2_check_2 19 rfl rfl)
theorem dX2_check_68 : decode cX2_check 68 = .ok (.invokeinterface 108 2, 5) := by decide +kernel
theorem dX2_check_73 : decode cX2_check 73 = .ok (.checkcast 61, 3) := dk_192 0 61 (dk_at dksX2_check_3 5 rfl rfl)
theorem dX2_check_76 : decode cX2_check 76 = .ok (.getfield 234, 3) := dk_180 0 234 (dk_at dksX2_check_3 8 rfl rfl)
theorem dX2_check_79 : decode cX2_check 79 = .ok (.iload_n 3, 1) := dk_29 (dk_at dksX2_check_3 11 rfl rfl)
theorem dX2_check_80 : decode cX2_check 80 = .ok (.iadd, 1) := dk_96 (dk_at dksX2_check_3 12 rfl rfl)
theorem dX2_check_81 : decode cX2_check 81 = .ok (.aload_n 0, 1) := dk_42 (dk_at dksX2_check_3 13 rfl rfl)
theorem dX2_check_82 : decode cX2_check 82 = .ok (.getfield 41, 3) := dk_180 0 41 (dk_at dksX2_check_3 14 rfl rfl)
theorem dX2_check_85 : decode cX2_check 85 = .ok (.isub, 1) := dk_100 (dk_at dksX2_check_3 17 rfl rfl)
theorem dX2_check_86 : decode cX2_check 86 = .ok (.istore 4, 2) := dk_54 4 (dk_at dksX2_check_3 18 rfl rfl)
theorem dX2_check_88 : decode cX2_check 88 = .ok (.iload 4, 2) := dk_21 4 (dk_at dksX2_check_3 20 rfl rfl)
theorem dX2_check_90 : decode cX2_check 90 = .ok (.ifCond .gt 7, 3) := dk_157 0 7 (dk_at dksX2_check_4 0 rfl rfl)
theorem dX2_check_93 : decode cX2_check 93 = .ok (.iconst 1, 1) := dk_4 (dk_at dksX2_check_4 3 rfl rfl)
theorem dX2_check_94 : decode cX2_check 94 = .ok (.goto 4, 3) := dk_167 0 4 (dk_at dksX2_check_4 4 rfl rfl)
theorem dX2_check_97 : decode cX2_check 97 = .ok (.iconst 0, 1) := dk_3 (dk_at dksX2_check_4 7 rfl rfl)
theorem dX2_check_98 : decode cX2_check 98 = .ok (.iconst 5, 1) := dk_8 (dk_at dksX2_check_4 8 rfl rfl)
theorem dX2_check_99 : decode cX2_check 99 = .ok (.iload 4, 2) := dk_21 4 (dk_at dksX2_check_4 9 rfl rfl)
theorem dX2_check_101 : decode cX2_check 101 = .ok (.invokestatic 176, 3) := dk_184 0 176 (dk_at dksX2_check_4 11 rfl rfl)
theorem dX2_check_104 : decode cX2_check 104 = .ok (.aload_n 0, 1) := dk_42 (dk_at dksX2_check_4 14 rfl rfl)
theorem dX2_check_105 : decode cX2_check 105 = .ok (.getfield 31, 3) := dk_180 0 31 (dk_at dksX2_check_4 15 rfl rfl)
theorem dX2_check_108 : decode cX2_check 108 = .ok (.invokevirtual 112, 3) := dk_182 0 112 (dk_at dksX2_check_4 18 rfl rfl)
theorem dX2_check_111 : decode cX2_check 111 = .ok (.aload_n 0, 1) := dk_42 (dk_at dksX2_check_4 21 rfl rfl)
theorem dX2_check_112 : decode cX2_check 112 = .ok (.getfield 34, 3) := dk_180 0 34 (dk_at dksX2_check_5 0 rfl rfl)
theorem dX2_check_115 : decode cX2_check 115 = .ok (.invokevirtual 112, 3) := dk_182 0 112 (dk_at dksX2_check_5 3 rfl rfl)
theorem dX2_check_118 : decode cX2_check 118 = .ok (.isub, 1) := dk_100 (dk_at dksX2_check_5 6 rfl rfl)
theorem dX2_check_119 : decode cX2_check 119 = .ok (.invokestatic 289, 3) := dk_184 1 33 (dk_at dksX2_check_5 7 rfl rfl)
theorem dX2_check_122 : decode cX2_check 122 = .ok (.istore 5, 2) := dk_54 5 (dk_at dksX2_check_5 10 rfl rfl)
theorem dX2_check_124 : decode cX2_check 124 = .ok (.iload 5, 2) := dk_21 5 (dk_at dksX2_check_5 12 rfl rfl)
theorem dX2_check_126 : decode cX2_check 126 = .ok (.bipush 10, 2) := dk_16 10 (dk_at dksX2_check_5 14 rfl rfl)
theorem dX2_check_128 : decode cX2_check 128 = .ok (.if_icmp .gt 7, 3) := dk_163 0 7 (dk_at dksX2_check_5 16 rfl rfl)
theorem dX2_check_131 : decode cX2_check 131 = .ok (.iconst 1, 1) := dk_4 (dk_at dksX2_check_5 19 rfl rfl)
theorem dX2_check_132 : decode cX2_check 132 = .ok (.goto 4, 3) := dk_167 0 4 (dk_at dksX2_check_5 20 rfl rfl)
theorem dX2_check_135 : decode cX2_check 135 = .ok (.iconst 0, 1) := dk_3 (dk_at dksX2_check_5 23 rfl rfl)
theorem dX2_check_136 : decode cX2_check 136 = .ok (.bipush 6, 2) := dk_16 6 (dk_at dksX2_check_6 0 rfl rfl)
theorem dX2_check_138 : decode cX2_check 138 = .ok (.iload 5, 2) := dk_21 5 (dk_at dksX2_check_6 2 rfl rfl)
theorem dX2_check_140 : decode cX2_check 140 = .ok (.invokestatic 176, 3) := dk_184 0 176 (dk_at dksX2_check_6 4 rfl rfl)
theorem dX2_check_143 : decode cX2_check 143 = .ok (.aload_n 0, 1) := dk_42 (dk_at dksX2_check_6 7 rfl rfl)
theorem dX2_check_144 : decode cX2_check 144 = .ok (.iload_n 2, 1) := dk_28 (dk_at dksX2_check_6 8 rfl rfl)
theorem dX2_check_145 : decode cX2_check 145 = .ok (.aload_n 0, 1) := dk_42 (dk_at dksX2_check_6 9 rfl rfl)
theorem dX2_check_146 : decode cX2_check 146 = .ok (.getfield 81, 3) := dk_180 0 81 (dk_at dksX2_check_6 10 rfl rfl)
theorem dX2_check_149 : decode cX2_check 149 = .ok (.invokevirtual 137, 3) := dk_182 0 137 (dk_at dksX2_check_6 13 rfl rfl)
theorem dX2_check_152 : decode cX2_check 152 = .ok (.istore 6, 2) := dk_54 6 (dk_at dksX2_check_6 16 rfl rfl)
theorem dX2_check_154 : decode cX2_check 154 = .ok (.iload 6, 2) := dk_21 6 (dk_at dksX2_check_6 18 rfl rfl)
theorem dX2_check_156 : decode cX2_check 156 = .ok (.bipush 12, 2) := dk_16 12 (dk_at dksX2_check_6 20 rfl rfl)
theorem dX2_check_158 : decode cX2_check 158 = .ok (.if_icmp .gt 7, 3) := dk_163 0 7 (dk_at dksX2_check_7 0 rfl rfl)
theorem dX2_check_161 : decode cX2_check 161 = .ok (.iconst 1, 1) := dk_4 (dk_at dksX2_check_7 3 rfl rfl)
theorem dX2_check_162 : decode cX2_check 162 = .ok (.goto 4, 3) := dk_167 0 4 (dk_at dksX2_check_7 4 rfl rfl)
theorem dX2_check_165 : decode cX2_check 165 = .ok (.iconst 0, 1) := dk_3 (dk_at dksX2_check_7 7 rfl rfl)
theorem dX2_check_166 : decode cX2_check 166 = .ok (.bipush 9, 2) := dk_16 9 (dk_at dksX2_check_7 8 rfl rfl)
theorem dX2_check_168 : decode cX2_check 168 = .ok (.iload 6, 2) := dk_21 6 (dk_at dksX2_check_7 10 rfl rfl)
theorem dX2_check_170 : decode cX2_check 170 = .ok (.invokestatic 176, 3) := dk_184 0 176 (dk_at dksX2_check_7 12 rfl rfl)
theorem dX2_check_173 : decode cX2_check 173 = .ok (.aload_n 0, 1) := dk_42 (dk_at dksX2_check_7 15 rfl rfl)
theorem dX2_check_174 : decode cX2_check 174 = .ok (.iconst 1, 1) := dk_4 (dk_at dksX2_check_7 16 rfl rfl)
theorem dX2_check_175 : decode cX2_check 175 = .ok (.invokevirtual 180, 3) := dk_182 0 180 (dk_at dksX2_check_7 17 rfl rfl)
theorem dX2_check_178 : decode cX2_check 178 = .ok (.return_, 1) := dk_177 (dk_at dksX2_check_7 20 rfl rfl)
abbrev cX2_leastDrag : ByteArray := prog_21_method_12_code
def yX2_leastDrag : MethodName := ⟨RX2, "leastDrag", "(I)I"⟩
def dkwX2_leastDrag_3 : List UInt8 := [21, 5, 153, 0, 11, 25, 4, 180, 0, 156, 167, 0, 4, 28, 61, 167, 255, 183, 28, 172]
abbrev dktX2_leastDrag_3 : List UInt8 := dkwX2_leastDrag_3 ++ []
def dkwX2_leastDrag_2 : List UInt8 := [153, 0, 21, 28, 2, 159, 0, 12, 25, 4, 180, 0, 156, 28, 162, 0, 7, 4, 167, 0, 4, 3, 54, 5]
abbrev dktX2_leastDrag_2 : List UInt8 := dkwX2_leastDrag_2 ++ dktX2_leastDrag_3
def dkwX2_leastDrag_1 : List UInt8 := [185, 0, 57, 1, 0, 192, 0, 69, 58, 4, 25, 4, 180, 0, 128, 27, 160, 0, 29, 25, 4, 182, 0, 153]
abbrev dktX2_leastDrag_1 : List UInt8 := dkwX2_leastDrag_1 ++ dktX2_leastDrag_2
def dkwX2_leastDrag_0 : List UInt8 := [2, 61, 42, 180, 0, 21, 185, 0, 45, 1, 0, 78, 45, 185, 0, 51, 1, 0, 153, 0, 70, 45]
abbrev dktX2_leastDrag_0 : List UInt8 := dkwX2_leastDrag_0 ++ dktX2_leastDrag_1
theorem dksX2_leastDrag_0 : cX2_leastDrag.data.toList.drop 0 = dktX2_leastDrag_0 := by decide +kernel
theorem dksX2_leastDrag_1 : cX2_leastDrag.data.toList.drop 22 = dktX2_leastDrag_1 := dk_seg dksX2_leastDrag_0 22 rfl rfl
theorem dksX2_leastDrag_2 : cX2_leastDrag.data.toList.drop 46 = dktX2_leastDrag_2 := dk_seg dksX2_leastDrag_1 24 rfl rfl
theorem dksX2_leastDrag_3 : cX2_leastDrag.data.toList.drop 70 = dktX2_leastDrag_3 := dk_seg dksX2_leastDrag_2 24 rfl rfl
theorem dX2_leastDrag_0 : decode cX2_leastDrag 0 = .ok (.iconst (-1), 1) := dk_2 (dk_at dksX2_leastDrag_0 0 rfl rfl)
theorem dX2_leastDrag_1 : decode cX2_leastDrag 1 = .ok (.istore_n 2, 1) := dk_61 (dk_at dksX2_leastDrag_0 1 rfl rfl)
theorem dX2_leastDrag_2 : decode cX2_leastDrag 2 = .ok (.aload_n 0, 1) := dk_42 (dk_at dksX2_leastDrag_0 2 rfl rfl)
theorem dX2_leastDrag_3 : decode cX2_leastDrag 3 = .ok (.getfield 21, 3) := dk_180 0 21 (dk_at dksX2_leastDrag_0 3 rfl rfl)
theorem dX2_leastDrag_6 : decode cX2_leastDrag 6 = .ok (.invokeinterface 45 1, 5) := by decide +kernel
theorem dX2_leastDrag_11 : decode cX2_leastDrag 11 = .ok (.astore_n 3, 1) := dk_78 (dk_at dksX2_leastDrag_0 11 rfl rfl)
theorem dX2_leastDrag_12 : decode cX2_leastDrag 12 = .ok (.aload_n 3, 1) := dk_45 (dk_at dksX2_leastDrag_0 12 rfl rfl)
theorem dX2_leastDrag_13 : decode cX2_leastDrag 13 = .ok (.invokeinterface 51 1, 5) := by decide +kernel
theorem dX2_leastDrag_18 : decode cX2_leastDrag 18 = .ok (.ifCond .eq 70, 3) := dk_153 0 70 (dk_at dksX2_leastDrag_0 18 rfl rfl)
theorem dX2_leastDrag_21 : decode cX2_leastDrag 21 = .ok (.aload_n 3, 1) := dk_45 (dk_at dksX2_leastDrag_0 21 rfl rfl)
theorem dX2_leastDrag_22 : decode cX2_leastDrag 22 = .ok (.invokeinterface 57 1, 5) := by decide +kernel
theorem dX2_leastDrag_27 : decode cX2_leastDrag 27 = .ok (.checkcast 69, 3) := dk_192 0 69 (dk_at dksX2_leastDrag_1 5 rfl rfl)
theorem dX2_leastDrag_30 : decode cX2_leastDrag 30 = .ok (.astore 4, 2) := dk_58 4 (dk_at dksX2_leastDrag_1 8 rfl rfl)
theorem dX2_leastDrag_32 : decode cX2_leastDrag 32 = .ok (.aload 4, 2) := dk_25 4 (dk_at dksX2_leastDrag_1 10 rfl rfl)
theorem dX2_leastDrag_34 : decode cX2_leastDrag 34 = .ok (.getfield 128, 3) := dk_180 0 128 (dk_at dksX2_leastDrag_1 12 rfl rfl)
theorem dX2_leastDrag_37 : decode cX2_leastDrag 37 = .ok (.iload_n 1, 1) := dk_27 (dk_at dksX2_leastDrag_1 15 rfl rfl)
theorem dX2_leastDrag_38 : decode cX2_leastDrag 38 = .ok (.if_icmp .ne 29, 3) := dk_160 0 29 (dk_at dksX2_leastDrag_1 16 rfl rfl)
theorem dX2_leastDrag_41 : decode cX2_leastDrag 41 = .ok (.aload 4, 2) := dk_25 4 (dk_at dksX2_leastDrag_1 19 rfl rfl)
theorem dX2_leastDrag_43 : decode cX2_leastDrag 43 = .ok (.invokevirtual 153, 3) := dk_182 0 153 (dk_at dksX2_leastDrag_1 21 rfl rfl)
theorem dX2_leastDrag_46 : decode cX2_leastDrag 46 = .ok (.ifCond .eq 21, 3) := dk_153 0 21 (dk_at dksX2_leastDrag_2 0 rfl rfl)
theorem dX2_leastDrag_49 : decode cX2_leastDrag 49 = .ok (.iload_n 2, 1) := dk_28 (dk_at dksX2_leastDrag_2 3 rfl rfl)
theorem dX2_leastDrag_50 : decode cX2_leastDrag 50 = .ok (.iconst (-1), 1) := dk_2 (dk_at dksX2_leastDrag_2 4 rfl rfl)
theorem dX2_leastDrag_51 : decode cX2_leastDrag 51 = .ok (.if_icmp .eq 12, 3) := dk_159 0 12 (dk_at dksX2_leastDrag_2 5 rfl rfl)
theorem dX2_leastDrag_54 : decode cX2_leastDrag 54 = .ok (.aload 4, 2) := dk_25 4 (dk_at dksX2_leastDrag_2 8 rfl rfl)
theorem dX2_leastDrag_56 : decode cX2_leastDrag 56 = .ok (.getfield 156, 3) := dk_180 0 156 (dk_at dksX2_leastDrag_2 10 rfl rfl)
theorem dX2_leastDrag_59 : decode cX2_leastDrag 59 = .ok (.iload_n 2, 1) := dk_28 (dk_at dksX2_leastDrag_2 13 rfl rfl)
theorem dX2_leastDrag_60 : decode cX2_leastDrag 60 = .ok (.if_icmp .ge 7, 3) := dk_162 0 7 (dk_at dksX2_leastDrag_2 14 rfl rfl)
theorem dX2_leastDrag_63 : decode cX2_leastDrag 63 = .ok (.iconst 1, 1) := dk_4 (dk_at dksX2_leastDrag_2 17 rfl rfl)
theorem dX2_leastDrag_64 : decode cX2_leastDrag 64 = .ok (.goto 4, 3) := dk_167 0 4 (dk_at dksX2_leastDrag_2 18 rfl rfl)
theorem dX2_leastDrag_67 : decode cX2_leastDrag 67 = .ok (.iconst 0, 1) := dk_3 (dk_at dksX2_leastDrag_2 21 rfl rfl)
theorem dX2_leastDrag_68 : decode cX2_leastDrag 68 = .ok (.istore 5, 2) := dk_54 5 (dk_at dksX2_leastDrag_2 22 rfl rfl)
theorem dX2_leastDrag_70 : decode cX2_leastDrag 70 = .ok (.iload 5, 2) := dk_21 5 (dk_at dksX2_leastDrag_3 0 rfl rfl)
theorem dX2_leastDrag_72 : decode cX2_leastDrag 72 = .ok (.ifCond .eq 11, 3) := dk_153 0 11 (dk_at dksX2_leastDrag_3 2 rfl rfl)
theorem dX2_leastDrag_75 : decode cX2_leastDrag 75 = .ok (.aload 4, 2) := dk_25 4 (dk_at dksX2_leastDrag_3 5 rfl rfl)
theorem dX2_leastDrag_77 : decode cX2_leastDrag 77 = .ok (.getfield 156, 3) := dk_180 0 156 (dk_at dksX2_leastDrag_3 7 rfl rfl)
theorem dX2_leastDrag_80 : decode cX2_leastDrag 80 = .ok (.goto 4, 3) := dk_167 0 4 (dk_at dksX2_leastDrag_3 10 rfl rfl)
theorem dX2_leastDrag_83 : decode cX2_leastDrag 83 = .ok (.iload_n 2, 1) := dk_28 (dk_at dksX2_leastDrag_3 13 rfl rfl)
theorem dX2_leastDrag_84 : decode cX2_leastDrag 84 = .ok (.istore_n 2, 1) := dk_61 (dk_at dksX2_leastDrag_3 14 rfl rfl)
theorem dX2_leastDrag_85 : decode cX2_leastDrag 85 = .ok (.goto (-73), 3) := dk_167 255 183 (dk_at dksX2_leastDrag_3 15 rfl rfl)
theorem dX2_leastDrag_88 : decode cX2_leastDrag 88 = .ok (.iload_n 2, 1) := dk_28 (dk_at dksX2_leastDrag_3 18 rfl rfl)
theorem dX2_leastDrag_89 : decode cX2_leastDrag 89 = .ok (.ireturn, 1) := dk_172 (dk_at dksX2_leastDrag_3 19 rfl rfl)
abbrev cX2_flow : ByteArray := prog_21_method_7_code
def yX2_flow : MethodName := ⟨RX2, "flow", "(II)I"⟩
def dkwX2_flow_2 : List UInt8 := [192, 0, 67, 58, 5, 29, 25, 5, 28, 182, 0, 118, 96, 62, 167, 255, 225, 16, 30, 29, 184, 0, 122, 172]
abbrev dktX2_flow_2 : List UInt8 := dkwX2_flow_2 ++ []
def dkwX2_flow_1 : List UInt8 := [185, 0, 45, 1, 0, 58, 4, 25, 4, 185, 0, 51, 1, 0, 153, 0, 27, 25, 4, 185, 0, 57, 1, 0]
abbrev dktX2_flow_1 : List UInt8 := dkwX2_flow_1 ++ dktX2_flow_2
def dkwX2_flow_0 : List UInt8 := [42, 180, 0, 12, 27, 185, 0, 108, 2, 0, 192, 0, 61, 180, 0, 115, 62, 42, 180, 0, 18]
abbrev dktX2_flow_0 : List UInt8 := dkwX2_flow_0 ++ dktX2_flow_1
theorem dksX2_flow_0 : cX2_flow.data.toList.drop 0 = dktX2_flow_0 := by decide +kernel
theorem dksX2_flow_1 : cX2_flow.data.toList.drop 21 = dktX2_flow_1 := dk_seg dksX2_flow_0 21 rfl rfl
theorem dksX2_flow_2 : cX2_flow.data.toList.drop 45 = dktX2_flow_2 := dk_seg dksX2_flow_1 24 rfl rfl
theorem dX2_flow_0 : decode cX2_flow 0 = .ok (.aload_n 0, 1) := dk_42 (dk_at dksX2_flow_0 0 rfl rfl)
theorem dX2_flow_1 : decode cX2_flow 1 = .ok (.getfield 12, 3) := dk_180 0 12 (dk_at dksX2_flow_0 1 rfl rfl)
theorem dX2_flow_4 : decode cX2_flow 4 = .ok (.iload_n 1, 1) := dk_27 (dk_at dksX2_flow_0 4 rfl rfl)
theorem dX2_flow_5 : decode cX2_flow 5 = .ok (.invokeinterface 108 2, 5) := by decide +kernel
theorem dX2_flow_10 : decode cX2_flow 10 = .ok (.checkcast 61, 3) := dk_192 0 61 (dk_at dksX2_flow_0 10 rfl rfl)
theorem dX2_flow_13 : decode cX2_flow 13 = .ok (.getfield 115, 3) := dk_180 0 115 (dk_at dksX2_flow_0 13 rfl rfl)
theorem dX2_flow_16 : decode cX2_flow 16 = .ok (.istore_n 3, 1) := dk_62 (dk_at dksX2_flow_0 16 rfl rfl)
theorem dX2_flow_17 : decode cX2_flow 17 = .ok (.aload_n 0, 1) := dk_42 (dk_at dksX2_flow_0 17 rfl rfl)
theorem dX2_flow_18 : decode cX2_flow 18 = .ok (.getfield 18, 3) := dk_180 0 18 (dk_at dksX2_flow_0 18 rfl rfl)
theorem dX2_flow_21 : decode cX2_flow 21 = .ok (.invokeinterface 45 1, 5) := by decide +kernel
theorem dX2_flow_26 : decode cX2_flow 26 = .ok (.astore 4, 2) := dk_58 4 (dk_at dksX2_flow_1 5 rfl rfl)
theorem dX2_flow_28 : decode cX2_flow 28 = .ok (.aload 4, 2) := dk_25 4 (dk_at dksX2_flow_1 7 rfl rfl)
theorem dX2_flow_30 : decode cX2_flow 30 = .ok (.invokeinterface 51 1, 5) := by decide +kernel
theorem dX2_flow_35 : decode cX2_flow 35 = .ok (.ifCond .eq 27, 3) := dk_153 0 27 (dk_at dksX2_flow_1 14 rfl rfl)
theorem dX2_flow_38 : decode cX2_flow 38 = .ok (.aload 4, 2) := dk_25 4 (dk_at dksX2_flow_1 17 rfl rfl)
theorem dX2_flow_40 : decode cX2_flow 40 = .ok (.invokeinterface 57 1, 5) := by decide +kernel
theorem dX2_flow_45 : decode cX2_flow 45 = .ok (.checkcast 67, 3) := dk_192 0 67 (dk_at dksX2_flow_2 0 rfl rfl)
theorem dX2_flow_48 : decode cX2_flow 48 = .ok (.astore 5, 2) := dk_58 5 (dk_at dksX2_flow_2 3 rfl rfl)
theorem dX2_flow_50 : decode cX2_flow 50 = .ok (.iload_n 3, 1) := dk_29 (dk_at dksX2_flow_2 5 rfl rfl)
theorem dX2_flow_51 : decode cX2_flow 51 = .ok (.aload 5, 2) := dk_25 5 (dk_at dksX2_flow_2 6 rfl rfl)
theorem dX2_flow_53 : decode cX2_flow 53 = .ok (.iload_n 2, 1) := dk_28 (dk_at dksX2_flow_2 8 rfl rfl)
theorem dX2_flow_54 : decode cX2_flow 54 = .ok (.invokevirtual 118, 3) := dk_182 0 118 (dk_at dksX2_flow_2 9 rfl rfl)
theorem dX2_flow_57 : decode cX2_flow 57 = .ok (.iadd, 1) := dk_96 (dk_at dksX2_flow_2 12 rfl rfl)
theorem dX2_flow_58 : decode cX2_flow 58 = .ok (.istore_n 3, 1) := dk_62 (dk_at dksX2_flow_2 13 rfl rfl)
theorem dX2_flow_59 : decode cX2_flow 59 = .ok (.goto (-31), 3) := dk_167 255 225 (dk_at dksX2_flow_2 14 rfl rfl)
theorem dX2_flow_62 : decode cX2_flow 62 = .ok (.bipush 30, 2) := dk_16 30 (dk_at dksX2_flow_2 17 rfl rfl)
theorem dX2_flow_64 : decode cX2_flow 64 = .ok (.iload_n 3, 1) := dk_29 (dk_at dksX2_flow_2 19 rfl rfl)
theorem dX2_flow_65 : decode cX2_flow 65 = .ok (.invokestatic 122, 3) := dk_184 0 122 (dk_at dksX2_flow_2 20 rfl rfl)
theorem dX2_flow_68 : decode cX2_flow 68 = .ok (.ireturn, 1) := dk_172 (dk_at dksX2_flow_2 23 rfl rfl)
abbrev cX2_allowHours : ByteArray := prog_21_method_15_code
def yX2_allowHours : MethodName := ⟨RX2, "allowHours", "(I)V"⟩
def dkwX2_allowHours_1 : List UInt8 := [96, 184, 0, 176, 177]
abbrev dktX2_allowHours_1 : List UInt8 := dkwX2_allowHours_1 ++ []
def dkwX2_allowHours_0 : List UInt8 := [42, 180, 0, 81, 27, 96, 17, 39, 15, 163, 0, 7, 4, 167, 0, 4, 3, 16, 10, 42, 180, 0, 81, 27]
abbrev dktX2_allowHours_0 : List UInt8 := dkwX2_allowHours_0 ++ dktX2_allowHours_1
theorem dksX2_allowHours_0 : cX2_allowHours.data.toList.drop 0 = dktX2_allowHours_0 := by decide +kernel
theorem dksX2_allowHours_1 : cX2_allowHours.data.toList.drop 24 = dktX2_allowHours_1 := dk_seg dksX2_allowHours_0 24 rfl rfl
theorem dX2_allowHours_0 : decode cX2_allowHours 0 = .ok (.aload_n 0, 1) := dk_42 (dk_at dksX2_allowHours_0 0 rfl rfl)
theorem dX2_allowHours_1 : decode cX2_allowHours 1 = .ok (.getfield 81, 3) := dk_180 0 81 (dk_at dksX2_allowHours_0 1 rfl rfl)
theorem dX2_allowHours_4 : decode cX2_allowHours 4 = .ok (.iload_n 1, 1) := dk_27 (dk_at dksX2_allowHours_0 4 rfl rfl)
theorem dX2_allowHours_5 : decode cX2_allowHours 5 = .ok (.iadd, 1) := dk_96 (dk_at dksX2_allowHours_0 5 rfl rfl)
theorem dX2_allowHours_6 : decode cX2_allowHours 6 = .ok (.sipush 9999, 3) := dk_17 39 15 (dk_at dksX2_allowHours_0 6 rfl rfl)
theorem dX2_allowHours_9 : decode cX2_allowHours 9 = .ok (.if_icmp .gt 7, 3) := dk_163 0 7 (dk_at dksX2_allowHours_0 9 rfl rfl)
theorem dX2_allowHours_12 : decode cX2_allowHours 12 = .ok (.iconst 1, 1) := dk_4 (dk_at dksX2_allowHours_0 12 rfl rfl)
theorem dX2_allowHours_13 : decode cX2_allowHours 13 = .ok (.goto 4, 3) := dk_167 0 4 (dk_at dksX2_allowHours_0 13 rfl rfl)
theorem dX2_allowHours_16 : decode cX2_allowHours 16 = .ok (.iconst 0, 1) := dk_3 (dk_at dksX2_allowHours_0 16 rfl rfl)
theorem dX2_allowHours_17 : decode cX2_allowHours 17 = .ok (.bipush 10, 2) := dk_16 10 (dk_at dksX2_allowHours_0 17 rfl rfl)
theorem dX2_allowHours_19 : decode cX2_allowHours 19 = .ok (.aload_n 0, 1) := dk_42 (dk_at dksX2_allowHours_0 19 rfl rfl)
theorem dX2_allowHours_20 : decode cX2_allowHours 20 = .ok (.getfield 81, 3) := dk_180 0 81 (dk_at dksX2_allowHours_0 20 rfl rfl)
theorem dX2_allowHours_23 : decode cX2_allowHours 23 = .ok (.iload_n 1, 1) := dk_27 (dk_at dksX2_allowHours_0 23 rfl rfl)
theorem dX2_allowHours_24 : decode cX2_allowHours 24 = .ok (.iadd, 1) := dk_96 (dk_at dksX2_allowHours_1 0 rfl rfl)
theorem dX2_allowHours_25 : decode cX2_allowHours 25 = .ok (.invokestatic 176, 3) := dk_184 0 176 (dk_at dksX2_allowHours_1 1 rfl rfl)
theorem dX2_allowHours_28 : decode cX2_allowHours 28 = .ok (.return_, 1) := dk_177 (dk_at dksX2_allowHours_1 4 rfl rfl)
abbrev cX2_live : ByteArray := prog_21_method_14_code
def yX2_live : MethodName := ⟨RX2, "live", "()V"⟩
def dkwX2_live_5 : List UInt8 := [163, 255, 231, 43, 185, 0, 173, 1, 0, 167, 255, 222, 177]
abbrev dktX2_live_5 : List UInt8 := dkwX2_live_5 ++ []
def dkwX2_live_4 : List UInt8 := [185, 0, 51, 1, 0, 153, 0, 31, 43, 185, 0, 57, 1, 0, 192, 0, 67, 180, 0, 170, 42, 180, 0, 81]
abbrev dktX2_live_4 : List UInt8 := dkwX2_live_4 ++ dktX2_live_5
def dkwX2_live_3 : List UInt8 := [167, 255, 188, 42, 89, 180, 0, 81, 4, 96, 181, 0, 81, 42, 180, 0, 18, 185, 0, 45, 1, 0, 76, 43]
abbrev dktX2_live_3 : List UInt8 := dkwX2_live_3 ++ dktX2_live_4
def dkwX2_live_2 : List UInt8 := [180, 0, 81, 182, 0, 159, 4, 182, 0, 162, 185, 0, 166, 3, 0, 192, 0, 69, 77, 132, 1, 1]
abbrev dktX2_live_2 : List UInt8 := dkwX2_live_2 ++ dktX2_live_3
def dkwX2_live_1 : List UInt8 := [27, 185, 0, 108, 2, 0, 192, 0, 69, 42, 42, 180, 0, 21, 27, 185, 0, 108, 2, 0, 192, 0, 69, 42]
abbrev dktX2_live_1 : List UInt8 := dkwX2_live_1 ++ dktX2_live_2
def dkwX2_live_0 : List UInt8 := [3, 60, 27, 42, 180, 0, 21, 185, 0, 96, 1, 0, 162, 0, 61, 42, 180, 0, 21, 27, 42, 180, 0, 21]
abbrev dktX2_live_0 : List UInt8 := dkwX2_live_0 ++ dktX2_live_1
theorem dksX2_live_0 : cX2_live.data.toList.drop 0 = dktX2_live_0 := by decide +kernel
theorem dksX2_live_1 : cX2_live.data.toList.drop 24 = dktX2_live_1 := dk_seg dksX2_live_0 24 rfl rfl
theorem dksX2_live_2 : cX2_live.data.toList.drop 48 = dktX2_live_2 := dk_seg dksX2_live_1 24 rfl rfl
theorem dksX2_live_3 : cX2_live.data.toList.drop 70 = dktX2_live_3 := dk_seg dksX2_live_2 22 rfl rfl
theorem dksX2_live_4 : cX2_live.data.toList.drop 94 = dktX2_live_4 := dk_seg dksX2_live_3 24 rfl rfl
theorem dksX2_live_5 : cX2_live.data.toList.drop 118 = dktX2_live_5 := dk_seg dksX2_live_4 24 rfl rfl
theorem dX2_live_0 : decode cX2_live 0 = .ok (.iconst 0, 1) := dk_3 (dk_at dksX2_live_0 0 rfl rfl)
theorem dX2_live_1 : decode cX2_live 1 = .ok (.istore_n 1, 1) := dk_60 (dk_at dksX2_live_0 1 rfl rfl)
theorem dX2_live_2 : decode cX2_live 2 = .ok (.iload_n 1, 1) := dk_27 (dk_at dksX2_live_0 2 rfl rfl)
theorem dX2_live_3 : decode cX2_live 3 = .ok (.aload_n 0, 1) := dk_42 (dk_at dksX2_live_0 3 rfl rfl)
theorem dX2_live_4 : decode cX2_live 4 = .ok (.getfield 21, 3) := dk_180 0 21 (dk_at dksX2_live_0 4 rfl rfl)
theorem dX2_live_7 : decode cX2_live 7 = .ok (.invokeinterface 96 1, 5) := by decide +kernel
theorem dX2_live_12 : decode cX2_live 12 = .ok (.if_icmp .ge 61, 3) := dk_162 0 61 (dk_at dksX2_live_0 12 rfl rfl)
theorem dX2_live_15 : decode cX2_live 15 = .ok (.aload_n 0, 1) := dk_42 (dk_at dksX2_live_0 15 rfl rfl)
theorem dX2_live_16 : decode cX2_live 16 = .ok (.getfield 21, 3) := dk_180 0 21 (dk_at dksX2_live_0 16 rfl rfl)
theorem dX2_live_19 : decode cX2_live 19 = .ok (.iload_n 1, 1) := dk_27 (dk_at dksX2_live_0 19 rfl rfl)
theorem dX2_live_20 : decode cX2_live 20 = .ok (.aload_n 0, 1) := dk_42 (dk_at dksX2_live_0 20 rfl rfl)
theorem dX2_live_21 : decode cX2_live 21 = .ok (.getfield 21, 3) := dk_180 0 21 (dk_at dksX2_live_0 21 rfl rfl)
theorem dX2_live_24 : decode cX2_live 24 = .ok (.iload_n 1, 1) := dk_27 (dk_at dksX2_live_1 0 rfl rfl)
theorem dX2_live_25 : decode cX2_live 25 = .ok (.invokeinterface 108 2, 5) := by decide +kernel
theorem dX2_live_30 : decode cX2_live 30 = .ok (.checkcast 69, 3) := dk_192 0 69 (dk_at dksX2_live_1 6 rfl rfl)
theorem dX2_live_33 : decode cX2_live 33 = .ok (.aload_n 0, 1) := dk_42 (dk_at dksX2_live_1 9 rfl rfl)
theorem dX2_live_34 : decode cX2_live 34 = .ok (.aload_n 0, 1) := dk_42 (dk_at dksX2_live_1 10 rfl rfl)
theorem dX2_live_35 : decode cX2_live 35 = .ok (.getfield 21, 3) := dk_180 0 21 (dk_at dksX2_live_1 11 rfl rfl)
theorem dX2_live_38 : decode cX2_live 38 = .ok (.iload_n 1, 1) := dk_27 (dk_at dksX2_live_1 14 rfl rfl)
theorem dX2_live_39 : decode cX2_live 39 = .ok (.invokeinterface 108 2, 5) := by decide +kernel
theorem dX2_live_44 : decode cX2_live 44 = .ok (.checkcast 69, 3) := dk_192 0 69 (dk_at dksX2_live_1 20 rfl rfl)
theorem dX2_live_47 : decode cX2_live 47 = .ok (.aload_n 0, 1) := dk_42 (dk_at dksX2_live_1 23 rfl rfl)
theorem dX2_live_48 : decode cX2_live 48 = .ok (.getfield 81, 3) := dk_180 0 81 (dk_at dksX2_live_2 0 rfl rfl)
theorem dX2_live_51 : decode cX2_live 51 = .ok (.invokevirtual 159, 3) := dk_182 0 159 (dk_at dksX2_live_2 3 rfl rfl)
theorem dX2_live_54 : decode cX2_live 54 = .ok (.iconst 1, 1) := dk_4 (dk_at dksX2_live_2 6 rfl rfl)
theorem dX2_live_55 : decode cX2_live 55 = .ok (.invokevirtual 162, 3) := dk_182 0 162 (dk_at dksX2_live_2 7 rfl rfl)
theorem dX2_live_58 : decode cX2_live 58 = .ok (.invokeinterface 166 3, 5) := by decide +kernel
theorem dX2_live_63 : decode cX2_live 63 = .ok (.checkcast 69, 3) := dk_192 0 69 (dk_at dksX2_live_2 15 rfl rfl)
theorem dX2_live_66 : decode cX2_live 66 = .ok (.astore_n 2, 1) := dk_77 (dk_at dksX2_live_2 18 rfl rfl)
theorem dX2_live_67 : decode cX2_live 67 = .ok (.iinc 1 1, 3) := dk_132 1 1 (dk_at dksX2_live_2 19 rfl rfl)
theorem dX2_live_70 : decode cX2_live 70 = .ok (.goto (-68), 3) := dk_167 255 188 (dk_at dksX2_live_3 0 rfl rfl)
theorem dX2_live_73 : decode cX2_live 73 = .ok (.aload_n 0, 1) := dk_42 (dk_at dksX2_live_3 3 rfl rfl)
theorem dX2_live_74 : decode cX2_live 74 = .ok (.dup, 1) := dk_89 (dk_at dksX2_live_3 4 rfl rfl)
theorem dX2_live_75 : decode cX2_live 75 = .ok (.getfield 81, 3) := dk_180 0 81 (dk_at dksX2_live_3 5 rfl rfl)
theorem dX2_live_78 : decode cX2_live 78 = .ok (.iconst 1, 1) := dk_4 (dk_at dksX2_live_3 8 rfl rfl)
theorem dX2_live_79 : decode cX2_live 79 = .ok (.iadd, 1) := dk_96 (dk_at dksX2_live_3 9 rfl rfl)
theorem dX2_live_80 : decode cX2_live 80 = .ok (.putfield 81, 3) := dk_181 0 81 (dk_at dksX2_live_3 10 rfl rfl)
theorem dX2_live_83 : decode cX2_live 83 = .ok (.aload_n 0, 1) := dk_42 (dk_at dksX2_live_3 13 rfl rfl)
theorem dX2_live_84 : decode cX2_live 84 = .ok (.getfield 18, 3) := dk_180 0 18 (dk_at dksX2_live_3 14 rfl rfl)
theorem dX2_live_87 : decode cX2_live 87 = .ok (.invokeinterface 45 1, 5) := by decide +kernel
theorem dX2_live_92 : decode cX2_live 92 = .ok (.astore_n 1, 1) := dk_76 (dk_at dksX2_live_3 22 rfl rfl)
theorem dX2_live_93 : decode cX2_live 93 = .ok (.aload_n 1, 1) := dk_43 (dk_at dksX2_live_3 23 rfl rfl)
theorem dX2_live_94 : decode cX2_live 94 = .ok (.invokeinterface 51 1, 5) := by decide +kernel
theorem dX2_live_99 : decode cX2_live 99 = .ok (.ifCond .eq 31, 3) := dk_153 0 31 (dk_at dksX2_live_4 5 rfl rfl)
theorem dX2_live_102 : decode cX2_live 102 = .ok (.aload_n 1, 1) := dk_43 (dk_at dksX2_live_4 8 rfl rfl)
theorem dX2_live_103 : decode cX2_live 103 = .ok (.invokeinterface 57 1, 5) := by decide +kernel
theorem dX2_live_108 : decode cX2_live 108 = .ok (.checkcast 67, 3) := dk_192 0 67 (dk_at dksX2_live_4 14 rfl rfl)
theorem dX2_live_111 : decode cX2_live 111 = .ok (.getfield 170, 3) := dk_180 0 170 (dk_at dksX2_live_4 17 rfl rfl)
theorem dX2_live_114 : decode cX2_live 114 = .ok (.aload_n 0, 1) := dk_42 (dk_at dksX2_live_4 20 rfl rfl)
theorem dX2_live_115 : decode cX2_live 115 = .ok (.getfield 81, 3) := dk_180 0 81 (dk_at dksX2_live_4 21 rfl rfl)
theorem dX2_live_118 : decode cX2_live 118 = .ok (.if_icmp .gt (-25), 3) := dk_163 255 231 (dk_at dksX2_live_5 0 rfl rfl)
theorem dX2_live_121 : decode cX2_live 121 = .ok (.aload_n 1, 1) := dk_43 (dk_at dksX2_live_5 3 rfl rfl)
theorem dX2_live_122 : decode cX2_live 122 = .ok (.invokeinterface 173 1, 5) := by decide +kernel
theorem dX2_live_127 : decode cX2_live 127 = .ok (.goto (-34), 3) := dk_167 255 222 (dk_at dksX2_live_5 9 rfl rfl)
theorem dX2_live_130 : decode cX2_live 130 = .ok (.return_, 1) := dk_177 (dk_at dksX2_live_5 12 rfl rfl)
abbrev cX2_drags : ByteArray := prog_21_method_10_code
def yX2_drags : MethodName := ⟨RX2, "drags", "(LBraidedFerry$Anchor;I)I"⟩
def dkwX2_drags_0 : List UInt8 := [3, 42, 43, 28, 182, 0, 142, 42, 43, 182, 0, 146, 100, 184, 0, 150, 16, 9, 96, 16, 10, 108, 172]
abbrev dktX2_drags_0 : List UInt8 := dkwX2_drags_0 ++ []
theorem dksX2_drags_0 : cX2_drags.data.toList.drop 0 = dktX2_drags_0 := by decide +kernel
theorem dX2_drags_0 : decode cX2_drags 0 = .ok (.iconst 0, 1) := dk_3 (dk_at dksX2_drags_0 0 rfl rfl)
theorem dX2_drags_1 : decode cX2_drags 1 = .ok (.aload_n 0, 1) := dk_42 (dk_at dksX2_drags_0 1 rfl rfl)
theorem dX2_drags_2 : decode cX2_drags 2 = .ok (.aload_n 1, 1) := dk_43 (dk_at dksX2_drags_0 2 rfl rfl)
theorem dX2_drags_3 : decode cX2_drags 3 = .ok (.iload_n 2, 1) := dk_28 (dk_at dksX2_drags_0 3 rfl rfl)
theorem dX2_drags_4 : decode cX2_drags 4 = .ok (.invokevirtual 142, 3) := dk_182 0 142 (dk_at dksX2_drags_0 4 rfl rfl)
theorem dX2_drags_7 : decode cX2_drags 7 = .ok (.aload_n 0, 1) := dk_42 (dk_at dksX2_drags_0 7 rfl rfl)
theorem dX2_drags_8 : decode cX2_drags 8 = .ok (.aload_n 1, 1) := dk_43 (dk_at dksX2_drags_0 8 rfl rfl)
theorem dX2_drags_9 : decode cX2_drags 9 = .ok (.invokevirtual 146, 3) := dk_182 0 146 (dk_at dksX2_drags_0 9 rfl rfl)
theorem dX2_drags_12 : decode cX2_drags 12 = .ok (.isub, 1) := dk_100 (dk_at dksX2_drags_0 12 rfl rfl)
theorem dX2_drags_13 : decode cX2_drags 13 = .ok (.invokestatic 150, 3) := dk_184 0 150 (dk_at dksX2_drags_0 13 rfl rfl)
theorem dX2_drags_16 : decode cX2_drags 16 = .ok (.bipush 9, 2) := dk_16 9 (dk_at dksX2_drags_0 16 rfl rfl)
theorem dX2_drags_18 : decode cX2_drags 18 = .ok (.iadd, 1) := dk_96 (dk_at dksX2_drags_0 18 rfl rfl)
theorem dX2_drags_19 : decode cX2_drags 19 = .ok (.bipush 10, 2) := dk_16 10 (dk_at dksX2_drags_0 19 rfl rfl)
theorem dX2_drags_21 : decode cX2_drags 21 = .ok (.idiv, 1) := dk_108 (dk_at dksX2_drags_0 21 rfl rfl)
theorem dX2_drags_22 : decode cX2_drags 22 = .ok (.ireturn, 1) := dk_172 (dk_at dksX2_drags_0 22 rfl rfl)
abbrev cX2_pull : ByteArray := prog_21_method_9_code
def yX2_pull : MethodName := ⟨RX2, "pull", "(LBraidedFerry$Anchor;I)I"⟩
def dkwX2_pull_2 : List UInt8 := [182, 0, 139, 167, 0, 4, 3, 96, 172]
abbrev dktX2_pull_2 : List UInt8 := dkwX2_pull_2 ++ []
def dkwX2_pull_1 : List UInt8 := [4, 167, 0, 4, 3, 62, 16, 10, 42, 43, 180, 0, 128, 28, 182, 0, 137, 104, 29, 153, 0, 10, 42]
abbrev dktX2_pull_1 : List UInt8 := dkwX2_pull_1 ++ dktX2_pull_2
def dkwX2_pull_0 : List UInt8 := [42, 180, 0, 84, 43, 180, 0, 128, 159, 0, 16, 42, 180, 0, 84, 43, 180, 0, 128, 4, 96, 160, 0, 7]
abbrev dktX2_pull_0 : List UInt8 := dkwX2_pull_0 ++ dktX2_pull_1
theorem dksX2_pull_0 : cX2_pull.data.toList.drop 0 = dktX2_pull_0 := by decide +kernel
theorem dksX2_pull_1 : cX2_pull.data.toList.drop 24 = dktX2_pull_1 := dk_seg dksX2_pull_0 24 rfl rfl
theorem dksX2_pull_2 : cX2_pull.data.toList.drop 47 = dktX2_pull_2 := dk_seg dksX2_pull_1 23 rfl rfl
theorem dX2_pull_0 : decode cX2_pull 0 = .ok (.aload_n 0, 1) := dk_42 (dk_at dksX2_pull_0 0 rfl rfl)
theorem dX2_pull_1 : decode cX2_pull 1 = .ok (.getfield 84, 3) := dk_180 0 84 (dk_at dksX2_pull_0 1 rfl rfl)
theorem dX2_pull_4 : decode cX2_pull 4 = .ok (.aload_n 1, 1) := dk_43 (dk_at dksX2_pull_0 4 rfl rfl)
theorem dX2_pull_5 : decode cX2_pull 5 = .ok (.getfield 128, 3) := dk_180 0 128 (dk_at dksX2_pull_0 5 rfl rfl)
theorem dX2_pull_8 : decode cX2_pull 8 = .ok (.if_icmp .eq 16, 3) := dk_159 0 16 (dk_at dksX2_pull_0 8 rfl rfl)
theorem dX2_pull_11 : decode cX2_pull 11 = .ok (.aload_n 0, 1) := dk_42 (dk_at dksX2_pull_0 11 rfl rfl)
theorem dX2_pull_12 : decode cX2_pull 12 = .ok (.getfield 84, 3) := dk_180 0 84 (dk_at dksX2_pull_0 12 rfl rfl)
theorem dX2_pull_15 : decode cX2_pull 15 = .ok (.aload_n 1, 1) := dk_43 (dk_at dksX2_pull_0 15 rfl rfl)
theorem dX2_pull_16 : decode cX2_pull 16 = .ok (.getfield 128, 3) := dk_180 0 128 (dk_at dksX2_pull_0 16 rfl rfl)
theorem dX2_pull_19 : decode cX2_pull 19 = .ok (.iconst 1, 1) := dk_4 (dk_at dksX2_pull_0 19 rfl rfl)
theorem dX2_pull_20 : decode cX2_pull 20 = .ok (.iadd, 1) := dk_96 (dk_at dksX2_pull_0 20 rfl rfl)
theorem dX2_pull_21 : decode cX2_pull 21 = .ok (.if_icmp .ne 7, 3) := dk_160 0 7 (dk_at dksX2_pull_0 21 rfl rfl)
theorem dX2_pull_24 : decode cX2_pull 24 = .ok (.iconst 1, 1) := dk_4 (dk_at dksX2_pull_1 0 rfl rfl)
theorem dX2_pull_25 : decode cX2_pull 25 = .ok (.goto 4, 3) := dk_167 0 4 (dk_at dksX2_pull_1 1 rfl rfl)
theorem dX2_pull_28 : decode cX2_pull 28 = .ok (.iconst 0, 1) := dk_3 (dk_at dksX2_pull_1 4 rfl rfl)
theorem dX2_pull_29 : decode cX2_pull 29 = .ok (.istore_n 3, 1) := dk_62 (dk_at dksX2_pull_1 5 rfl rfl)
theorem dX2_pull_30 : decode cX2_pull 30 = .ok (.bipush 10, 2) := dk_16 10 (dk_at dksX2_pull_1 6 rfl rfl)
theorem dX2_pull_32 : decode cX2_pull 32 = .ok (.aload_n 0, 1) := dk_42 (dk_at dksX2_pull_1 8 rfl rfl)
theorem dX2_pull_33 : decode cX2_pull 33 = .ok (.aload_n 1, 1) := dk_43 (dk_at dksX2_pull_1 9 rfl rfl)
theorem dX2_pull_34 : decode cX2_pull 34 = .ok (.getfield 128, 3) := dk_180 0 128 (dk_at dksX2_pull_1 10 rfl rfl)
theorem dX2_pull_37 : decode cX2_pull 37 = .ok (.iload_n 2, 1) := dk_28 (dk_at dksX2_pull_1 13 rfl rfl)
theorem dX2_pull_38 : decode cX2_pull 38 = .ok (.invokevirtual 137, 3) := dk_182 0 137 (dk_at dksX2_pull_1 14 rfl rfl)
theorem dX2_pull_41 : decode cX2_pull 41 = .ok (.imul, 1) := dk_104 (dk_at dksX2_pull_1 17 rfl rfl)
theorem dX2_pull_42 : decode cX2_pull 42 = .ok (.iload_n 3, 1) := dk_29 (dk_at dksX2_pull_1 18 rfl rfl)
theorem dX2_pull_43 : decode cX2_pull 43 = .ok (.ifCond .eq 10, 3) := dk_153 0 10 (dk_at dksX2_pull_1 19 rfl rfl)
theorem dX2_pull_46 : decode cX2_pull 46 = .ok (.aload_n 0, 1) := dk_42 (dk_at dksX2_pull_1 22 rfl rfl)
theorem dX2_pull_47 : decode cX2_pull 47 = .ok (.invokevirtual 139, 3) := dk_182 0 139 (dk_at dksX2_pull_2 0 rfl rfl)
theorem dX2_pull_50 : decode cX2_pull 50 = .ok (.goto 4, 3) := dk_167 0 4 (dk_at dksX2_pull_2 3 rfl rfl)
theorem dX2_pull_53 : decode cX2_pull 53 = .ok (.iconst 0, 1) := dk_3 (dk_at dksX2_pull_2 6 rfl rfl)
theorem dX2_pull_54 : decode cX2_pull 54 = .ok (.iadd, 1) := dk_96 (dk_at dksX2_pull_2 7 rfl rfl)
theorem dX2_pull_55 : decode cX2_pull 55 = .ok (.ireturn, 1) := dk_172 (dk_at dksX2_pull_2 8 rfl rfl)
abbrev cX2_hold : ByteArray := prog_21_method_8_code
def yX2_hold : MethodName := ⟨RX2, "hold", "(LBraidedFerry$Anchor;)I"⟩
def dkwX2_hold_1 : List UInt8 := [180, 0, 134, 104, 172]
abbrev dktX2_hold_1 : List UInt8 := dkwX2_hold_1 ++ []
def dkwX2_hold_0 : List UInt8 := [5, 42, 180, 0, 12, 43, 180, 0, 128, 185, 0, 108, 2, 0, 192, 0, 61, 180, 0, 131, 104, 43]
abbrev dktX2_hold_0 : List UInt8 := dkwX2_hold_0 ++ dktX2_hold_1
theorem dksX2_hold_0 : cX2_hold.data.toList.drop 0 = dktX2_hold_0 := by decide +kernel
theorem dksX2_hold_1 : cX2_hold.data.toList.drop 22 = dktX2_hold_1 := dk_seg dksX2_hold_0 22 rfl rfl
theorem dX2_hold_0 : decode cX2_hold 0 = .ok (.iconst 2, 1) := dk_5 (dk_at dksX2_hold_0 0 rfl rfl)
theorem dX2_hold_1 : decode cX2_hold 1 = .ok (.aload_n 0, 1) := dk_42 (dk_at dksX2_hold_0 1 rfl rfl)
theorem dX2_hold_2 : decode cX2_hold 2 = .ok (.getfield 12, 3) := dk_180 0 12 (dk_at dksX2_hold_0 2 rfl rfl)
theorem dX2_hold_5 : decode cX2_hold 5 = .ok (.aload_n 1, 1) := dk_43 (dk_at dksX2_hold_0 5 rfl rfl)
theorem dX2_hold_6 : decode cX2_hold 6 = .ok (.getfield 128, 3) := dk_180 0 128 (dk_at dksX2_hold_0 6 rfl rfl)
theorem dX2_hold_9 : decode cX2_hold 9 = .ok (.invokeinterface 108 2, 5) := by decide +kernel
theorem dX2_hold_14 : decode cX2_hold 14 = .ok (.checkcast 61, 3) := dk_192 0 61 (dk_at dksX2_hold_0 14 rfl rfl)
theorem dX2_hold_17 : decode cX2_hold 17 = .ok (.getfield 131, 3) := dk_180 0 131 (dk_at dksX2_hold_0 17 rfl rfl)
theorem dX2_hold_20 : decode cX2_hold 20 = .ok (.imul, 1) := dk_104 (dk_at dksX2_hold_0 20 rfl rfl)
theorem dX2_hold_21 : decode cX2_hold 21 = .ok (.aload_n 1, 1) := dk_43 (dk_at dksX2_hold_0 21 rfl rfl)
theorem dX2_hold_22 : decode cX2_hold 22 = .ok (.getfield 134, 3) := dk_180 0 134 (dk_at dksX2_hold_1 0 rfl rfl)
theorem dX2_hold_25 : decode cX2_hold 25 = .ok (.imul, 1) := dk_104 (dk_at dksX2_hold_1 3 rfl rfl)
theorem dX2_hold_26 : decode cX2_hold 26 = .ok (.ireturn, 1) := dk_172 (dk_at dksX2_hold_1 4 rfl rfl)
abbrev cX2_addChannel : ByteArray := prog_21_method_17_code
def yX2_addChannel : MethodName := ⟨RX2, "addChannel", "(LBraidedFerry$Channel;)I"⟩
def dkwX2_addChannel_2 : List UInt8 := [100, 172]
abbrev dktX2_addChannel_2 : List UInt8 := dkwX2_addChannel_2 ++ []
def dkwX2_addChannel_1 : List UInt8 := [184, 0, 176, 42, 180, 0, 12, 43, 185, 0, 63, 2, 0, 87, 42, 180, 0, 12, 185, 0, 96, 1, 0, 4]
abbrev dktX2_addChannel_1 : List UInt8 := dkwX2_addChannel_1 ++ dktX2_addChannel_2
def dkwX2_addChannel_0 : List UInt8 := [42, 180, 0, 12, 185, 0, 96, 1, 0, 16, 6, 162, 0, 7, 4, 167, 0, 4, 3, 4, 16, 6]
abbrev dktX2_addChannel_0 : List UInt8 := dkwX2_addChannel_0 ++ dktX2_addChannel_1
theorem dksX2_addChannel_0 : cX2_addChannel.data.toList.drop 0 = dktX2_addChannel_0 := by decide +kernel
theorem dksX2_addChannel_1 : cX2_addChannel.data.toList.drop 22 = dktX2_addChannel_1 := dk_seg dksX2_addChannel_0 22 rfl rfl
theorem dksX2_addChannel_2 : cX2_addChannel.data.toList.drop 46 = dktX2_addChannel_2 := dk_seg dksX2_addChannel_1 24 rfl rfl
theorem dX2_addChannel_0 : decode cX2_addChannel 0 = .ok (.aload_n 0, 1) := dk_42 (dk_at dksX2_addChannel_0 0 rfl rfl)
theorem dX2_addChannel_1 : decode cX2_addChannel 1 = .ok (.getfield 12, 3) := dk_180 0 12 (dk_at dksX2_addChannel_0 1 rfl rfl)
theorem dX2_addChannel_4 : decode cX2_addChannel 4 = .ok (.invokeinterface 96 1, 5) := by decide +kernel
theorem dX2_addChannel_9 : decode cX2_addChannel 9 = .ok (.bipush 6, 2) := dk_16 6 (dk_at dksX2_addChannel_0 9 rfl rfl)
theorem dX2_addChannel_11 : decode cX2_addChannel 11 = .ok (.if_icmp .ge 7, 3) := dk_162 0 7 (dk_at dksX2_addChannel_0 11 rfl rfl)
theorem dX2_addChannel_14 : decode cX2_addChannel 14 = .ok (.iconst 1, 1) := dk_4 (dk_at dksX2_addChannel_0 14 rfl rfl)
theorem dX2_addChannel_15 : decode cX2_addChannel 15 = .ok (.goto 4, 3) := dk_167 0 4 (dk_at dksX2_addChannel_0 15 rfl rfl)
theorem dX2_addChannel_18 : decode cX2_addChannel 18 = .ok (.iconst 0, 1) := dk_3 (dk_at dksX2_addChannel_0 18 rfl rfl)
theorem dX2_addChannel_19 : decode cX2_addChannel 19 = .ok (.iconst 1, 1) := dk_4 (dk_at dksX2_addChannel_0 19 rfl rfl)
theorem dX2_addChannel_20 : decode cX2_addChannel 20 = .ok (.bipush 6, 2) := dk_16 6 (dk_at dksX2_addChannel_0 20 rfl rfl)
theorem dX2_addChannel_22 : decode cX2_addChannel 22 = .ok (.invokestatic 176, 3) := dk_184 0 176 (dk_at dksX2_addChannel_1 0 rfl rfl)
theorem dX2_addChannel_25 : decode cX2_addChannel 25 = .ok (.aload_n 0, 1) := dk_42 (dk_at dksX2_addChannel_1 3 rfl rfl)
theorem dX2_addChannel_26 : decode cX2_addChannel 26 = .ok (.getfield 12, 3) := dk_180 0 12 (dk_at dksX2_addChannel_1 4 rfl rfl)
theorem dX2_addChannel_29 : decode cX2_addChannel 29 = .ok (.aload_n 1, 1) := dk_43 (dk_at dksX2_addChannel_1 7 rfl rfl)
theorem dX2_addChannel_30 : decode cX2_addChannel 30 = .ok (.invokeinterface 63 2, 5) := by decide +kernel
theorem dX2_addChannel_35 : decode cX2_addChannel 35 = .ok (.pop, 1) := dk_87 (dk_at dksX2_addChannel_1 13 rfl rfl)
theorem dX2_addChannel_36 : decode cX2_addChannel 36 = .ok (.aload_n 0, 1) := dk_42 (dk_at dksX2_addChannel_1 14 rfl rfl)
theorem dX2_addChannel_37 : decode cX2_addChannel 37 = .ok (.getfield 12, 3) := dk_180 0 12 (dk_at dksX2_addChannel_1 15 rfl rfl)
theorem dX2_addChannel_40 : decode cX2_addChannel 40 = .ok (.invokeinterface 96 1, 5) := by decide +kernel
theorem dX2_addChannel_45 : decode cX2_addChannel 45 = .ok (.iconst 1, 1) := dk_4 (dk_at dksX2_addChannel_1 23 rfl rfl)
theorem dX2_addChannel_46 : decode cX2_addChannel 46 = .ok (.isub, 1) := dk_100 (dk_at dksX2_addChannel_2 0 rfl rfl)
theorem dX2_addChannel_47 : decode cX2_addChannel 47 = .ok (.ireturn, 1) := dk_172 (dk_at dksX2_addChannel_2 1 rfl rfl)
abbrev cX2_addFlood : ByteArray := prog_21_method_23_code
def yX2_addFlood : MethodName := ⟨RX2, "addFlood", "(III)I"⟩
def dkwX2_addFlood_2 : List UInt8 := [42, 180, 0, 18, 185, 0, 96, 1, 0, 172]
abbrev dktX2_addFlood_2 : List UInt8 := dkwX2_addFlood_2 ++ []
def dkwX2_addFlood_1 : List UInt8 := [180, 0, 18, 187, 0, 67, 89, 42, 180, 0, 81, 27, 96, 28, 29, 183, 1, 0, 185, 0, 63, 2, 0, 87]
abbrev dktX2_addFlood_1 : List UInt8 := dkwX2_addFlood_1 ++ dktX2_addFlood_2
def dkwX2_addFlood_0 : List UInt8 := [42, 180, 0, 18, 185, 0, 96, 1, 0, 8, 162, 0, 7, 4, 167, 0, 4, 3, 4, 8, 184, 0, 176, 42]
abbrev dktX2_addFlood_0 : List UInt8 := dkwX2_addFlood_0 ++ dktX2_addFlood_1
theorem dksX2_addFlood_0 : cX2_addFlood.data.toList.drop 0 = dktX2_addFlood_0 := by decide +kernel
theorem dksX2_addFlood_1 : cX2_addFlood.data.toList.drop 24 = dktX2_addFlood_1 := dk_seg dksX2_addFlood_0 24 rfl rfl
theorem dksX2_addFlood_2 : cX2_addFlood.data.toList.drop 48 = dktX2_addFlood_2 := dk_seg dksX2_addFlood_1 24 rfl rfl
theorem dX2_addFlood_0 : decode cX2_addFlood 0 = .ok (.aload_n 0, 1) := dk_42 (dk_at dksX2_addFlood_0 0 rfl rfl)
theorem dX2_addFlood_1 : decode cX2_addFlood 1 = .ok (.getfield 18, 3) := dk_180 0 18 (dk_at dksX2_addFlood_0 1 rfl rfl)
theorem dX2_addFlood_4 : decode cX2_addFlood 4 = .ok (.invokeinterface 96 1, 5) := by decide +kernel
theorem dX2_addFlood_9 : decode cX2_addFlood 9 = .ok (.iconst 5, 1) := dk_8 (dk_at dksX2_addFlood_0 9 rfl rfl)
theorem dX2_addFlood_10 : decode cX2_addFlood 10 = .ok (.if_icmp .ge 7, 3) := dk_162 0 7 (dk_at dksX2_addFlood_0 10 rfl rfl)
theorem dX2_addFlood_13 : decode cX2_addFlood 13 = .ok (.iconst 1, 1) := dk_4 (dk_at dksX2_addFlood_0 13 rfl rfl)
theorem dX2_addFlood_14 : decode cX2_addFlood 14 = .ok (.goto 4, 3) := dk_167 0 4 (dk_at dksX2_addFlood_0 14 rfl rfl)
theorem dX2_addFlood_17 : decode cX2_addFlood 17 = .ok (.iconst 0, 1) := dk_3 (dk_at dksX2_addFlood_0 17 rfl rfl)
theorem dX2_addFlood_18 : decode cX2_addFlood 18 = .ok (.iconst 1, 1) := dk_4 (dk_at dksX2_addFlood_0 18 rfl rfl)
theorem dX2_addFlood_19 : decode cX2_addFlood 19 = .ok (.iconst 5, 1) := dk_8 (dk_at dksX2_addFlood_0 19 rfl rfl)
theorem dX2_addFlood_20 : decode cX2_addFlood 20 = .ok (.invokestatic 176, 3) := dk_184 0 176 (dk_at dksX2_addFlood_0 20 rfl rfl)
theorem dX2_addFlood_23 : decode cX2_addFlood 23 = .ok (.aload_n 0, 1) := dk_42 (dk_at dksX2_addFlood_0 23 rfl rfl)
theorem dX2_addFlood_24 : decode cX2_addFlood 24 = .ok (.getfield 18, 3) := dk_180 0 18 (dk_at dksX2_addFlood_1 0 rfl rfl)
theorem dX2_addFlood_27 : decode cX2_addFlood 27 = .ok (.new 67, 3) := dk_187 0 67 (dk_at dksX2_addFlood_1 3 rfl rfl)
theorem dX2_addFlood_30 : decode cX2_addFlood 30 = .ok (.dup, 1) := dk_89 (dk_at dksX2_addFlood_1 6 rfl rfl)
theorem dX2_addFlood_31 : decode cX2_addFlood 31 = .ok (.aload_n 0, 1) := dk_42 (dk_at dksX2_addFlood_1 7 rfl rfl)
theorem dX2_addFlood_32 : decode cX2_addFlood 32 = .ok (.getfield 81, 3) := dk_180 0 81 (dk_at dksX2_addFlood_1 8 rfl rfl)
theorem dX2_addFlood_35 : decode cX2_addFlood 35 = .ok (.iload_n 1, 1) := dk_27 (dk_at dksX2_addFlood_1 11 rfl rfl)
theorem dX2_addFlood_36 : decode cX2_addFlood 36 = .ok (.iadd, 1) := dk_96 (dk_at dksX2_addFlood_1 12 rfl rfl)
theorem dX2_addFlood_37 : decode cX2_addFlood 37 = .ok (.iload_n 2, 1) := dk_28 (dk_at dksX2_addFlood_1 13 rfl rfl)
theorem dX2_addFlood_38 : decode cX2_addFlood 38 = .ok (.iload_n 3, 1) := dk_29 (dk_at dksX2_addFlood_1 14 rfl rfl)
theorem dX2_addFlood_39 : decode cX2_addFlood 39 = .ok (.invokespecial 256, 3) := dk_183 1 0 (dk_at dksX2_addFlood_1 15 rfl rfl)
theorem dX2_addFlood_42 : decode cX2_addFlood 42 = .ok (.invokeinterface 63 2, 5) := by decide +kernel
theorem dX2_addFlood_47 : decode cX2_addFlood 47 = .ok (.pop, 1) := dk_87 (dk_at dksX2_addFlood_1 23 rfl rfl)
theorem dX2_addFlood_48 : decode cX2_addFlood 48 = .ok (.aload_n 0, 1) := dk_42 (dk_at dksX2_addFlood_2 0 rfl rfl)
theorem dX2_addFlood_49 : decode cX2_addFlood 49 = .ok (.getfield 18, 3) := dk_180 0 18 (dk_at dksX2_addFlood_2 1 rfl rfl)
theorem dX2_addFlood_52 : decode cX2_addFlood 52 = .ok (.invokeinterface 96 1, 5) := by decide +kernel
theorem dX2_addFlood_57 : decode cX2_addFlood 57 = .ok (.ireturn, 1) := dk_172 (dk_at dksX2_addFlood_2 9 rfl rfl)
abbrev cX2_land : ByteArray := prog_21_method_29_code
def yX2_land : MethodName := ⟨RX2, "land", "()I"⟩
def dkwX2_land_1 : List UInt8 := [96, 181, 0, 90, 27, 172]
abbrev dktX2_land_1 : List UInt8 := dkwX2_land_1 ++ []
def dkwX2_land_0 : List UInt8 := [42, 42, 180, 0, 31, 182, 1, 26, 42, 42, 180, 0, 34, 182, 1, 26, 96, 60, 42, 89, 180, 0, 90, 27]
abbrev dktX2_land_0 : List UInt8 := dkwX2_land_0 ++ dktX2_land_1
theorem dksX2_land_0 : cX2_land.data.toList.drop 0 = dktX2_land_0 := by decide +kernel
theorem dksX2_land_1 : cX2_land.data.toList.drop 24 = dktX2_land_1 := dk_seg dksX2_land_0 24 rfl rfl
theorem dX2_land_0 : decode cX2_land 0 = .ok (.aload_n 0, 1) := dk_42 (dk_at dksX2_land_0 0 rfl rfl)
theorem dX2_land_1 : decode cX2_land 1 = .ok (.aload_n 0, 1) := dk_42 (dk_at dksX2_land_0 1 rfl rfl)
theorem dX2_land_2 : decode cX2_land 2 = .ok (.getfield 31, 3) := dk_180 0 31 (dk_at dksX2_land_0 2 rfl rfl)
theorem dX2_land_5 : decode cX2_land 5 = .ok (.invokevirtual 282, 3) := dk_182 1 26 (dk_at dksX2_land_0 5 rfl rfl)
theorem dX2_land_8 : decode cX2_land 8 = .ok (.aload_n 0, 1) := dk_42 (dk_at dksX2_land_0 8 rfl rfl)
theorem dX2_land_9 : decode cX2_land 9 = .ok (.aload_n 0, 1) := dk_42 (dk_at dksX2_land_0 9 rfl rfl)
theorem dX2_land_10 : decode cX2_land 10 = .ok (.getfield 34, 3) := dk_180 0 34 (dk_at dksX2_land_0 10 rfl rfl)
theorem dX2_land_13 : decode cX2_land 13 = .ok (.invokevirtual 282, 3) := dk_182 1 26 (dk_at dksX2_land_0 13 rfl rfl)
theorem dX2_land_16 : decode cX2_land 16 = .ok (.iadd, 1) := dk_96 (dk_at dksX2_land_0 16 rfl rfl)
theorem dX2_land_17 : decode cX2_land 17 = .ok (.istore_n 1, 1) := dk_60 (dk_at dksX2_land_0 17 rfl rfl)
theorem dX2_land_18 : decode cX2_land 18 = .ok (.aload_n 0, 1) := dk_42 (dk_at dksX2_land_0 18 rfl rfl)
theorem dX2_land_19 : decode cX2_land 19 = .ok (.dup, 1) := dk_89 (dk_at dksX2_land_0 19 rfl rfl)
theorem dX2_land_20 : decode cX2_land 20 = .ok (.getfield 90, 3) := dk_180 0 90 (dk_at dksX2_land_0 20 rfl rfl)
theorem dX2_land_23 : decode cX2_land 23 = .ok (.iload_n 1, 1) := dk_27 (dk_at dksX2_land_0 23 rfl rfl)
theorem dX2_land_24 : decode cX2_land 24 = .ok (.iadd, 1) := dk_96 (dk_at dksX2_land_1 0 rfl rfl)
theorem dX2_land_25 : decode cX2_land 25 = .ok (.putfield 90, 3) := dk_181 0 90 (dk_at dksX2_land_1 1 rfl rfl)
theorem dX2_land_28 : decode cX2_land 28 = .ok (.iload_n 1, 1) := dk_27 (dk_at dksX2_land_1 4 rfl rfl)
theorem dX2_land_29 : decode cX2_land 29 = .ok (.ireturn, 1) := dk_172 (dk_at dksX2_land_1 5 rfl rfl)
abbrev cX2_land_2 : ByteArray := prog_21_method_28_code
def yX2_land_2 : MethodName := ⟨RX2, "land", "(LBraidedFerry$Tally;)I"⟩
def dkwX2_land_2_5 : List UInt8 := [185, 0, 173, 1, 0, 167, 255, 151, 28, 172]
abbrev dktX2_land_2_5 : List UInt8 := dkwX2_land_2_5 ++ []
def dkwX2_land_2_4 : List UInt8 := [180, 0, 87, 25, 4, 185, 0, 214, 1, 0, 192, 0, 217, 182, 0, 219, 96, 181, 0, 87, 45]
abbrev dktX2_land_2_4 : List UInt8 := dkwX2_land_2_4 ++ dktX2_land_2_5
def dkwX2_land_2_3 : List UInt8 := [182, 0, 219, 25, 5, 182, 1, 21, 104, 42, 180, 0, 37, 25, 5, 180, 1, 23, 46, 104, 96, 61, 42, 89]
abbrev dktX2_land_2_3 : List UInt8 := dkwX2_land_2_3 ++ dktX2_land_2_4
def dkwX2_land_2_2 : List UInt8 := [25, 5, 180, 1, 18, 42, 180, 0, 84, 160, 0, 64, 28, 25, 4, 185, 0, 214, 1, 0, 192, 0, 217]
abbrev dktX2_land_2_2 : List UInt8 := dkwX2_land_2_2 ++ dktX2_land_2_3
def dkwX2_land_2_1 : List UInt8 := [45, 185, 0, 57, 1, 0, 192, 0, 203, 58, 4, 25, 4, 185, 0, 205, 1, 0, 192, 0, 208, 58, 5]
abbrev dktX2_land_2_1 : List UInt8 := dkwX2_land_2_1 ++ dktX2_land_2_2
def dkwX2_land_2_0 : List UInt8 := [3, 61, 43, 180, 0, 190, 182, 0, 194, 185, 0, 200, 1, 0, 78, 45, 185, 0, 51, 1, 0, 153, 0, 102]
abbrev dktX2_land_2_0 : List UInt8 := dkwX2_land_2_0 ++ dktX2_land_2_1
theorem dksX2_land_2_0 : cX2_land_2.data.toList.drop 0 = dktX2_land_2_0 := by decide +kernel
theorem dksX2_land_2_1 : cX2_land_2.data.toList.drop 24 = dktX2_land_2_1 := dk_seg dksX2_land_2_0 24 rfl rfl
theorem dksX2_land_2_2 : cX2_land_2.data.toList.drop 47 = dktX2_land_2_2 := dk_seg dksX2_land_2_1 23 rfl rfl
theorem dksX2_land_2_3 : cX2_land_2.data.toList.drop 70 = dktX2_land_2_3 := dk_seg dksX2_land_2_2 23 rfl rfl
theorem dksX2_land_2_4 : cX2_land_2.data.toList.drop 94 = dktX2_land_2_4 := dk_seg dksX2_land_2_3 24 rfl rfl
theorem dksX2_land_2_5 : cX2_land_2.data.toList.drop 115 = dktX2_land_2_5 := dk_seg dksX2_land_2_4 21 rfl rfl
theorem dX2_land_2_0 : decode cX2_land_2 0 = .ok (.iconst 0, 1) := dk_3 (dk_at dksX2_land_2_0 0 rfl rfl)
theorem dX2_land_2_1 : decode cX2_land_2 1 = .ok (.istore_n 2, 1) := dk_61 (dk_at dksX2_land_2_0 1 rfl rfl)
theorem dX2_land_2_2 : decode cX2_land_2 2 = .ok (.aload_n 1, 1) := dk_43 (dk_at dksX2_land_2_0 2 rfl rfl)
theorem dX2_land_2_3 : decode cX2_land_2 3 = .ok (.getfield 190, 3) := dk_180 0 190 (dk_at dksX2_land_2_0 3 rfl rfl)
theorem dX2_land_2_6 : decode cX2_land_2 6 = .ok (.invokevirtual 194, 3) := dk_182 0 194 (dk_at dksX2_land_2_0 6 rfl rfl)
theorem dX2_land_2_9 : decode cX2_land_2 9 = .ok (.invokeinterface 200 1, 5) := by decide +kernel
theorem dX2_land_2_14 : decode cX2_land_2 14 = .ok (.astore_n 3, 1) := dk_78 (dk_at dksX2_land_2_0 14 rfl rfl)
theorem dX2_land_2_15 : decode cX2_land_2 15 = .ok (.aload_n 3, 1) := dk_45 (dk_at dksX2_land_2_0 15 rfl rfl)
theorem dX2_land_2_16 : decode cX2_land_2 16 = .ok (.invokeinterface 51 1, 5) := by decide +kernel
theorem dX2_land_2_21 : decode cX2_land_2 21 = .ok (.ifCond .eq 102, 3) := dk_153 0 102 (dk_at dksX2_land_2_0 21 rfl rfl)
theorem dX2_land_2_24 : decode cX2_land_2 24 = .ok (.aload_n 3, 1) := dk_45 (dk_at dksX2_land_2_1 0 rfl rfl)
theorem dX2_land_2_25 : decode cX2_land_2 25 = .ok (.invokeinterface 57 1, 5) := by decide +kernel
theorem dX2_land_2_30 : decode cX2_land_2 30 = .ok (.checkcast 203, 3) := dk_192 0 203 (dk_at dksX2_land_2_1 6 rfl rfl)
theorem dX2_land_2_33 : decode cX2_land_2 33 = .ok (.astore 4, 2) := dk_58 4 (dk_at dksX2_land_2_1 9 rfl rfl)
theorem dX2_land_2_35 : decode cX2_land_2 35 = .ok (.aload 4, 2) := dk_25 4 (dk_at dksX2_land_2_1 11 rfl rfl)
theorem dX2_land_2_37 : decode cX2_land_2 37 = .ok (.invokeinterface 205 1, 5) := by decide +kernel
theorem dX2_land_2_42 : decode cX2_land_2 42 = .ok (.checkcast 208, 3) := dk_192 0 208 (dk_at dksX2_land_2_1 18 rfl rfl)
theorem dX2_land_2_45 : decode cX2_land_2 45 = .ok (.astore 5, 2) := dk_58 5 (dk_at dksX2_land_2_1 21 rfl rfl)
theorem dX2_land_2_47 : decode cX2_land_2 47 = .ok (.aload 5, 2) := dk_25 5 (dk_at dksX2_land_2_2 0 rfl rfl)
theorem dX2_land_2_49 : decode cX2_land_2 49 = .ok (.getfield 274, 3) := dk_180 1 18 (dk_at dksX2_land_2_2 2 rfl rfl)
theorem dX2_land_2_52 : decode cX2_land_2 52 = .ok (.aload_n 0, 1) := dk_42 (dk_at dksX2_land_2_2 5 rfl rfl)
theorem dX2_land_2_53 : decode cX2_land_2 53 = .ok (.getfield 84, 3) := dk_180 0 84 (dk_at dksX2_land_2_2 6 rfl rfl)
theorem dX2_land_2_56 : decode cX2_land_2 56 = .ok (.if_icmp .ne 64, 3) := dk_160 0 64 (dk_at dksX2_land_2_2 9 rfl rfl)
theorem dX2_land_2_59 : decode cX2_land_2 59 = .ok (.iload_n 2, 1) := dk_28 (dk_at dksX2_land_2_2 12 rfl rfl)
theorem dX2_land_2_60 : decode cX2_land_2 60 = .ok (.aload 4, 2) := dk_25 4 (dk_at dksX2_land_2_2 13 rfl rfl)
theorem dX2_land_2_62 : decode cX2_land_2 62 = .ok (.invokeinterface 214 1, 5) := by decide +kernel
theorem dX2_land_2_67 : decode cX2_land_2 67 = .ok (.checkcast 217, 3) := dk_192 0 217 (dk_at dksX2_land_2_2 20 rfl rfl)
theorem dX2_land_2_70 : decode cX2_land_2 70 = .ok (.invokevirtual 219, 3) := dk_182 0 219 (dk_at dksX2_land_2_3 0 rfl rfl)
theorem dX2_land_2_73 : decode cX2_land_2 73 = .ok (.aload 5, 2) := dk_25 5 (dk_at dksX2_land_2_3 3 rfl rfl)
theorem dX2_land_2_75 : decode cX2_land_2 75 = .ok (.invokevirtual 277, 3) := dk_182 1 21 (dk_at dksX2_land_2_3 5 rfl rfl)
theorem dX2_land_2_78 : decode cX2_land_2 78 = .ok (.imul, 1) := dk_104 (dk_at dksX2_land_2_3 8 rfl rfl)
theorem dX2_land_2_79 : decode cX2_land_2 79 = .ok (.aload_n 0, 1) := dk_42 (dk_at dksX2_land_2_3 9 rfl rfl)
theorem dX2_land_2_80 : decode cX2_land_2 80 = .ok (.getfield 37, 3) := dk_180 0 37 (dk_at dksX2_land_2_3 10 rfl rfl)
theorem dX2_land_2_83 : decode cX2_land_2 83 = .ok (.aload 5, 2) := dk_25 5 (dk_at dksX2_land_2_3 13 rfl rfl)
theorem dX2_land_2_85 : decode cX2_land_2 85 = .ok (.getfield 279, 3) := dk_180 1 23 (dk_at dksX2_land_2_3 15 rfl rfl)
theorem dX2_land_2_88 : decode cX2_land_2 88 = .ok (.iaload, 1) := dk_46 (dk_at dksX2_land_2_3 18 rfl rfl)
theorem dX2_land_2_89 : decode cX2_land_2 89 = .ok (.imul, 1) := dk_104 (dk_at dksX2_land_2_3 19 rfl rfl)
theorem dX2_land_2_90 : decode cX2_land_2 90 = .ok (.iadd, 1) := dk_96 (dk_at dksX2_land_2_3 20 rfl rfl)
theorem dX2_land_2_91 : decode cX2_land_2 91 = .ok (.istore_n 2, 1) := dk_61 (dk_at dksX2_land_2_3 21 rfl rfl)
theorem dX2_land_2_92 : decode cX2_land_2 92 = .ok (.aload_n 0, 1) := dk_42 (dk_at dksX2_land_2_3 22 rfl rfl)
theorem dX2_land_2_93 : decode cX2_land_2 93 = .ok (.dup, 1) := dk_89 (dk_at dksX2_land_2_3 23 rfl rfl)
theorem dX2_land_2_94 : decode cX2_land_2 94 = .ok (.getfield 87, 3) := dk_180 0 87 (dk_at dksX2_land_2_4 0 rfl rfl)
theorem dX2_land_2_97 : decode cX2_land_2 97 = .ok (.aload 4, 2) := dk_25 4 (dk_at dksX2_land_2_4 3 rfl rfl)
theorem dX2_land_2_99 : decode cX2_land_2 99 = .ok (.invokeinterface 214 1, 5) := by decide +kernel
theorem dX2_land_2_104 : decode cX2_land_2 104 = .ok (.checkcast 217, 3) := dk_192 0 217 (dk_at dksX2_land_2_4 10 rfl rfl)
theorem dX2_land_2_107 : decode cX2_land_2 107 = .ok (.invokevirtual 219, 3) := dk_182 0 219 (dk_at dksX2_land_2_4 13 rfl rfl)
theorem dX2_land_2_110 : decode cX2_land_2 110 = .ok (.iadd, 1) := dk_96 (dk_at dksX2_land_2_4 16 rfl rfl)
theorem dX2_land_2_111 : decode cX2_land_2 111 = .ok (.putfield 87, 3) := dk_181 0 87 (dk_at dksX2_land_2_4 17 rfl rfl)
theorem dX2_land_2_114 : decode cX2_land_2 114 = .ok (.aload_n 3, 1) := dk_45 (dk_at dksX2_land_2_4 20 rfl rfl)
theorem dX2_land_2_115 : decode cX2_land_2 115 = .ok (.invokeinterface 173 1, 5) := by decide +kernel
theorem dX2_land_2_120 : decode cX2_land_2 120 = .ok (.goto (-105), 3) := dk_167 255 151 (dk_at dksX2_land_2_5 5 rfl rfl)
theorem dX2_land_2_123 : decode cX2_land_2 123 = .ok (.iload_n 2, 1) := dk_28 (dk_at dksX2_land_2_5 8 rfl rfl)
theorem dX2_land_2_124 : decode cX2_land_2 124 = .ok (.ireturn, 1) := dk_172 (dk_at dksX2_land_2_5 9 rfl rfl)
abbrev cX2_pass : ByteArray := prog_21_method_16_code
def yX2_pass : MethodName := ⟨RX2, "pass", "(I)I"⟩
def dkwX2_pass_1 : List UInt8 := [167, 255, 244, 28, 42, 182, 0, 184, 100, 172]
abbrev dktX2_pass_1 : List UInt8 := dkwX2_pass_1 ++ []
def dkwX2_pass_0 : List UInt8 := [42, 27, 182, 0, 180, 42, 182, 0, 184, 61, 3, 62, 29, 27, 162, 0, 13, 42, 182, 0, 187, 132, 3, 1]
abbrev dktX2_pass_0 : List UInt8 := dkwX2_pass_0 ++ dktX2_pass_1
theorem dksX2_pass_0 : cX2_pass.data.toList.drop 0 = dktX2_pass_0 := by decide +kernel
theorem dksX2_pass_1 : cX2_pass.data.toList.drop 24 = dktX2_pass_1 := dk_seg dksX2_pass_0 24 rfl rfl
theorem dX2_pass_0 : decode cX2_pass 0 = .ok (.aload_n 0, 1) := dk_42 (dk_at dksX2_pass_0 0 rfl rfl)
theorem dX2_pass_1 : decode cX2_pass 1 = .ok (.iload_n 1, 1) := dk_27 (dk_at dksX2_pass_0 1 rfl rfl)
theorem dX2_pass_2 : decode cX2_pass 2 = .ok (.invokevirtual 180, 3) := dk_182 0 180 (dk_at dksX2_pass_0 2 rfl rfl)
theorem dX2_pass_5 : decode cX2_pass 5 = .ok (.aload_n 0, 1) := dk_42 (dk_at dksX2_pass_0 5 rfl rfl)
theorem dX2_pass_6 : decode cX2_pass 6 = .ok (.invokevirtual 184, 3) := dk_182 0 184 (dk_at dksX2_pass_0 6 rfl rfl)
theorem dX2_pass_9 : decode cX2_pass 9 = .ok (.istore_n 2, 1) := dk_61 (dk_at dksX2_pass_0 9 rfl rfl)
theorem dX2_pass_10 : decode cX2_pass 10 = .ok (.iconst 0, 1) := dk_3 (dk_at dksX2_pass_0 10 rfl rfl)
theorem dX2_pass_11 : decode cX2_pass 11 = .ok (.istore_n 3, 1) := dk_62 (dk_at dksX2_pass_0 11 rfl rfl)
theorem dX2_pass_12 : decode cX2_pass 12 = .ok (.iload_n 3, 1) := dk_29 (dk_at dksX2_pass_0 12 rfl rfl)
theorem dX2_pass_13 : decode cX2_pass 13 = .ok (.iload_n 1, 1) := dk_27 (dk_at dksX2_pass_0 13 rfl rfl)
theorem dX2_pass_14 : decode cX2_pass 14 = .ok (.if_icmp .ge 13, 3) := dk_162 0 13 (dk_at dksX2_pass_0 14 rfl rfl)
theorem dX2_pass_17 : decode cX2_pass 17 = .ok (.aload_n 0, 1) := dk_42 (dk_at dksX2_pass_0 17 rfl rfl)
theorem dX2_pass_18 : decode cX2_pass 18 = .ok (.invokevirtual 187, 3) := dk_182 0 187 (dk_at dksX2_pass_0 18 rfl rfl)
theorem dX2_pass_21 : decode cX2_pass 21 = .ok (.iinc 3 1, 3) := dk_132 3 1 (dk_at dksX2_pass_0 21 rfl rfl)
theorem dX2_pass_24 : decode cX2_pass 24 = .ok (.goto (-12), 3) := dk_167 255 244 (dk_at dksX2_pass_1 0 rfl rfl)
theorem dX2_pass_27 : decode cX2_pass 27 = .ok (.iload_n 2, 1) := dk_28 (dk_at dksX2_pass_1 3 rfl rfl)
theorem dX2_pass_28 : decode cX2_pass 28 = .ok (.aload_n 0, 1) := dk_42 (dk_at dksX2_pass_1 4 rfl rfl)
theorem dX2_pass_29 : decode cX2_pass 29 = .ok (.invokevirtual 184, 3) := dk_182 0 184 (dk_at dksX2_pass_1 5 rfl rfl)
theorem dX2_pass_32 : decode cX2_pass 32 = .ok (.isub, 1) := dk_100 (dk_at dksX2_pass_1 8 rfl rfl)
theorem dX2_pass_33 : decode cX2_pass 33 = .ok (.ireturn, 1) := dk_172 (dk_at dksX2_pass_1 9 rfl rfl)
abbrev cX2_holding : ByteArray := prog_21_method_13_code
def yX2_holding : MethodName := ⟨RX2, "holding", "()I"⟩
def dkwX2_holding_2 : List UInt8 := [167, 255, 222, 27, 172]
abbrev dktX2_holding_2 : List UInt8 := dkwX2_holding_2 ++ []
def dkwX2_holding_1 : List UInt8 := [185, 0, 57, 1, 0, 192, 0, 69, 78, 27, 45, 182, 0, 153, 153, 0, 7, 4, 167, 0, 4, 3, 96, 60]
abbrev dktX2_holding_1 : List UInt8 := dkwX2_holding_1 ++ dktX2_holding_2
def dkwX2_holding_0 : List UInt8 := [3, 60, 42, 180, 0, 21, 185, 0, 45, 1, 0, 77, 44, 185, 0, 51, 1, 0, 153, 0, 31, 44]
abbrev dktX2_holding_0 : List UInt8 := dkwX2_holding_0 ++ dktX2_holding_1
theorem dksX2_holding_0 : cX2_holding.data.toList.drop 0 = dktX2_holding_0 := by decide +kernel
theorem dksX2_holding_1 : cX2_holding.data.toList.drop 22 = dktX2_holding_1 := dk_seg dksX2_holding_0 22 rfl rfl
theorem dksX2_holding_2 : cX2_holding.data.toList.drop 46 = dktX2_holding_2 := dk_seg dksX2_holding_1 24 rfl rfl
theorem dX2_holding_0 : decode cX2_holding 0 = .ok (.iconst 0, 1) := dk_3 (dk_at dksX2_holding_0 0 rfl rfl)
theorem dX2_holding_1 : decode cX2_holding 1 = .ok (.istore_n 1, 1) := dk_60 (dk_at dksX2_holding_0 1 rfl rfl)
theorem dX2_holding_2 : decode cX2_holding 2 = .ok (.aload_n 0, 1) := dk_42 (dk_at dksX2_holding_0 2 rfl rfl)
theorem dX2_holding_3 : decode cX2_holding 3 = .ok (.getfield 21, 3) := dk_180 0 21 (dk_at dksX2_holding_0 3 rfl rfl)
theorem dX2_holding_6 : decode cX2_holding 6 = .ok (.invokeinterface 45 1, 5) := by decide +kernel
theorem dX2_holding_11 : decode cX2_holding 11 = .ok (.astore_n 2, 1) := dk_77 (dk_at dksX2_holding_0 11 rfl rfl)
theorem dX2_holding_12 : decode cX2_holding 12 = .ok (.aload_n 2, 1) := dk_44 (dk_at dksX2_holding_0 12 rfl rfl)
theorem dX2_holding_13 : decode cX2_holding 13 = .ok (.invokeinterface 51 1, 5) := by decide +kernel
theorem dX2_holding_18 : decode cX2_holding 18 = .ok (.ifCond .eq 31, 3) := dk_153 0 31 (dk_at dksX2_holding_0 18 rfl rfl)
theorem dX2_holding_21 : decode cX2_holding 21 = .ok (.aload_n 2, 1) := dk_44 (dk_at dksX2_holding_0 21 rfl rfl)
theorem dX2_holding_22 : decode cX2_holding 22 = .ok (.invokeinterface 57 1, 5) := by decide +kernel
theorem dX2_holding_27 : decode cX2_holding 27 = .ok (.checkcast 69, 3) := dk_192 0 69 (dk_at dksX2_holding_1 5 rfl rfl)
theorem dX2_holding_30 : decode cX2_holding 30 = .ok (.astore_n 3, 1) := dk_78 (dk_at dksX2_holding_1 8 rfl rfl)
theorem dX2_holding_31 : decode cX2_holding 31 = .ok (.iload_n 1, 1) := dk_27 (dk_at dksX2_holding_1 9 rfl rfl)
theorem dX2_holding_32 : decode cX2_holding 32 = .ok (.aload_n 3, 1) := dk_45 (dk_at dksX2_holding_1 10 rfl rfl)
theorem dX2_holding_33 : decode cX2_holding 33 = .ok (.invokevirtual 153, 3) := dk_182 0 153 (dk_at dksX2_holding_1 11 rfl rfl)
theorem dX2_holding_36 : decode cX2_holding 36 = .ok (.ifCond .eq 7, 3) := dk_153 0 7 (dk_at dksX2_holding_1 14 rfl rfl)
theorem dX2_holding_39 : decode cX2_holding 39 = .ok (.iconst 1, 1) := dk_4 (dk_at dksX2_holding_1 17 rfl rfl)
theorem dX2_holding_40 : decode cX2_holding 40 = .ok (.goto 4, 3) := dk_167 0 4 (dk_at dksX2_holding_1 18 rfl rfl)
theorem dX2_holding_43 : decode cX2_holding 43 = .ok (.iconst 0, 1) := dk_3 (dk_at dksX2_holding_1 21 rfl rfl)
theorem dX2_holding_44 : decode cX2_holding 44 = .ok (.iadd, 1) := dk_96 (dk_at dksX2_holding_1 22 rfl rfl)
theorem dX2_holding_45 : decode cX2_holding 45 = .ok (.istore_n 1, 1) := dk_60 (dk_at dksX2_holding_1 23 rfl rfl)
theorem dX2_holding_46 : decode cX2_holding 46 = .ok (.goto (-34), 3) := dk_167 255 222 (dk_at dksX2_holding_2 0 rfl rfl)
theorem dX2_holding_49 : decode cX2_holding 49 = .ok (.iload_n 1, 1) := dk_27 (dk_at dksX2_holding_2 3 rfl rfl)
theorem dX2_holding_50 : decode cX2_holding 50 = .ok (.ireturn, 1) := dk_172 (dk_at dksX2_holding_2 4 rfl rfl)
abbrev cX2_setFare : ByteArray := prog_21_method_30_code
def yX2_setFare : MethodName := ⟨RX2, "setFare", "(II)I"⟩
def dkwX2_setFare_0 : List UInt8 := [42, 180, 0, 37, 27, 46, 62, 42, 180, 0, 37, 27, 28, 79, 29, 172]
abbrev dktX2_setFare_0 : List UInt8 := dkwX2_setFare_0 ++ []
theorem dksX2_setFare_0 : cX2_setFare.data.toList.drop 0 = dktX2_setFare_0 := by decide +kernel
theorem dX2_setFare_0 : decode cX2_setFare 0 = .ok (.aload_n 0, 1) := dk_42 (dk_at dksX2_setFare_0 0 rfl rfl)
theorem dX2_setFare_1 : decode cX2_setFare 1 = .ok (.getfield 37, 3) := dk_180 0 37 (dk_at dksX2_setFare_0 1 rfl rfl)
theorem dX2_setFare_4 : decode cX2_setFare 4 = .ok (.iload_n 1, 1) := dk_27 (dk_at dksX2_setFare_0 4 rfl rfl)
theorem dX2_setFare_5 : decode cX2_setFare 5 = .ok (.iaload, 1) := dk_46 (dk_at dksX2_setFare_0 5 rfl rfl)
theorem dX2_setFare_6 : decode cX2_setFare 6 = .ok (.istore_n 3, 1) := dk_62 (dk_at dksX2_setFare_0 6 rfl rfl)
theorem dX2_setFare_7 : decode cX2_setFare 7 = .ok (.aload_n 0, 1) := dk_42 (dk_at dksX2_setFare_0 7 rfl rfl)
theorem dX2_setFare_8 : decode cX2_setFare 8 = .ok (.getfield 37, 3) := dk_180 0 37 (dk_at dksX2_setFare_0 8 rfl rfl)
theorem dX2_setFare_11 : decode cX2_setFare 11 = .ok (.iload_n 1, 1) := dk_27 (dk_at dksX2_setFare_0 11 rfl rfl)
theorem dX2_setFare_12 : decode cX2_setFare 12 = .ok (.iload_n 2, 1) := dk_28 (dk_at dksX2_setFare_0 12 rfl rfl)
theorem dX2_setFare_13 : decode cX2_setFare 13 = .ok (.iastore, 1) := dk_79 (dk_at dksX2_setFare_0 13 rfl rfl)
theorem dX2_setFare_14 : decode cX2_setFare 14 = .ok (.iload_n 3, 1) := dk_29 (dk_at dksX2_setFare_0 14 rfl rfl)
theorem dX2_setFare_15 : decode cX2_setFare 15 = .ok (.ireturn, 1) := dk_172 (dk_at dksX2_setFare_0 15 rfl rfl)
abbrev cX2_setRope : ByteArray := prog_21_method_31_code
def yX2_setRope : MethodName := ⟨RX2, "setRope", "(I)I"⟩
def dkwX2_setRope_0 : List UInt8 := [42, 180, 0, 41, 61, 42, 27, 181, 0, 41, 28, 172]
abbrev dktX2_setRope_0 : List UInt8 := dkwX2_setRope_0 ++ []
theorem dksX2_setRope_0 : cX2_setRope.data.toList.drop 0 = dktX2_setRope_0 := by decide +kernel
theorem dX2_setRope_0 : decode cX2_setRope 0 = .ok (.aload_n 0, 1) := dk_42 (dk_at dksX2_setRope_0 0 rfl rfl)
theorem dX2_setRope_1 : decode cX2_setRope 1 = .ok (.getfield 41, 3) := dk_180 0 41 (dk_at dksX2_setRope_0 1 rfl rfl)
theorem dX2_setRope_4 : decode cX2_setRope 4 = .ok (.istore_n 2, 1) := dk_61 (dk_at dksX2_setRope_0 4 rfl rfl)
theorem dX2_setRope_5 : decode cX2_setRope 5 = .ok (.aload_n 0, 1) := dk_42 (dk_at dksX2_setRope_0 5 rfl rfl)
theorem dX2_setRope_6 : decode cX2_setRope 6 = .ok (.iload_n 1, 1) := dk_27 (dk_at dksX2_setRope_0 6 rfl rfl)
theorem dX2_setRope_7 : decode cX2_setRope 7 = .ok (.putfield 41, 3) := dk_181 0 41 (dk_at dksX2_setRope_0 7 rfl rfl)
theorem dX2_setRope_10 : decode cX2_setRope 10 = .ok (.iload_n 2, 1) := dk_28 (dk_at dksX2_setRope_0 10 rfl rfl)
theorem dX2_setRope_11 : decode cX2_setRope 11 = .ok (.ireturn, 1) := dk_172 (dk_at dksX2_setRope_0 11 rfl rfl)
abbrev cX2_shift : ByteArray := prog_21_method_22_code
def yX2_shift : MethodName := ⟨RX2, "shift", "(II)I"⟩
def dkwX2_shift_4 : List UInt8 := [192, 0, 61, 58, 6, 45, 180, 0, 234, 28, 96, 172]
abbrev dktX2_shift_4 : List UInt8 := dkwX2_shift_4 ++ []
def dkwX2_shift_3 : List UInt8 := [42, 180, 0, 12, 27, 4, 96, 25, 4, 25, 4, 180, 0, 234, 28, 100, 182, 0, 237, 185, 0, 166, 3, 0]
abbrev dktX2_shift_3 : List UInt8 := dkwX2_shift_3 ++ dktX2_shift_4
def dkwX2_shift_2 : List UInt8 := [180, 0, 12, 27, 45, 45, 180, 0, 234, 28, 96, 182, 0, 237, 185, 0, 166, 3, 0, 192, 0, 61, 58, 5]
abbrev dktX2_shift_2 : List UInt8 := dkwX2_shift_2 ++ dktX2_shift_3
def dkwX2_shift_1 : List UInt8 := [184, 0, 253, 45, 180, 0, 234, 28, 96, 184, 0, 231, 25, 4, 180, 0, 234, 28, 100, 184, 0, 231, 42]
abbrev dktX2_shift_1 : List UInt8 := dkwX2_shift_1 ++ dktX2_shift_2
def dkwX2_shift_0 : List UInt8 := [42, 27, 182, 0, 228, 78, 42, 27, 4, 96, 182, 0, 228, 58, 4, 28, 16, 157, 16, 99, 184, 0, 100]
abbrev dktX2_shift_0 : List UInt8 := dkwX2_shift_0 ++ dktX2_shift_1
theorem dksX2_shift_0 : cX2_shift.data.toList.drop 0 = dktX2_shift_0 := by decide +kernel
theorem dksX2_shift_1 : cX2_shift.data.toList.drop 23 = dktX2_shift_1 := dk_seg dksX2_shift_0 23 rfl rfl
theorem dksX2_shift_2 : cX2_shift.data.toList.drop 46 = dktX2_shift_2 := dk_seg dksX2_shift_1 23 rfl rfl
theorem dksX2_shift_3 : cX2_shift.data.toList.drop 70 = dktX2_shift_3 := dk_seg dksX2_shift_2 24 rfl rfl
theorem dksX2_shift_4 : cX2_shift.data.toList.drop 94 = dktX2_shift_4 := dk_seg dksX2_shift_3 24 rfl rfl
theorem dX2_shift_0 : decode cX2_shift 0 = .ok (.aload_n 0, 1) := dk_42 (dk_at dksX2_shift_0 0 rfl rfl)
theorem dX2_shift_1 : decode cX2_shift 1 = .ok (.iload_n 1, 1) := dk_27 (dk_at dksX2_shift_0 1 rfl rfl)
theorem dX2_shift_2 : decode cX2_shift 2 = .ok (.invokevirtual 228, 3) := dk_182 0 228 (dk_at dksX2_shift_0 2 rfl rfl)
theorem dX2_shift_5 : decode cX2_shift 5 = .ok (.astore_n 3, 1) := dk_78 (dk_at dksX2_shift_0 5 rfl rfl)
theorem dX2_shift_6 : decode cX2_shift 6 = .ok (.aload_n 0, 1) := dk_42 (dk_at dksX2_shift_0 6 rfl rfl)
theorem dX2_shift_7 : decode cX2_shift 7 = .ok (.iload_n 1, 1) := dk_27 (dk_at dksX2_shift_0 7 rfl rfl)
theorem dX2_shift_8 : decode cX2_shift 8 = .ok (.iconst 1, 1) := dk_4 (dk_at dksX2_shift_0 8 rfl rfl)
theorem dX2_shift_9 : decode cX2_shift 9 = .ok (.iadd, 1) := dk_96 (dk_at dksX2_shift_0 9 rfl rfl)
theorem dX2_shift_10 : decode cX2_shift 10 = .ok (.invokevirtual 228, 3) := dk_182 0 228 (dk_at dksX2_shift_0 10 rfl rfl)
theorem dX2_shift_13 : decode cX2_shift 13 = .ok (.astore 4, 2) := dk_58 4 (dk_at dksX2_shift_0 13 rfl rfl)
theorem dX2_shift_15 : decode cX2_shift 15 = .ok (.iload_n 2, 1) := dk_28 (dk_at dksX2_shift_0 15 rfl rfl)
theorem dX2_shift_16 : decode cX2_shift 16 = .ok (.bipush (-99), 2) := dk_16 157 (dk_at dksX2_shift_0 16 rfl rfl)
theorem dX2_shift_18 : decode cX2_shift 18 = .ok (.bipush 99, 2) := dk_16 99 (dk_at dksX2_shift_0 18 rfl rfl)
theorem dX2_shift_20 : decode cX2_shift 20 = .ok (.invokestatic 100, 3) := dk_184 0 100 (dk_at dksX2_shift_0 20 rfl rfl)
theorem dX2_shift_23 : decode cX2_shift 23 = .ok (.invokestatic 253, 3) := dk_184 0 253 (dk_at dksX2_shift_1 0 rfl rfl)
theorem dX2_shift_26 : decode cX2_shift 26 = .ok (.aload_n 3, 1) := dk_45 (dk_at dksX2_shift_1 3 rfl rfl)
theorem dX2_shift_27 : decode cX2_shift 27 = .ok (.getfield 234, 3) := dk_180 0 234 (dk_at dksX2_shift_1 4 rfl rfl)
theorem dX2_shift_30 : decode cX2_shift 30 = .ok (.iload_n 2, 1) := dk_28 (dk_at dksX2_shift_1 7 rfl rfl)
theorem dX2_shift_31 : decode cX2_shift 31 = .ok (.iadd, 1) := dk_96 (dk_at dksX2_shift_1 8 rfl rfl)
theorem dX2_shift_32 : decode cX2_shift 32 = .ok (.invokestatic 231, 3) := dk_184 0 231 (dk_at dksX2_shift_1 9 rfl rfl)
theorem dX2_shift_35 : decode cX2_shift 35 = .ok (.aload 4, 2) := dk_25 4 (dk_at dksX2_shift_1 12 rfl rfl)
theorem dX2_shift_37 : decode cX2_shift 37 = .ok (.getfield 234, 3) := dk_180 0 234 (dk_at dksX2_shift_1 14 rfl rfl)
theorem dX2_shift_40 : decode cX2_shift 40 = .ok (.iload_n 2, 1) := dk_28 (dk_at dksX2_shift_1 17 rfl rfl)
theorem dX2_shift_41 : decode cX2_shift 41 = .ok (.isub, 1) := dk_100 (dk_at dksX2_shift_1 18 rfl rfl)
theorem dX2_shift_42 : decode cX2_shift 42 = .ok (.invokestatic 231, 3) := dk_184 0 231 (dk_at dksX2_shift_1 19 rfl rfl)
theorem dX2_shift_45 : decode cX2_shift 45 = .ok (.aload_n 0, 1) := dk_42 (dk_at dksX2_shift_1 22 rfl rfl)
theorem dX2_shift_46 : decode cX2_shift 46 = .ok (.getfield 12, 3) := dk_180 0 12 (dk_at dksX2_shift_2 0 rfl rfl)
theorem dX2_shift_49 : decode cX2_shift 49 = .ok (.iload_n 1, 1) := dk_27 (dk_at dksX2_shift_2 3 rfl rfl)
theorem dX2_shift_50 : decode cX2_shift 50 = .ok (.aload_n 3, 1) := dk_45 (dk_at dksX2_shift_2 4 rfl rfl)
theorem dX2_shift_51 : decode cX2_shift 51 = .ok (.aload_n 3, 1) := dk_45 (dk_at dksX2_shift_2 5 rfl rfl)
theorem dX2_shift_52 : decode cX2_shift 52 = .ok (.getfield 234, 3) := dk_180 0 234 (dk_at dksX2_shift_2 6 rfl rfl)
theorem dX2_shift_55 : decode cX2_shift 55 = .ok (.iload_n 2, 1) := dk_28 (dk_at dksX2_shift_2 9 rfl rfl)
theorem dX2_shift_56 : decode cX2_shift 56 = .ok (.iadd, 1) := dk_96 (dk_at dksX2_shift_2 10 rfl rfl)
theorem dX2_shift_57 : decode cX2_shift 57 = .ok (.invokevirtual 237, 3) := dk_182 0 237 (dk_at dksX2_shift_2 11 rfl rfl)
theorem dX2_shift_60 : decode cX2_shift 60 = .ok (.invokeinterface 166 3, 5) := by decide +kernel
theorem dX2_shift_65 : decode cX2_shift 65 = .ok (.checkcast 61, 3) := dk_192 0 61 (dk_at dksX2_shift_2 19 rfl rfl)
theorem dX2_shift_68 : decode cX2_shift 68 = .ok (.astore 5, 2) := dk_58 5 (dk_at dksX2_shift_2 22 rfl rfl)
theorem dX2_shift_70 : decode cX2_shift 70 = .ok (.aload_n 0, 1) := dk_42 (dk_at dksX2_shift_3 0 rfl rfl)
theorem dX2_shift_71 : decode cX2_shift 71 = .ok (.getfield 12, 3) := dk_180 0 12 (dk_at dksX2_shift_3 1 rfl rfl)
theorem dX2_shift_74 : decode cX2_shift 74 = .ok (.iload_n 1, 1) := dk_27 (dk_at dksX2_shift_3 4 rfl rfl)
theorem dX2_shift_75 : decode cX2_shift 75 = .ok (.iconst 1, 1) := dk_4 (dk_at dksX2_shift_3 5 rfl rfl)
theorem dX2_shift_76 : decode cX2_shift 76 = .ok (.iadd, 1) := dk_96 (dk_at dksX2_shift_3 6 rfl rfl)
theorem dX2_shift_77 : decode cX2_shift 77 = .ok (.aload 4, 2) := dk_25 4 (dk_at dksX2_shift_3 7 rfl rfl)
theorem dX2_shift_79 : decode cX2_shift 79 = .ok (.aload 4, 2) := dk_25 4 (dk_at dksX2_shift_3 9 rfl rfl)
theorem dX2_shift_81 : decode cX2_shift 81 = .ok (.getfield 234, 3) := dk_180 0 234 (dk_at dksX2_shift_3 11 rfl rfl)
theorem dX2_shift_84 : decode cX2_shift 84 = .ok (.iload_n 2, 1) := dk_28 (dk_at dksX2_shift_3 14 rfl rfl)
theorem dX2_shift_85 : decode cX2_shift 85 = .ok (.isub, 1) := dk_100 (dk_at dksX2_shift_3 15 rfl rfl)
theorem dX2_shift_86 : decode cX2_shift 86 = .ok (.invokevirtual 237, 3) := dk_182 0 237 (dk_at dksX2_shift_3 16 rfl rfl)
theorem dX2_shift_89 : decode cX2_shift 89 = .ok (.invokeinterface 166 3, 5) := by decide +kernel
theorem dX2_shift_94 : decode cX2_shift 94 = .ok (.checkcast 61, 3) := dk_192 0 61 (dk_at dksX2_shift_4 0 rfl rfl)
theorem dX2_shift_97 : decode cX2_shift 97 = .ok (.astore 6, 2) := dk_58 6 (dk_at dksX2_shift_4 3 rfl rfl)
theorem dX2_shift_99 : decode cX2_shift 99 = .ok (.aload_n 3, 1) := dk_45 (dk_at dksX2_shift_4 5 rfl rfl)
theorem dX2_shift_100 : decode cX2_shift 100 = .ok (.getfield 234, 3) := dk_180 0 234 (dk_at dksX2_shift_4 6 rfl rfl)
theorem dX2_shift_103 : decode cX2_shift 103 = .ok (.iload_n 2, 1) := dk_28 (dk_at dksX2_shift_4 9 rfl rfl)
theorem dX2_shift_104 : decode cX2_shift 104 = .ok (.iadd, 1) := dk_96 (dk_at dksX2_shift_4 10 rfl rfl)
theorem dX2_shift_105 : decode cX2_shift 105 = .ok (.ireturn, 1) := dk_172 (dk_at dksX2_shift_4 11 rfl rfl)
abbrev cX2_allowWidth : ByteArray := prog_21_method_18_code
def yX2_allowWidth : MethodName := ⟨RX2, "allowWidth", "(I)V"⟩
def dkwX2_allowWidth_0 : List UInt8 := [26, 16, 10, 16, 99, 184, 0, 100, 5, 26, 184, 0, 176, 177]
abbrev dktX2_allowWidth_0 : List UInt8 := dkwX2_allowWidth_0 ++ []
theorem dksX2_allowWidth_0 : cX2_allowWidth.data.toList.drop 0 = dktX2_allowWidth_0 := by decide +kernel
theorem dX2_allowWidth_0 : decode cX2_allowWidth 0 = .ok (.iload_n 0, 1) := dk_26 (dk_at dksX2_allowWidth_0 0 rfl rfl)
theorem dX2_allowWidth_1 : decode cX2_allowWidth 1 = .ok (.bipush 10, 2) := dk_16 10 (dk_at dksX2_allowWidth_0 1 rfl rfl)
theorem dX2_allowWidth_3 : decode cX2_allowWidth 3 = .ok (.bipush 99, 2) := dk_16 99 (dk_at dksX2_allowWidth_0 3 rfl rfl)
theorem dX2_allowWidth_5 : decode cX2_allowWidth 5 = .ok (.invokestatic 100, 3) := dk_184 0 100 (dk_at dksX2_allowWidth_0 5 rfl rfl)
theorem dX2_allowWidth_8 : decode cX2_allowWidth 8 = .ok (.iconst 2, 1) := dk_5 (dk_at dksX2_allowWidth_0 8 rfl rfl)
theorem dX2_allowWidth_9 : decode cX2_allowWidth 9 = .ok (.iload_n 0, 1) := dk_26 (dk_at dksX2_allowWidth_0 9 rfl rfl)
theorem dX2_allowWidth_10 : decode cX2_allowWidth 10 = .ok (.invokestatic 176, 3) := dk_184 0 176 (dk_at dksX2_allowWidth_0 10 rfl rfl)
theorem dX2_allowWidth_13 : decode cX2_allowWidth 13 = .ok (.return_, 1) := dk_177 (dk_at dksX2_allowWidth_0 13 rfl rfl)
abbrev cX2_split : ByteArray := prog_21_method_21_code
def yX2_split : MethodName := ⟨RX2, "split", "(II)I"⟩
def dkwX2_split_9 : List UInt8 := [96, 181, 0, 84, 45, 180, 0, 234, 28, 100, 172]
abbrev dktX2_split_9 : List UInt8 := dkwX2_split_9 ++ []
def dkwX2_split_8 : List UInt8 := [184, 0, 246, 184, 0, 249, 42, 89, 180, 0, 84, 42, 180, 0, 84, 27, 164, 0, 7, 4, 167, 0, 4, 3]
abbrev dktX2_split_8 : List UInt8 := dkwX2_split_8 ++ dktX2_split_9
def dkwX2_split_7 : List UInt8 := [180, 0, 31, 42, 180, 0, 31, 27, 184, 0, 246, 184, 0, 249, 42, 180, 0, 34, 42, 180, 0, 34, 27]
abbrev dktX2_split_7 : List UInt8 := dkwX2_split_7 ++ dktX2_split_8
def dkwX2_split_6 : List UInt8 := [132, 5, 1, 167, 255, 205, 42, 180, 0, 27, 42, 180, 0, 27, 27, 184, 0, 246, 184, 0, 249, 42]
abbrev dktX2_split_6 : List UInt8 := dkwX2_split_6 ++ dktX2_split_7
def dkwX2_split_5 : List UInt8 := [185, 0, 108, 2, 0, 192, 0, 69, 27, 182, 0, 243, 185, 0, 166, 3, 0, 192, 0, 69, 58, 6]
abbrev dktX2_split_5 : List UInt8 := dkwX2_split_5 ++ dktX2_split_6
def dkwX2_split_4 : List UInt8 := [185, 0, 96, 1, 0, 162, 0, 43, 42, 180, 0, 21, 21, 5, 42, 180, 0, 21, 21, 5]
abbrev dktX2_split_4 : List UInt8 := dkwX2_split_4 ++ dktX2_split_5
def dkwX2_split_3 : List UInt8 := [45, 180, 0, 234, 28, 100, 182, 0, 237, 185, 0, 240, 3, 0, 3, 54, 5, 21, 5, 42, 180, 0, 21]
abbrev dktX2_split_3 : List UInt8 := dkwX2_split_3 ++ dktX2_split_4
def dkwX2_split_2 : List UInt8 := [27, 45, 28, 182, 0, 237, 185, 0, 166, 3, 0, 192, 0, 61, 58, 4, 42, 180, 0, 12, 27, 4, 96, 45]
abbrev dktX2_split_2 : List UInt8 := dkwX2_split_2 ++ dktX2_split_3
def dkwX2_split_1 : List UInt8 := [3, 4, 16, 6, 184, 0, 176, 28, 184, 0, 231, 45, 180, 0, 234, 28, 100, 184, 0, 231, 42, 180, 0, 12]
abbrev dktX2_split_1 : List UInt8 := dkwX2_split_1 ++ dktX2_split_2
def dkwX2_split_0 : List UInt8 := [42, 27, 182, 0, 228, 78, 42, 180, 0, 12, 185, 0, 96, 1, 0, 16, 6, 162, 0, 7, 4, 167, 0, 4]
abbrev dktX2_split_0 : List UInt8 := dkwX2_split_0 ++ dktX2_split_1
theorem dksX2_split_0 : cX2_split.data.toList.drop 0 = dktX2_split_0 := by decide +kernel
theorem dksX2_split_1 : cX2_split.data.toList.drop 24 = dktX2_split_1 := dk_seg dksX2_split_0 24 rfl rfl
theorem dksX2_split_2 : cX2_split.data.toList.drop 48 = dktX2_split_2 := dk_seg dksX2_split_1 24 rfl rfl
theorem dksX2_split_3 : cX2_split.data.toList.drop 72 = dktX2_split_3 := dk_seg dksX2_split_2 24 rfl rfl
theorem dksX2_split_4 : cX2_split.data.toList.drop 95 = dktX2_split_4 := dk_seg dksX2_split_3 23 rfl rfl
theorem dksX2_split_5 : cX2_split.data.toList.drop 115 = dktX2_split_5 := dk_seg dksX2_split_4 20 rfl rfl
theorem dksX2_split_6 : cX2_split.data.toList.drop 137 = dktX2_split_6 := dk_seg dksX2_split_5 22 rfl rfl
theorem dksX2_split_7 : cX2_split.data.toList.drop 159 = dktX2_split_7 := dk_seg dksX2_split_6 22 rfl rfl
theorem dksX2_split_8 : cX2_split.data.toList.drop 182 = dktX2_split_8 := dk_seg dksX2_split_7 23 rfl rfl
theorem dksX2_split_9 : cX2_split.data.toList.drop 206 = dktX2_split_9 := dk_seg dksX2_split_8 24 rfl rfl
theorem dX2_split_0 : decode cX2_split 0 = .ok (.aload_n 0, 1) := dk_42 (dk_at dksX2_split_0 0 rfl rfl)
theorem dX2_split_1 : decode cX2_split 1 = .ok (.iload_n 1, 1) := dk_27 (dk_at dksX2_split_0 1 rfl rfl)
theorem dX2_split_2 : decode cX2_split 2 = .ok (.invokevirtual 228, 3) := dk_182 0 228 (dk_at dksX2_split_0 2 rfl rfl)
theorem dX2_split_5 : decode cX2_split 5 = .ok (.astore_n 3, 1) := dk_78 (dk_at dksX2_split_0 5 rfl rfl)
theorem dX2_split_6 : decode cX2_split 6 = .ok (.aload_n 0, 1) := dk_42 (dk_at dksX2_split_0 6 rfl rfl)
theorem dX2_split_7 : decode cX2_split 7 = .ok (.getfield 12, 3) := dk_180 0 12 (dk_at dksX2_split_0 7 rfl rfl)
theorem dX2_split_10 : decode cX2_split 10 = .ok (.invokeinterface 96 1, 5) := by decide +kernel
theorem dX2_split_15 : decode cX2_split 15 = .ok (.bipush 6, 2) := dk_16 6 (dk_at dksX2_split_0 15 rfl rfl)
theorem dX2_split_17 : decode cX2_split 17 = .ok (.if_icmp .ge 7, 3) := dk_162 0 7 (dk_at dksX2_split_0 17 rfl rfl)
theorem dX2_split_20 : decode cX2_split 20 = .ok (.iconst 1, 1) := dk_4 (dk_at dksX2_split_0 20 rfl rfl)
theorem dX2_split_21 : decode cX2_split 21 = .ok (.goto 4, 3) := dk_167 0 4 (dk_at dksX2_split_0 21 rfl rfl)
theorem dX2_split_24 : decode cX2_split 24 = .ok (.iconst 0, 1) := dk_3 (dk_at dksX2_split_1 0 rfl rfl)
theorem dX2_split_25 : decode cX2_split 25 = .ok (.iconst 1, 1) := dk_4 (dk_at dksX2_split_1 1 rfl rfl)
theorem dX2_split_26 : decode cX2_split 26 = .ok (.bipush 6, 2) := dk_16 6 (dk_at dksX2_split_1 2 rfl rfl)
theorem dX2_split_28 : decode cX2_split 28 = .ok (.invokestatic 176, 3) := dk_184 0 176 (dk_at dksX2_split_1 4 rfl rfl)
theorem dX2_split_31 : decode cX2_split 31 = .ok (.iload_n 2, 1) := dk_28 (dk_at dksX2_split_1 7 rfl rfl)
theorem dX2_split_32 : decode cX2_split 32 = .ok (.invokestatic 231, 3) := dk_184 0 231 (dk_at dksX2_split_1 8 rfl rfl)
theorem dX2_split_35 : decode cX2_split 35 = .ok (.aload_n 3, 1) := dk_45 (dk_at dksX2_split_1 11 rfl rfl)
theorem dX2_split_36 : decode cX2_split 36 = .ok (.getfield 234, 3) := dk_180 0 234 (dk_at dksX2_split_1 12 rfl rfl)
theorem dX2_split_39 : decode cX2_split 39 = .ok (.iload_n 2, 1) := dk_28 (dk_at dksX2_split_1 15 rfl rfl)
theorem dX2_split_40 : decode cX2_split 40 = .ok (.isub, 1) := dk_100 (dk_at dksX2_split_1 16 rfl rfl)
theorem dX2_split_41 : decode cX2_split 41 = .ok (.invokestatic 231, 3) := dk_184 0 231 (dk_at dksX2_split_1 17 rfl rfl)
theorem dX2_split_44 : decode cX2_split 44 = .ok (.aload_n 0, 1) := dk_42 (dk_at dksX2_split_1 20 rfl rfl)
theorem dX2_split_45 : decode cX2_split 45 = .ok (.getfield 12, 3) := dk_180 0 12 (dk_at dksX2_split_1 21 rfl rfl)
theorem dX2_split_48 : decode cX2_split 48 = .ok (.iload_n 1, 1) := dk_27 (dk_at dksX2_split_2 0 rfl rfl)
theorem dX2_split_49 : decode cX2_split 49 = .ok (.aload_n 3, 1) := dk_45 (dk_at dksX2_split_2 1 rfl rfl)
theorem dX2_split_50 : decode cX2_split 50 = .ok (.iload_n 2, 1) := dk_28 (dk_at dksX2_split_2 2 rfl rfl)
theorem dX2_split_51 : decode cX2_split 51 = .ok (.invokevirtual 237, 3) := dk_182 0 237 (dk_at dksX2_split_2 3 rfl rfl)
theorem dX2_split_54 : decode cX2_split 54 = .ok (.invokeinterface 166 3, 5) := by decide +kernel
theorem dX2_split_59 : decode cX2_split 59 = .ok (.checkcast 61, 3) := dk_192 0 61 (dk_at dksX2_split_2 11 rfl rfl)
theorem dX2_split_62 : decode cX2_split 62 = .ok (.astore 4, 2) := dk_58 4 (dk_at dksX2_split_2 14 rfl rfl)
theorem dX2_split_64 : decode cX2_split 64 = .ok (.aload_n 0, 1) := dk_42 (dk_at dksX2_split_2 16 rfl rfl)
theorem dX2_split_65 : decode cX2_split 65 = .ok (.getfield 12, 3) := dk_180 0 12 (dk_at dksX2_split_2 17 rfl rfl)
theorem dX2_split_68 : decode cX2_split 68 = .ok (.iload_n 1, 1) := dk_27 (dk_at dksX2_split_2 20 rfl rfl)
theorem dX2_split_69 : decode cX2_split 69 = .ok (.iconst 1, 1) := dk_4 (dk_at dksX2_split_2 21 rfl rfl)
theorem dX2_split_70 : decode cX2_split 70 = .ok (.iadd, 1) := dk_96 (dk_at dksX2_split_2 22 rfl rfl)
theorem dX2_split_71 : decode cX2_split 71 = .ok (.aload_n 3, 1) := dk_45 (dk_at dksX2_split_2 23 rfl rfl)
theorem dX2_split_72 : decode cX2_split 72 = .ok (.aload_n 3, 1) := dk_45 (dk_at dksX2_split_3 0 rfl rfl)
theorem dX2_split_73 : decode cX2_split 73 = .ok (.getfield 234, 3) := dk_180 0 234 (dk_at dksX2_split_3 1 rfl rfl)
theorem dX2_split_76 : decode cX2_split 76 = .ok (.iload_n 2, 1) := dk_28 (dk_at dksX2_split_3 4 rfl rfl)
theorem dX2_split_77 : decode cX2_split 77 = .ok (.isub, 1) := dk_100 (dk_at dksX2_split_3 5 rfl rfl)
theorem dX2_split_78 : decode cX2_split 78 = .ok (.invokevirtual 237, 3) := dk_182 0 237 (dk_at dksX2_split_3 6 rfl rfl)
theorem dX2_split_81 : decode cX2_split 81 = .ok (.invokeinterface 240 3, 5) := by decide +kernel
theorem dX2_split_86 : decode cX2_split 86 = .ok (.iconst 0, 1) := dk_3 (dk_at dksX2_split_3 14 rfl rfl)
theorem dX2_split_87 : decode cX2_split 87 = .ok (.istore 5, 2) := dk_54 5 (dk_at dksX2_split_3 15 rfl rfl)
theorem dX2_split_89 : decode cX2_split 89 = .ok (.iload 5, 2) := dk_21 5 (dk_at dksX2_split_3 17 rfl rfl)
theorem dX2_split_91 : decode cX2_split 91 = .ok (.aload_n 0, 1) := dk_42 (dk_at dksX2_split_3 19 rfl rfl)
theorem dX2_split_92 : decode cX2_split 92 = .ok (.getfield 21, 3) := dk_180 0 21 (dk_at dksX2_split_3 20 rfl rfl)
theorem dX2_split_95 : decode cX2_split 95 = .ok (.invokeinterface 96 1, 5) := by decide +kernel
theorem dX2_split_100 : decode cX2_split 100 = .ok (.if_icmp .ge 43, 3) := dk_162 0 43 (dk_at dksX2_split_4 5 rfl rfl)
theorem dX2_split_103 : decode cX2_split 103 = .ok (.aload_n 0, 1) := dk_42 (dk_at dksX2_split_4 8 rfl rfl)
theorem dX2_split_104 : decode cX2_split 104 = .ok (.getfield 21, 3) := dk_180 0 21 (dk_at dksX2_split_4 9 rfl rfl)
theorem dX2_split_107 : decode cX2_split 107 = .ok (.iload 5, 2) := dk_21 5 (dk_at dksX2_split_4 12 rfl rfl)
theorem dX2_split_109 : decode cX2_split 109 = .ok (.aload_n 0, 1) := dk_42 (dk_at dksX2_split_4 14 rfl rfl)
theorem dX2_split_110 : decode cX2_split 110 = .ok (.getfield 21, 3) := dk_180 0 21 (dk_at dksX2_split_4 15 rfl rfl)
theorem dX2_split_113 : decode cX2_split 113 = .ok (.iload 5, 2) := dk_21 5 (dk_at dksX2_split_4 18 rfl rfl)
theorem dX2_split_115 : decode cX2_split 115 = .ok (.invokeinterface 108 2, 5) := by decide +kernel
theorem dX2_split_120 : decode cX2_split 120 = .ok (.checkcast 69, 3) := dk_192 0 69 (dk_at dksX2_split_5 5 rfl rfl)
theorem dX2_split_123 : decode cX2_split 123 = .ok (.iload_n 1, 1) := dk_27 (dk_at dksX2_split_5 8 rfl rfl)
theorem dX2_split_124 : decode cX2_split 124 = .ok (.invokevirtual 243, 3) := dk_182 0 243 (dk_at dksX2_split_5 9 rfl rfl)
theorem dX2_split_127 : decode cX2_split 127 = .ok (.invokeinterface 166 3, 5) := by decide +kernel
theorem dX2_split_132 : decode cX2_split 132 = .ok (.checkcast 69, 3) := dk_192 0 69 (dk_at dksX2_split_5 17 rfl rfl)
theorem dX2_split_135 : decode cX2_split 135 = .ok (.astore 6, 2) := dk_58 6 (dk_at dksX2_split_5 20 rfl rfl)
theorem dX2_split_137 : decode cX2_split 137 = .ok (.iinc 5 1, 3) := dk_132 5 1 (dk_at dksX2_split_6 0 rfl rfl)
theorem dX2_split_140 : decode cX2_split 140 = .ok (.goto (-51), 3) := dk_167 255 205 (dk_at dksX2_split_6 3 rfl rfl)
theorem dX2_split_143 : decode cX2_split 143 = .ok (.aload_n 0, 1) := dk_42 (dk_at dksX2_split_6 6 rfl rfl)
theorem dX2_split_144 : decode cX2_split 144 = .ok (.getfield 27, 3) := dk_180 0 27 (dk_at dksX2_split_6 7 rfl rfl)
theorem dX2_split_147 : decode cX2_split 147 = .ok (.aload_n 0, 1) := dk_42 (dk_at dksX2_split_6 10 rfl rfl)
theorem dX2_split_148 : decode cX2_split 148 = .ok (.getfield 27, 3) := dk_180 0 27 (dk_at dksX2_split_6 11 rfl rfl)
theorem dX2_split_151 : decode cX2_split 151 = .ok (.iload_n 1, 1) := dk_27 (dk_at dksX2_split_6 14 rfl rfl)
theorem dX2_split_152 : decode cX2_split 152 = .ok (.invokestatic 246, 3) := dk_184 0 246 (dk_at dksX2_split_6 15 rfl rfl)
theorem dX2_split_155 : decode cX2_split 155 = .ok (.invokestatic 249, 3) := dk_184 0 249 (dk_at dksX2_split_6 18 rfl rfl)
theorem dX2_split_158 : decode cX2_split 158 = .ok (.aload_n 0, 1) := dk_42 (dk_at dksX2_split_6 21 rfl rfl)
theorem dX2_split_159 : decode cX2_split 159 = .ok (.getfield 31, 3) := dk_180 0 31 (dk_at dksX2_split_7 0 rfl rfl)
theorem dX2_split_162 : decode cX2_split 162 = .ok (.aload_n 0, 1) := dk_42 (dk_at dksX2_split_7 3 rfl rfl)
theorem dX2_split_163 : decode cX2_split 163 = .ok (.getfield 31, 3) := dk_180 0 31 (dk_at dksX2_split_7 4 rfl rfl)
theorem dX2_split_166 : decode cX2_split 166 = .ok (.iload_n 1, 1) := dk_27 (dk_at dksX2_split_7 7 rfl rfl)
theorem dX2_split_167 : decode cX2_split 167 = .ok (.invokestatic 246, 3) := dk_184 0 246 (dk_at dksX2_split_7 8 rfl rfl)
theorem dX2_split_170 : decode cX2_split 170 = .ok (.invokestatic 249, 3) := dk_184 0 249 (dk_at dksX2_split_7 11 rfl rfl)
theorem dX2_split_173 : decode cX2_split 173 = .ok (.aload_n 0, 1) := dk_42 (dk_at dksX2_split_7 14 rfl rfl)
theorem dX2_split_174 : decode cX2_split 174 = .ok (.getfield 34, 3) := dk_180 0 34 (dk_at dksX2_split_7 15 rfl rfl)
theorem dX2_split_177 : decode cX2_split 177 = .ok (.aload_n 0, 1) := dk_42 (dk_at dksX2_split_7 18 rfl rfl)
theorem dX2_split_178 : decode cX2_split 178 = .ok (.getfield 34, 3) := dk_180 0 34 (dk_at dksX2_split_7 19 rfl rfl)
theorem dX2_split_181 : decode cX2_split 181 = .ok (.iload_n 1, 1) := dk_27 (dk_at dksX2_split_7 22 rfl rfl)
theorem dX2_split_182 : decode cX2_split 182 = .ok (.invokestatic 246, 3) := dk_184 0 246 (dk_at dksX2_split_8 0 rfl rfl)
theorem dX2_split_185 : decode cX2_split 185 = .ok (.invokestatic 249, 3) := dk_184 0 249 (dk_at dksX2_split_8 3 rfl rfl)
theorem dX2_split_188 : decode cX2_split 188 = .ok (.aload_n 0, 1) := dk_42 (dk_at dksX2_split_8 6 rfl rfl)
theorem dX2_split_189 : decode cX2_split 189 = .ok (.dup, 1) := dk_89 (dk_at dksX2_split_8 7 rfl rfl)
theorem dX2_split_190 : decode cX2_split 190 = .ok (.getfield 84, 3) := dk_180 0 84 (dk_at dksX2_split_8 8 rfl rfl)
theorem dX2_split_193 : decode cX2_split 193 = .ok (.aload_n 0, 1) := dk_42 (dk_at dksX2_split_8 11 rfl rfl)
theorem dX2_split_194 : decode cX2_split 194 = .ok (.getfield 84, 3) := dk_180 0 84 (dk_at dksX2_split_8 12 rfl rfl)
theorem dX2_split_197 : decode cX2_split 197 = .ok (.iload_n 1, 1) := dk_27 (dk_at dksX2_split_8 15 rfl rfl)
theorem dX2_split_198 : decode cX2_split 198 = .ok (.if_icmp .le 7, 3) := dk_164 0 7 (dk_at dksX2_split_8 16 rfl rfl)
theorem dX2_split_201 : decode cX2_split 201 = .ok (.iconst 1, 1) := dk_4 (dk_at dksX2_split_8 19 rfl rfl)
theorem dX2_split_202 : decode cX2_split 202 = .ok (.goto 4, 3) := dk_167 0 4 (dk_at dksX2_split_8 20 rfl rfl)
theorem dX2_split_205 : decode cX2_split 205 = .ok (.iconst 0, 1) := dk_3 (dk_at dksX2_split_8 23 rfl rfl)
theorem dX2_split_206 : decode cX2_split 206 = .ok (.iadd, 1) := dk_96 (dk_at dksX2_split_9 0 rfl rfl)
theorem dX2_split_207 : decode cX2_split 207 = .ok (.putfield 84, 3) := dk_181 0 84 (dk_at dksX2_split_9 1 rfl rfl)
theorem dX2_split_210 : decode cX2_split 210 = .ok (.aload_n 3, 1) := dk_45 (dk_at dksX2_split_9 4 rfl rfl)
theorem dX2_split_211 : decode cX2_split 211 = .ok (.getfield 234, 3) := dk_180 0 234 (dk_at dksX2_split_9 5 rfl rfl)
theorem dX2_split_214 : decode cX2_split 214 = .ok (.iload_n 2, 1) := dk_28 (dk_at dksX2_split_9 8 rfl rfl)
theorem dX2_split_215 : decode cX2_split 215 = .ok (.isub, 1) := dk_100 (dk_at dksX2_split_9 9 rfl rfl)
theorem dX2_split_216 : decode cX2_split 216 = .ok (.ireturn, 1) := dk_172 (dk_at dksX2_split_9 10 rfl rfl)
abbrev cX2_split_2 : ByteArray := prog_21_method_19_code
def yX2_split_2 : MethodName := ⟨RX2, "split", "(LBraidedFerry$Tally;I)LBraidedFerry$Tally;"⟩
def dkwX2_split_2_3 : List UInt8 := [182, 0, 219, 182, 0, 222, 167, 255, 205, 44, 176]
abbrev dktX2_split_2_3 : List UInt8 := dkwX2_split_2_3 ++ []
def dkwX2_split_2_2 : List UInt8 := [185, 0, 205, 1, 0, 192, 0, 208, 27, 182, 0, 210, 25, 4, 185, 0, 214, 1, 0, 192, 0, 217]
abbrev dktX2_split_2_2 : List UInt8 := dkwX2_split_2_2 ++ dktX2_split_2_3
def dkwX2_split_2_1 : List UInt8 := [185, 0, 51, 1, 0, 153, 0, 48, 45, 185, 0, 57, 1, 0, 192, 0, 203, 58, 4, 44, 25, 4]
abbrev dktX2_split_2_1 : List UInt8 := dkwX2_split_2_1 ++ dktX2_split_2_2
def dkwX2_split_2_0 : List UInt8 := [187, 0, 24, 89, 183, 0, 26, 77, 42, 180, 0, 190, 182, 0, 194, 185, 0, 200, 1, 0, 78, 45]
abbrev dktX2_split_2_0 : List UInt8 := dkwX2_split_2_0 ++ dktX2_split_2_1
theorem dksX2_split_2_0 : cX2_split_2.data.toList.drop 0 = dktX2_split_2_0 := by decide +kernel
theorem dksX2_split_2_1 : cX2_split_2.data.toList.drop 22 = dktX2_split_2_1 := dk_seg dksX2_split_2_0 22 rfl rfl
theorem dksX2_split_2_2 : cX2_split_2.data.toList.drop 44 = dktX2_split_2_2 := dk_seg dksX2_split_2_1 22 rfl rfl
theorem dksX2_split_2_3 : cX2_split_2.data.toList.drop 66 = dktX2_split_2_3 := dk_seg dksX2_split_2_2 22 rfl rfl
theorem dX2_split_2_0 : decode cX2_split_2 0 = .ok (.new 24, 3) := dk_187 0 24 (dk_at dksX2_split_2_0 0 rfl rfl)
theorem dX2_split_2_3 : decode cX2_split_2 3 = .ok (.dup, 1) := dk_89 (dk_at dksX2_split_2_0 3 rfl rfl)
theorem dX2_split_2_4 : decode cX2_split_2 4 = .ok (.invokespecial 26, 3) := dk_183 0 26 (dk_at dksX2_split_2_0 4 rfl rfl)
theorem dX2_split_2_7 : decode cX2_split_2 7 = .ok (.astore_n 2, 1) := dk_77 (dk_at dksX2_split_2_0 7 rfl rfl)
theorem dX2_split_2_8 : decode cX2_split_2 8 = .ok (.aload_n 0, 1) := dk_42 (dk_at dksX2_split_2_0 8 rfl rfl)
theorem dX2_split_2_9 : decode cX2_split_2 9 = .ok (.getfield 190, 3) := dk_180 0 190 (dk_at dksX2_split_2_0 9 rfl rfl)
theorem dX2_split_2_12 : decode cX2_split_2 12 = .ok (.invokevirtual 194, 3) := dk_182 0 194 (dk_at dksX2_split_2_0 12 rfl rfl)
theorem dX2_split_2_15 : decode cX2_split_2 15 = .ok (.invokeinterface 200 1, 5) := by decide +kernel
theorem dX2_split_2_20 : decode cX2_split_2 20 = .ok (.astore_n 3, 1) := dk_78 (dk_at dksX2_split_2_0 20 rfl rfl)
theorem dX2_split_2_21 : decode cX2_split_2 21 = .ok (.aload_n 3, 1) := dk_45 (dk_at dksX2_split_2_0 21 rfl rfl)
theorem dX2_split_2_22 : decode cX2_split_2 22 = .ok (.invokeinterface 51 1, 5) := by decide +kernel
theorem dX2_split_2_27 : decode cX2_split_2 27 = .ok (.ifCond .eq 48, 3) := dk_153 0 48 (dk_at dksX2_split_2_1 5 rfl rfl)
theorem dX2_split_2_30 : decode cX2_split_2 30 = .ok (.aload_n 3, 1) := dk_45 (dk_at dksX2_split_2_1 8 rfl rfl)
theorem dX2_split_2_31 : decode cX2_split_2 31 = .ok (.invokeinterface 57 1, 5) := by decide +kernel
theorem dX2_split_2_36 : decode cX2_split_2 36 = .ok (.checkcast 203, 3) := dk_192 0 203 (dk_at dksX2_split_2_1 14 rfl rfl)
theorem dX2_split_2_39 : decode cX2_split_2 39 = .ok (.astore 4, 2) := dk_58 4 (dk_at dksX2_split_2_1 17 rfl rfl)
theorem dX2_split_2_41 : decode cX2_split_2 41 = .ok (.aload_n 2, 1) := dk_44 (dk_at dksX2_split_2_1 19 rfl rfl)
theorem dX2_split_2_42 : decode cX2_split_2 42 = .ok (.aload 4, 2) := dk_25 4 (dk_at dksX2_split_2_1 20 rfl rfl)
theorem dX2_split_2_44 : decode cX2_split_2 44 = .ok (.invokeinterface 205 1, 5) := by decide +kernel
theorem dX2_split_2_49 : decode cX2_split_2 49 = .ok (.checkcast 208, 3) := dk_192 0 208 (dk_at dksX2_split_2_2 5 rfl rfl)
theorem dX2_split_2_52 : decode cX2_split_2 52 = .ok (.iload_n 1, 1) := dk_27 (dk_at dksX2_split_2_2 8 rfl rfl)
theorem dX2_split_2_53 : decode cX2_split_2 53 = .ok (.invokevirtual 210, 3) := dk_182 0 210 (dk_at dksX2_split_2_2 9 rfl rfl)
theorem dX2_split_2_56 : decode cX2_split_2 56 = .ok (.aload 4, 2) := dk_25 4 (dk_at dksX2_split_2_2 12 rfl rfl)
theorem dX2_split_2_58 : decode cX2_split_2 58 = .ok (.invokeinterface 214 1, 5) := by decide +kernel
theorem dX2_split_2_63 : decode cX2_split_2 63 = .ok (.checkcast 217, 3) := dk_192 0 217 (dk_at dksX2_split_2_2 19 rfl rfl)
theorem dX2_split_2_66 : decode cX2_split_2 66 = .ok (.invokevirtual 219, 3) := dk_182 0 219 (dk_at dksX2_split_2_3 0 rfl rfl)
theorem dX2_split_2_69 : decode cX2_split_2 69 = .ok (.invokevirtual 222, 3) := dk_182 0 222 (dk_at dksX2_split_2_3 3 rfl rfl)
theorem dX2_split_2_72 : decode cX2_split_2 72 = .ok (.goto (-51), 3) := dk_167 255 205 (dk_at dksX2_split_2_3 6 rfl rfl)
theorem dX2_split_2_75 : decode cX2_split_2 75 = .ok (.aload_n 2, 1) := dk_44 (dk_at dksX2_split_2_3 9 rfl rfl)
theorem dX2_split_2_76 : decode cX2_split_2 76 = .ok (.areturn, 1) := dk_176 (dk_at dksX2_split_2_3 10 rfl rfl)
abbrev cX2_replace : ByteArray := prog_21_method_20_code
def yX2_replace : MethodName := ⟨RX2, "replace", "(LBraidedFerry$Tally;LBraidedFerry$Tally;)V"⟩
def dkwX2_replace_0 : List UInt8 := [42, 180, 0, 190, 182, 0, 225, 42, 43, 182, 0, 71, 177]
abbrev dktX2_replace_0 : List UInt8 := dkwX2_replace_0 ++ []
theorem dksX2_replace_0 : cX2_replace.data.toList.drop 0 = dktX2_replace_0 := by decide +kernel
theorem dX2_replace_0 : decode cX2_replace 0 = .ok (.aload_n 0, 1) := dk_42 (dk_at dksX2_replace_0 0 rfl rfl)
theorem dX2_replace_1 : decode cX2_replace 1 = .ok (.getfield 190, 3) := dk_180 0 190 (dk_at dksX2_replace_0 1 rfl rfl)
theorem dX2_replace_4 : decode cX2_replace 4 = .ok (.invokevirtual 225, 3) := dk_182 0 225 (dk_at dksX2_replace_0 4 rfl rfl)
theorem dX2_replace_7 : decode cX2_replace 7 = .ok (.aload_n 0, 1) := dk_42 (dk_at dksX2_replace_0 7 rfl rfl)
theorem dX2_replace_8 : decode cX2_replace 8 = .ok (.aload_n 1, 1) := dk_43 (dk_at dksX2_replace_0 8 rfl rfl)
theorem dX2_replace_9 : decode cX2_replace 9 = .ok (.invokevirtual 71, 3) := dk_182 0 71 (dk_at dksX2_replace_0 9 rfl rfl)
theorem dX2_replace_12 : decode cX2_replace 12 = .ok (.return_, 1) := dk_177 (dk_at dksX2_replace_0 12 rfl rfl)
abbrev cX2_weigh : ByteArray := prog_21_method_25_code
def yX2_weigh : MethodName := ⟨RX2, "weigh", "(I)I"⟩
def dkwX2_weigh_1 : List UInt8 := [172]
abbrev dktX2_weigh_1 : List UInt8 := dkwX2_weigh_1 ++ []
def dkwX2_weigh_0 : List UInt8 := [42, 27, 182, 1, 4, 77, 42, 180, 0, 21, 27, 185, 1, 7, 2, 0, 192, 0, 69, 78, 44, 180, 0, 156]
abbrev dktX2_weigh_0 : List UInt8 := dkwX2_weigh_0 ++ dktX2_weigh_1
theorem dksX2_weigh_0 : cX2_weigh.data.toList.drop 0 = dktX2_weigh_0 := by decide +kernel
theorem dksX2_weigh_1 : cX2_weigh.data.toList.drop 24 = dktX2_weigh_1 := dk_seg dksX2_weigh_0 24 rfl rfl
theorem dX2_weigh_0 : decode cX2_weigh 0 = .ok (.aload_n 0, 1) := dk_42 (dk_at dksX2_weigh_0 0 rfl rfl)
theorem dX2_weigh_1 : decode cX2_weigh 1 = .ok (.iload_n 1, 1) := dk_27 (dk_at dksX2_weigh_0 1 rfl rfl)
theorem dX2_weigh_2 : decode cX2_weigh 2 = .ok (.invokevirtual 260, 3) := dk_182 1 4 (dk_at dksX2_weigh_0 2 rfl rfl)
theorem dX2_weigh_5 : decode cX2_weigh 5 = .ok (.astore_n 2, 1) := dk_77 (dk_at dksX2_weigh_0 5 rfl rfl)
theorem dX2_weigh_6 : decode cX2_weigh 6 = .ok (.aload_n 0, 1) := dk_42 (dk_at dksX2_weigh_0 6 rfl rfl)
theorem dX2_weigh_7 : decode cX2_weigh 7 = .ok (.getfield 21, 3) := dk_180 0 21 (dk_at dksX2_weigh_0 7 rfl rfl)
theorem dX2_weigh_10 : decode cX2_weigh 10 = .ok (.iload_n 1, 1) := dk_27 (dk_at dksX2_weigh_0 10 rfl rfl)
theorem dX2_weigh_11 : decode cX2_weigh 11 = .ok (.invokeinterface 263 2, 5) := by decide +kernel
theorem dX2_weigh_16 : decode cX2_weigh 16 = .ok (.checkcast 69, 3) := dk_192 0 69 (dk_at dksX2_weigh_0 16 rfl rfl)
theorem dX2_weigh_19 : decode cX2_weigh 19 = .ok (.astore_n 3, 1) := dk_78 (dk_at dksX2_weigh_0 19 rfl rfl)
theorem dX2_weigh_20 : decode cX2_weigh 20 = .ok (.aload_n 2, 1) := dk_44 (dk_at dksX2_weigh_0 20 rfl rfl)
theorem dX2_weigh_21 : decode cX2_weigh 21 = .ok (.getfield 156, 3) := dk_180 0 156 (dk_at dksX2_weigh_0 21 rfl rfl)
theorem dX2_weigh_24 : decode cX2_weigh 24 = .ok (.ireturn, 1) := dk_172 (dk_at dksX2_weigh_1 0 rfl rfl)
abbrev cX2_anchor : ByteArray := prog_21_method_4_code
def yX2_anchor : MethodName := ⟨RX2, "anchor", "(I)LBraidedFerry$Anchor;"⟩
def dkwX2_anchor_1 : List UInt8 := [185, 0, 108, 2, 0, 192, 0, 69, 176]
abbrev dktX2_anchor_1 : List UInt8 := dkwX2_anchor_1 ++ []
def dkwX2_anchor_0 : List UInt8 := [27, 3, 42, 180, 0, 21, 185, 0, 96, 1, 0, 4, 100, 184, 0, 100, 184, 0, 104, 42, 180, 0, 21, 27]
abbrev dktX2_anchor_0 : List UInt8 := dkwX2_anchor_0 ++ dktX2_anchor_1
theorem dksX2_anchor_0 : cX2_anchor.data.toList.drop 0 = dktX2_anchor_0 := by decide +kernel
theorem dksX2_anchor_1 : cX2_anchor.data.toList.drop 24 = dktX2_anchor_1 := dk_seg dksX2_anchor_0 24 rfl rfl
theorem dX2_anchor_0 : decode cX2_anchor 0 = .ok (.iload_n 1, 1) := dk_27 (dk_at dksX2_anchor_0 0 rfl rfl)
theorem dX2_anchor_1 : decode cX2_anchor 1 = .ok (.iconst 0, 1) := dk_3 (dk_at dksX2_anchor_0 1 rfl rfl)
theorem dX2_anchor_2 : decode cX2_anchor 2 = .ok (.aload_n 0, 1) := dk_42 (dk_at dksX2_anchor_0 2 rfl rfl)
theorem dX2_anchor_3 : decode cX2_anchor 3 = .ok (.getfield 21, 3) := dk_180 0 21 (dk_at dksX2_anchor_0 3 rfl rfl)
theorem dX2_anchor_6 : decode cX2_anchor 6 = .ok (.invokeinterface 96 1, 5) := by decide +kernel
theorem dX2_anchor_11 : decode cX2_anchor 11 = .ok (.iconst 1, 1) := dk_4 (dk_at dksX2_anchor_0 11 rfl rfl)
theorem dX2_anchor_12 : decode cX2_anchor 12 = .ok (.isub, 1) := dk_100 (dk_at dksX2_anchor_0 12 rfl rfl)
theorem dX2_anchor_13 : decode cX2_anchor 13 = .ok (.invokestatic 100, 3) := dk_184 0 100 (dk_at dksX2_anchor_0 13 rfl rfl)
theorem dX2_anchor_16 : decode cX2_anchor 16 = .ok (.invokestatic 104, 3) := dk_184 0 104 (dk_at dksX2_anchor_0 16 rfl rfl)
theorem dX2_anchor_19 : decode cX2_anchor 19 = .ok (.aload_n 0, 1) := dk_42 (dk_at dksX2_anchor_0 19 rfl rfl)
theorem dX2_anchor_20 : decode cX2_anchor 20 = .ok (.getfield 21, 3) := dk_180 0 21 (dk_at dksX2_anchor_0 20 rfl rfl)
theorem dX2_anchor_23 : decode cX2_anchor 23 = .ok (.iload_n 1, 1) := dk_27 (dk_at dksX2_anchor_0 23 rfl rfl)
theorem dX2_anchor_24 : decode cX2_anchor 24 = .ok (.invokeinterface 108 2, 5) := by decide +kernel
theorem dX2_anchor_29 : decode cX2_anchor 29 = .ok (.checkcast 69, 3) := dk_192 0 69 (dk_at dksX2_anchor_1 5 rfl rfl)
theorem dX2_anchor_32 : decode cX2_anchor 32 = .ok (.areturn, 1) := dk_176 (dk_at dksX2_anchor_1 8 rfl rfl)
abbrev cX2_anchorsIn : ByteArray := prog_21_method_11_code
def yX2_anchorsIn : MethodName := ⟨RX2, "anchorsIn", "(IZ)I"⟩
def dkwX2_anchorsIn_2 : List UInt8 := [153, 0, 11, 25, 5, 182, 0, 153, 153, 0, 7, 4, 167, 0, 4, 3, 96, 62, 167, 255, 205, 29, 172]
abbrev dktX2_anchorsIn_2 : List UInt8 := dkwX2_anchorsIn_2 ++ []
def dkwX2_anchorsIn_1 : List UInt8 := [25, 4, 185, 0, 57, 1, 0, 192, 0, 69, 58, 5, 29, 25, 5, 180, 0, 128, 27, 160, 0, 19, 28]
abbrev dktX2_anchorsIn_1 : List UInt8 := dkwX2_anchorsIn_1 ++ dktX2_anchorsIn_2
def dkwX2_anchorsIn_0 : List UInt8 := [3, 62, 42, 180, 0, 21, 185, 0, 45, 1, 0, 58, 4, 25, 4, 185, 0, 51, 1, 0, 153, 0, 47]
abbrev dktX2_anchorsIn_0 : List UInt8 := dkwX2_anchorsIn_0 ++ dktX2_anchorsIn_1
theorem dksX2_anchorsIn_0 : cX2_anchorsIn.data.toList.drop 0 = dktX2_anchorsIn_0 := by decide +kernel
theorem dksX2_anchorsIn_1 : cX2_anchorsIn.data.toList.drop 23 = dktX2_anchorsIn_1 := dk_seg dksX2_anchorsIn_0 23 rfl rfl
theorem dksX2_anchorsIn_2 : cX2_anchorsIn.data.toList.drop 46 = dktX2_anchorsIn_2 := dk_seg dksX2_anchorsIn_1 23 rfl rfl
theorem dX2_anchorsIn_0 : decode cX2_anchorsIn 0 = .ok (.iconst 0, 1) := dk_3 (dk_at dksX2_anchorsIn_0 0 rfl rfl)
theorem dX2_anchorsIn_1 : decode cX2_anchorsIn 1 = .ok (.istore_n 3, 1) := dk_62 (dk_at dksX2_anchorsIn_0 1 rfl rfl)
theorem dX2_anchorsIn_2 : decode cX2_anchorsIn 2 = .ok (.aload_n 0, 1) := dk_42 (dk_at dksX2_anchorsIn_0 2 rfl rfl)
theorem dX2_anchorsIn_3 : decode cX2_anchorsIn 3 = .ok (.getfield 21, 3) := dk_180 0 21 (dk_at dksX2_anchorsIn_0 3 rfl rfl)
theorem dX2_anchorsIn_6 : decode cX2_anchorsIn 6 = .ok (.invokeinterface 45 1, 5) := by decide +kernel
theorem dX2_anchorsIn_11 : decode cX2_anchorsIn 11 = .ok (.astore 4, 2) := dk_58 4 (dk_at dksX2_anchorsIn_0 11 rfl rfl)
theorem dX2_anchorsIn_13 : decode cX2_anchorsIn 13 = .ok (.aload 4, 2) := dk_25 4 (dk_at dksX2_anchorsIn_0 13 rfl rfl)
theorem dX2_anchorsIn_15 : decode cX2_anchorsIn 15 = .ok (.invokeinterface 51 1, 5) := by decide +kernel
theorem dX2_anchorsIn_20 : decode cX2_anchorsIn 20 = .ok (.ifCond .eq 47, 3) := dk_153 0 47 (dk_at dksX2_anchorsIn_0 20 rfl rfl)
theorem dX2_anchorsIn_23 : decode cX2_anchorsIn 23 = .ok (.aload 4, 2) := dk_25 4 (dk_at dksX2_anchorsIn_1 0 rfl rfl)
theorem dX2_anchorsIn_25 : decode cX2_anchorsIn 25 = .ok (.invokeinterface 57 1, 5) := by decide +kernel
theorem dX2_anchorsIn_30 : decode cX2_anchorsIn 30 = .ok (.checkcast 69, 3) := dk_192 0 69 (dk_at dksX2_anchorsIn_1 7 rfl rfl)
theorem dX2_anchorsIn_33 : decode cX2_anchorsIn 33 = .ok (.astore 5, 2) := dk_58 5 (dk_at dksX2_anchorsIn_1 10 rfl rfl)
theorem dX2_anchorsIn_35 : decode cX2_anchorsIn 35 = .ok (.iload_n 3, 1) := dk_29 (dk_at dksX2_anchorsIn_1 12 rfl rfl)
theorem dX2_anchorsIn_36 : decode cX2_anchorsIn 36 = .ok (.aload 5, 2) := dk_25 5 (dk_at dksX2_anchorsIn_1 13 rfl rfl)
theorem dX2_anchorsIn_38 : decode cX2_anchorsIn 38 = .ok (.getfield 128, 3) := dk_180 0 128 (dk_at dksX2_anchorsIn_1 15 rfl rfl)
theorem dX2_anchorsIn_41 : decode cX2_anchorsIn 41 = .ok (.iload_n 1, 1) := dk_27 (dk_at dksX2_anchorsIn_1 18 rfl rfl)
theorem dX2_anchorsIn_42 : decode cX2_anchorsIn 42 = .ok (.if_icmp .ne 19, 3) := dk_160 0 19 (dk_at dksX2_anchorsIn_1 19 rfl rfl)
theorem dX2_anchorsIn_45 : decode cX2_anchorsIn 45 = .ok (.iload_n 2, 1) := dk_28 (dk_at dksX2_anchorsIn_1 22 rfl rfl)
theorem dX2_anchorsIn_46 : decode cX2_anchorsIn 46 = .ok (.ifCond .eq 11, 3) := dk_153 0 11 (dk_at dksX2_anchorsIn_2 0 rfl rfl)
theorem dX2_anchorsIn_49 : decode cX2_anchorsIn 49 = .ok (.aload 5, 2) := dk_25 5 (dk_at dksX2_anchorsIn_2 3 rfl rfl)
theorem dX2_anchorsIn_51 : decode cX2_anchorsIn 51 = .ok (.invokevirtual 153, 3) := dk_182 0 153 (dk_at dksX2_anchorsIn_2 5 rfl rfl)
theorem dX2_anchorsIn_54 : decode cX2_anchorsIn 54 = .ok (.ifCond .eq 7, 3) := dk_153 0 7 (dk_at dksX2_anchorsIn_2 8 rfl rfl)
theorem dX2_anchorsIn_57 : decode cX2_anchorsIn 57 = .ok (.iconst 1, 1) := dk_4 (dk_at dksX2_anchorsIn_2 11 rfl rfl)
theorem dX2_anchorsIn_58 : decode cX2_anchorsIn 58 = .ok (.goto 4, 3) := dk_167 0 4 (dk_at dksX2_anchorsIn_2 12 rfl rfl)
theorem dX2_anchorsIn_61 : decode cX2_anchorsIn 61 = .ok (.iconst 0, 1) := dk_3 (dk_at dksX2_anchorsIn_2 15 rfl rfl)
theorem dX2_anchorsIn_62 : decode cX2_anchorsIn 62 = .ok (.iadd, 1) := dk_96 (dk_at dksX2_anchorsIn_2 16 rfl rfl)
theorem dX2_anchorsIn_63 : decode cX2_anchorsIn 63 = .ok (.istore_n 3, 1) := dk_62 (dk_at dksX2_anchorsIn_2 17 rfl rfl)
theorem dX2_anchorsIn_64 : decode cX2_anchorsIn 64 = .ok (.goto (-51), 3) := dk_167 255 205 (dk_at dksX2_anchorsIn_2 18 rfl rfl)
theorem dX2_anchorsIn_67 : decode cX2_anchorsIn 67 = .ok (.iload_n 3, 1) := dk_29 (dk_at dksX2_anchorsIn_2 21 rfl rfl)
theorem dX2_anchorsIn_68 : decode cX2_anchorsIn 68 = .ok (.ireturn, 1) := dk_172 (dk_at dksX2_anchorsIn_2 22 rfl rfl)
abbrev cX2_dragIn : ByteArray := prog_21_method_34_code
def yX2_dragIn : MethodName := ⟨RX2, "dragIn", "(LBraidedFerry$Anchor;I)I"⟩
def dkwX2_dragIn_1 : List UInt8 := [4, 182, 0, 162, 78, 132, 4, 1, 167, 255, 229, 45, 180, 0, 156, 172]
abbrev dktX2_dragIn_1 : List UInt8 := dkwX2_dragIn_1 ++ []
def dkwX2_dragIn_0 : List UInt8 := [43, 78, 3, 54, 4, 21, 4, 28, 162, 0, 27, 45, 42, 45, 42, 180, 0, 81, 21, 4, 96, 182, 0, 159]
abbrev dktX2_dragIn_0 : List UInt8 := dkwX2_dragIn_0 ++ dktX2_dragIn_1
theorem dksX2_dragIn_0 : cX2_dragIn.data.toList.drop 0 = dktX2_dragIn_0 := by decide +kernel
theorem dksX2_dragIn_1 : cX2_dragIn.data.toList.drop 24 = dktX2_dragIn_1 := dk_seg dksX2_dragIn_0 24 rfl rfl
theorem dX2_dragIn_0 : decode cX2_dragIn 0 = .ok (.aload_n 1, 1) := dk_43 (dk_at dksX2_dragIn_0 0 rfl rfl)
theorem dX2_dragIn_1 : decode cX2_dragIn 1 = .ok (.astore_n 3, 1) := dk_78 (dk_at dksX2_dragIn_0 1 rfl rfl)
theorem dX2_dragIn_2 : decode cX2_dragIn 2 = .ok (.iconst 0, 1) := dk_3 (dk_at dksX2_dragIn_0 2 rfl rfl)
theorem dX2_dragIn_3 : decode cX2_dragIn 3 = .ok (.istore 4, 2) := dk_54 4 (dk_at dksX2_dragIn_0 3 rfl rfl)
theorem dX2_dragIn_5 : decode cX2_dragIn 5 = .ok (.iload 4, 2) := dk_21 4 (dk_at dksX2_dragIn_0 5 rfl rfl)
theorem dX2_dragIn_7 : decode cX2_dragIn 7 = .ok (.iload_n 2, 1) := dk_28 (dk_at dksX2_dragIn_0 7 rfl rfl)
theorem dX2_dragIn_8 : decode cX2_dragIn 8 = .ok (.if_icmp .ge 27, 3) := dk_162 0 27 (dk_at dksX2_dragIn_0 8 rfl rfl)
theorem dX2_dragIn_11 : decode cX2_dragIn 11 = .ok (.aload_n 3, 1) := dk_45 (dk_at dksX2_dragIn_0 11 rfl rfl)
theorem dX2_dragIn_12 : decode cX2_dragIn 12 = .ok (.aload_n 0, 1) := dk_42 (dk_at dksX2_dragIn_0 12 rfl rfl)
theorem dX2_dragIn_13 : decode cX2_dragIn 13 = .ok (.aload_n 3, 1) := dk_45 (dk_at dksX2_dragIn_0 13 rfl rfl)
theorem dX2_dragIn_14 : decode cX2_dragIn 14 = .ok (.aload_n 0, 1) := dk_42 (dk_at dksX2_dragIn_0 14 rfl rfl)
theorem dX2_dragIn_15 : decode cX2_dragIn 15 = .ok (.getfield 81, 3) := dk_180 0 81 (dk_at dksX2_dragIn_0 15 rfl rfl)
theorem dX2_dragIn_18 : decode cX2_dragIn 18 = .ok (.iload 4, 2) := dk_21 4 (dk_at dksX2_dragIn_0 18 rfl rfl)
theorem dX2_dragIn_20 : decode cX2_dragIn 20 = .ok (.iadd, 1) := dk_96 (dk_at dksX2_dragIn_0 20 rfl rfl)
theorem dX2_dragIn_21 : decode cX2_dragIn 21 = .ok (.invokevirtual 159, 3) := dk_182 0 159 (dk_at dksX2_dragIn_0 21 rfl rfl)
theorem dX2_dragIn_24 : decode cX2_dragIn 24 = .ok (.iconst 1, 1) := dk_4 (dk_at dksX2_dragIn_1 0 rfl rfl)
theorem dX2_dragIn_25 : decode cX2_dragIn 25 = .ok (.invokevirtual 162, 3) := dk_182 0 162 (dk_at dksX2_dragIn_1 1 rfl rfl)
theorem dX2_dragIn_28 : decode cX2_dragIn 28 = .ok (.astore_n 3, 1) := dk_78 (dk_at dksX2_dragIn_1 4 rfl rfl)
theorem dX2_dragIn_29 : decode cX2_dragIn 29 = .ok (.iinc 4 1, 3) := dk_132 4 1 (dk_at dksX2_dragIn_1 5 rfl rfl)
theorem dX2_dragIn_32 : decode cX2_dragIn 32 = .ok (.goto (-27), 3) := dk_167 255 229 (dk_at dksX2_dragIn_1 8 rfl rfl)
theorem dX2_dragIn_35 : decode cX2_dragIn 35 = .ok (.aload_n 3, 1) := dk_45 (dk_at dksX2_dragIn_1 11 rfl rfl)
theorem dX2_dragIn_36 : decode cX2_dragIn 36 = .ok (.getfield 156, 3) := dk_180 0 156 (dk_at dksX2_dragIn_1 12 rfl rfl)
theorem dX2_dragIn_39 : decode cX2_dragIn 39 = .ok (.ireturn, 1) := dk_172 (dk_at dksX2_dragIn_1 15 rfl rfl)
abbrev cX2_dragAgain : ByteArray := prog_21_method_36_code
def yX2_dragAgain : MethodName := ⟨RX2, "dragAgain", "(LBraidedFerry$Anchor;I)I"⟩
def dkwX2_dragAgain_2 : List UInt8 := [182, 0, 162, 78, 21, 5, 54, 4, 167, 255, 210, 45, 180, 0, 156, 172]
abbrev dktX2_dragAgain_2 : List UInt8 := dkwX2_dragAgain_2 ++ []
def dkwX2_dragAgain_1 : List UInt8 := [180, 0, 81, 28, 96, 182, 1, 42, 54, 5, 45, 42, 45, 21, 4, 182, 0, 159, 21, 5, 21, 4, 100]
abbrev dktX2_dragAgain_1 : List UInt8 := dkwX2_dragAgain_1 ++ dktX2_dragAgain_2
def dkwX2_dragAgain_0 : List UInt8 := [43, 78, 42, 180, 0, 81, 54, 4, 21, 4, 42, 180, 0, 81, 28, 96, 162, 0, 41, 42, 21, 4, 42]
abbrev dktX2_dragAgain_0 : List UInt8 := dkwX2_dragAgain_0 ++ dktX2_dragAgain_1
theorem dksX2_dragAgain_0 : cX2_dragAgain.data.toList.drop 0 = dktX2_dragAgain_0 := by decide +kernel
theorem dksX2_dragAgain_1 : cX2_dragAgain.data.toList.drop 23 = dktX2_dragAgain_1 := dk_seg dksX2_dragAgain_0 23 rfl rfl
theorem dksX2_dragAgain_2 : cX2_dragAgain.data.toList.drop 46 = dktX2_dragAgain_2 := dk_seg dksX2_dragAgain_1 23 rfl rfl
theorem dX2_dragAgain_0 : decode cX2_dragAgain 0 = .ok (.aload_n 1, 1) := dk_43 (dk_at dksX2_dragAgain_0 0 rfl rfl)
theorem dX2_dragAgain_1 : decode cX2_dragAgain 1 = .ok (.astore_n 3, 1) := dk_78 (dk_at dksX2_dragAgain_0 1 rfl rfl)
theorem dX2_dragAgain_2 : decode cX2_dragAgain 2 = .ok (.aload_n 0, 1) := dk_42 (dk_at dksX2_dragAgain_0 2 rfl rfl)
theorem dX2_dragAgain_3 : decode cX2_dragAgain 3 = .ok (.getfield 81, 3) := dk_180 0 81 (dk_at dksX2_dragAgain_0 3 rfl rfl)
theorem dX2_dragAgain_6 : decode cX2_dragAgain 6 = .ok (.istore 4, 2) := dk_54 4 (dk_at dksX2_dragAgain_0 6 rfl rfl)
theorem dX2_dragAgain_8 : decode cX2_dragAgain 8 = .ok (.iload 4, 2) := dk_21 4 (dk_at dksX2_dragAgain_0 8 rfl rfl)
theorem dX2_dragAgain_10 : decode cX2_dragAgain 10 = .ok (.aload_n 0, 1) := dk_42 (dk_at dksX2_dragAgain_0 10 rfl rfl)
theorem dX2_dragAgain_11 : decode cX2_dragAgain 11 = .ok (.getfield 81, 3) := dk_180 0 81 (dk_at dksX2_dragAgain_0 11 rfl rfl)
theorem dX2_dragAgain_14 : decode cX2_dragAgain 14 = .ok (.iload_n 2, 1) := dk_28 (dk_at dksX2_dragAgain_0 14 rfl rfl)
theorem dX2_dragAgain_15 : decode cX2_dragAgain 15 = .ok (.iadd, 1) := dk_96 (dk_at dksX2_dragAgain_0 15 rfl rfl)
theorem dX2_dragAgain_16 : decode cX2_dragAgain 16 = .ok (.if_icmp .ge 41, 3) := dk_162 0 41 (dk_at dksX2_dragAgain_0 16 rfl rfl)
theorem dX2_dragAgain_19 : decode cX2_dragAgain 19 = .ok (.aload_n 0, 1) := dk_42 (dk_at dksX2_dragAgain_0 19 rfl rfl)
theorem dX2_dragAgain_20 : decode cX2_dragAgain 20 = .ok (.iload 4, 2) := dk_21 4 (dk_at dksX2_dragAgain_0 20 rfl rfl)
theorem dX2_dragAgain_22 : decode cX2_dragAgain 22 = .ok (.aload_n 0, 1) := dk_42 (dk_at dksX2_dragAgain_0 22 rfl rfl)
theorem dX2_dragAgain_23 : decode cX2_dragAgain 23 = .ok (.getfield 81, 3) := dk_180 0 81 (dk_at dksX2_dragAgain_1 0 rfl rfl)
theorem dX2_dragAgain_26 : decode cX2_dragAgain 26 = .ok (.iload_n 2, 1) := dk_28 (dk_at dksX2_dragAgain_1 3 rfl rfl)
theorem dX2_dragAgain_27 : decode cX2_dragAgain 27 = .ok (.iadd, 1) := dk_96 (dk_at dksX2_dragAgain_1 4 rfl rfl)
theorem dX2_dragAgain_28 : decode cX2_dragAgain 28 = .ok (.invokevirtual 298, 3) := dk_182 1 42 (dk_at dksX2_dragAgain_1 5 rfl rfl)
theorem dX2_dragAgain_31 : decode cX2_dragAgain 31 = .ok (.istore 5, 2) := dk_54 5 (dk_at dksX2_dragAgain_1 8 rfl rfl)
theorem dX2_dragAgain_33 : decode cX2_dragAgain 33 = .ok (.aload_n 3, 1) := dk_45 (dk_at dksX2_dragAgain_1 10 rfl rfl)
theorem dX2_dragAgain_34 : decode cX2_dragAgain 34 = .ok (.aload_n 0, 1) := dk_42 (dk_at dksX2_dragAgain_1 11 rfl rfl)
theorem dX2_dragAgain_35 : decode cX2_dragAgain 35 = .ok (.aload_n 3, 1) := dk_45 (dk_at dksX2_dragAgain_1 12 rfl rfl)
theorem dX2_dragAgain_36 : decode cX2_dragAgain 36 = .ok (.iload 4, 2) := dk_21 4 (dk_at dksX2_dragAgain_1 13 rfl rfl)
theorem dX2_dragAgain_38 : decode cX2_dragAgain 38 = .ok (.invokevirtual 159, 3) := dk_182 0 159 (dk_at dksX2_dragAgain_1 15 rfl rfl)
theorem dX2_dragAgain_41 : decode cX2_dragAgain 41 = .ok (.iload 5, 2) := dk_21 5 (dk_at dksX2_dragAgain_1 18 rfl rfl)
theorem dX2_dragAgain_43 : decode cX2_dragAgain 43 = .ok (.iload 4, 2) := dk_21 4 (dk_at dksX2_dragAgain_1 20 rfl rfl)
theorem dX2_dragAgain_45 : decode cX2_dragAgain 45 = .ok (.isub, 1) := dk_100 (dk_at dksX2_dragAgain_1 22 rfl rfl)
theorem dX2_dragAgain_46 : decode cX2_dragAgain 46 = .ok (.invokevirtual 162, 3) := dk_182 0 162 (dk_at dksX2_dragAgain_2 0 rfl rfl)
theorem dX2_dragAgain_49 : decode cX2_dragAgain 49 = .ok (.astore_n 3, 1) := dk_78 (dk_at dksX2_dragAgain_2 3 rfl rfl)
theorem dX2_dragAgain_50 : decode cX2_dragAgain 50 = .ok (.iload 5, 2) := dk_21 5 (dk_at dksX2_dragAgain_2 4 rfl rfl)
theorem dX2_dragAgain_52 : decode cX2_dragAgain 52 = .ok (.istore 4, 2) := dk_54 4 (dk_at dksX2_dragAgain_2 6 rfl rfl)
theorem dX2_dragAgain_54 : decode cX2_dragAgain 54 = .ok (.goto (-46), 3) := dk_167 255 210 (dk_at dksX2_dragAgain_2 8 rfl rfl)
theorem dX2_dragAgain_57 : decode cX2_dragAgain 57 = .ok (.aload_n 3, 1) := dk_45 (dk_at dksX2_dragAgain_2 11 rfl rfl)
theorem dX2_dragAgain_58 : decode cX2_dragAgain 58 = .ok (.getfield 156, 3) := dk_180 0 156 (dk_at dksX2_dragAgain_2 12 rfl rfl)
theorem dX2_dragAgain_61 : decode cX2_dragAgain 61 = .ok (.ireturn, 1) := dk_172 (dk_at dksX2_dragAgain_2 15 rfl rfl)
abbrev cX2_change : ByteArray := prog_21_method_35_code
def yX2_change : MethodName := ⟨RX2, "change", "(II)I"⟩
def dkwX2_change_3 : List UInt8 := [180, 0, 170, 184, 0, 122, 167, 0, 4, 29, 62, 167, 255, 188, 29, 172]
abbrev dktX2_change_3 : List UInt8 := dkwX2_change_3 ++ []
def dkwX2_change_2 : List UInt8 := [180, 1, 39, 184, 0, 122, 167, 0, 4, 29, 62, 25, 5, 180, 0, 170, 27, 164, 0, 15, 29, 25, 5]
abbrev dktX2_change_2 : List UInt8 := dkwX2_change_2 ++ dktX2_change_3
def dkwX2_change_1 : List UInt8 := [25, 4, 185, 0, 57, 1, 0, 192, 0, 67, 58, 5, 25, 5, 180, 1, 39, 27, 164, 0, 15, 29, 25, 5]
abbrev dktX2_change_1 : List UInt8 := dkwX2_change_1 ++ dktX2_change_2
def dkwX2_change_0 : List UInt8 := [28, 62, 42, 180, 0, 18, 185, 0, 45, 1, 0, 58, 4, 25, 4, 185, 0, 51, 1, 0, 153, 0, 64]
abbrev dktX2_change_0 : List UInt8 := dkwX2_change_0 ++ dktX2_change_1
theorem dksX2_change_0 : cX2_change.data.toList.drop 0 = dktX2_change_0 := by decide +kernel
theorem dksX2_change_1 : cX2_change.data.toList.drop 23 = dktX2_change_1 := dk_seg dksX2_change_0 23 rfl rfl
theorem dksX2_change_2 : cX2_change.data.toList.drop 47 = dktX2_change_2 := dk_seg dksX2_change_1 24 rfl rfl
theorem dksX2_change_3 : cX2_change.data.toList.drop 70 = dktX2_change_3 := dk_seg dksX2_change_2 23 rfl rfl
theorem dX2_change_0 : decode cX2_change 0 = .ok (.iload_n 2, 1) := dk_28 (dk_at dksX2_change_0 0 rfl rfl)
theorem dX2_change_1 : decode cX2_change 1 = .ok (.istore_n 3, 1) := dk_62 (dk_at dksX2_change_0 1 rfl rfl)
theorem dX2_change_2 : decode cX2_change 2 = .ok (.aload_n 0, 1) := dk_42 (dk_at dksX2_change_0 2 rfl rfl)
theorem dX2_change_3 : decode cX2_change 3 = .ok (.getfield 18, 3) := dk_180 0 18 (dk_at dksX2_change_0 3 rfl rfl)
theorem dX2_change_6 : decode cX2_change 6 = .ok (.invokeinterface 45 1, 5) := by decide +kernel
theorem dX2_change_11 : decode cX2_change 11 = .ok (.astore 4, 2) := dk_58 4 (dk_at dksX2_change_0 11 rfl rfl)
theorem dX2_change_13 : decode cX2_change 13 = .ok (.aload 4, 2) := dk_25 4 (dk_at dksX2_change_0 13 rfl rfl)
theorem dX2_change_15 : decode cX2_change 15 = .ok (.invokeinterface 51 1, 5) := by decide +kernel
theorem dX2_change_20 : decode cX2_change 20 = .ok (.ifCond .eq 64, 3) := dk_153 0 64 (dk_at dksX2_change_0 20 rfl rfl)
theorem dX2_change_23 : decode cX2_change 23 = .ok (.aload 4, 2) := dk_25 4 (dk_at dksX2_change_1 0 rfl rfl)
theorem dX2_change_25 : decode cX2_change 25 = .ok (.invokeinterface 57 1, 5) := by decide +kernel
theorem dX2_change_30 : decode cX2_change 30 = .ok (.checkcast 67, 3) := dk_192 0 67 (dk_at dksX2_change_1 7 rfl rfl)
theorem dX2_change_33 : decode cX2_change 33 = .ok (.astore 5, 2) := dk_58 5 (dk_at dksX2_change_1 10 rfl rfl)
theorem dX2_change_35 : decode cX2_change 35 = .ok (.aload 5, 2) := dk_25 5 (dk_at dksX2_change_1 12 rfl rfl)
theorem dX2_change_37 : decode cX2_change 37 = .ok (.getfield 295, 3) := dk_180 1 39 (dk_at dksX2_change_1 14 rfl rfl)
theorem dX2_change_40 : decode cX2_change 40 = .ok (.iload_n 1, 1) := dk_27 (dk_at dksX2_change_1 17 rfl rfl)
theorem dX2_change_41 : decode cX2_change 41 = .ok (.if_icmp .le 15, 3) := dk_164 0 15 (dk_at dksX2_change_1 18 rfl rfl)
theorem dX2_change_44 : decode cX2_change 44 = .ok (.iload_n 3, 1) := dk_29 (dk_at dksX2_change_1 21 rfl rfl)
theorem dX2_change_45 : decode cX2_change 45 = .ok (.aload 5, 2) := dk_25 5 (dk_at dksX2_change_1 22 rfl rfl)
theorem dX2_change_47 : decode cX2_change 47 = .ok (.getfield 295, 3) := dk_180 1 39 (dk_at dksX2_change_2 0 rfl rfl)
theorem dX2_change_50 : decode cX2_change 50 = .ok (.invokestatic 122, 3) := dk_184 0 122 (dk_at dksX2_change_2 3 rfl rfl)
theorem dX2_change_53 : decode cX2_change 53 = .ok (.goto 4, 3) := dk_167 0 4 (dk_at dksX2_change_2 6 rfl rfl)
theorem dX2_change_56 : decode cX2_change 56 = .ok (.iload_n 3, 1) := dk_29 (dk_at dksX2_change_2 9 rfl rfl)
theorem dX2_change_57 : decode cX2_change 57 = .ok (.istore_n 3, 1) := dk_62 (dk_at dksX2_change_2 10 rfl rfl)
theorem dX2_change_58 : decode cX2_change 58 = .ok (.aload 5, 2) := dk_25 5 (dk_at dksX2_change_2 11 rfl rfl)
theorem dX2_change_60 : decode cX2_change 60 = .ok (.getfield 170, 3) := dk_180 0 170 (dk_at dksX2_change_2 13 rfl rfl)
theorem dX2_change_63 : decode cX2_change 63 = .ok (.iload_n 1, 1) := dk_27 (dk_at dksX2_change_2 16 rfl rfl)
theorem dX2_change_64 : decode cX2_change 64 = .ok (.if_icmp .le 15, 3) := dk_164 0 15 (dk_at dksX2_change_2 17 rfl rfl)
theorem dX2_change_67 : decode cX2_change 67 = .ok (.iload_n 3, 1) := dk_29 (dk_at dksX2_change_2 20 rfl rfl)
theorem dX2_change_68 : decode cX2_change 68 = .ok (.aload 5, 2) := dk_25 5 (dk_at dksX2_change_2 21 rfl rfl)
theorem dX2_change_70 : decode cX2_change 70 = .ok (.getfield 170, 3) := dk_180 0 170 (dk_at dksX2_change_3 0 rfl rfl)
theorem dX2_change_73 : decode cX2_change 73 = .ok (.invokestatic 122, 3) := dk_184 0 122 (dk_at dksX2_change_3 3 rfl rfl)
theorem dX2_change_76 : decode cX2_change 76 = .ok (.goto 4, 3) := dk_167 0 4 (dk_at dksX2_change_3 6 rfl rfl)
theorem dX2_change_79 : decode cX2_change 79 = .ok (.iload_n 3, 1) := dk_29 (dk_at dksX2_change_3 9 rfl rfl)
theorem dX2_change_80 : decode cX2_change 80 = .ok (.istore_n 3, 1) := dk_62 (dk_at dksX2_change_3 10 rfl rfl)
theorem dX2_change_81 : decode cX2_change 81 = .ok (.goto (-68), 3) := dk_167 255 188 (dk_at dksX2_change_3 11 rfl rfl)
theorem dX2_change_84 : decode cX2_change 84 = .ok (.iload_n 3, 1) := dk_29 (dk_at dksX2_change_3 14 rfl rfl)
theorem dX2_change_85 : decode cX2_change 85 = .ok (.ireturn, 1) := dk_172 (dk_at dksX2_change_3 15 rfl rfl)
abbrev cX2_waitingAt : ByteArray := prog_21_method_37_code
def yX2_waitingAt : MethodName := ⟨RX2, "waitingAt", "(I)I"⟩
def dkwX2_waitingAt_4 : List UInt8 := [172]
abbrev dktX2_waitingAt_4 : List UInt8 := dkwX2_waitingAt_4 ++ []
def dkwX2_waitingAt_3 : List UInt8 := [25, 4, 185, 0, 205, 1, 0, 192, 0, 208, 182, 1, 13, 104, 167, 0, 4, 3, 96, 61, 167, 255, 185, 28]
abbrev dktX2_waitingAt_3 : List UInt8 := dkwX2_waitingAt_3 ++ dktX2_waitingAt_4
def dkwX2_waitingAt_2 : List UInt8 := [192, 0, 208, 180, 1, 45, 27, 160, 0, 33, 25, 4, 185, 0, 214, 1, 0, 192, 0, 217, 182, 0, 219]
abbrev dktX2_waitingAt_2 : List UInt8 := dkwX2_waitingAt_2 ++ dktX2_waitingAt_3
def dkwX2_waitingAt_1 : List UInt8 := [153, 0, 68, 45, 185, 0, 57, 1, 0, 192, 0, 203, 58, 4, 28, 25, 4, 185, 0, 205, 1, 0]
abbrev dktX2_waitingAt_1 : List UInt8 := dkwX2_waitingAt_1 ++ dktX2_waitingAt_2
def dkwX2_waitingAt_0 : List UInt8 := [3, 61, 42, 180, 0, 27, 180, 0, 190, 182, 0, 194, 185, 0, 200, 1, 0, 78, 45, 185, 0, 51, 1, 0]
abbrev dktX2_waitingAt_0 : List UInt8 := dkwX2_waitingAt_0 ++ dktX2_waitingAt_1
theorem dksX2_waitingAt_0 : cX2_waitingAt.data.toList.drop 0 = dktX2_waitingAt_0 := by decide +kernel
theorem dksX2_waitingAt_1 : cX2_waitingAt.data.toList.drop 24 = dktX2_waitingAt_1 := dk_seg dksX2_waitingAt_0 24 rfl rfl
theorem dksX2_waitingAt_2 : cX2_waitingAt.data.toList.drop 46 = dktX2_waitingAt_2 := dk_seg dksX2_waitingAt_1 22 rfl rfl
theorem dksX2_waitingAt_3 : cX2_waitingAt.data.toList.drop 69 = dktX2_waitingAt_3 := dk_seg dksX2_waitingAt_2 23 rfl rfl
theorem dksX2_waitingAt_4 : cX2_waitingAt.data.toList.drop 93 = dktX2_waitingAt_4 := dk_seg dksX2_waitingAt_3 24 rfl rfl
theorem dX2_waitingAt_0 : decode cX2_waitingAt 0 = .ok (.iconst 0, 1) := dk_3 (dk_at dksX2_waitingAt_0 0 rfl rfl)
theorem dX2_waitingAt_1 : decode cX2_waitingAt 1 = .ok (.istore_n 2, 1) := dk_61 (dk_at dksX2_waitingAt_0 1 rfl rfl)
theorem dX2_waitingAt_2 : decode cX2_waitingAt 2 = .ok (.aload_n 0, 1) := dk_42 (dk_at dksX2_waitingAt_0 2 rfl rfl)
theorem dX2_waitingAt_3 : decode cX2_waitingAt 3 = .ok (.getfield 27, 3) := dk_180 0 27 (dk_at dksX2_waitingAt_0 3 rfl rfl)
theorem dX2_waitingAt_6 : decode cX2_waitingAt 6 = .ok (.getfield 190, 3) := dk_180 0 190 (dk_at dksX2_waitingAt_0 6 rfl rfl)
theorem dX2_waitingAt_9 : decode cX2_waitingAt 9 = .ok (.invokevirtual 194, 3) := dk_182 0 194 (dk_at dksX2_waitingAt_0 9 rfl rfl)
theorem dX2_waitingAt_12 : decode cX2_waitingAt 12 = .ok (.invokeinterface 200 1, 5) := by decide +kernel
theorem dX2_waitingAt_17 : decode cX2_waitingAt 17 = .ok (.astore_n 3, 1) := dk_78 (dk_at dksX2_waitingAt_0 17 rfl rfl)
theorem dX2_waitingAt_18 : decode cX2_waitingAt 18 = .ok (.aload_n 3, 1) := dk_45 (dk_at dksX2_waitingAt_0 18 rfl rfl)
theorem dX2_waitingAt_19 : decode cX2_waitingAt 19 = .ok (.invokeinterface 51 1, 5) := by decide +kernel
theorem dX2_waitingAt_24 : decode cX2_waitingAt 24 = .ok (.ifCond .eq 68, 3) := dk_153 0 68 (dk_at dksX2_waitingAt_1 0 rfl rfl)
theorem dX2_waitingAt_27 : decode cX2_waitingAt 27 = .ok (.aload_n 3, 1) := dk_45 (dk_at dksX2_waitingAt_1 3 rfl rfl)
theorem dX2_waitingAt_28 : decode cX2_waitingAt 28 = .ok (.invokeinterface 57 1, 5) := by decide +kernel
theorem dX2_waitingAt_33 : decode cX2_waitingAt 33 = .ok (.checkcast 203, 3) := dk_192 0 203 (dk_at dksX2_waitingAt_1 9 rfl rfl)
theorem dX2_waitingAt_36 : decode cX2_waitingAt 36 = .ok (.astore 4, 2) := dk_58 4 (dk_at dksX2_waitingAt_1 12 rfl rfl)
theorem dX2_waitingAt_38 : decode cX2_waitingAt 38 = .ok (.iload_n 2, 1) := dk_28 (dk_at dksX2_waitingAt_1 14 rfl rfl)
theorem dX2_waitingAt_39 : decode cX2_waitingAt 39 = .ok (.aload 4, 2) := dk_25 4 (dk_at dksX2_waitingAt_1 15 rfl rfl)
theorem dX2_waitingAt_41 : decode cX2_waitingAt 41 = .ok (.invokeinterface 205 1, 5) := by decide +kernel
theorem dX2_waitingAt_46 : decode cX2_waitingAt 46 = .ok (.checkcast 208, 3) := dk_192 0 208 (dk_at dksX2_waitingAt_2 0 rfl rfl)
theorem dX2_waitingAt_49 : decode cX2_waitingAt 49 = .ok (.getfield 301, 3) := dk_180 1 45 (dk_at dksX2_waitingAt_2 3 rfl rfl)
theorem dX2_waitingAt_52 : decode cX2_waitingAt 52 = .ok (.iload_n 1, 1) := dk_27 (dk_at dksX2_waitingAt_2 6 rfl rfl)
theorem dX2_waitingAt_53 : decode cX2_waitingAt 53 = .ok (.if_icmp .ne 33, 3) := dk_160 0 33 (dk_at dksX2_waitingAt_2 7 rfl rfl)
theorem dX2_waitingAt_56 : decode cX2_waitingAt 56 = .ok (.aload 4, 2) := dk_25 4 (dk_at dksX2_waitingAt_2 10 rfl rfl)
theorem dX2_waitingAt_58 : decode cX2_waitingAt 58 = .ok (.invokeinterface 214 1, 5) := by decide +kernel
theorem dX2_waitingAt_63 : decode cX2_waitingAt 63 = .ok (.checkcast 217, 3) := dk_192 0 217 (dk_at dksX2_waitingAt_2 17 rfl rfl)
theorem dX2_waitingAt_66 : decode cX2_waitingAt 66 = .ok (.invokevirtual 219, 3) := dk_182 0 219 (dk_at dksX2_waitingAt_2 20 rfl rfl)
theorem dX2_waitingAt_69 : decode cX2_waitingAt 69 = .ok (.aload 4, 2) := dk_25 4 (dk_at dksX2_waitingAt_3 0 rfl rfl)
theorem dX2_waitingAt_71 : decode cX2_waitingAt 71 = .ok (.invokeinterface 205 1, 5) := by decide +kernel
theorem dX2_waitingAt_76 : decode cX2_waitingAt 76 = .ok (.checkcast 208, 3) := dk_192 0 208 (dk_at dksX2_waitingAt_3 7 rfl rfl)
theorem dX2_waitingAt_79 : decode cX2_waitingAt 79 = .ok (.invokevirtual 269, 3) := dk_182 1 13 (dk_at dksX2_waitingAt_3 10 rfl rfl)
theorem dX2_waitingAt_82 : decode cX2_waitingAt 82 = .ok (.imul, 1) := dk_104 (dk_at dksX2_waitingAt_3 13 rfl rfl)
theorem dX2_waitingAt_83 : decode cX2_waitingAt 83 = .ok (.goto 4, 3) := dk_167 0 4 (dk_at dksX2_waitingAt_3 14 rfl rfl)
theorem dX2_waitingAt_86 : decode cX2_waitingAt 86 = .ok (.iconst 0, 1) := dk_3 (dk_at dksX2_waitingAt_3 17 rfl rfl)
theorem dX2_waitingAt_87 : decode cX2_waitingAt 87 = .ok (.iadd, 1) := dk_96 (dk_at dksX2_waitingAt_3 18 rfl rfl)
theorem dX2_waitingAt_88 : decode cX2_waitingAt 88 = .ok (.istore_n 2, 1) := dk_61 (dk_at dksX2_waitingAt_3 19 rfl rfl)
theorem dX2_waitingAt_89 : decode cX2_waitingAt 89 = .ok (.goto (-71), 3) := dk_167 255 185 (dk_at dksX2_waitingAt_3 20 rfl rfl)
theorem dX2_waitingAt_92 : decode cX2_waitingAt 92 = .ok (.iload_n 2, 1) := dk_28 (dk_at dksX2_waitingAt_3 23 rfl rfl)
theorem dX2_waitingAt_93 : decode cX2_waitingAt 93 = .ok (.ireturn, 1) := dk_172 (dk_at dksX2_waitingAt_4 0 rfl rfl)
theorem q74 : (Jvm.Cond.initialized "BraidedFerry$River") ∈ lw_all := lw_g (lw_at lw_m1 2 rfl) rfl
theorem q153 : (Jvm.Cond.instantiable "BraidedFerry$River" (13 : Nat)) ∈ lw_all := lw_g (lw_at lw_m1 81 rfl) rfl
theorem q155 : (Jvm.Cond.instanceMethod ({ cls := "BraidedFerry$River", name := "<init>", desc := "()V" } : Jvm.MethodName)) ∈ lw_all := lw_g (lw_at lw_m1 83 rfl) rfl
theorem q156 : (Jvm.Cond.code ({ cls := "BraidedFerry$River", name := "<init>", desc := "()V" } : Jvm.MethodName) prog_21_method_1_code (1 : Nat) (Option.none : Option Jvm.ClassFile.FieldType)) ∈ lw_all := lw_g (lw_at lw_m1 84 rfl) rfl
theorem q157 : (Jvm.Cond.methodLink "BraidedFerry$River" (3 : Nat) ({ cls := "java/lang/Object", name := "<init>", desc := "()V" } : Jvm.MethodName)) ∈ lw_all := lw_g (lw_at lw_m1 85 rfl) rfl
theorem q158 : (Jvm.Cond.classLink "BraidedFerry$River" (9 : Nat) "java/util/ArrayList") ∈ lw_all := lw_g (lw_at lw_m1 86 rfl) rfl
theorem q160 : (Jvm.Cond.methodLink "BraidedFerry$River" (11 : Nat) ({ cls := "java/util/ArrayList", name := "<init>", desc := "()V" } : Jvm.MethodName)) ∈ lw_all := lw_g (lw_at lw_m1 88 rfl) rfl
theorem q187 : (Jvm.Cond.classLink "BraidedFerry$River" (24 : Nat) "BraidedFerry$Tally") ∈ lw_all := lw_g (lw_at lw_m1 115 rfl) rfl
theorem q189 : (Jvm.Cond.methodLinkNest "BraidedFerry$River" (26 : Nat) ({ cls := "BraidedFerry$Tally", name := "<init>", desc := "()V" } : Jvm.MethodName) "BraidedFerry") ∈ lw_tbl := lw_at lw_m1 117 rfl
theorem q248 : (Jvm.Cond.fieldLinkNest "BraidedFerry$River" (190 : Nat) "BraidedFerry$Tally" "counts" "Ljava/util/LinkedHashMap;" "BraidedFerry") ∈ lw_tbl := lw_at lw_m1 176 rfl
theorem q253 : (Jvm.Cond.fieldLink "BraidedFerry$River" (12 : Nat) "BraidedFerry$River" "channels" "Ljava/util/List;") ∈ lw_all := lw_g (lw_at lw_m1 181 rfl) rfl
theorem q255 : (Jvm.Cond.fieldLink "BraidedFerry$River" (18 : Nat) "BraidedFerry$River" "floods" "Ljava/util/List;") ∈ lw_all := lw_g (lw_at lw_m1 183 rfl) rfl
theorem q257 : (Jvm.Cond.fieldLink "BraidedFerry$River" (21 : Nat) "BraidedFerry$River" "anchors" "Ljava/util/List;") ∈ lw_all := lw_g (lw_at lw_m1 185 rfl) rfl
theorem q259 : (Jvm.Cond.fieldLink "BraidedFerry$River" (27 : Nat) "BraidedFerry$River" "waiting" "LBraidedFerry$Tally;") ∈ lw_all := lw_g (lw_at lw_m1 187 rfl) rfl
theorem q261 : (Jvm.Cond.fieldLink "BraidedFerry$River" (31 : Nat) "BraidedFerry$River" "fore" "LBraidedFerry$Tally;") ∈ lw_all := lw_g (lw_at lw_m1 189 rfl) rfl
theorem q263 : (Jvm.Cond.fieldLink "BraidedFerry$River" (34 : Nat) "BraidedFerry$River" "aft" "LBraidedFerry$Tally;") ∈ lw_all := lw_g (lw_at lw_m1 191 rfl) rfl
theorem q265 : (Jvm.Cond.fieldLink "BraidedFerry$River" (37 : Nat) "BraidedFerry$River" "fares" "[I") ∈ lw_all := lw_g (lw_at lw_m1 193 rfl) rfl
theorem q266 : (Jvm.Cond.fieldLink "BraidedFerry$River" (81 : Nat) "BraidedFerry$River" "hour" "I") ∈ lw_all := lw_g (lw_at lw_m1 194 rfl) rfl
theorem q269 : (Jvm.Cond.fieldLink "BraidedFerry$River" (84 : Nat) "BraidedFerry$River" "stop" "I") ∈ lw_all := lw_g (lw_at lw_m1 197 rfl) rfl
theorem q271 : (Jvm.Cond.fieldLink "BraidedFerry$River" (41 : Nat) "BraidedFerry$River" "rope" "I") ∈ lw_all := lw_g (lw_at lw_m1 199 rfl) rfl
theorem q273 : (Jvm.Cond.fieldLink "BraidedFerry$River" (87 : Nat) "BraidedFerry$River" "landed" "I") ∈ lw_all := lw_g (lw_at lw_m1 201 rfl) rfl
theorem q275 : (Jvm.Cond.fieldLink "BraidedFerry$River" (90 : Nat) "BraidedFerry$River" "paid" "I") ∈ lw_all := lw_g (lw_at lw_m1 203 rfl) rfl
theorem q277 : (Jvm.Cond.fieldLink "BraidedFerry$River" (93 : Nat) "BraidedFerry$River" "crossings" "I") ∈ lw_all := lw_g (lw_at lw_m1 205 rfl) rfl
theorem q279 : (Jvm.Cond.laysFinal "BraidedFerry$River" "BraidedFerry$River" "channels" "Ljava/util/List;") ∈ lw_all := lw_g (lw_at lw_m1 207 rfl) rfl
theorem q280 : (Jvm.Cond.soleField "BraidedFerry$River" "channels") ∈ lw_all := lw_g (lw_at lw_m1 208 rfl) rfl
theorem q281 : (Jvm.Cond.laysFinal "BraidedFerry$River" "BraidedFerry$River" "floods" "Ljava/util/List;") ∈ lw_all := lw_g (lw_at lw_m1 209 rfl) rfl
theorem q282 : (Jvm.Cond.soleField "BraidedFerry$River" "floods") ∈ lw_all := lw_g (lw_at lw_m1 210 rfl) rfl
theorem q283 : (Jvm.Cond.laysFinal "BraidedFerry$River" "BraidedFerry$River" "anchors" "Ljava/util/List;") ∈ lw_all := lw_g (lw_at lw_m1 211 rfl) rfl
theorem q284 : (Jvm.Cond.soleField "BraidedFerry$River" "anchors") ∈ lw_all := lw_g (lw_at lw_m1 212 rfl) rfl
theorem q285 : (Jvm.Cond.laysFinal "BraidedFerry$River" "BraidedFerry$River" "waiting" "LBraidedFerry$Tally;") ∈ lw_all := lw_g (lw_at lw_m1 213 rfl) rfl
theorem q286 : (Jvm.Cond.soleField "BraidedFerry$River" "waiting") ∈ lw_all := lw_g (lw_at lw_m1 214 rfl) rfl
theorem q287 : (Jvm.Cond.laysFinal "BraidedFerry$River" "BraidedFerry$River" "fore" "LBraidedFerry$Tally;") ∈ lw_all := lw_g (lw_at lw_m1 215 rfl) rfl
theorem q288 : (Jvm.Cond.soleField "BraidedFerry$River" "fore") ∈ lw_all := lw_g (lw_at lw_m1 216 rfl) rfl
theorem q289 : (Jvm.Cond.laysFinal "BraidedFerry$River" "BraidedFerry$River" "aft" "LBraidedFerry$Tally;") ∈ lw_all := lw_g (lw_at lw_m1 217 rfl) rfl
theorem q290 : (Jvm.Cond.soleField "BraidedFerry$River" "aft") ∈ lw_all := lw_g (lw_at lw_m1 218 rfl) rfl
theorem q291 : (Jvm.Cond.laysFinal "BraidedFerry$River" "BraidedFerry$River" "fares" "[I") ∈ lw_all := lw_g (lw_at lw_m1 219 rfl) rfl
theorem q292 : (Jvm.Cond.soleField "BraidedFerry$River" "fares") ∈ lw_all := lw_g (lw_at lw_m1 220 rfl) rfl
theorem q293 : (Jvm.Cond.lays "BraidedFerry$River" "BraidedFerry$River" "hour" "I") ∈ lw_all := lw_g (lw_at lw_m1 221 rfl) rfl
theorem q294 : (Jvm.Cond.soleField "BraidedFerry$River" "hour") ∈ lw_all := lw_g (lw_at lw_m1 222 rfl) rfl
theorem q295 : (Jvm.Cond.lays "BraidedFerry$River" "BraidedFerry$River" "stop" "I") ∈ lw_all := lw_g (lw_at lw_m1 223 rfl) rfl
theorem q296 : (Jvm.Cond.soleField "BraidedFerry$River" "stop") ∈ lw_all := lw_g (lw_at lw_m1 224 rfl) rfl
theorem q297 : (Jvm.Cond.lays "BraidedFerry$River" "BraidedFerry$River" "rope" "I") ∈ lw_all := lw_g (lw_at lw_m1 225 rfl) rfl
theorem q298 : (Jvm.Cond.soleField "BraidedFerry$River" "rope") ∈ lw_all := lw_g (lw_at lw_m1 226 rfl) rfl
theorem q299 : (Jvm.Cond.lays "BraidedFerry$River" "BraidedFerry$River" "landed" "I") ∈ lw_all := lw_g (lw_at lw_m1 227 rfl) rfl
theorem q300 : (Jvm.Cond.soleField "BraidedFerry$River" "landed") ∈ lw_all := lw_g (lw_at lw_m1 228 rfl) rfl
theorem q301 : (Jvm.Cond.lays "BraidedFerry$River" "BraidedFerry$River" "paid" "I") ∈ lw_all := lw_g (lw_at lw_m1 229 rfl) rfl
theorem q302 : (Jvm.Cond.soleField "BraidedFerry$River" "paid") ∈ lw_all := lw_g (lw_at lw_m1 230 rfl) rfl
theorem q303 : (Jvm.Cond.lays "BraidedFerry$River" "BraidedFerry$River" "crossings" "I") ∈ lw_all := lw_g (lw_at lw_m1 231 rfl) rfl
theorem q304 : (Jvm.Cond.soleField "BraidedFerry$River" "crossings") ∈ lw_all := lw_g (lw_at lw_m1 232 rfl) rfl
theorem q305 : (Jvm.Cond.superclass "BraidedFerry$River" "java/lang/Object") ∈ lw_all := lw_g (lw_at lw_m1 233 rfl) rfl
theorem q406 : (Jvm.Cond.instanceMethod ({ cls := "BraidedFerry$River", name := "become", desc := "(LBraidedFerry$River;)LBraidedFerry$River;" } : Jvm.MethodName)) ∈ lw_all := lw_g (lw_at lw_m2 94 rfl) rfl
theorem q407 : (Jvm.Cond.selects "BraidedFerry$River" ({ cls := "BraidedFerry$River", name := "become", desc := "(LBraidedFerry$River;)LBraidedFerry$River;" } : Jvm.MethodName) ({ cls := "BraidedFerry$River", name := "become", desc := "(LBraidedFerry$River;)LBraidedFerry$River;" } : Jvm.MethodName)) ∈ lw_all := lw_g (lw_at lw_m2 95 rfl) rfl
theorem q408 : (Jvm.Cond.code ({ cls := "BraidedFerry$River", name := "become", desc := "(LBraidedFerry$River;)LBraidedFerry$River;" } : Jvm.MethodName) prog_21_method_2_code (4 : Nat) (Option.some (Jvm.ClassFile.FieldType.object "BraidedFerry$River"))) ∈ lw_all := lw_g (lw_at lw_m2 96 rfl) rfl
theorem q409 : (Jvm.Cond.interfaceEntry "BraidedFerry$River" (45 : Nat)) ∈ lw_tbl := lw_at lw_m2 97 rfl
theorem q410 : (Jvm.Cond.methodLink "BraidedFerry$River" (45 : Nat) ({ cls := "java/util/List", name := "iterator", desc := "()Ljava/util/Iterator;" } : Jvm.MethodName)) ∈ lw_all := lw_g (lw_at lw_m2 98 rfl) rfl
theorem q438 : (Jvm.Cond.interfaceEntry "BraidedFerry$River" (51 : Nat)) ∈ lw_tbl := lw_at lw_m2 126 rfl
theorem q439 : (Jvm.Cond.methodLink "BraidedFerry$River" (51 : Nat) ({ cls := "java/util/Iterator", name := "hasNext", desc := "()Z" } : Jvm.MethodName)) ∈ lw_all := lw_g (lw_at lw_m2 127 rfl) rfl
theorem q454 : (Jvm.Cond.interfaceEntry "BraidedFerry$River" (57 : Nat)) ∈ lw_tbl := lw_at lw_m2 142 rfl
theorem q455 : (Jvm.Cond.methodLink "BraidedFerry$River" (57 : Nat) ({ cls := "java/util/Iterator", name := "next", desc := "()Ljava/lang/Object;" } : Jvm.MethodName)) ∈ lw_all := lw_g (lw_at lw_m2 143 rfl) rfl
theorem q556 : (Jvm.Cond.classLink "BraidedFerry$River" (61 : Nat) "BraidedFerry$Channel") ∈ lw_all := lw_g (lw_at lw_m3 4 rfl) rfl
theorem q557 : (Jvm.Cond.interfaceEntry "BraidedFerry$River" (63 : Nat)) ∈ lw_tbl := lw_at lw_m3 5 rfl
theorem q558 : (Jvm.Cond.methodLink "BraidedFerry$River" (63 : Nat) ({ cls := "java/util/List", name := "add", desc := "(Ljava/lang/Object;)Z" } : Jvm.MethodName)) ∈ lw_all := lw_g (lw_at lw_m3 6 rfl) rfl
theorem q611 : (Jvm.Cond.selects "BraidedFerry$River" ({ cls := "java/lang/Object", name := "getClass", desc := "()Ljava/lang/Class;" } : Jvm.MethodName) ({ cls := "java/lang/Object", name := "getClass", desc := "()Ljava/lang/Class;" } : Jvm.MethodName)) ∈ lw_all := lw_g (lw_at lw_m3 59 rfl) rfl
theorem q655 : (Jvm.Cond.classLink "BraidedFerry$River" (67 : Nat) "BraidedFerry$Flood") ∈ lw_all := lw_g (lw_at lw_m3 103 rfl) rfl
theorem q656 : (Jvm.Cond.classLink "BraidedFerry$River" (69 : Nat) "BraidedFerry$Anchor") ∈ lw_all := lw_g (lw_at lw_m3 104 rfl) rfl
theorem q657 : (Jvm.Cond.methodLink "BraidedFerry$River" (71 : Nat) ({ cls := "BraidedFerry$Tally", name := "addAll", desc := "(LBraidedFerry$Tally;)V" } : Jvm.MethodName)) ∈ lw_all := lw_g (lw_at lw_m3 105 rfl) rfl
theorem q805 : (Jvm.Cond.selects "BraidedFerry$River" ({ cls := "java/lang/Object", name := "hashCode", desc := "()I" } : Jvm.MethodName) ({ cls := "java/lang/Object", name := "hashCode", desc := "()I" } : Jvm.MethodName)) ∈ lw_all := lw_g (lw_at lw_m4 13 rfl) rfl
theorem q1131 : (Jvm.Cond.selects "BraidedFerry$River" ({ cls := "java/lang/Object", name := "equals", desc := "(Ljava/lang/Object;)Z" } : Jvm.MethodName) ({ cls := "java/lang/Object", name := "equals", desc := "(Ljava/lang/Object;)Z" } : Jvm.MethodName)) ∈ lw_all := lw_g (lw_at lw_m5 99 rfl) rfl
theorem q1617 : (Jvm.Cond.methodLink "BraidedFerry$River" (75 : Nat) ({ cls := "java/lang/System", name := "arraycopy", desc := "(Ljava/lang/Object;ILjava/lang/Object;II)V" } : Jvm.MethodName)) ∈ lw_all := lw_g (lw_at lw_m7 105 rfl) rfl
theorem q1629 : (Jvm.Cond.instanceMethod ({ cls := "BraidedFerry$River", name := "channel", desc := "(I)LBraidedFerry$Channel;" } : Jvm.MethodName)) ∈ lw_all := lw_g (lw_at lw_m7 117 rfl) rfl
theorem q1630 : (Jvm.Cond.selects "BraidedFerry$River" ({ cls := "BraidedFerry$River", name := "channel", desc := "(I)LBraidedFerry$Channel;" } : Jvm.MethodName) ({ cls := "BraidedFerry$River", name := "channel", desc := "(I)LBraidedFerry$Channel;" } : Jvm.MethodName)) ∈ lw_all := lw_g (lw_at lw_m7 118 rfl) rfl
theorem q1631 : (Jvm.Cond.code ({ cls := "BraidedFerry$River", name := "channel", desc := "(I)LBraidedFerry$Channel;" } : Jvm.MethodName) prog_21_method_3_code (2 : Nat) (Option.some (Jvm.ClassFile.FieldType.object "BraidedFerry$Channel"))) ∈ lw_all := lw_g (lw_at lw_m7 119 rfl) rfl
theorem q1632 : (Jvm.Cond.interfaceEntry "BraidedFerry$River" (96 : Nat)) ∈ lw_tbl := lw_at lw_m7 120 rfl
theorem q1633 : (Jvm.Cond.methodLink "BraidedFerry$River" (96 : Nat) ({ cls := "java/util/List", name := "size", desc := "()I" } : Jvm.MethodName)) ∈ lw_all := lw_g (lw_at lw_m7 121 rfl) rfl
theorem q1641 : (Jvm.Cond.methodLinkNest "BraidedFerry$River" (100 : Nat) ({ cls := "BraidedFerry", name := "inRange", desc := "(III)Z" } : Jvm.MethodName) "BraidedFerry") ∈ lw_tbl := lw_at lw_m7 129 rfl
theorem q1644 : (Jvm.Cond.methodLinkNest "BraidedFerry$River" (104 : Nat) ({ cls := "BraidedFerry", name := "requireIndex", desc := "(Z)V" } : Jvm.MethodName) "BraidedFerry") ∈ lw_tbl := lw_at lw_m7 132 rfl
theorem q1662 : (Jvm.Cond.interfaceEntry "BraidedFerry$River" (108 : Nat)) ∈ lw_tbl := lw_at lw_m7 150 rfl
theorem q1663 : (Jvm.Cond.methodLink "BraidedFerry$River" (108 : Nat) ({ cls := "java/util/List", name := "get", desc := "(I)Ljava/lang/Object;" } : Jvm.MethodName)) ∈ lw_all := lw_g (lw_at lw_m7 151 rfl) rfl
theorem q1691 : (Jvm.Cond.instanceMethod ({ cls := "BraidedFerry$River", name := "addAnchor", desc := "(II)I" } : Jvm.MethodName)) ∈ lw_all := lw_g (lw_at lw_m7 179 rfl) rfl
theorem q1692 : (Jvm.Cond.selects "BraidedFerry$River" ({ cls := "BraidedFerry$River", name := "addAnchor", desc := "(II)I" } : Jvm.MethodName) ({ cls := "BraidedFerry$River", name := "addAnchor", desc := "(II)I" } : Jvm.MethodName)) ∈ lw_all := lw_g (lw_at lw_m7 180 rfl) rfl
theorem q1693 : (Jvm.Cond.code ({ cls := "BraidedFerry$River", name := "addAnchor", desc := "(II)I" } : Jvm.MethodName) prog_21_method_24_code (3 : Nat) (Option.some Jvm.ClassFile.FieldType.int)) ∈ lw_all := lw_g (lw_at lw_m7 181 rfl) rfl
theorem q1694 : (Jvm.Cond.methodLinkNest "BraidedFerry$River" (176 : Nat) ({ cls := "BraidedFerry", name := "allow", desc := "(ZII)V" } : Jvm.MethodName) "BraidedFerry") ∈ lw_tbl := lw_at lw_m7 182 rfl
theorem q1725 : (Jvm.Cond.methodLink "BraidedFerry$River" (259 : Nat) ({ cls := "BraidedFerry$Anchor", name := "<init>", desc := "(III)V" } : Jvm.MethodName)) ∈ lw_all := lw_g (lw_at lw_m7 213 rfl) rfl
theorem q1730 : (Jvm.Cond.fieldLinkNest "BraidedFerry$River" (128 : Nat) "BraidedFerry$Anchor" "channel" "I" "BraidedFerry") ∈ lw_tbl := lw_at lw_m7 218 rfl
theorem q1733 : (Jvm.Cond.fieldLinkNest "BraidedFerry$River" (134 : Nat) "BraidedFerry$Anchor" "scope" "I" "BraidedFerry") ∈ lw_tbl := lw_at lw_m7 221 rfl
theorem q1736 : (Jvm.Cond.fieldLinkNest "BraidedFerry$River" (156 : Nat) "BraidedFerry$Anchor" "drag" "I" "BraidedFerry") ∈ lw_tbl := lw_at lw_m7 224 rfl
theorem q1752 : (Jvm.Cond.instanceMethod ({ cls := "BraidedFerry$River", name := "stop", desc := "(I)I" } : Jvm.MethodName)) ∈ lw_all := lw_g (lw_at lw_m8 0 rfl) rfl
theorem q1753 : (Jvm.Cond.selects "BraidedFerry$River" ({ cls := "BraidedFerry$River", name := "stop", desc := "(I)I" } : Jvm.MethodName) ({ cls := "BraidedFerry$River", name := "stop", desc := "(I)I" } : Jvm.MethodName)) ∈ lw_all := lw_g (lw_at lw_m8 1 rfl) rfl
theorem q1754 : (Jvm.Cond.code ({ cls := "BraidedFerry$River", name := "stop", desc := "(I)I" } : Jvm.MethodName) prog_21_method_5_code (2 : Nat) (Option.some Jvm.ClassFile.FieldType.int)) ∈ lw_all := lw_g (lw_at lw_m8 2 rfl) rfl
theorem q1764 : (Jvm.Cond.fieldLinkNest "BraidedFerry$River" (279 : Nat) "BraidedFerry$Group" "kind" "I" "BraidedFerry") ∈ lw_tbl := lw_at lw_m8 12 rfl
theorem q1768 : (Jvm.Cond.fieldLinkNest "BraidedFerry$River" (301 : Nat) "BraidedFerry$Group" "from" "I" "BraidedFerry") ∈ lw_tbl := lw_at lw_m8 16 rfl
theorem q1770 : (Jvm.Cond.fieldLinkNest "BraidedFerry$River" (274 : Nat) "BraidedFerry$Group" "to" "I" "BraidedFerry") ∈ lw_tbl := lw_at lw_m8 18 rfl
theorem q1780 : (Jvm.Cond.instanceMethod ({ cls := "BraidedFerry$River", name := "board", desc := "(LBraidedFerry$Group;IZ)I" } : Jvm.MethodName)) ∈ lw_all := lw_g (lw_at lw_m8 28 rfl) rfl
theorem q1781 : (Jvm.Cond.selects "BraidedFerry$River" ({ cls := "BraidedFerry$River", name := "board", desc := "(LBraidedFerry$Group;IZ)I" } : Jvm.MethodName) ({ cls := "BraidedFerry$River", name := "board", desc := "(LBraidedFerry$Group;IZ)I" } : Jvm.MethodName)) ∈ lw_all := lw_g (lw_at lw_m8 29 rfl) rfl
theorem q1782 : (Jvm.Cond.code ({ cls := "BraidedFerry$River", name := "board", desc := "(LBraidedFerry$Group;IZ)I" } : Jvm.MethodName) prog_21_method_27_code (6 : Nat) (Option.some Jvm.ClassFile.FieldType.int)) ∈ lw_all := lw_g (lw_at lw_m8 30 rfl) rfl
theorem q1783 : (Jvm.Cond.methodLink "BraidedFerry$River" (265 : Nat) ({ cls := "BraidedFerry$Tally", name := "of", desc := "(LBraidedFerry$Weighed;)I" } : Jvm.MethodName)) ∈ lw_all := lw_g (lw_at lw_m8 31 rfl) rfl
theorem q1784 : (Jvm.Cond.methodLink "BraidedFerry$River" (139 : Nat) ({ cls := "BraidedFerry$River", name := "load", desc := "()I" } : Jvm.MethodName)) ∈ lw_all := lw_g (lw_at lw_m8 32 rfl) rfl
theorem q1785 : (Jvm.Cond.instanceMethod ({ cls := "BraidedFerry$River", name := "load", desc := "()I" } : Jvm.MethodName)) ∈ lw_all := lw_g (lw_at lw_m8 33 rfl) rfl
theorem q1786 : (Jvm.Cond.selects "BraidedFerry$River" ({ cls := "BraidedFerry$River", name := "load", desc := "()I" } : Jvm.MethodName) ({ cls := "BraidedFerry$River", name := "load", desc := "()I" } : Jvm.MethodName)) ∈ lw_all := lw_g (lw_at lw_m8 34 rfl) rfl
theorem q1787 : (Jvm.Cond.code ({ cls := "BraidedFerry$River", name := "load", desc := "()I" } : Jvm.MethodName) prog_21_method_6_code (1 : Nat) (Option.some Jvm.ClassFile.FieldType.int)) ∈ lw_all := lw_g (lw_at lw_m8 35 rfl) rfl
theorem q1788 : (Jvm.Cond.methodLink "BraidedFerry$River" (112 : Nat) ({ cls := "BraidedFerry$Tally", name := "weight", desc := "()I" } : Jvm.MethodName)) ∈ lw_all := lw_g (lw_at lw_m8 36 rfl) rfl
theorem q1838 : (Jvm.Cond.methodLink "BraidedFerry$River" (270 : Nat) ({ cls := "BraidedFerry$Tally", name := "move", desc := "(LBraidedFerry$Weighed;ILBraidedFerry$Tally;)V" } : Jvm.MethodName)) ∈ lw_all := lw_g (lw_at lw_m8 86 rfl) rfl
theorem q1854 : (Jvm.Cond.instanceMethod ({ cls := "BraidedFerry$River", name := "come", desc := "(LBraidedFerry$Group;I)I" } : Jvm.MethodName)) ∈ lw_all := lw_g (lw_at lw_m8 102 rfl) rfl
theorem q1855 : (Jvm.Cond.selects "BraidedFerry$River" ({ cls := "BraidedFerry$River", name := "come", desc := "(LBraidedFerry$Group;I)I" } : Jvm.MethodName) ({ cls := "BraidedFerry$River", name := "come", desc := "(LBraidedFerry$Group;I)I" } : Jvm.MethodName)) ∈ lw_all := lw_g (lw_at lw_m8 103 rfl) rfl
theorem q1856 : (Jvm.Cond.code ({ cls := "BraidedFerry$River", name := "come", desc := "(LBraidedFerry$Group;I)I" } : Jvm.MethodName) prog_21_method_26_code (4 : Nat) (Option.some Jvm.ClassFile.FieldType.int)) ∈ lw_all := lw_g (lw_at lw_m8 104 rfl) rfl
theorem q1857 : (Jvm.Cond.methodLink "BraidedFerry$River" (222 : Nat) ({ cls := "BraidedFerry$Tally", name := "add", desc := "(LBraidedFerry$Weighed;I)V" } : Jvm.MethodName)) ∈ lw_all := lw_g (lw_at lw_m8 105 rfl) rfl
theorem q1865 : (Jvm.Cond.instanceMethod ({ cls := "BraidedFerry$River", name := "cross", desc := "(Z)I" } : Jvm.MethodName)) ∈ lw_all := lw_g (lw_at lw_m8 113 rfl) rfl
theorem q1866 : (Jvm.Cond.selects "BraidedFerry$River" ({ cls := "BraidedFerry$River", name := "cross", desc := "(Z)I" } : Jvm.MethodName) ({ cls := "BraidedFerry$River", name := "cross", desc := "(Z)I" } : Jvm.MethodName)) ∈ lw_all := lw_g (lw_at lw_m8 114 rfl) rfl
theorem q1867 : (Jvm.Cond.code ({ cls := "BraidedFerry$River", name := "cross", desc := "(Z)I" } : Jvm.MethodName) prog_21_method_33_code (2 : Nat) (Option.some Jvm.ClassFile.FieldType.int)) ∈ lw_all := lw_g (lw_at lw_m8 115 rfl) rfl
theorem q1868 : (Jvm.Cond.methodLink "BraidedFerry$River" (292 : Nat) ({ cls := "BraidedFerry$River", name := "check", desc := "(Z)V" } : Jvm.MethodName)) ∈ lw_all := lw_g (lw_at lw_m8 116 rfl) rfl
theorem q1869 : (Jvm.Cond.instanceMethod ({ cls := "BraidedFerry$River", name := "check", desc := "(Z)V" } : Jvm.MethodName)) ∈ lw_all := lw_g (lw_at lw_m8 117 rfl) rfl
theorem q1870 : (Jvm.Cond.selects "BraidedFerry$River" ({ cls := "BraidedFerry$River", name := "check", desc := "(Z)V" } : Jvm.MethodName) ({ cls := "BraidedFerry$River", name := "check", desc := "(Z)V" } : Jvm.MethodName)) ∈ lw_all := lw_g (lw_at lw_m8 118 rfl) rfl
theorem q1871 : (Jvm.Cond.code ({ cls := "BraidedFerry$River", name := "check", desc := "(Z)V" } : Jvm.MethodName) prog_21_method_32_code (7 : Nat) (Option.none : Option Jvm.ClassFile.FieldType)) ∈ lw_all := lw_g (lw_at lw_m8 119 rfl) rfl
theorem q1872 : (Jvm.Cond.methodLink "BraidedFerry$River" (286 : Nat) ({ cls := "BraidedFerry$River", name := "leastDrag", desc := "(I)I" } : Jvm.MethodName)) ∈ lw_all := lw_g (lw_at lw_m8 120 rfl) rfl
theorem q1873 : (Jvm.Cond.instanceMethod ({ cls := "BraidedFerry$River", name := "leastDrag", desc := "(I)I" } : Jvm.MethodName)) ∈ lw_all := lw_g (lw_at lw_m8 121 rfl) rfl
theorem q1874 : (Jvm.Cond.selects "BraidedFerry$River" ({ cls := "BraidedFerry$River", name := "leastDrag", desc := "(I)I" } : Jvm.MethodName) ({ cls := "BraidedFerry$River", name := "leastDrag", desc := "(I)I" } : Jvm.MethodName)) ∈ lw_all := lw_g (lw_at lw_m8 122 rfl) rfl
theorem q1875 : (Jvm.Cond.code ({ cls := "BraidedFerry$River", name := "leastDrag", desc := "(I)I" } : Jvm.MethodName) prog_21_method_12_code (6 : Nat) (Option.some Jvm.ClassFile.FieldType.int)) ∈ lw_all := lw_g (lw_at lw_m8 123 rfl) rfl
theorem q1876 : (Jvm.Cond.methodLink "BraidedFerry$River" (153 : Nat) ({ cls := "BraidedFerry$Anchor", name := "holds", desc := "()Z" } : Jvm.MethodName)) ∈ lw_all := lw_g (lw_at lw_m8 124 rfl) rfl
theorem q1880 : (Jvm.Cond.methodLink "BraidedFerry$River" (289 : Nat) ({ cls := "java/lang/Math", name := "abs", desc := "(I)I" } : Jvm.MethodName)) ∈ lw_all := lw_g (lw_at lw_m8 128 rfl) rfl
theorem q1883 : (Jvm.Cond.methodLink "BraidedFerry$River" (137 : Nat) ({ cls := "BraidedFerry$River", name := "flow", desc := "(II)I" } : Jvm.MethodName)) ∈ lw_all := lw_g (lw_at lw_m8 131 rfl) rfl
theorem q1884 : (Jvm.Cond.instanceMethod ({ cls := "BraidedFerry$River", name := "flow", desc := "(II)I" } : Jvm.MethodName)) ∈ lw_all := lw_g (lw_at lw_m8 132 rfl) rfl
theorem q1885 : (Jvm.Cond.selects "BraidedFerry$River" ({ cls := "BraidedFerry$River", name := "flow", desc := "(II)I" } : Jvm.MethodName) ({ cls := "BraidedFerry$River", name := "flow", desc := "(II)I" } : Jvm.MethodName)) ∈ lw_all := lw_g (lw_at lw_m8 133 rfl) rfl
theorem q1886 : (Jvm.Cond.code ({ cls := "BraidedFerry$River", name := "flow", desc := "(II)I" } : Jvm.MethodName) prog_21_method_7_code (6 : Nat) (Option.some Jvm.ClassFile.FieldType.int)) ∈ lw_all := lw_g (lw_at lw_m8 134 rfl) rfl
theorem q1887 : (Jvm.Cond.methodLink "BraidedFerry$River" (118 : Nat) ({ cls := "BraidedFerry$Flood", name := "riseIn", desc := "(I)I" } : Jvm.MethodName)) ∈ lw_all := lw_g (lw_at lw_m8 135 rfl) rfl
theorem q1892 : (Jvm.Cond.methodLink "BraidedFerry$River" (122 : Nat) ({ cls := "java/lang/Math", name := "min", desc := "(II)I" } : Jvm.MethodName)) ∈ lw_all := lw_g (lw_at lw_m8 140 rfl) rfl
theorem q1893 : (Jvm.Cond.methodLink "BraidedFerry$River" (180 : Nat) ({ cls := "BraidedFerry$River", name := "allowHours", desc := "(I)V" } : Jvm.MethodName)) ∈ lw_all := lw_g (lw_at lw_m8 141 rfl) rfl
theorem q1894 : (Jvm.Cond.privateMethod ({ cls := "BraidedFerry$River", name := "allowHours", desc := "(I)V" } : Jvm.MethodName)) ∈ lw_tbl := lw_at lw_m8 142 rfl
theorem q1895 : (Jvm.Cond.instanceMethod ({ cls := "BraidedFerry$River", name := "allowHours", desc := "(I)V" } : Jvm.MethodName)) ∈ lw_all := lw_g (lw_at lw_m8 143 rfl) rfl
theorem q1896 : (Jvm.Cond.code ({ cls := "BraidedFerry$River", name := "allowHours", desc := "(I)V" } : Jvm.MethodName) prog_21_method_15_code (2 : Nat) (Option.none : Option Jvm.ClassFile.FieldType)) ∈ lw_all := lw_g (lw_at lw_m8 144 rfl) rfl
theorem q1897 : (Jvm.Cond.methodLink "BraidedFerry$River" (187 : Nat) ({ cls := "BraidedFerry$River", name := "live", desc := "()V" } : Jvm.MethodName)) ∈ lw_all := lw_g (lw_at lw_m8 145 rfl) rfl
theorem q1898 : (Jvm.Cond.privateMethod ({ cls := "BraidedFerry$River", name := "live", desc := "()V" } : Jvm.MethodName)) ∈ lw_tbl := lw_at lw_m8 146 rfl
theorem q1899 : (Jvm.Cond.instanceMethod ({ cls := "BraidedFerry$River", name := "live", desc := "()V" } : Jvm.MethodName)) ∈ lw_all := lw_g (lw_at lw_m8 147 rfl) rfl
theorem q1900 : (Jvm.Cond.code ({ cls := "BraidedFerry$River", name := "live", desc := "()V" } : Jvm.MethodName) prog_21_method_14_code (3 : Nat) (Option.none : Option Jvm.ClassFile.FieldType)) ∈ lw_all := lw_g (lw_at lw_m8 148 rfl) rfl
theorem q1901 : (Jvm.Cond.methodLink "BraidedFerry$River" (159 : Nat) ({ cls := "BraidedFerry$River", name := "drags", desc := "(LBraidedFerry$Anchor;I)I" } : Jvm.MethodName)) ∈ lw_all := lw_g (lw_at lw_m8 149 rfl) rfl
theorem q1902 : (Jvm.Cond.instanceMethod ({ cls := "BraidedFerry$River", name := "drags", desc := "(LBraidedFerry$Anchor;I)I" } : Jvm.MethodName)) ∈ lw_all := lw_g (lw_at lw_m8 150 rfl) rfl
theorem q1903 : (Jvm.Cond.selects "BraidedFerry$River" ({ cls := "BraidedFerry$River", name := "drags", desc := "(LBraidedFerry$Anchor;I)I" } : Jvm.MethodName) ({ cls := "BraidedFerry$River", name := "drags", desc := "(LBraidedFerry$Anchor;I)I" } : Jvm.MethodName)) ∈ lw_all := lw_g (lw_at lw_m8 151 rfl) rfl
theorem q1904 : (Jvm.Cond.code ({ cls := "BraidedFerry$River", name := "drags", desc := "(LBraidedFerry$Anchor;I)I" } : Jvm.MethodName) prog_21_method_10_code (3 : Nat) (Option.some Jvm.ClassFile.FieldType.int)) ∈ lw_all := lw_g (lw_at lw_m8 152 rfl) rfl
theorem q1905 : (Jvm.Cond.methodLink "BraidedFerry$River" (142 : Nat) ({ cls := "BraidedFerry$River", name := "pull", desc := "(LBraidedFerry$Anchor;I)I" } : Jvm.MethodName)) ∈ lw_all := lw_g (lw_at lw_m8 153 rfl) rfl
theorem q1906 : (Jvm.Cond.instanceMethod ({ cls := "BraidedFerry$River", name := "pull", desc := "(LBraidedFerry$Anchor;I)I" } : Jvm.MethodName)) ∈ lw_all := lw_g (lw_at lw_m8 154 rfl) rfl
theorem q1907 : (Jvm.Cond.selects "BraidedFerry$River" ({ cls := "BraidedFerry$River", name := "pull", desc := "(LBraidedFerry$Anchor;I)I" } : Jvm.MethodName) ({ cls := "BraidedFerry$River", name := "pull", desc := "(LBraidedFerry$Anchor;I)I" } : Jvm.MethodName)) ∈ lw_all := lw_g (lw_at lw_m8 155 rfl) rfl
theorem q1908 : (Jvm.Cond.code ({ cls := "BraidedFerry$River", name := "pull", desc := "(LBraidedFerry$Anchor;I)I" } : Jvm.MethodName) prog_21_method_9_code (4 : Nat) (Option.some Jvm.ClassFile.FieldType.int)) ∈ lw_all := lw_g (lw_at lw_m8 156 rfl) rfl
theorem q1909 : (Jvm.Cond.methodLink "BraidedFerry$River" (146 : Nat) ({ cls := "BraidedFerry$River", name := "hold", desc := "(LBraidedFerry$Anchor;)I" } : Jvm.MethodName)) ∈ lw_all := lw_g (lw_at lw_m8 157 rfl) rfl
theorem q1910 : (Jvm.Cond.instanceMethod ({ cls := "BraidedFerry$River", name := "hold", desc := "(LBraidedFerry$Anchor;)I" } : Jvm.MethodName)) ∈ lw_all := lw_g (lw_at lw_m8 158 rfl) rfl
theorem q1911 : (Jvm.Cond.selects "BraidedFerry$River" ({ cls := "BraidedFerry$River", name := "hold", desc := "(LBraidedFerry$Anchor;)I" } : Jvm.MethodName) ({ cls := "BraidedFerry$River", name := "hold", desc := "(LBraidedFerry$Anchor;)I" } : Jvm.MethodName)) ∈ lw_all := lw_g (lw_at lw_m8 159 rfl) rfl
theorem q1912 : (Jvm.Cond.code ({ cls := "BraidedFerry$River", name := "hold", desc := "(LBraidedFerry$Anchor;)I" } : Jvm.MethodName) prog_21_method_8_code (2 : Nat) (Option.some Jvm.ClassFile.FieldType.int)) ∈ lw_all := lw_g (lw_at lw_m8 160 rfl) rfl
theorem q1913 : (Jvm.Cond.methodLink "BraidedFerry$River" (150 : Nat) ({ cls := "java/lang/Math", name := "max", desc := "(II)I" } : Jvm.MethodName)) ∈ lw_all := lw_g (lw_at lw_m8 161 rfl) rfl
theorem q1914 : (Jvm.Cond.methodLink "BraidedFerry$River" (162 : Nat) ({ cls := "BraidedFerry$Anchor", name := "dragged", desc := "(II)LBraidedFerry$Anchor;" } : Jvm.MethodName)) ∈ lw_all := lw_g (lw_at lw_m8 162 rfl) rfl
theorem q1921 : (Jvm.Cond.interfaceEntry "BraidedFerry$River" (166 : Nat)) ∈ lw_tbl := lw_at lw_m8 169 rfl
theorem q1922 : (Jvm.Cond.methodLink "BraidedFerry$River" (166 : Nat) ({ cls := "java/util/List", name := "set", desc := "(ILjava/lang/Object;)Ljava/lang/Object;" } : Jvm.MethodName)) ∈ lw_all := lw_g (lw_at lw_m8 170 rfl) rfl
theorem q1930 : (Jvm.Cond.interfaceEntry "BraidedFerry$River" (173 : Nat)) ∈ lw_tbl := lw_at lw_m8 178 rfl
theorem q1931 : (Jvm.Cond.methodLink "BraidedFerry$River" (173 : Nat) ({ cls := "java/util/Iterator", name := "remove", desc := "()V" } : Jvm.MethodName)) ∈ lw_all := lw_g (lw_at lw_m8 179 rfl) rfl
theorem q1996 : (Jvm.Cond.instanceMethod ({ cls := "BraidedFerry$River", name := "addChannel", desc := "(LBraidedFerry$Channel;)I" } : Jvm.MethodName)) ∈ lw_all := lw_g (lw_at lw_m9 4 rfl) rfl
theorem q1997 : (Jvm.Cond.selects "BraidedFerry$River" ({ cls := "BraidedFerry$River", name := "addChannel", desc := "(LBraidedFerry$Channel;)I" } : Jvm.MethodName) ({ cls := "BraidedFerry$River", name := "addChannel", desc := "(LBraidedFerry$Channel;)I" } : Jvm.MethodName)) ∈ lw_all := lw_g (lw_at lw_m9 5 rfl) rfl
theorem q1998 : (Jvm.Cond.code ({ cls := "BraidedFerry$River", name := "addChannel", desc := "(LBraidedFerry$Channel;)I" } : Jvm.MethodName) prog_21_method_17_code (2 : Nat) (Option.some Jvm.ClassFile.FieldType.int)) ∈ lw_all := lw_g (lw_at lw_m9 6 rfl) rfl
theorem q2006 : (Jvm.Cond.instanceMethod ({ cls := "BraidedFerry$River", name := "addFlood", desc := "(III)I" } : Jvm.MethodName)) ∈ lw_all := lw_g (lw_at lw_m9 14 rfl) rfl
theorem q2007 : (Jvm.Cond.selects "BraidedFerry$River" ({ cls := "BraidedFerry$River", name := "addFlood", desc := "(III)I" } : Jvm.MethodName) ({ cls := "BraidedFerry$River", name := "addFlood", desc := "(III)I" } : Jvm.MethodName)) ∈ lw_all := lw_g (lw_at lw_m9 15 rfl) rfl
theorem q2008 : (Jvm.Cond.code ({ cls := "BraidedFerry$River", name := "addFlood", desc := "(III)I" } : Jvm.MethodName) prog_21_method_23_code (4 : Nat) (Option.some Jvm.ClassFile.FieldType.int)) ∈ lw_all := lw_g (lw_at lw_m9 16 rfl) rfl
theorem q2010 : (Jvm.Cond.methodLink "BraidedFerry$River" (256 : Nat) ({ cls := "BraidedFerry$Flood", name := "<init>", desc := "(III)V" } : Jvm.MethodName)) ∈ lw_all := lw_g (lw_at lw_m9 18 rfl) rfl
theorem q2015 : (Jvm.Cond.fieldLinkNest "BraidedFerry$River" (295 : Nat) "BraidedFerry$Flood" "begin" "I" "BraidedFerry") ∈ lw_tbl := lw_at lw_m9 23 rfl
theorem q2018 : (Jvm.Cond.fieldLinkNest "BraidedFerry$River" (170 : Nat) "BraidedFerry$Flood" "end" "I" "BraidedFerry") ∈ lw_tbl := lw_at lw_m9 26 rfl
theorem q2033 : (Jvm.Cond.instanceMethod ({ cls := "BraidedFerry$River", name := "land", desc := "()I" } : Jvm.MethodName)) ∈ lw_all := lw_g (lw_at lw_m9 41 rfl) rfl
theorem q2034 : (Jvm.Cond.selects "BraidedFerry$River" ({ cls := "BraidedFerry$River", name := "land", desc := "()I" } : Jvm.MethodName) ({ cls := "BraidedFerry$River", name := "land", desc := "()I" } : Jvm.MethodName)) ∈ lw_all := lw_g (lw_at lw_m9 42 rfl) rfl
theorem q2035 : (Jvm.Cond.code ({ cls := "BraidedFerry$River", name := "land", desc := "()I" } : Jvm.MethodName) prog_21_method_29_code (2 : Nat) (Option.some Jvm.ClassFile.FieldType.int)) ∈ lw_all := lw_g (lw_at lw_m9 43 rfl) rfl
theorem q2036 : (Jvm.Cond.methodLink "BraidedFerry$River" (282 : Nat) ({ cls := "BraidedFerry$River", name := "land", desc := "(LBraidedFerry$Tally;)I" } : Jvm.MethodName)) ∈ lw_all := lw_g (lw_at lw_m9 44 rfl) rfl
theorem q2037 : (Jvm.Cond.privateMethod ({ cls := "BraidedFerry$River", name := "land", desc := "(LBraidedFerry$Tally;)I" } : Jvm.MethodName)) ∈ lw_tbl := lw_at lw_m9 45 rfl
theorem q2038 : (Jvm.Cond.instanceMethod ({ cls := "BraidedFerry$River", name := "land", desc := "(LBraidedFerry$Tally;)I" } : Jvm.MethodName)) ∈ lw_all := lw_g (lw_at lw_m9 46 rfl) rfl
theorem q2039 : (Jvm.Cond.code ({ cls := "BraidedFerry$River", name := "land", desc := "(LBraidedFerry$Tally;)I" } : Jvm.MethodName) prog_21_method_28_code (6 : Nat) (Option.some Jvm.ClassFile.FieldType.int)) ∈ lw_all := lw_g (lw_at lw_m9 47 rfl) rfl
theorem q2040 : (Jvm.Cond.methodLink "BraidedFerry$River" (194 : Nat) ({ cls := "java/util/LinkedHashMap", name := "entrySet", desc := "()Ljava/util/Set;" } : Jvm.MethodName)) ∈ lw_all := lw_g (lw_at lw_m9 48 rfl) rfl
theorem q2041 : (Jvm.Cond.interfaceEntry "BraidedFerry$River" (200 : Nat)) ∈ lw_tbl := lw_at lw_m9 49 rfl
theorem q2042 : (Jvm.Cond.methodLink "BraidedFerry$River" (200 : Nat) ({ cls := "java/util/Set", name := "iterator", desc := "()Ljava/util/Iterator;" } : Jvm.MethodName)) ∈ lw_all := lw_g (lw_at lw_m9 50 rfl) rfl
theorem q2043 : (Jvm.Cond.classLink "BraidedFerry$River" (203 : Nat) "java/util/Map$Entry") ∈ lw_all := lw_g (lw_at lw_m9 51 rfl) rfl
theorem q2044 : (Jvm.Cond.interfaceEntry "BraidedFerry$River" (205 : Nat)) ∈ lw_tbl := lw_at lw_m9 52 rfl
theorem q2045 : (Jvm.Cond.methodLink "BraidedFerry$River" (205 : Nat) ({ cls := "java/util/Map$Entry", name := "getKey", desc := "()Ljava/lang/Object;" } : Jvm.MethodName)) ∈ lw_all := lw_g (lw_at lw_m9 53 rfl) rfl
theorem q2046 : (Jvm.Cond.classLink "BraidedFerry$River" (208 : Nat) "BraidedFerry$Group") ∈ lw_all := lw_g (lw_at lw_m9 54 rfl) rfl
theorem q2047 : (Jvm.Cond.interfaceEntry "BraidedFerry$River" (214 : Nat)) ∈ lw_tbl := lw_at lw_m9 55 rfl
theorem q2048 : (Jvm.Cond.methodLink "BraidedFerry$River" (214 : Nat) ({ cls := "java/util/Map$Entry", name := "getValue", desc := "()Ljava/lang/Object;" } : Jvm.MethodName)) ∈ lw_all := lw_g (lw_at lw_m9 56 rfl) rfl
theorem q2049 : (Jvm.Cond.classLink "BraidedFerry$River" (217 : Nat) "java/lang/Integer") ∈ lw_all := lw_g (lw_at lw_m9 57 rfl) rfl
theorem q2050 : (Jvm.Cond.methodLink "BraidedFerry$River" (219 : Nat) ({ cls := "java/lang/Integer", name := "intValue", desc := "()I" } : Jvm.MethodName)) ∈ lw_all := lw_g (lw_at lw_m9 58 rfl) rfl
theorem q2051 : (Jvm.Cond.methodLink "BraidedFerry$River" (277 : Nat) ({ cls := "BraidedFerry$Group", name := "channels", desc := "()I" } : Jvm.MethodName)) ∈ lw_all := lw_g (lw_at lw_m9 59 rfl) rfl
theorem q2065 : (Jvm.Cond.instanceMethod ({ cls := "BraidedFerry$River", name := "pass", desc := "(I)I" } : Jvm.MethodName)) ∈ lw_all := lw_g (lw_at lw_m9 73 rfl) rfl
theorem q2066 : (Jvm.Cond.selects "BraidedFerry$River" ({ cls := "BraidedFerry$River", name := "pass", desc := "(I)I" } : Jvm.MethodName) ({ cls := "BraidedFerry$River", name := "pass", desc := "(I)I" } : Jvm.MethodName)) ∈ lw_all := lw_g (lw_at lw_m9 74 rfl) rfl
theorem q2067 : (Jvm.Cond.code ({ cls := "BraidedFerry$River", name := "pass", desc := "(I)I" } : Jvm.MethodName) prog_21_method_16_code (4 : Nat) (Option.some Jvm.ClassFile.FieldType.int)) ∈ lw_all := lw_g (lw_at lw_m9 75 rfl) rfl
theorem q2068 : (Jvm.Cond.methodLink "BraidedFerry$River" (184 : Nat) ({ cls := "BraidedFerry$River", name := "holding", desc := "()I" } : Jvm.MethodName)) ∈ lw_all := lw_g (lw_at lw_m9 76 rfl) rfl
theorem q2069 : (Jvm.Cond.instanceMethod ({ cls := "BraidedFerry$River", name := "holding", desc := "()I" } : Jvm.MethodName)) ∈ lw_all := lw_g (lw_at lw_m9 77 rfl) rfl
theorem q2070 : (Jvm.Cond.selects "BraidedFerry$River" ({ cls := "BraidedFerry$River", name := "holding", desc := "()I" } : Jvm.MethodName) ({ cls := "BraidedFerry$River", name := "holding", desc := "()I" } : Jvm.MethodName)) ∈ lw_all := lw_g (lw_at lw_m9 78 rfl) rfl
theorem q2071 : (Jvm.Cond.code ({ cls := "BraidedFerry$River", name := "holding", desc := "()I" } : Jvm.MethodName) prog_21_method_13_code (4 : Nat) (Option.some Jvm.ClassFile.FieldType.int)) ∈ lw_all := lw_g (lw_at lw_m9 79 rfl) rfl
theorem q2079 : (Jvm.Cond.instanceMethod ({ cls := "BraidedFerry$River", name := "setFare", desc := "(II)I" } : Jvm.MethodName)) ∈ lw_all := lw_g (lw_at lw_m9 87 rfl) rfl
theorem q2080 : (Jvm.Cond.selects "BraidedFerry$River" ({ cls := "BraidedFerry$River", name := "setFare", desc := "(II)I" } : Jvm.MethodName) ({ cls := "BraidedFerry$River", name := "setFare", desc := "(II)I" } : Jvm.MethodName)) ∈ lw_all := lw_g (lw_at lw_m9 88 rfl) rfl
theorem q2081 : (Jvm.Cond.code ({ cls := "BraidedFerry$River", name := "setFare", desc := "(II)I" } : Jvm.MethodName) prog_21_method_30_code (4 : Nat) (Option.some Jvm.ClassFile.FieldType.int)) ∈ lw_all := lw_g (lw_at lw_m9 89 rfl) rfl
theorem q2089 : (Jvm.Cond.instanceMethod ({ cls := "BraidedFerry$River", name := "setRope", desc := "(I)I" } : Jvm.MethodName)) ∈ lw_all := lw_g (lw_at lw_m9 97 rfl) rfl
theorem q2090 : (Jvm.Cond.selects "BraidedFerry$River" ({ cls := "BraidedFerry$River", name := "setRope", desc := "(I)I" } : Jvm.MethodName) ({ cls := "BraidedFerry$River", name := "setRope", desc := "(I)I" } : Jvm.MethodName)) ∈ lw_all := lw_g (lw_at lw_m9 98 rfl) rfl
theorem q2091 : (Jvm.Cond.code ({ cls := "BraidedFerry$River", name := "setRope", desc := "(I)I" } : Jvm.MethodName) prog_21_method_31_code (3 : Nat) (Option.some Jvm.ClassFile.FieldType.int)) ∈ lw_all := lw_g (lw_at lw_m9 99 rfl) rfl
theorem q2099 : (Jvm.Cond.instanceMethod ({ cls := "BraidedFerry$River", name := "shift", desc := "(II)I" } : Jvm.MethodName)) ∈ lw_all := lw_g (lw_at lw_m9 107 rfl) rfl
theorem q2100 : (Jvm.Cond.selects "BraidedFerry$River" ({ cls := "BraidedFerry$River", name := "shift", desc := "(II)I" } : Jvm.MethodName) ({ cls := "BraidedFerry$River", name := "shift", desc := "(II)I" } : Jvm.MethodName)) ∈ lw_all := lw_g (lw_at lw_m9 108 rfl) rfl
theorem q2101 : (Jvm.Cond.code ({ cls := "BraidedFerry$River", name := "shift", desc := "(II)I" } : Jvm.MethodName) prog_21_method_22_code (7 : Nat) (Option.some Jvm.ClassFile.FieldType.int)) ∈ lw_all := lw_g (lw_at lw_m9 109 rfl) rfl
theorem q2102 : (Jvm.Cond.methodLink "BraidedFerry$River" (228 : Nat) ({ cls := "BraidedFerry$River", name := "channel", desc := "(I)LBraidedFerry$Channel;" } : Jvm.MethodName)) ∈ lw_all := lw_g (lw_at lw_m9 110 rfl) rfl
theorem q2103 : (Jvm.Cond.methodLinkNest "BraidedFerry$River" (253 : Nat) ({ cls := "BraidedFerry", name := "require", desc := "(Z)V" } : Jvm.MethodName) "BraidedFerry") ∈ lw_tbl := lw_at lw_m9 111 rfl
theorem q2104 : (Jvm.Cond.methodLink "BraidedFerry$River" (231 : Nat) ({ cls := "BraidedFerry$River", name := "allowWidth", desc := "(I)V" } : Jvm.MethodName)) ∈ lw_all := lw_g (lw_at lw_m9 112 rfl) rfl
theorem q2105 : (Jvm.Cond.static ({ cls := "BraidedFerry$River", name := "allowWidth", desc := "(I)V" } : Jvm.MethodName)) ∈ lw_all := lw_g (lw_at lw_m9 113 rfl) rfl
theorem q2106 : (Jvm.Cond.code ({ cls := "BraidedFerry$River", name := "allowWidth", desc := "(I)V" } : Jvm.MethodName) prog_21_method_18_code (1 : Nat) (Option.none : Option Jvm.ClassFile.FieldType)) ∈ lw_all := lw_g (lw_at lw_m9 114 rfl) rfl
theorem q2107 : (Jvm.Cond.methodLink "BraidedFerry$River" (237 : Nat) ({ cls := "BraidedFerry$Channel", name := "as", desc := "(I)LBraidedFerry$Channel;" } : Jvm.MethodName)) ∈ lw_all := lw_g (lw_at lw_m9 115 rfl) rfl
theorem q2119 : (Jvm.Cond.fieldLinkNest "BraidedFerry$River" (234 : Nat) "BraidedFerry$Channel" "width" "I" "BraidedFerry") ∈ lw_tbl := lw_at lw_m9 127 rfl
theorem q2121 : (Jvm.Cond.fieldLinkNest "BraidedFerry$River" (115 : Nat) "BraidedFerry$Channel" "flow" "I" "BraidedFerry") ∈ lw_tbl := lw_at lw_m9 129 rfl
theorem q2124 : (Jvm.Cond.fieldLinkNest "BraidedFerry$River" (131 : Nat) "BraidedFerry$Channel" "bed" "I" "BraidedFerry") ∈ lw_tbl := lw_at lw_m9 132 rfl
theorem q2140 : (Jvm.Cond.instanceMethod ({ cls := "BraidedFerry$River", name := "split", desc := "(II)I" } : Jvm.MethodName)) ∈ lw_all := lw_g (lw_at lw_m9 148 rfl) rfl
theorem q2141 : (Jvm.Cond.selects "BraidedFerry$River" ({ cls := "BraidedFerry$River", name := "split", desc := "(II)I" } : Jvm.MethodName) ({ cls := "BraidedFerry$River", name := "split", desc := "(II)I" } : Jvm.MethodName)) ∈ lw_all := lw_g (lw_at lw_m9 149 rfl) rfl
theorem q2142 : (Jvm.Cond.code ({ cls := "BraidedFerry$River", name := "split", desc := "(II)I" } : Jvm.MethodName) prog_21_method_21_code (7 : Nat) (Option.some Jvm.ClassFile.FieldType.int)) ∈ lw_all := lw_g (lw_at lw_m9 150 rfl) rfl
theorem q2143 : (Jvm.Cond.interfaceEntry "BraidedFerry$River" (240 : Nat)) ∈ lw_tbl := lw_at lw_m9 151 rfl
theorem q2144 : (Jvm.Cond.methodLink "BraidedFerry$River" (240 : Nat) ({ cls := "java/util/List", name := "add", desc := "(ILjava/lang/Object;)V" } : Jvm.MethodName)) ∈ lw_all := lw_g (lw_at lw_m9 152 rfl) rfl
theorem q2172 : (Jvm.Cond.methodLink "BraidedFerry$River" (243 : Nat) ({ cls := "BraidedFerry$Anchor", name := "split", desc := "(I)LBraidedFerry$Anchor;" } : Jvm.MethodName)) ∈ lw_all := lw_g (lw_at lw_m9 180 rfl) rfl
theorem q2176 : (Jvm.Cond.methodLink "BraidedFerry$River" (246 : Nat) ({ cls := "BraidedFerry$River", name := "split", desc := "(LBraidedFerry$Tally;I)LBraidedFerry$Tally;" } : Jvm.MethodName)) ∈ lw_all := lw_g (lw_at lw_m9 184 rfl) rfl
theorem q2177 : (Jvm.Cond.static ({ cls := "BraidedFerry$River", name := "split", desc := "(LBraidedFerry$Tally;I)LBraidedFerry$Tally;" } : Jvm.MethodName)) ∈ lw_all := lw_g (lw_at lw_m9 185 rfl) rfl
theorem q2178 : (Jvm.Cond.code ({ cls := "BraidedFerry$River", name := "split", desc := "(LBraidedFerry$Tally;I)LBraidedFerry$Tally;" } : Jvm.MethodName) prog_21_method_19_code (5 : Nat) (Option.some (Jvm.ClassFile.FieldType.object "BraidedFerry$Tally"))) ∈ lw_all := lw_g (lw_at lw_m9 186 rfl) rfl
theorem q2179 : (Jvm.Cond.methodLink "BraidedFerry$River" (210 : Nat) ({ cls := "BraidedFerry$Group", name := "split", desc := "(I)LBraidedFerry$Group;" } : Jvm.MethodName)) ∈ lw_all := lw_g (lw_at lw_m9 187 rfl) rfl
theorem q2187 : (Jvm.Cond.methodLink "BraidedFerry$River" (249 : Nat) ({ cls := "BraidedFerry$River", name := "replace", desc := "(LBraidedFerry$Tally;LBraidedFerry$Tally;)V" } : Jvm.MethodName)) ∈ lw_all := lw_g (lw_at lw_m9 195 rfl) rfl
theorem q2188 : (Jvm.Cond.static ({ cls := "BraidedFerry$River", name := "replace", desc := "(LBraidedFerry$Tally;LBraidedFerry$Tally;)V" } : Jvm.MethodName)) ∈ lw_all := lw_g (lw_at lw_m9 196 rfl) rfl
theorem q2189 : (Jvm.Cond.code ({ cls := "BraidedFerry$River", name := "replace", desc := "(LBraidedFerry$Tally;LBraidedFerry$Tally;)V" } : Jvm.MethodName) prog_21_method_20_code (2 : Nat) (Option.none : Option Jvm.ClassFile.FieldType)) ∈ lw_all := lw_g (lw_at lw_m9 197 rfl) rfl
theorem q2190 : (Jvm.Cond.methodLink "BraidedFerry$River" (225 : Nat) ({ cls := "java/util/LinkedHashMap", name := "clear", desc := "()V" } : Jvm.MethodName)) ∈ lw_all := lw_g (lw_at lw_m9 198 rfl) rfl
theorem q2204 : (Jvm.Cond.instanceMethod ({ cls := "BraidedFerry$River", name := "weigh", desc := "(I)I" } : Jvm.MethodName)) ∈ lw_all := lw_g (lw_at lw_m9 212 rfl) rfl
theorem q2205 : (Jvm.Cond.selects "BraidedFerry$River" ({ cls := "BraidedFerry$River", name := "weigh", desc := "(I)I" } : Jvm.MethodName) ({ cls := "BraidedFerry$River", name := "weigh", desc := "(I)I" } : Jvm.MethodName)) ∈ lw_all := lw_g (lw_at lw_m9 213 rfl) rfl
theorem q2206 : (Jvm.Cond.code ({ cls := "BraidedFerry$River", name := "weigh", desc := "(I)I" } : Jvm.MethodName) prog_21_method_25_code (4 : Nat) (Option.some Jvm.ClassFile.FieldType.int)) ∈ lw_all := lw_g (lw_at lw_m9 214 rfl) rfl
theorem q2207 : (Jvm.Cond.methodLink "BraidedFerry$River" (260 : Nat) ({ cls := "BraidedFerry$River", name := "anchor", desc := "(I)LBraidedFerry$Anchor;" } : Jvm.MethodName)) ∈ lw_all := lw_g (lw_at lw_m9 215 rfl) rfl
theorem q2208 : (Jvm.Cond.instanceMethod ({ cls := "BraidedFerry$River", name := "anchor", desc := "(I)LBraidedFerry$Anchor;" } : Jvm.MethodName)) ∈ lw_all := lw_g (lw_at lw_m9 216 rfl) rfl
theorem q2209 : (Jvm.Cond.selects "BraidedFerry$River" ({ cls := "BraidedFerry$River", name := "anchor", desc := "(I)LBraidedFerry$Anchor;" } : Jvm.MethodName) ({ cls := "BraidedFerry$River", name := "anchor", desc := "(I)LBraidedFerry$Anchor;" } : Jvm.MethodName)) ∈ lw_all := lw_g (lw_at lw_m9 217 rfl) rfl
theorem q2210 : (Jvm.Cond.code ({ cls := "BraidedFerry$River", name := "anchor", desc := "(I)LBraidedFerry$Anchor;" } : Jvm.MethodName) prog_21_method_4_code (2 : Nat) (Option.some (Jvm.ClassFile.FieldType.object "BraidedFerry$Anchor"))) ∈ lw_all := lw_g (lw_at lw_m9 218 rfl) rfl
theorem q2211 : (Jvm.Cond.interfaceEntry "BraidedFerry$River" (263 : Nat)) ∈ lw_tbl := lw_at lw_m9 219 rfl
theorem q2212 : (Jvm.Cond.methodLink "BraidedFerry$River" (263 : Nat) ({ cls := "java/util/List", name := "remove", desc := "(I)Ljava/lang/Object;" } : Jvm.MethodName)) ∈ lw_all := lw_g (lw_at lw_m9 220 rfl) rfl
theorem q2419 : (Jvm.Cond.instanceMethod ({ cls := "BraidedFerry$River", name := "anchorsIn", desc := "(IZ)I" } : Jvm.MethodName)) ∈ lw_all := lw_g (lw_at lw_m10 187 rfl) rfl
theorem q2420 : (Jvm.Cond.selects "BraidedFerry$River" ({ cls := "BraidedFerry$River", name := "anchorsIn", desc := "(IZ)I" } : Jvm.MethodName) ({ cls := "BraidedFerry$River", name := "anchorsIn", desc := "(IZ)I" } : Jvm.MethodName)) ∈ lw_all := lw_g (lw_at lw_m10 188 rfl) rfl
theorem q2421 : (Jvm.Cond.code ({ cls := "BraidedFerry$River", name := "anchorsIn", desc := "(IZ)I" } : Jvm.MethodName) prog_21_method_11_code (6 : Nat) (Option.some Jvm.ClassFile.FieldType.int)) ∈ lw_all := lw_g (lw_at lw_m10 189 rfl) rfl
theorem q2512 : (Jvm.Cond.instanceMethod ({ cls := "BraidedFerry$River", name := "dragIn", desc := "(LBraidedFerry$Anchor;I)I" } : Jvm.MethodName)) ∈ lw_all := lw_g (lw_at lw_m11 40 rfl) rfl
theorem q2513 : (Jvm.Cond.selects "BraidedFerry$River" ({ cls := "BraidedFerry$River", name := "dragIn", desc := "(LBraidedFerry$Anchor;I)I" } : Jvm.MethodName) ({ cls := "BraidedFerry$River", name := "dragIn", desc := "(LBraidedFerry$Anchor;I)I" } : Jvm.MethodName)) ∈ lw_all := lw_g (lw_at lw_m11 41 rfl) rfl
theorem q2514 : (Jvm.Cond.code ({ cls := "BraidedFerry$River", name := "dragIn", desc := "(LBraidedFerry$Anchor;I)I" } : Jvm.MethodName) prog_21_method_34_code (5 : Nat) (Option.some Jvm.ClassFile.FieldType.int)) ∈ lw_all := lw_g (lw_at lw_m11 42 rfl) rfl
theorem q2523 : (Jvm.Cond.instanceMethod ({ cls := "BraidedFerry$River", name := "dragAgain", desc := "(LBraidedFerry$Anchor;I)I" } : Jvm.MethodName)) ∈ lw_all := lw_g (lw_at lw_m11 51 rfl) rfl
theorem q2524 : (Jvm.Cond.selects "BraidedFerry$River" ({ cls := "BraidedFerry$River", name := "dragAgain", desc := "(LBraidedFerry$Anchor;I)I" } : Jvm.MethodName) ({ cls := "BraidedFerry$River", name := "dragAgain", desc := "(LBraidedFerry$Anchor;I)I" } : Jvm.MethodName)) ∈ lw_all := lw_g (lw_at lw_m11 52 rfl) rfl
theorem q2525 : (Jvm.Cond.code ({ cls := "BraidedFerry$River", name := "dragAgain", desc := "(LBraidedFerry$Anchor;I)I" } : Jvm.MethodName) prog_21_method_36_code (6 : Nat) (Option.some Jvm.ClassFile.FieldType.int)) ∈ lw_all := lw_g (lw_at lw_m11 53 rfl) rfl
theorem q2526 : (Jvm.Cond.methodLink "BraidedFerry$River" (298 : Nat) ({ cls := "BraidedFerry$River", name := "change", desc := "(II)I" } : Jvm.MethodName)) ∈ lw_all := lw_g (lw_at lw_m11 54 rfl) rfl
theorem q2527 : (Jvm.Cond.privateMethod ({ cls := "BraidedFerry$River", name := "change", desc := "(II)I" } : Jvm.MethodName)) ∈ lw_tbl := lw_at lw_m11 55 rfl
theorem q2528 : (Jvm.Cond.instanceMethod ({ cls := "BraidedFerry$River", name := "change", desc := "(II)I" } : Jvm.MethodName)) ∈ lw_all := lw_g (lw_at lw_m11 56 rfl) rfl
theorem q2529 : (Jvm.Cond.code ({ cls := "BraidedFerry$River", name := "change", desc := "(II)I" } : Jvm.MethodName) prog_21_method_35_code (6 : Nat) (Option.some Jvm.ClassFile.FieldType.int)) ∈ lw_all := lw_g (lw_at lw_m11 57 rfl) rfl
theorem q2693 : (Jvm.Cond.selects "BraidedFerry$River" ({ cls := "java/lang/Object", name := "toString", desc := "()Ljava/lang/String;" } : Jvm.MethodName) ({ cls := "java/lang/Object", name := "toString", desc := "()Ljava/lang/String;" } : Jvm.MethodName)) ∈ lw_all := lw_g (lw_at lw_m11 221 rfl) rfl
theorem q2805 : (Jvm.Cond.instanceMethod ({ cls := "BraidedFerry$River", name := "waitingAt", desc := "(I)I" } : Jvm.MethodName)) ∈ lw_all := lw_g (lw_at lw_m12 93 rfl) rfl
theorem q2806 : (Jvm.Cond.selects "BraidedFerry$River" ({ cls := "BraidedFerry$River", name := "waitingAt", desc := "(I)I" } : Jvm.MethodName) ({ cls := "BraidedFerry$River", name := "waitingAt", desc := "(I)I" } : Jvm.MethodName)) ∈ lw_all := lw_g (lw_at lw_m12 94 rfl) rfl
theorem q2807 : (Jvm.Cond.code ({ cls := "BraidedFerry$River", name := "waitingAt", desc := "(I)I" } : Jvm.MethodName) prog_21_method_37_code (5 : Nat) (Option.some Jvm.ClassFile.FieldType.int)) ∈ lw_all := lw_g (lw_at lw_m12 95 rfl) rfl
theorem q3683 : (Jvm.Cond.castable "BraidedFerry$River" "java/lang/Object") ∈ lw_tbl := lw_at lw_m16 11 rfl
theorem in_X2 : ∀ w ∈ wsX20, w ∈ lw_all := lw_in wsX20 [279, 281, 283, 285, 287, 289, 291, 293, 295, 297, 299, 301, 303] (by decide +kernel) (by decide +kernel)

/-! BraidedFerry$Tally -/
set_option maxRecDepth 100000
def RX3 : String := "BraidedFerry$Tally"
def TX3 : u_T := fun k => match k with
  | _ => ("BraidedFerry$Tally", "counts", "Ljava/util/LinkedHashMap;", true)
def tyX3 : Nat → FieldType := fun k => match k with
  | _ => .object "java/util/LinkedHashMap"
abbrev wsX30 : List Cond := u_ws RX3 TX3 1
theorem nmX3 : ∀ a, a < 1 → ∀ b, b < 1 → a ≠ b → (TX3 a).2.1 ≠ (TX3 b).2.1 := by decide +kernel
theorem tyX3_ok : ∀ k, k < 1 → parseFieldDescriptor (TX3 k).2.2.1 = some (tyX3 k) := by decide +kernel
abbrev cX3_init : ByteArray := prog_25_method_1_code
def yX3_init : MethodName := ⟨RX3, "<init>", "()V"⟩
def dkwX3_init_0 : List UInt8 := [42, 183, 0, 1, 42, 187, 0, 7, 89, 183, 0, 9, 181, 0, 10, 177]
abbrev dktX3_init_0 : List UInt8 := dkwX3_init_0 ++ []
theorem dksX3_init_0 : cX3_init.data.toList.drop 0 = dktX3_init_0 := by decide +kernel
theorem dX3_init_0 : decode cX3_init 0 = .ok (.aload_n 0, 1) := dk_42 (dk_at dksX3_init_0 0 rfl rfl)
theorem dX3_init_1 : decode cX3_init 1 = .ok (.invokespecial 1, 3) := dk_183 0 1 (dk_at dksX3_init_0 1 rfl rfl)
theorem dX3_init_4 : decode cX3_init 4 = .ok (.aload_n 0, 1) := dk_42 (dk_at dksX3_init_0 4 rfl rfl)
theorem dX3_init_5 : decode cX3_init 5 = .ok (.new 7, 3) := dk_187 0 7 (dk_at dksX3_init_0 5 rfl rfl)
theorem dX3_init_8 : decode cX3_init 8 = .ok (.dup, 1) := dk_89 (dk_at dksX3_init_0 8 rfl rfl)
theorem dX3_init_9 : decode cX3_init 9 = .ok (.invokespecial 9, 3) := dk_183 0 9 (dk_at dksX3_init_0 9 rfl rfl)
theorem dX3_init_12 : decode cX3_init 12 = .ok (.putfield 10, 3) := dk_181 0 10 (dk_at dksX3_init_0 12 rfl rfl)
theorem dX3_init_15 : decode cX3_init 15 = .ok (.return_, 1) := dk_177 (dk_at dksX3_init_0 15 rfl rfl)
abbrev cX3_addAll : ByteArray := prog_25_method_4_code
def yX3_addAll : MethodName := ⟨RX3, "addAll", "(LBraidedFerry$Tally;)V"⟩
def dkwX3_addAll_2 : List UInt8 := [185, 0, 68, 1, 0, 192, 0, 20, 182, 0, 22, 182, 0, 71, 167, 255, 212, 177]
abbrev dktX3_addAll_2 : List UInt8 := dkwX3_addAll_2 ++ []
def dkwX3_addAll_1 : List UInt8 := [185, 0, 57, 1, 0, 192, 0, 61, 78, 42, 45, 185, 0, 63, 1, 0, 192, 0, 66, 45]
abbrev dktX3_addAll_1 : List UInt8 := dkwX3_addAll_1 ++ dktX3_addAll_2
def dkwX3_addAll_0 : List UInt8 := [43, 180, 0, 10, 182, 0, 41, 185, 0, 45, 1, 0, 77, 44, 185, 0, 51, 1, 0, 153, 0, 41, 44]
abbrev dktX3_addAll_0 : List UInt8 := dkwX3_addAll_0 ++ dktX3_addAll_1
theorem dksX3_addAll_0 : cX3_addAll.data.toList.drop 0 = dktX3_addAll_0 := by decide +kernel
theorem dksX3_addAll_1 : cX3_addAll.data.toList.drop 23 = dktX3_addAll_1 := dk_seg dksX3_addAll_0 23 rfl rfl
theorem dksX3_addAll_2 : cX3_addAll.data.toList.drop 43 = dktX3_addAll_2 := dk_seg dksX3_addAll_1 20 rfl rfl
theorem dX3_addAll_0 : decode cX3_addAll 0 = .ok (.aload_n 1, 1) := dk_43 (dk_at dksX3_addAll_0 0 rfl rfl)
theorem dX3_addAll_1 : decode cX3_addAll 1 = .ok (.getfield 10, 3) := dk_180 0 10 (dk_at dksX3_addAll_0 1 rfl rfl)
theorem dX3_addAll_4 : decode cX3_addAll 4 = .ok (.invokevirtual 41, 3) := dk_182 0 41 (dk_at dksX3_addAll_0 4 rfl rfl)
theorem dX3_addAll_7 : decode cX3_addAll 7 = .ok (.invokeinterface 45 1, 5) := by decide +kernel
theorem dX3_addAll_12 : decode cX3_addAll 12 = .ok (.astore_n 2, 1) := dk_77 (dk_at dksX3_addAll_0 12 rfl rfl)
theorem dX3_addAll_13 : decode cX3_addAll 13 = .ok (.aload_n 2, 1) := dk_44 (dk_at dksX3_addAll_0 13 rfl rfl)
theorem dX3_addAll_14 : decode cX3_addAll 14 = .ok (.invokeinterface 51 1, 5) := by decide +kernel
theorem dX3_addAll_19 : decode cX3_addAll 19 = .ok (.ifCond .eq 41, 3) := dk_153 0 41 (dk_at dksX3_addAll_0 19 rfl rfl)
theorem dX3_addAll_22 : decode cX3_addAll 22 = .ok (.aload_n 2, 1) := dk_44 (dk_at dksX3_addAll_0 22 rfl rfl)
theorem dX3_addAll_23 : decode cX3_addAll 23 = .ok (.invokeinterface 57 1, 5) := by decide +kernel
theorem dX3_addAll_28 : decode cX3_addAll 28 = .ok (.checkcast 61, 3) := dk_192 0 61 (dk_at dksX3_addAll_1 5 rfl rfl)
theorem dX3_addAll_31 : decode cX3_addAll 31 = .ok (.astore_n 3, 1) := dk_78 (dk_at dksX3_addAll_1 8 rfl rfl)
theorem dX3_addAll_32 : decode cX3_addAll 32 = .ok (.aload_n 0, 1) := dk_42 (dk_at dksX3_addAll_1 9 rfl rfl)
theorem dX3_addAll_33 : decode cX3_addAll 33 = .ok (.aload_n 3, 1) := dk_45 (dk_at dksX3_addAll_1 10 rfl rfl)
theorem dX3_addAll_34 : decode cX3_addAll 34 = .ok (.invokeinterface 63 1, 5) := by decide +kernel
theorem dX3_addAll_39 : decode cX3_addAll 39 = .ok (.checkcast 66, 3) := dk_192 0 66 (dk_at dksX3_addAll_1 16 rfl rfl)
theorem dX3_addAll_42 : decode cX3_addAll 42 = .ok (.aload_n 3, 1) := dk_45 (dk_at dksX3_addAll_1 19 rfl rfl)
theorem dX3_addAll_43 : decode cX3_addAll 43 = .ok (.invokeinterface 68 1, 5) := by decide +kernel
theorem dX3_addAll_48 : decode cX3_addAll 48 = .ok (.checkcast 20, 3) := dk_192 0 20 (dk_at dksX3_addAll_2 5 rfl rfl)
theorem dX3_addAll_51 : decode cX3_addAll 51 = .ok (.invokevirtual 22, 3) := dk_182 0 22 (dk_at dksX3_addAll_2 8 rfl rfl)
theorem dX3_addAll_54 : decode cX3_addAll 54 = .ok (.invokevirtual 71, 3) := dk_182 0 71 (dk_at dksX3_addAll_2 11 rfl rfl)
theorem dX3_addAll_57 : decode cX3_addAll 57 = .ok (.goto (-44), 3) := dk_167 255 212 (dk_at dksX3_addAll_2 14 rfl rfl)
theorem dX3_addAll_60 : decode cX3_addAll 60 = .ok (.return_, 1) := dk_177 (dk_at dksX3_addAll_2 17 rfl rfl)
abbrev cX3_add : ByteArray := prog_25_method_3_code
def yX3_add : MethodName := ⟨RX3, "add", "(LBraidedFerry$Weighed;I)V"⟩
def dkwX3_add_1 : List UInt8 := [58, 4, 167, 0, 20, 42, 180, 0, 10, 43, 29, 184, 0, 33, 182, 0, 37, 192, 0, 20, 58, 4, 177]
abbrev dktX3_add_1 : List UInt8 := dkwX3_add_1 ++ []
def dkwX3_add_0 : List UInt8 := [42, 43, 182, 0, 26, 28, 96, 62, 29, 154, 0, 19, 42, 180, 0, 10, 43, 182, 0, 30, 192, 0, 20]
abbrev dktX3_add_0 : List UInt8 := dkwX3_add_0 ++ dktX3_add_1
theorem dksX3_add_0 : cX3_add.data.toList.drop 0 = dktX3_add_0 := by decide +kernel
theorem dksX3_add_1 : cX3_add.data.toList.drop 23 = dktX3_add_1 := dk_seg dksX3_add_0 23 rfl rfl
theorem dX3_add_0 : decode cX3_add 0 = .ok (.aload_n 0, 1) := dk_42 (dk_at dksX3_add_0 0 rfl rfl)
theorem dX3_add_1 : decode cX3_add 1 = .ok (.aload_n 1, 1) := dk_43 (dk_at dksX3_add_0 1 rfl rfl)
theorem dX3_add_2 : decode cX3_add 2 = .ok (.invokevirtual 26, 3) := dk_182 0 26 (dk_at dksX3_add_0 2 rfl rfl)
theorem dX3_add_5 : decode cX3_add 5 = .ok (.iload_n 2, 1) := dk_28 (dk_at dksX3_add_0 5 rfl rfl)
theorem dX3_add_6 : decode cX3_add 6 = .ok (.iadd, 1) := dk_96 (dk_at dksX3_add_0 6 rfl rfl)
theorem dX3_add_7 : decode cX3_add 7 = .ok (.istore_n 3, 1) := dk_62 (dk_at dksX3_add_0 7 rfl rfl)
theorem dX3_add_8 : decode cX3_add 8 = .ok (.iload_n 3, 1) := dk_29 (dk_at dksX3_add_0 8 rfl rfl)
theorem dX3_add_9 : decode cX3_add 9 = .ok (.ifCond .ne 19, 3) := dk_154 0 19 (dk_at dksX3_add_0 9 rfl rfl)
theorem dX3_add_12 : decode cX3_add 12 = .ok (.aload_n 0, 1) := dk_42 (dk_at dksX3_add_0 12 rfl rfl)
theorem dX3_add_13 : decode cX3_add 13 = .ok (.getfield 10, 3) := dk_180 0 10 (dk_at dksX3_add_0 13 rfl rfl)
theorem dX3_add_16 : decode cX3_add 16 = .ok (.aload_n 1, 1) := dk_43 (dk_at dksX3_add_0 16 rfl rfl)
theorem dX3_add_17 : decode cX3_add 17 = .ok (.invokevirtual 30, 3) := dk_182 0 30 (dk_at dksX3_add_0 17 rfl rfl)
theorem dX3_add_20 : decode cX3_add 20 = .ok (.checkcast 20, 3) := dk_192 0 20 (dk_at dksX3_add_0 20 rfl rfl)
theorem dX3_add_23 : decode cX3_add 23 = .ok (.astore 4, 2) := dk_58 4 (dk_at dksX3_add_1 0 rfl rfl)
theorem dX3_add_25 : decode cX3_add 25 = .ok (.goto 20, 3) := dk_167 0 20 (dk_at dksX3_add_1 2 rfl rfl)
theorem dX3_add_28 : decode cX3_add 28 = .ok (.aload_n 0, 1) := dk_42 (dk_at dksX3_add_1 5 rfl rfl)
theorem dX3_add_29 : decode cX3_add 29 = .ok (.getfield 10, 3) := dk_180 0 10 (dk_at dksX3_add_1 6 rfl rfl)
theorem dX3_add_32 : decode cX3_add 32 = .ok (.aload_n 1, 1) := dk_43 (dk_at dksX3_add_1 9 rfl rfl)
theorem dX3_add_33 : decode cX3_add 33 = .ok (.iload_n 3, 1) := dk_29 (dk_at dksX3_add_1 10 rfl rfl)
theorem dX3_add_34 : decode cX3_add 34 = .ok (.invokestatic 33, 3) := dk_184 0 33 (dk_at dksX3_add_1 11 rfl rfl)
theorem dX3_add_37 : decode cX3_add 37 = .ok (.invokevirtual 37, 3) := dk_182 0 37 (dk_at dksX3_add_1 14 rfl rfl)
theorem dX3_add_40 : decode cX3_add 40 = .ok (.checkcast 20, 3) := dk_192 0 20 (dk_at dksX3_add_1 17 rfl rfl)
theorem dX3_add_43 : decode cX3_add 43 = .ok (.astore 4, 2) := dk_58 4 (dk_at dksX3_add_1 20 rfl rfl)
theorem dX3_add_45 : decode cX3_add 45 = .ok (.return_, 1) := dk_177 (dk_at dksX3_add_1 22 rfl rfl)
abbrev cX3_of : ByteArray := prog_25_method_2_code
def yX3_of : MethodName := ⟨RX3, "of", "(LBraidedFerry$Weighed;)I"⟩
def dkwX3_of_1 : List UInt8 := [172]
abbrev dktX3_of_1 : List UInt8 := dkwX3_of_1 ++ []
def dkwX3_of_0 : List UInt8 := [42, 180, 0, 10, 43, 182, 0, 16, 192, 0, 20, 77, 44, 199, 0, 7, 3, 167, 0, 7, 44, 182, 0, 22]
abbrev dktX3_of_0 : List UInt8 := dkwX3_of_0 ++ dktX3_of_1
theorem dksX3_of_0 : cX3_of.data.toList.drop 0 = dktX3_of_0 := by decide +kernel
theorem dksX3_of_1 : cX3_of.data.toList.drop 24 = dktX3_of_1 := dk_seg dksX3_of_0 24 rfl rfl
theorem dX3_of_0 : decode cX3_of 0 = .ok (.aload_n 0, 1) := dk_42 (dk_at dksX3_of_0 0 rfl rfl)
theorem dX3_of_1 : decode cX3_of 1 = .ok (.getfield 10, 3) := dk_180 0 10 (dk_at dksX3_of_0 1 rfl rfl)
theorem dX3_of_4 : decode cX3_of 4 = .ok (.aload_n 1, 1) := dk_43 (dk_at dksX3_of_0 4 rfl rfl)
theorem dX3_of_5 : decode cX3_of 5 = .ok (.invokevirtual 16, 3) := dk_182 0 16 (dk_at dksX3_of_0 5 rfl rfl)
theorem dX3_of_8 : decode cX3_of 8 = .ok (.checkcast 20, 3) := dk_192 0 20 (dk_at dksX3_of_0 8 rfl rfl)
theorem dX3_of_11 : decode cX3_of 11 = .ok (.astore_n 2, 1) := dk_77 (dk_at dksX3_of_0 11 rfl rfl)
theorem dX3_of_12 : decode cX3_of 12 = .ok (.aload_n 2, 1) := dk_44 (dk_at dksX3_of_0 12 rfl rfl)
theorem dX3_of_13 : decode cX3_of 13 = .ok (.ifnonnull 7, 3) := dk_199 0 7 (dk_at dksX3_of_0 13 rfl rfl)
theorem dX3_of_16 : decode cX3_of 16 = .ok (.iconst 0, 1) := dk_3 (dk_at dksX3_of_0 16 rfl rfl)
theorem dX3_of_17 : decode cX3_of 17 = .ok (.goto 7, 3) := dk_167 0 7 (dk_at dksX3_of_0 17 rfl rfl)
theorem dX3_of_20 : decode cX3_of 20 = .ok (.aload_n 2, 1) := dk_44 (dk_at dksX3_of_0 20 rfl rfl)
theorem dX3_of_21 : decode cX3_of 21 = .ok (.invokevirtual 22, 3) := dk_182 0 22 (dk_at dksX3_of_0 21 rfl rfl)
theorem dX3_of_24 : decode cX3_of 24 = .ok (.ireturn, 1) := dk_172 (dk_at dksX3_of_1 0 rfl rfl)
abbrev cX3_weight : ByteArray := prog_25_method_7_code
def yX3_weight : MethodName := ⟨RX3, "weight", "()I"⟩
def dkwX3_weight_0 : List UInt8 := [42, 180, 0, 10, 4, 184, 0, 75, 172]
abbrev dktX3_weight_0 : List UInt8 := dkwX3_weight_0 ++ []
theorem dksX3_weight_0 : cX3_weight.data.toList.drop 0 = dktX3_weight_0 := by decide +kernel
theorem dX3_weight_0 : decode cX3_weight 0 = .ok (.aload_n 0, 1) := dk_42 (dk_at dksX3_weight_0 0 rfl rfl)
theorem dX3_weight_1 : decode cX3_weight 1 = .ok (.getfield 10, 3) := dk_180 0 10 (dk_at dksX3_weight_0 1 rfl rfl)
theorem dX3_weight_4 : decode cX3_weight 4 = .ok (.iconst 1, 1) := dk_4 (dk_at dksX3_weight_0 4 rfl rfl)
theorem dX3_weight_5 : decode cX3_weight 5 = .ok (.invokestatic 75, 3) := dk_184 0 75 (dk_at dksX3_weight_0 5 rfl rfl)
theorem dX3_weight_8 : decode cX3_weight 8 = .ok (.ireturn, 1) := dk_172 (dk_at dksX3_weight_0 8 rfl rfl)
abbrev cX3_move : ByteArray := prog_25_method_5_code
def yX3_move : MethodName := ⟨RX3, "move", "(LBraidedFerry$Weighed;ILBraidedFerry$Tally;)V"⟩
def dkwX3_move_0 : List UInt8 := [42, 43, 28, 116, 182, 0, 71, 45, 43, 28, 182, 0, 71, 177]
abbrev dktX3_move_0 : List UInt8 := dkwX3_move_0 ++ []
theorem dksX3_move_0 : cX3_move.data.toList.drop 0 = dktX3_move_0 := by decide +kernel
theorem dX3_move_0 : decode cX3_move 0 = .ok (.aload_n 0, 1) := dk_42 (dk_at dksX3_move_0 0 rfl rfl)
theorem dX3_move_1 : decode cX3_move 1 = .ok (.aload_n 1, 1) := dk_43 (dk_at dksX3_move_0 1 rfl rfl)
theorem dX3_move_2 : decode cX3_move 2 = .ok (.iload_n 2, 1) := dk_28 (dk_at dksX3_move_0 2 rfl rfl)
theorem dX3_move_3 : decode cX3_move 3 = .ok (.ineg, 1) := dk_116 (dk_at dksX3_move_0 3 rfl rfl)
theorem dX3_move_4 : decode cX3_move 4 = .ok (.invokevirtual 71, 3) := dk_182 0 71 (dk_at dksX3_move_0 4 rfl rfl)
theorem dX3_move_7 : decode cX3_move 7 = .ok (.aload_n 3, 1) := dk_45 (dk_at dksX3_move_0 7 rfl rfl)
theorem dX3_move_8 : decode cX3_move 8 = .ok (.aload_n 1, 1) := dk_43 (dk_at dksX3_move_0 8 rfl rfl)
theorem dX3_move_9 : decode cX3_move 9 = .ok (.iload_n 2, 1) := dk_28 (dk_at dksX3_move_0 9 rfl rfl)
theorem dX3_move_10 : decode cX3_move 10 = .ok (.invokevirtual 71, 3) := dk_182 0 71 (dk_at dksX3_move_0 10 rfl rfl)
theorem dX3_move_13 : decode cX3_move 13 = .ok (.return_, 1) := dk_177 (dk_at dksX3_move_0 13 rfl rfl)
abbrev cX3_all : ByteArray := prog_25_method_6_code
def yX3_all : MethodName := ⟨RX3, "all", "()I"⟩
def dkwX3_all_0 : List UInt8 := [42, 180, 0, 10, 3, 184, 0, 75, 172]
abbrev dktX3_all_0 : List UInt8 := dkwX3_all_0 ++ []
theorem dksX3_all_0 : cX3_all.data.toList.drop 0 = dktX3_all_0 := by decide +kernel
theorem dX3_all_0 : decode cX3_all 0 = .ok (.aload_n 0, 1) := dk_42 (dk_at dksX3_all_0 0 rfl rfl)
theorem dX3_all_1 : decode cX3_all 1 = .ok (.getfield 10, 3) := dk_180 0 10 (dk_at dksX3_all_0 1 rfl rfl)
theorem dX3_all_4 : decode cX3_all 4 = .ok (.iconst 0, 1) := dk_3 (dk_at dksX3_all_0 4 rfl rfl)
theorem dX3_all_5 : decode cX3_all 5 = .ok (.invokestatic 75, 3) := dk_184 0 75 (dk_at dksX3_all_0 5 rfl rfl)
theorem dX3_all_8 : decode cX3_all 8 = .ok (.ireturn, 1) := dk_172 (dk_at dksX3_all_0 8 rfl rfl)
theorem q78 : (Jvm.Cond.initialized "BraidedFerry$Tally") ∈ lw_all := lw_g (lw_at lw_m1 6 rfl) rfl
theorem q188 : (Jvm.Cond.instantiable "BraidedFerry$Tally" (1 : Nat)) ∈ lw_all := lw_g (lw_at lw_m1 116 rfl) rfl
theorem q190 : (Jvm.Cond.instanceMethod ({ cls := "BraidedFerry$Tally", name := "<init>", desc := "()V" } : Jvm.MethodName)) ∈ lw_all := lw_g (lw_at lw_m1 118 rfl) rfl
theorem q191 : (Jvm.Cond.code ({ cls := "BraidedFerry$Tally", name := "<init>", desc := "()V" } : Jvm.MethodName) prog_25_method_1_code (1 : Nat) (Option.none : Option Jvm.ClassFile.FieldType)) ∈ lw_all := lw_g (lw_at lw_m1 119 rfl) rfl
theorem q192 : (Jvm.Cond.methodLink "BraidedFerry$Tally" (1 : Nat) ({ cls := "java/lang/Object", name := "<init>", desc := "()V" } : Jvm.MethodName)) ∈ lw_all := lw_g (lw_at lw_m1 120 rfl) rfl
theorem q193 : (Jvm.Cond.classLink "BraidedFerry$Tally" (7 : Nat) "java/util/LinkedHashMap") ∈ lw_all := lw_g (lw_at lw_m1 121 rfl) rfl
theorem q195 : (Jvm.Cond.methodLink "BraidedFerry$Tally" (9 : Nat) ({ cls := "java/util/LinkedHashMap", name := "<init>", desc := "()V" } : Jvm.MethodName)) ∈ lw_all := lw_g (lw_at lw_m1 123 rfl) rfl
theorem q247 : (Jvm.Cond.fieldLink "BraidedFerry$Tally" (10 : Nat) "BraidedFerry$Tally" "counts" "Ljava/util/LinkedHashMap;") ∈ lw_all := lw_g (lw_at lw_m1 175 rfl) rfl
theorem q250 : (Jvm.Cond.laysFinal "BraidedFerry$Tally" "BraidedFerry$Tally" "counts" "Ljava/util/LinkedHashMap;") ∈ lw_all := lw_g (lw_at lw_m1 178 rfl) rfl
theorem q251 : (Jvm.Cond.soleField "BraidedFerry$Tally" "counts") ∈ lw_all := lw_g (lw_at lw_m1 179 rfl) rfl
theorem q252 : (Jvm.Cond.superclass "BraidedFerry$Tally" "java/lang/Object") ∈ lw_all := lw_g (lw_at lw_m1 180 rfl) rfl
theorem q615 : (Jvm.Cond.selects "BraidedFerry$Tally" ({ cls := "java/lang/Object", name := "getClass", desc := "()Ljava/lang/Class;" } : Jvm.MethodName) ({ cls := "java/lang/Object", name := "getClass", desc := "()Ljava/lang/Class;" } : Jvm.MethodName)) ∈ lw_all := lw_g (lw_at lw_m3 63 rfl) rfl
theorem q658 : (Jvm.Cond.instanceMethod ({ cls := "BraidedFerry$Tally", name := "addAll", desc := "(LBraidedFerry$Tally;)V" } : Jvm.MethodName)) ∈ lw_all := lw_g (lw_at lw_m3 106 rfl) rfl
theorem q659 : (Jvm.Cond.selects "BraidedFerry$Tally" ({ cls := "BraidedFerry$Tally", name := "addAll", desc := "(LBraidedFerry$Tally;)V" } : Jvm.MethodName) ({ cls := "BraidedFerry$Tally", name := "addAll", desc := "(LBraidedFerry$Tally;)V" } : Jvm.MethodName)) ∈ lw_all := lw_g (lw_at lw_m3 107 rfl) rfl
theorem q660 : (Jvm.Cond.code ({ cls := "BraidedFerry$Tally", name := "addAll", desc := "(LBraidedFerry$Tally;)V" } : Jvm.MethodName) prog_25_method_4_code (4 : Nat) (Option.none : Option Jvm.ClassFile.FieldType)) ∈ lw_all := lw_g (lw_at lw_m3 108 rfl) rfl
theorem q661 : (Jvm.Cond.methodLink "BraidedFerry$Tally" (41 : Nat) ({ cls := "java/util/LinkedHashMap", name := "entrySet", desc := "()Ljava/util/Set;" } : Jvm.MethodName)) ∈ lw_all := lw_g (lw_at lw_m3 109 rfl) rfl
theorem q686 : (Jvm.Cond.interfaceEntry "BraidedFerry$Tally" (45 : Nat)) ∈ lw_tbl := lw_at lw_m3 134 rfl
theorem q687 : (Jvm.Cond.methodLink "BraidedFerry$Tally" (45 : Nat) ({ cls := "java/util/Set", name := "iterator", desc := "()Ljava/util/Iterator;" } : Jvm.MethodName)) ∈ lw_all := lw_g (lw_at lw_m3 135 rfl) rfl
theorem q721 : (Jvm.Cond.interfaceEntry "BraidedFerry$Tally" (51 : Nat)) ∈ lw_tbl := lw_at lw_m3 169 rfl
theorem q722 : (Jvm.Cond.methodLink "BraidedFerry$Tally" (51 : Nat) ({ cls := "java/util/Iterator", name := "hasNext", desc := "()Z" } : Jvm.MethodName)) ∈ lw_all := lw_g (lw_at lw_m3 170 rfl) rfl
theorem q723 : (Jvm.Cond.interfaceEntry "BraidedFerry$Tally" (57 : Nat)) ∈ lw_tbl := lw_at lw_m3 171 rfl
theorem q724 : (Jvm.Cond.methodLink "BraidedFerry$Tally" (57 : Nat) ({ cls := "java/util/Iterator", name := "next", desc := "()Ljava/lang/Object;" } : Jvm.MethodName)) ∈ lw_all := lw_g (lw_at lw_m3 172 rfl) rfl
theorem q725 : (Jvm.Cond.classLink "BraidedFerry$Tally" (61 : Nat) "java/util/Map$Entry") ∈ lw_all := lw_g (lw_at lw_m3 173 rfl) rfl
theorem q726 : (Jvm.Cond.interfaceEntry "BraidedFerry$Tally" (63 : Nat)) ∈ lw_tbl := lw_at lw_m3 174 rfl
theorem q727 : (Jvm.Cond.methodLink "BraidedFerry$Tally" (63 : Nat) ({ cls := "java/util/Map$Entry", name := "getKey", desc := "()Ljava/lang/Object;" } : Jvm.MethodName)) ∈ lw_all := lw_g (lw_at lw_m3 175 rfl) rfl
theorem q742 : (Jvm.Cond.classLink "BraidedFerry$Tally" (66 : Nat) "BraidedFerry$Weighed") ∈ lw_all := lw_g (lw_at lw_m3 190 rfl) rfl
theorem q743 : (Jvm.Cond.interfaceEntry "BraidedFerry$Tally" (68 : Nat)) ∈ lw_tbl := lw_at lw_m3 191 rfl
theorem q744 : (Jvm.Cond.methodLink "BraidedFerry$Tally" (68 : Nat) ({ cls := "java/util/Map$Entry", name := "getValue", desc := "()Ljava/lang/Object;" } : Jvm.MethodName)) ∈ lw_all := lw_g (lw_at lw_m3 192 rfl) rfl
theorem q756 : (Jvm.Cond.classLink "BraidedFerry$Tally" (20 : Nat) "java/lang/Integer") ∈ lw_all := lw_g (lw_at lw_m3 204 rfl) rfl
theorem q757 : (Jvm.Cond.methodLink "BraidedFerry$Tally" (22 : Nat) ({ cls := "java/lang/Integer", name := "intValue", desc := "()I" } : Jvm.MethodName)) ∈ lw_all := lw_g (lw_at lw_m3 205 rfl) rfl
theorem q761 : (Jvm.Cond.methodLink "BraidedFerry$Tally" (71 : Nat) ({ cls := "BraidedFerry$Tally", name := "add", desc := "(LBraidedFerry$Weighed;I)V" } : Jvm.MethodName)) ∈ lw_all := lw_g (lw_at lw_m3 209 rfl) rfl
theorem q762 : (Jvm.Cond.instanceMethod ({ cls := "BraidedFerry$Tally", name := "add", desc := "(LBraidedFerry$Weighed;I)V" } : Jvm.MethodName)) ∈ lw_all := lw_g (lw_at lw_m3 210 rfl) rfl
theorem q763 : (Jvm.Cond.selects "BraidedFerry$Tally" ({ cls := "BraidedFerry$Tally", name := "add", desc := "(LBraidedFerry$Weighed;I)V" } : Jvm.MethodName) ({ cls := "BraidedFerry$Tally", name := "add", desc := "(LBraidedFerry$Weighed;I)V" } : Jvm.MethodName)) ∈ lw_all := lw_g (lw_at lw_m3 211 rfl) rfl
theorem q764 : (Jvm.Cond.code ({ cls := "BraidedFerry$Tally", name := "add", desc := "(LBraidedFerry$Weighed;I)V" } : Jvm.MethodName) prog_25_method_3_code (5 : Nat) (Option.none : Option Jvm.ClassFile.FieldType)) ∈ lw_all := lw_g (lw_at lw_m3 212 rfl) rfl
theorem q765 : (Jvm.Cond.methodLink "BraidedFerry$Tally" (26 : Nat) ({ cls := "BraidedFerry$Tally", name := "of", desc := "(LBraidedFerry$Weighed;)I" } : Jvm.MethodName)) ∈ lw_all := lw_g (lw_at lw_m3 213 rfl) rfl
theorem q766 : (Jvm.Cond.instanceMethod ({ cls := "BraidedFerry$Tally", name := "of", desc := "(LBraidedFerry$Weighed;)I" } : Jvm.MethodName)) ∈ lw_all := lw_g (lw_at lw_m3 214 rfl) rfl
theorem q767 : (Jvm.Cond.selects "BraidedFerry$Tally" ({ cls := "BraidedFerry$Tally", name := "of", desc := "(LBraidedFerry$Weighed;)I" } : Jvm.MethodName) ({ cls := "BraidedFerry$Tally", name := "of", desc := "(LBraidedFerry$Weighed;)I" } : Jvm.MethodName)) ∈ lw_all := lw_g (lw_at lw_m3 215 rfl) rfl
theorem q768 : (Jvm.Cond.code ({ cls := "BraidedFerry$Tally", name := "of", desc := "(LBraidedFerry$Weighed;)I" } : Jvm.MethodName) prog_25_method_2_code (3 : Nat) (Option.some Jvm.ClassFile.FieldType.int)) ∈ lw_all := lw_g (lw_at lw_m3 216 rfl) rfl
theorem q769 : (Jvm.Cond.methodLink "BraidedFerry$Tally" (16 : Nat) ({ cls := "java/util/LinkedHashMap", name := "get", desc := "(Ljava/lang/Object;)Ljava/lang/Object;" } : Jvm.MethodName)) ∈ lw_all := lw_g (lw_at lw_m3 217 rfl) rfl
theorem q809 : (Jvm.Cond.selects "BraidedFerry$Tally" ({ cls := "java/lang/Object", name := "hashCode", desc := "()I" } : Jvm.MethodName) ({ cls := "java/lang/Object", name := "hashCode", desc := "()I" } : Jvm.MethodName)) ∈ lw_all := lw_g (lw_at lw_m4 17 rfl) rfl
theorem q1135 : (Jvm.Cond.selects "BraidedFerry$Tally" ({ cls := "java/lang/Object", name := "equals", desc := "(Ljava/lang/Object;)Z" } : Jvm.MethodName) ({ cls := "java/lang/Object", name := "equals", desc := "(Ljava/lang/Object;)Z" } : Jvm.MethodName)) ∈ lw_all := lw_g (lw_at lw_m5 103 rfl) rfl
theorem q1384 : (Jvm.Cond.methodLink "BraidedFerry$Tally" (30 : Nat) ({ cls := "java/util/LinkedHashMap", name := "remove", desc := "(Ljava/lang/Object;)Ljava/lang/Object;" } : Jvm.MethodName)) ∈ lw_all := lw_g (lw_at lw_m6 112 rfl) rfl
theorem q1486 : (Jvm.Cond.methodLink "BraidedFerry$Tally" (33 : Nat) ({ cls := "java/lang/Integer", name := "valueOf", desc := "(I)Ljava/lang/Integer;" } : Jvm.MethodName)) ∈ lw_all := lw_g (lw_at lw_m6 214 rfl) rfl
theorem q1505 : (Jvm.Cond.methodLink "BraidedFerry$Tally" (37 : Nat) ({ cls := "java/util/LinkedHashMap", name := "put", desc := "(Ljava/lang/Object;Ljava/lang/Object;)Ljava/lang/Object;" } : Jvm.MethodName)) ∈ lw_all := lw_g (lw_at lw_m6 233 rfl) rfl
theorem q1789 : (Jvm.Cond.instanceMethod ({ cls := "BraidedFerry$Tally", name := "weight", desc := "()I" } : Jvm.MethodName)) ∈ lw_all := lw_g (lw_at lw_m8 37 rfl) rfl
theorem q1790 : (Jvm.Cond.selects "BraidedFerry$Tally" ({ cls := "BraidedFerry$Tally", name := "weight", desc := "()I" } : Jvm.MethodName) ({ cls := "BraidedFerry$Tally", name := "weight", desc := "()I" } : Jvm.MethodName)) ∈ lw_all := lw_g (lw_at lw_m8 38 rfl) rfl
theorem q1791 : (Jvm.Cond.code ({ cls := "BraidedFerry$Tally", name := "weight", desc := "()I" } : Jvm.MethodName) prog_25_method_7_code (1 : Nat) (Option.some Jvm.ClassFile.FieldType.int)) ∈ lw_all := lw_g (lw_at lw_m8 39 rfl) rfl
theorem q1792 : (Jvm.Cond.methodLinkNest "BraidedFerry$Tally" (75 : Nat) ({ cls := "BraidedFerry", name := "sum", desc := "(Ljava/util/Map;Z)I" } : Jvm.MethodName) "BraidedFerry") ∈ lw_tbl := lw_at lw_m8 40 rfl
theorem q1839 : (Jvm.Cond.instanceMethod ({ cls := "BraidedFerry$Tally", name := "move", desc := "(LBraidedFerry$Weighed;ILBraidedFerry$Tally;)V" } : Jvm.MethodName)) ∈ lw_all := lw_g (lw_at lw_m8 87 rfl) rfl
theorem q1840 : (Jvm.Cond.selects "BraidedFerry$Tally" ({ cls := "BraidedFerry$Tally", name := "move", desc := "(LBraidedFerry$Weighed;ILBraidedFerry$Tally;)V" } : Jvm.MethodName) ({ cls := "BraidedFerry$Tally", name := "move", desc := "(LBraidedFerry$Weighed;ILBraidedFerry$Tally;)V" } : Jvm.MethodName)) ∈ lw_all := lw_g (lw_at lw_m8 88 rfl) rfl
theorem q1841 : (Jvm.Cond.code ({ cls := "BraidedFerry$Tally", name := "move", desc := "(LBraidedFerry$Weighed;ILBraidedFerry$Tally;)V" } : Jvm.MethodName) prog_25_method_5_code (4 : Nat) (Option.none : Option Jvm.ClassFile.FieldType)) ∈ lw_all := lw_g (lw_at lw_m8 89 rfl) rfl
theorem q2697 : (Jvm.Cond.selects "BraidedFerry$Tally" ({ cls := "java/lang/Object", name := "toString", desc := "()Ljava/lang/String;" } : Jvm.MethodName) ({ cls := "java/lang/Object", name := "toString", desc := "()Ljava/lang/String;" } : Jvm.MethodName)) ∈ lw_all := lw_g (lw_at lw_m11 225 rfl) rfl
theorem q2792 : (Jvm.Cond.instanceMethod ({ cls := "BraidedFerry$Tally", name := "all", desc := "()I" } : Jvm.MethodName)) ∈ lw_all := lw_g (lw_at lw_m12 80 rfl) rfl
theorem q2793 : (Jvm.Cond.selects "BraidedFerry$Tally" ({ cls := "BraidedFerry$Tally", name := "all", desc := "()I" } : Jvm.MethodName) ({ cls := "BraidedFerry$Tally", name := "all", desc := "()I" } : Jvm.MethodName)) ∈ lw_all := lw_g (lw_at lw_m12 81 rfl) rfl
theorem q2794 : (Jvm.Cond.code ({ cls := "BraidedFerry$Tally", name := "all", desc := "()I" } : Jvm.MethodName) prog_25_method_6_code (1 : Nat) (Option.some Jvm.ClassFile.FieldType.int)) ∈ lw_all := lw_g (lw_at lw_m12 82 rfl) rfl
theorem q3685 : (Jvm.Cond.castable "BraidedFerry$Tally" "java/lang/Object") ∈ lw_tbl := lw_at lw_m16 13 rfl
theorem in_X3 : ∀ w ∈ wsX30, w ∈ lw_all := lw_in wsX30 [250] (by decide +kernel) (by decide +kernel)

