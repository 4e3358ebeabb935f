/-! BraidedFerry -/
set_option maxRecDepth 100000
def RX1 : String := "BraidedFerry"
def TX1 : u_T := fun k => match k with
  | 0 => ("BraidedFerry", "river", "LBraidedFerry$River;", false)
  | 1 => ("BraidedFerry", "past", "Ljava/util/ArrayDeque;", true)
  | 2 => ("BraidedFerry", "input", "Ljava/lang/StringBuilder;", true)
  | 3 => ("BraidedFerry", "line", "Ljava/lang/CharSequence;", false)
  | 4 => ("BraidedFerry", "fault", "I", false)
  | 5 => ("BraidedFerry", "reason", "I", false)
  | 6 => ("BraidedFerry", "detail", "I", false)
  | _ => ("BraidedFerry", "saved", "LBraidedFerry$River;", false)
def tyX1 : Nat → FieldType := fun k => match k with
  | 0 => .object "BraidedFerry$River"
  | 1 => .object "java/util/ArrayDeque"
  | 2 => .object "java/lang/StringBuilder"
  | 3 => .object "java/lang/CharSequence"
  | 4 => .int
  | 5 => .int
  | 6 => .int
  | _ => .object "BraidedFerry$River"
abbrev wsX10 : List Cond := u_ws RX1 TX1 8
theorem nmX1 : ∀ a, a < 8 → ∀ b, b < 8 → a ≠ b → (TX1 a).2.1 ≠ (TX1 b).2.1 := by decide +kernel
theorem tyX1_ok : ∀ k, k < 8 → parseFieldDescriptor (TX1 k).2.2.1 = some (tyX1 k) := by decide +kernel
abbrev cX1_init : ByteArray := prog_1_method_9_code
def yX1_init : MethodName := ⟨RX1, "<init>", "()V"⟩
def dkwX1_init_2 : List UInt8 := [181, 0, 102, 177]
abbrev dktX1_init_2 : List UInt8 := dkwX1_init_2 ++ []
def dkwX1_init_1 : List UInt8 := [181, 0, 85, 42, 187, 0, 89, 89, 183, 0, 91, 181, 0, 92, 42, 18, 96, 181, 0, 98, 42, 2]
abbrev dktX1_init_1 : List UInt8 := dkwX1_init_1 ++ dktX1_init_2
def dkwX1_init_0 : List UInt8 := [42, 183, 0, 72, 42, 187, 0, 75, 89, 183, 0, 77, 181, 0, 78, 42, 187, 0, 82, 89, 183, 0, 84]
abbrev dktX1_init_0 : List UInt8 := dkwX1_init_0 ++ dktX1_init_1
theorem dksX1_init_0 : cX1_init.data.toList.drop 0 = dktX1_init_0 := by decide +kernel
theorem dksX1_init_1 : cX1_init.data.toList.drop 23 = dktX1_init_1 := dk_seg dksX1_init_0 23 rfl rfl
theorem dksX1_init_2 : cX1_init.data.toList.drop 45 = dktX1_init_2 := dk_seg dksX1_init_1 22 rfl rfl
theorem dX1_init_0 : decode cX1_init 0 = .ok (.aload_n 0, 1) := dk_42 (dk_at dksX1_init_0 0 rfl rfl)
theorem dX1_init_1 : decode cX1_init 1 = .ok (.invokespecial 72, 3) := dk_183 0 72 (dk_at dksX1_init_0 1 rfl rfl)
theorem dX1_init_4 : decode cX1_init 4 = .ok (.aload_n 0, 1) := dk_42 (dk_at dksX1_init_0 4 rfl rfl)
theorem dX1_init_5 : decode cX1_init 5 = .ok (.new 75, 3) := dk_187 0 75 (dk_at dksX1_init_0 5 rfl rfl)
theorem dX1_init_8 : decode cX1_init 8 = .ok (.dup, 1) := dk_89 (dk_at dksX1_init_0 8 rfl rfl)
theorem dX1_init_9 : decode cX1_init 9 = .ok (.invokespecial 77, 3) := dk_183 0 77 (dk_at dksX1_init_0 9 rfl rfl)
theorem dX1_init_12 : decode cX1_init 12 = .ok (.putfield 78, 3) := dk_181 0 78 (dk_at dksX1_init_0 12 rfl rfl)
theorem dX1_init_15 : decode cX1_init 15 = .ok (.aload_n 0, 1) := dk_42 (dk_at dksX1_init_0 15 rfl rfl)
theorem dX1_init_16 : decode cX1_init 16 = .ok (.new 82, 3) := dk_187 0 82 (dk_at dksX1_init_0 16 rfl rfl)
theorem dX1_init_19 : decode cX1_init 19 = .ok (.dup, 1) := dk_89 (dk_at dksX1_init_0 19 rfl rfl)
theorem dX1_init_20 : decode cX1_init 20 = .ok (.invokespecial 84, 3) := dk_183 0 84 (dk_at dksX1_init_0 20 rfl rfl)
theorem dX1_init_23 : decode cX1_init 23 = .ok (.putfield 85, 3) := dk_181 0 85 (dk_at dksX1_init_1 0 rfl rfl)
theorem dX1_init_26 : decode cX1_init 26 = .ok (.aload_n 0, 1) := dk_42 (dk_at dksX1_init_1 3 rfl rfl)
theorem dX1_init_27 : decode cX1_init 27 = .ok (.new 89, 3) := dk_187 0 89 (dk_at dksX1_init_1 4 rfl rfl)
theorem dX1_init_30 : decode cX1_init 30 = .ok (.dup, 1) := dk_89 (dk_at dksX1_init_1 7 rfl rfl)
theorem dX1_init_31 : decode cX1_init 31 = .ok (.invokespecial 91, 3) := dk_183 0 91 (dk_at dksX1_init_1 8 rfl rfl)
theorem dX1_init_34 : decode cX1_init 34 = .ok (.putfield 92, 3) := dk_181 0 92 (dk_at dksX1_init_1 11 rfl rfl)
theorem dX1_init_37 : decode cX1_init 37 = .ok (.aload_n 0, 1) := dk_42 (dk_at dksX1_init_1 14 rfl rfl)
theorem dX1_init_38 : decode cX1_init 38 = .ok (.ldc 96, 2) := dk_18 96 (dk_at dksX1_init_1 15 rfl rfl)
theorem dX1_init_40 : decode cX1_init 40 = .ok (.putfield 98, 3) := dk_181 0 98 (dk_at dksX1_init_1 17 rfl rfl)
theorem dX1_init_43 : decode cX1_init 43 = .ok (.aload_n 0, 1) := dk_42 (dk_at dksX1_init_1 20 rfl rfl)
theorem dX1_init_44 : decode cX1_init 44 = .ok (.iconst (-1), 1) := dk_2 (dk_at dksX1_init_1 21 rfl rfl)
theorem dX1_init_45 : decode cX1_init 45 = .ok (.putfield 102, 3) := dk_181 0 102 (dk_at dksX1_init_2 0 rfl rfl)
theorem dX1_init_48 : decode cX1_init 48 = .ok (.return_, 1) := dk_177 (dk_at dksX1_init_2 3 rfl rfl)
abbrev cX1_land : ByteArray := prog_1_method_28_code
def yX1_land : MethodName := ⟨RX1, "land", "()I"⟩
def dkwX1_land_0 : List UInt8 := [42, 187, 1, 9, 89, 183, 1, 11, 182, 0, 154, 172]
abbrev dktX1_land_0 : List UInt8 := dkwX1_land_0 ++ []
theorem dksX1_land_0 : cX1_land.data.toList.drop 0 = dktX1_land_0 := by decide +kernel
theorem dX1_land_0 : decode cX1_land 0 = .ok (.aload_n 0, 1) := dk_42 (dk_at dksX1_land_0 0 rfl rfl)
theorem dX1_land_1 : decode cX1_land 1 = .ok (.new 265, 3) := dk_187 1 9 (dk_at dksX1_land_0 1 rfl rfl)
theorem dX1_land_4 : decode cX1_land 4 = .ok (.dup, 1) := dk_89 (dk_at dksX1_land_0 4 rfl rfl)
theorem dX1_land_5 : decode cX1_land 5 = .ok (.invokespecial 267, 3) := dk_183 1 11 (dk_at dksX1_land_0 5 rfl rfl)
theorem dX1_land_8 : decode cX1_land 8 = .ok (.invokevirtual 154, 3) := dk_182 0 154 (dk_at dksX1_land_0 8 rfl rfl)
theorem dX1_land_11 : decode cX1_land 11 = .ok (.ireturn, 1) := dk_172 (dk_at dksX1_land_0 11 rfl rfl)
abbrev cX1_change : ByteArray := prog_1_method_13_code
def yX1_change : MethodName := ⟨RX1, "change", "(LBraidedFerry$Deed;)I"⟩
def dkwX1_change_1 : List UInt8 := [180, 0, 143, 45, 180, 0, 144, 182, 0, 145, 191]
abbrev dktX1_change_1 : List UInt8 := dkwX1_change_1 ++ []
def dkwX1_change_0 : List UInt8 := [42, 182, 0, 129, 77, 43, 44, 185, 0, 133, 2, 0, 62, 42, 44, 182, 0, 139, 29, 172, 78, 42, 45]
abbrev dktX1_change_0 : List UInt8 := dkwX1_change_0 ++ dktX1_change_1
theorem dksX1_change_0 : cX1_change.data.toList.drop 0 = dktX1_change_0 := by decide +kernel
theorem dksX1_change_1 : cX1_change.data.toList.drop 23 = dktX1_change_1 := dk_seg dksX1_change_0 23 rfl rfl
theorem dX1_change_0 : decode cX1_change 0 = .ok (.aload_n 0, 1) := dk_42 (dk_at dksX1_change_0 0 rfl rfl)
theorem dX1_change_1 : decode cX1_change 1 = .ok (.invokevirtual 129, 3) := dk_182 0 129 (dk_at dksX1_change_0 1 rfl rfl)
theorem dX1_change_4 : decode cX1_change 4 = .ok (.astore_n 2, 1) := dk_77 (dk_at dksX1_change_0 4 rfl rfl)
theorem dX1_change_5 : decode cX1_change 5 = .ok (.aload_n 1, 1) := dk_43 (dk_at dksX1_change_0 5 rfl rfl)
theorem dX1_change_6 : decode cX1_change 6 = .ok (.aload_n 2, 1) := dk_44 (dk_at dksX1_change_0 6 rfl rfl)
theorem dX1_change_7 : decode cX1_change 7 = .ok (.invokeinterface 133 2, 5) := by decide +kernel
theorem dX1_change_12 : decode cX1_change 12 = .ok (.istore_n 3, 1) := dk_62 (dk_at dksX1_change_0 12 rfl rfl)
theorem dX1_change_13 : decode cX1_change 13 = .ok (.aload_n 0, 1) := dk_42 (dk_at dksX1_change_0 13 rfl rfl)
theorem dX1_change_14 : decode cX1_change 14 = .ok (.aload_n 2, 1) := dk_44 (dk_at dksX1_change_0 14 rfl rfl)
theorem dX1_change_15 : decode cX1_change 15 = .ok (.invokevirtual 139, 3) := dk_182 0 139 (dk_at dksX1_change_0 15 rfl rfl)
theorem dX1_change_18 : decode cX1_change 18 = .ok (.iload_n 3, 1) := dk_29 (dk_at dksX1_change_0 18 rfl rfl)
theorem dX1_change_19 : decode cX1_change 19 = .ok (.ireturn, 1) := dk_172 (dk_at dksX1_change_0 19 rfl rfl)
theorem dX1_change_20 : decode cX1_change 20 = .ok (.astore_n 3, 1) := dk_78 (dk_at dksX1_change_0 20 rfl rfl)
theorem dX1_change_21 : decode cX1_change 21 = .ok (.aload_n 0, 1) := dk_42 (dk_at dksX1_change_0 21 rfl rfl)
theorem dX1_change_22 : decode cX1_change 22 = .ok (.aload_n 3, 1) := dk_45 (dk_at dksX1_change_0 22 rfl rfl)
theorem dX1_change_23 : decode cX1_change 23 = .ok (.getfield 143, 3) := dk_180 0 143 (dk_at dksX1_change_1 0 rfl rfl)
theorem dX1_change_26 : decode cX1_change 26 = .ok (.aload_n 3, 1) := dk_45 (dk_at dksX1_change_1 3 rfl rfl)
theorem dX1_change_27 : decode cX1_change 27 = .ok (.getfield 144, 3) := dk_180 0 144 (dk_at dksX1_change_1 4 rfl rfl)
theorem dX1_change_30 : decode cX1_change 30 = .ok (.invokevirtual 145, 3) := dk_182 0 145 (dk_at dksX1_change_1 7 rfl rfl)
theorem dX1_change_33 : decode cX1_change 33 = .ok (.athrow, 1) := dk_191 (dk_at dksX1_change_1 10 rfl rfl)
abbrev cX1_draft : ByteArray := prog_1_method_10_code
def yX1_draft : MethodName := ⟨RX1, "draft", "()LBraidedFerry$River;"⟩
def dkwX1_draft_0 : List UInt8 := [187, 0, 75, 89, 183, 0, 77, 42, 180, 0, 78, 182, 0, 106, 176]
abbrev dktX1_draft_0 : List UInt8 := dkwX1_draft_0 ++ []
theorem dksX1_draft_0 : cX1_draft.data.toList.drop 0 = dktX1_draft_0 := by decide +kernel
theorem dX1_draft_0 : decode cX1_draft 0 = .ok (.new 75, 3) := dk_187 0 75 (dk_at dksX1_draft_0 0 rfl rfl)
theorem dX1_draft_3 : decode cX1_draft 3 = .ok (.dup, 1) := dk_89 (dk_at dksX1_draft_0 3 rfl rfl)
theorem dX1_draft_4 : decode cX1_draft 4 = .ok (.invokespecial 77, 3) := dk_183 0 77 (dk_at dksX1_draft_0 4 rfl rfl)
theorem dX1_draft_7 : decode cX1_draft 7 = .ok (.aload_n 0, 1) := dk_42 (dk_at dksX1_draft_0 7 rfl rfl)
theorem dX1_draft_8 : decode cX1_draft 8 = .ok (.getfield 78, 3) := dk_180 0 78 (dk_at dksX1_draft_0 8 rfl rfl)
theorem dX1_draft_11 : decode cX1_draft 11 = .ok (.invokevirtual 106, 3) := dk_182 0 106 (dk_at dksX1_draft_0 11 rfl rfl)
theorem dX1_draft_14 : decode cX1_draft 14 = .ok (.areturn, 1) := dk_176 (dk_at dksX1_draft_0 14 rfl rfl)
abbrev cX1_inRange : ByteArray := prog_1_method_1_code
def yX1_inRange : MethodName := ⟨RX1, "inRange", "(III)Z"⟩
def dkwX1_inRange_0 : List UInt8 := [26, 27, 161, 0, 12, 26, 28, 163, 0, 7, 4, 167, 0, 4, 3, 172]
abbrev dktX1_inRange_0 : List UInt8 := dkwX1_inRange_0 ++ []
theorem dksX1_inRange_0 : cX1_inRange.data.toList.drop 0 = dktX1_inRange_0 := by decide +kernel
theorem dX1_inRange_0 : decode cX1_inRange 0 = .ok (.iload_n 0, 1) := dk_26 (dk_at dksX1_inRange_0 0 rfl rfl)
theorem dX1_inRange_1 : decode cX1_inRange 1 = .ok (.iload_n 1, 1) := dk_27 (dk_at dksX1_inRange_0 1 rfl rfl)
theorem dX1_inRange_2 : decode cX1_inRange 2 = .ok (.if_icmp .lt 12, 3) := dk_161 0 12 (dk_at dksX1_inRange_0 2 rfl rfl)
theorem dX1_inRange_5 : decode cX1_inRange 5 = .ok (.iload_n 0, 1) := dk_26 (dk_at dksX1_inRange_0 5 rfl rfl)
theorem dX1_inRange_6 : decode cX1_inRange 6 = .ok (.iload_n 2, 1) := dk_28 (dk_at dksX1_inRange_0 6 rfl rfl)
theorem dX1_inRange_7 : decode cX1_inRange 7 = .ok (.if_icmp .gt 7, 3) := dk_163 0 7 (dk_at dksX1_inRange_0 7 rfl rfl)
theorem dX1_inRange_10 : decode cX1_inRange 10 = .ok (.iconst 1, 1) := dk_4 (dk_at dksX1_inRange_0 10 rfl rfl)
theorem dX1_inRange_11 : decode cX1_inRange 11 = .ok (.goto 4, 3) := dk_167 0 4 (dk_at dksX1_inRange_0 11 rfl rfl)
theorem dX1_inRange_14 : decode cX1_inRange 14 = .ok (.iconst 0, 1) := dk_3 (dk_at dksX1_inRange_0 14 rfl rfl)
theorem dX1_inRange_15 : decode cX1_inRange 15 = .ok (.ireturn, 1) := dk_172 (dk_at dksX1_inRange_0 15 rfl rfl)
abbrev cX1_requireIndex : ByteArray := prog_1_method_3_code
def yX1_requireIndex : MethodName := ⟨RX1, "requireIndex", "(Z)V"⟩
def dkwX1_requireIndex_0 : List UInt8 := [26, 154, 0, 11, 187, 0, 7, 89, 183, 0, 9, 191, 177]
abbrev dktX1_requireIndex_0 : List UInt8 := dkwX1_requireIndex_0 ++ []
theorem dksX1_requireIndex_0 : cX1_requireIndex.data.toList.drop 0 = dktX1_requireIndex_0 := by decide +kernel
theorem dX1_requireIndex_0 : decode cX1_requireIndex 0 = .ok (.iload_n 0, 1) := dk_26 (dk_at dksX1_requireIndex_0 0 rfl rfl)
theorem dX1_requireIndex_1 : decode cX1_requireIndex 1 = .ok (.ifCond .ne 11, 3) := dk_154 0 11 (dk_at dksX1_requireIndex_0 1 rfl rfl)
theorem dX1_requireIndex_4 : decode cX1_requireIndex 4 = .ok (.new 7, 3) := dk_187 0 7 (dk_at dksX1_requireIndex_0 4 rfl rfl)
theorem dX1_requireIndex_7 : decode cX1_requireIndex 7 = .ok (.dup, 1) := dk_89 (dk_at dksX1_requireIndex_0 7 rfl rfl)
theorem dX1_requireIndex_8 : decode cX1_requireIndex 8 = .ok (.invokespecial 9, 3) := dk_183 0 9 (dk_at dksX1_requireIndex_0 8 rfl rfl)
theorem dX1_requireIndex_11 : decode cX1_requireIndex 11 = .ok (.athrow, 1) := dk_191 (dk_at dksX1_requireIndex_0 11 rfl rfl)
theorem dX1_requireIndex_12 : decode cX1_requireIndex 12 = .ok (.return_, 1) := dk_177 (dk_at dksX1_requireIndex_0 12 rfl rfl)
abbrev cX1_require : ByteArray := prog_1_method_2_code
def yX1_require : MethodName := ⟨RX1, "require", "(Z)V"⟩
def dkwX1_require_0 : List UInt8 := [26, 154, 0, 11, 187, 0, 1, 89, 183, 0, 3, 191, 177]
abbrev dktX1_require_0 : List UInt8 := dkwX1_require_0 ++ []
theorem dksX1_require_0 : cX1_require.data.toList.drop 0 = dktX1_require_0 := by decide +kernel
theorem dX1_require_0 : decode cX1_require 0 = .ok (.iload_n 0, 1) := dk_26 (dk_at dksX1_require_0 0 rfl rfl)
theorem dX1_require_1 : decode cX1_require 1 = .ok (.ifCond .ne 11, 3) := dk_154 0 11 (dk_at dksX1_require_0 1 rfl rfl)
theorem dX1_require_4 : decode cX1_require 4 = .ok (.new 1, 3) := dk_187 0 1 (dk_at dksX1_require_0 4 rfl rfl)
theorem dX1_require_7 : decode cX1_require 7 = .ok (.dup, 1) := dk_89 (dk_at dksX1_require_0 7 rfl rfl)
theorem dX1_require_8 : decode cX1_require 8 = .ok (.invokespecial 3, 3) := dk_183 0 3 (dk_at dksX1_require_0 8 rfl rfl)
theorem dX1_require_11 : decode cX1_require 11 = .ok (.athrow, 1) := dk_191 (dk_at dksX1_require_0 11 rfl rfl)
theorem dX1_require_12 : decode cX1_require 12 = .ok (.return_, 1) := dk_177 (dk_at dksX1_require_0 12 rfl rfl)
abbrev cX1_allow : ByteArray := prog_1_method_6_code
def yX1_allow : MethodName := ⟨RX1, "allow", "(ZII)V"⟩
def dkwX1_allow_0 : List UInt8 := [26, 154, 0, 13, 187, 0, 16, 89, 27, 28, 183, 0, 18, 191, 177]
abbrev dktX1_allow_0 : List UInt8 := dkwX1_allow_0 ++ []
theorem dksX1_allow_0 : cX1_allow.data.toList.drop 0 = dktX1_allow_0 := by decide +kernel
theorem dX1_allow_0 : decode cX1_allow 0 = .ok (.iload_n 0, 1) := dk_26 (dk_at dksX1_allow_0 0 rfl rfl)
theorem dX1_allow_1 : decode cX1_allow 1 = .ok (.ifCond .ne 13, 3) := dk_154 0 13 (dk_at dksX1_allow_0 1 rfl rfl)
theorem dX1_allow_4 : decode cX1_allow 4 = .ok (.new 16, 3) := dk_187 0 16 (dk_at dksX1_allow_0 4 rfl rfl)
theorem dX1_allow_7 : decode cX1_allow 7 = .ok (.dup, 1) := dk_89 (dk_at dksX1_allow_0 7 rfl rfl)
theorem dX1_allow_8 : decode cX1_allow 8 = .ok (.iload_n 1, 1) := dk_27 (dk_at dksX1_allow_0 8 rfl rfl)
theorem dX1_allow_9 : decode cX1_allow 9 = .ok (.iload_n 2, 1) := dk_28 (dk_at dksX1_allow_0 9 rfl rfl)
theorem dX1_allow_10 : decode cX1_allow 10 = .ok (.invokespecial 18, 3) := dk_183 0 18 (dk_at dksX1_allow_0 10 rfl rfl)
theorem dX1_allow_13 : decode cX1_allow 13 = .ok (.athrow, 1) := dk_191 (dk_at dksX1_allow_0 13 rfl rfl)
theorem dX1_allow_14 : decode cX1_allow 14 = .ok (.return_, 1) := dk_177 (dk_at dksX1_allow_0 14 rfl rfl)
abbrev cX1_sum : ByteArray := prog_1_method_7_code
def yX1_sum : MethodName := ⟨RX1, "sum", "(Ljava/util/Map;Z)I"⟩
def dkwX1_sum_3 : List UInt8 := [96, 61, 167, 255, 196, 28, 172]
abbrev dktX1_sum_3 : List UInt8 := dkwX1_sum_3 ++ []
def dkwX1_sum_2 : List UInt8 := [27, 153, 0, 21, 25, 4, 185, 0, 54, 1, 0, 192, 0, 57, 185, 0, 59, 1, 0, 167, 0, 4, 4, 104]
abbrev dktX1_sum_2 : List UInt8 := dkwX1_sum_2 ++ dktX1_sum_3
def dkwX1_sum_1 : List UInt8 := [185, 0, 39, 1, 0, 192, 0, 43, 58, 4, 28, 25, 4, 185, 0, 45, 1, 0, 192, 0, 48, 182, 0, 50]
abbrev dktX1_sum_1 : List UInt8 := dkwX1_sum_1 ++ dktX1_sum_2
def dkwX1_sum_0 : List UInt8 := [3, 61, 42, 185, 0, 21, 1, 0, 185, 0, 27, 1, 0, 78, 45, 185, 0, 33, 1, 0, 153, 0, 57, 45]
abbrev dktX1_sum_0 : List UInt8 := dkwX1_sum_0 ++ dktX1_sum_1
theorem dksX1_sum_0 : cX1_sum.data.toList.drop 0 = dktX1_sum_0 := by decide +kernel
theorem dksX1_sum_1 : cX1_sum.data.toList.drop 24 = dktX1_sum_1 := dk_seg dksX1_sum_0 24 rfl rfl
theorem dksX1_sum_2 : cX1_sum.data.toList.drop 48 = dktX1_sum_2 := dk_seg dksX1_sum_1 24 rfl rfl
theorem dksX1_sum_3 : cX1_sum.data.toList.drop 72 = dktX1_sum_3 := dk_seg dksX1_sum_2 24 rfl rfl
theorem dX1_sum_0 : decode cX1_sum 0 = .ok (.iconst 0, 1) := dk_3 (dk_at dksX1_sum_0 0 rfl rfl)
theorem dX1_sum_1 : decode cX1_sum 1 = .ok (.istore_n 2, 1) := dk_61 (dk_at dksX1_sum_0 1 rfl rfl)
theorem dX1_sum_2 : decode cX1_sum 2 = .ok (.aload_n 0, 1) := dk_42 (dk_at dksX1_sum_0 2 rfl rfl)
theorem dX1_sum_3 : decode cX1_sum 3 = .ok (.invokeinterface 21 1, 5) := by decide +kernel
theorem dX1_sum_8 : decode cX1_sum 8 = .ok (.invokeinterface 27 1, 5) := by decide +kernel
theorem dX1_sum_13 : decode cX1_sum 13 = .ok (.astore_n 3, 1) := dk_78 (dk_at dksX1_sum_0 13 rfl rfl)
theorem dX1_sum_14 : decode cX1_sum 14 = .ok (.aload_n 3, 1) := dk_45 (dk_at dksX1_sum_0 14 rfl rfl)
theorem dX1_sum_15 : decode cX1_sum 15 = .ok (.invokeinterface 33 1, 5) := by decide +kernel
theorem dX1_sum_20 : decode cX1_sum 20 = .ok (.ifCond .eq 57, 3) := dk_153 0 57 (dk_at dksX1_sum_0 20 rfl rfl)
theorem dX1_sum_23 : decode cX1_sum 23 = .ok (.aload_n 3, 1) := dk_45 (dk_at dksX1_sum_0 23 rfl rfl)
theorem dX1_sum_24 : decode cX1_sum 24 = .ok (.invokeinterface 39 1, 5) := by decide +kernel
theorem dX1_sum_29 : decode cX1_sum 29 = .ok (.checkcast 43, 3) := dk_192 0 43 (dk_at dksX1_sum_1 5 rfl rfl)
theorem dX1_sum_32 : decode cX1_sum 32 = .ok (.astore 4, 2) := dk_58 4 (dk_at dksX1_sum_1 8 rfl rfl)
theorem dX1_sum_34 : decode cX1_sum 34 = .ok (.iload_n 2, 1) := dk_28 (dk_at dksX1_sum_1 10 rfl rfl)
theorem dX1_sum_35 : decode cX1_sum 35 = .ok (.aload 4, 2) := dk_25 4 (dk_at dksX1_sum_1 11 rfl rfl)
theorem dX1_sum_37 : decode cX1_sum 37 = .ok (.invokeinterface 45 1, 5) := by decide +kernel
theorem dX1_sum_42 : decode cX1_sum 42 = .ok (.checkcast 48, 3) := dk_192 0 48 (dk_at dksX1_sum_1 18 rfl rfl)
theorem dX1_sum_45 : decode cX1_sum 45 = .ok (.invokevirtual 50, 3) := dk_182 0 50 (dk_at dksX1_sum_1 21 rfl rfl)
theorem dX1_sum_48 : decode cX1_sum 48 = .ok (.iload_n 1, 1) := dk_27 (dk_at dksX1_sum_2 0 rfl rfl)
theorem dX1_sum_49 : decode cX1_sum 49 = .ok (.ifCond .eq 21, 3) := dk_153 0 21 (dk_at dksX1_sum_2 1 rfl rfl)
theorem dX1_sum_52 : decode cX1_sum 52 = .ok (.aload 4, 2) := dk_25 4 (dk_at dksX1_sum_2 4 rfl rfl)
theorem dX1_sum_54 : decode cX1_sum 54 = .ok (.invokeinterface 54 1, 5) := by decide +kernel
theorem dX1_sum_59 : decode cX1_sum 59 = .ok (.checkcast 57, 3) := dk_192 0 57 (dk_at dksX1_sum_2 11 rfl rfl)
theorem dX1_sum_62 : decode cX1_sum 62 = .ok (.invokeinterface 59 1, 5) := by decide +kernel
theorem dX1_sum_67 : decode cX1_sum 67 = .ok (.goto 4, 3) := dk_167 0 4 (dk_at dksX1_sum_2 19 rfl rfl)
theorem dX1_sum_70 : decode cX1_sum 70 = .ok (.iconst 1, 1) := dk_4 (dk_at dksX1_sum_2 22 rfl rfl)
theorem dX1_sum_71 : decode cX1_sum 71 = .ok (.imul, 1) := dk_104 (dk_at dksX1_sum_2 23 rfl rfl)
theorem dX1_sum_72 : decode cX1_sum 72 = .ok (.iadd, 1) := dk_96 (dk_at dksX1_sum_3 0 rfl rfl)
theorem dX1_sum_73 : decode cX1_sum 73 = .ok (.istore_n 2, 1) := dk_61 (dk_at dksX1_sum_3 1 rfl rfl)
theorem dX1_sum_74 : decode cX1_sum 74 = .ok (.goto (-60), 3) := dk_167 255 196 (dk_at dksX1_sum_3 2 rfl rfl)
theorem dX1_sum_77 : decode cX1_sum 77 = .ok (.iload_n 2, 1) := dk_28 (dk_at dksX1_sum_3 5 rfl rfl)
theorem dX1_sum_78 : decode cX1_sum 78 = .ok (.ireturn, 1) := dk_172 (dk_at dksX1_sum_3 6 rfl rfl)
abbrev cX1_replace : ByteArray := prog_1_method_11_code
def yX1_replace : MethodName := ⟨RX1, "replace", "(LBraidedFerry$River;)V"⟩
def dkwX1_replace_1 : List UInt8 := [180, 0, 85, 42, 180, 0, 78, 182, 0, 116, 42, 43, 181, 0, 78, 177]
abbrev dktX1_replace_1 : List UInt8 := dkwX1_replace_1 ++ []
def dkwX1_replace_0 : List UInt8 := [42, 180, 0, 85, 182, 0, 110, 16, 8, 160, 0, 14, 42, 180, 0, 85, 182, 0, 113, 192, 0, 75, 77, 42]
abbrev dktX1_replace_0 : List UInt8 := dkwX1_replace_0 ++ dktX1_replace_1
theorem dksX1_replace_0 : cX1_replace.data.toList.drop 0 = dktX1_replace_0 := by decide +kernel
theorem dksX1_replace_1 : cX1_replace.data.toList.drop 24 = dktX1_replace_1 := dk_seg dksX1_replace_0 24 rfl rfl
theorem dX1_replace_0 : decode cX1_replace 0 = .ok (.aload_n 0, 1) := dk_42 (dk_at dksX1_replace_0 0 rfl rfl)
theorem dX1_replace_1 : decode cX1_replace 1 = .ok (.getfield 85, 3) := dk_180 0 85 (dk_at dksX1_replace_0 1 rfl rfl)
theorem dX1_replace_4 : decode cX1_replace 4 = .ok (.invokevirtual 110, 3) := dk_182 0 110 (dk_at dksX1_replace_0 4 rfl rfl)
theorem dX1_replace_7 : decode cX1_replace 7 = .ok (.bipush 8, 2) := dk_16 8 (dk_at dksX1_replace_0 7 rfl rfl)
theorem dX1_replace_9 : decode cX1_replace 9 = .ok (.if_icmp .ne 14, 3) := dk_160 0 14 (dk_at dksX1_replace_0 9 rfl rfl)
theorem dX1_replace_12 : decode cX1_replace 12 = .ok (.aload_n 0, 1) := dk_42 (dk_at dksX1_replace_0 12 rfl rfl)
theorem dX1_replace_13 : decode cX1_replace 13 = .ok (.getfield 85, 3) := dk_180 0 85 (dk_at dksX1_replace_0 13 rfl rfl)
theorem dX1_replace_16 : decode cX1_replace 16 = .ok (.invokevirtual 113, 3) := dk_182 0 113 (dk_at dksX1_replace_0 16 rfl rfl)
theorem dX1_replace_19 : decode cX1_replace 19 = .ok (.checkcast 75, 3) := dk_192 0 75 (dk_at dksX1_replace_0 19 rfl rfl)
theorem dX1_replace_22 : decode cX1_replace 22 = .ok (.astore_n 2, 1) := dk_77 (dk_at dksX1_replace_0 22 rfl rfl)
theorem dX1_replace_23 : decode cX1_replace 23 = .ok (.aload_n 0, 1) := dk_42 (dk_at dksX1_replace_0 23 rfl rfl)
theorem dX1_replace_24 : decode cX1_replace 24 = .ok (.getfield 85, 3) := dk_180 0 85 (dk_at dksX1_replace_1 0 rfl rfl)
theorem dX1_replace_27 : decode cX1_replace 27 = .ok (.aload_n 0, 1) := dk_42 (dk_at dksX1_replace_1 3 rfl rfl)
theorem dX1_replace_28 : decode cX1_replace 28 = .ok (.getfield 78, 3) := dk_180 0 78 (dk_at dksX1_replace_1 4 rfl rfl)
theorem dX1_replace_31 : decode cX1_replace 31 = .ok (.invokevirtual 116, 3) := dk_182 0 116 (dk_at dksX1_replace_1 7 rfl rfl)
theorem dX1_replace_34 : decode cX1_replace 34 = .ok (.aload_n 0, 1) := dk_42 (dk_at dksX1_replace_1 10 rfl rfl)
theorem dX1_replace_35 : decode cX1_replace 35 = .ok (.aload_n 1, 1) := dk_43 (dk_at dksX1_replace_1 11 rfl rfl)
theorem dX1_replace_36 : decode cX1_replace 36 = .ok (.putfield 78, 3) := dk_181 0 78 (dk_at dksX1_replace_1 12 rfl rfl)
theorem dX1_replace_39 : decode cX1_replace 39 = .ok (.return_, 1) := dk_177 (dk_at dksX1_replace_1 15 rfl rfl)
abbrev cX1_refuse : ByteArray := prog_1_method_12_code
def yX1_refuse : MethodName := ⟨RX1, "refuse", "(II)Ljava/lang/UnsupportedOperationException;"⟩
def dkwX1_refuse_0 : List UInt8 := [42, 27, 181, 0, 120, 42, 28, 181, 0, 123, 187, 0, 126, 89, 183, 0, 128, 176]
abbrev dktX1_refuse_0 : List UInt8 := dkwX1_refuse_0 ++ []
theorem dksX1_refuse_0 : cX1_refuse.data.toList.drop 0 = dktX1_refuse_0 := by decide +kernel
theorem dX1_refuse_0 : decode cX1_refuse 0 = .ok (.aload_n 0, 1) := dk_42 (dk_at dksX1_refuse_0 0 rfl rfl)
theorem dX1_refuse_1 : decode cX1_refuse 1 = .ok (.iload_n 1, 1) := dk_27 (dk_at dksX1_refuse_0 1 rfl rfl)
theorem dX1_refuse_2 : decode cX1_refuse 2 = .ok (.putfield 120, 3) := dk_181 0 120 (dk_at dksX1_refuse_0 2 rfl rfl)
theorem dX1_refuse_5 : decode cX1_refuse 5 = .ok (.aload_n 0, 1) := dk_42 (dk_at dksX1_refuse_0 5 rfl rfl)
theorem dX1_refuse_6 : decode cX1_refuse 6 = .ok (.iload_n 2, 1) := dk_28 (dk_at dksX1_refuse_0 6 rfl rfl)
theorem dX1_refuse_7 : decode cX1_refuse 7 = .ok (.putfield 123, 3) := dk_181 0 123 (dk_at dksX1_refuse_0 7 rfl rfl)
theorem dX1_refuse_10 : decode cX1_refuse 10 = .ok (.new 126, 3) := dk_187 0 126 (dk_at dksX1_refuse_0 10 rfl rfl)
theorem dX1_refuse_13 : decode cX1_refuse 13 = .ok (.dup, 1) := dk_89 (dk_at dksX1_refuse_0 13 rfl rfl)
theorem dX1_refuse_14 : decode cX1_refuse 14 = .ok (.invokespecial 128, 3) := dk_183 0 128 (dk_at dksX1_refuse_0 14 rfl rfl)
theorem dX1_refuse_17 : decode cX1_refuse 17 = .ok (.areturn, 1) := dk_176 (dk_at dksX1_refuse_0 17 rfl rfl)
abbrev cX1_why : ByteArray := prog_1_method_36_code
def yX1_why : MethodName := ⟨RX1, "why", "(ZZ)I"⟩
def dkwX1_why_1 : List UInt8 := [180, 0, 143, 172]
abbrev dktX1_why_1 : List UInt8 := dkwX1_why_1 ++ []
def dkwX1_why_0 : List UInt8 := [42, 180, 0, 78, 27, 182, 1, 100, 3, 172, 78, 28, 153, 0, 10, 45, 180, 0, 144, 167, 0, 7, 45]
abbrev dktX1_why_0 : List UInt8 := dkwX1_why_0 ++ dktX1_why_1
theorem dksX1_why_0 : cX1_why.data.toList.drop 0 = dktX1_why_0 := by decide +kernel
theorem dksX1_why_1 : cX1_why.data.toList.drop 23 = dktX1_why_1 := dk_seg dksX1_why_0 23 rfl rfl
theorem dX1_why_0 : decode cX1_why 0 = .ok (.aload_n 0, 1) := dk_42 (dk_at dksX1_why_0 0 rfl rfl)
theorem dX1_why_1 : decode cX1_why 1 = .ok (.getfield 78, 3) := dk_180 0 78 (dk_at dksX1_why_0 1 rfl rfl)
theorem dX1_why_4 : decode cX1_why 4 = .ok (.iload_n 1, 1) := dk_27 (dk_at dksX1_why_0 4 rfl rfl)
theorem dX1_why_5 : decode cX1_why 5 = .ok (.invokevirtual 356, 3) := dk_182 1 100 (dk_at dksX1_why_0 5 rfl rfl)
theorem dX1_why_8 : decode cX1_why 8 = .ok (.iconst 0, 1) := dk_3 (dk_at dksX1_why_0 8 rfl rfl)
theorem dX1_why_9 : decode cX1_why 9 = .ok (.ireturn, 1) := dk_172 (dk_at dksX1_why_0 9 rfl rfl)
theorem dX1_why_10 : decode cX1_why 10 = .ok (.astore_n 3, 1) := dk_78 (dk_at dksX1_why_0 10 rfl rfl)
theorem dX1_why_11 : decode cX1_why 11 = .ok (.iload_n 2, 1) := dk_28 (dk_at dksX1_why_0 11 rfl rfl)
theorem dX1_why_12 : decode cX1_why 12 = .ok (.ifCond .eq 10, 3) := dk_153 0 10 (dk_at dksX1_why_0 12 rfl rfl)
theorem dX1_why_15 : decode cX1_why 15 = .ok (.aload_n 3, 1) := dk_45 (dk_at dksX1_why_0 15 rfl rfl)
theorem dX1_why_16 : decode cX1_why 16 = .ok (.getfield 144, 3) := dk_180 0 144 (dk_at dksX1_why_0 16 rfl rfl)
theorem dX1_why_19 : decode cX1_why 19 = .ok (.goto 7, 3) := dk_167 0 7 (dk_at dksX1_why_0 19 rfl rfl)
theorem dX1_why_22 : decode cX1_why 22 = .ok (.aload_n 3, 1) := dk_45 (dk_at dksX1_why_0 22 rfl rfl)
theorem dX1_why_23 : decode cX1_why 23 = .ok (.getfield 143, 3) := dk_180 0 143 (dk_at dksX1_why_1 0 rfl rfl)
theorem dX1_why_26 : decode cX1_why 26 = .ok (.ireturn, 1) := dk_172 (dk_at dksX1_why_1 3 rfl rfl)
abbrev cX1_saveSnapshot : ByteArray := prog_1_method_49_code
def yX1_saveSnapshot : MethodName := ⟨RX1, "saveSnapshot", "()I"⟩
def dkwX1_saveSnapshot_0 : List UInt8 := [42, 42, 182, 0, 129, 181, 1, 170, 42, 180, 1, 170, 180, 1, 82, 185, 1, 86, 1, 0, 172]
abbrev dktX1_saveSnapshot_0 : List UInt8 := dkwX1_saveSnapshot_0 ++ []
theorem dksX1_saveSnapshot_0 : cX1_saveSnapshot.data.toList.drop 0 = dktX1_saveSnapshot_0 := by decide +kernel
theorem dX1_saveSnapshot_0 : decode cX1_saveSnapshot 0 = .ok (.aload_n 0, 1) := dk_42 (dk_at dksX1_saveSnapshot_0 0 rfl rfl)
theorem dX1_saveSnapshot_1 : decode cX1_saveSnapshot 1 = .ok (.aload_n 0, 1) := dk_42 (dk_at dksX1_saveSnapshot_0 1 rfl rfl)
theorem dX1_saveSnapshot_2 : decode cX1_saveSnapshot 2 = .ok (.invokevirtual 129, 3) := dk_182 0 129 (dk_at dksX1_saveSnapshot_0 2 rfl rfl)
theorem dX1_saveSnapshot_5 : decode cX1_saveSnapshot 5 = .ok (.putfield 426, 3) := dk_181 1 170 (dk_at dksX1_saveSnapshot_0 5 rfl rfl)
theorem dX1_saveSnapshot_8 : decode cX1_saveSnapshot 8 = .ok (.aload_n 0, 1) := dk_42 (dk_at dksX1_saveSnapshot_0 8 rfl rfl)
theorem dX1_saveSnapshot_9 : decode cX1_saveSnapshot 9 = .ok (.getfield 426, 3) := dk_180 1 170 (dk_at dksX1_saveSnapshot_0 9 rfl rfl)
theorem dX1_saveSnapshot_12 : decode cX1_saveSnapshot 12 = .ok (.getfield 338, 3) := dk_180 1 82 (dk_at dksX1_saveSnapshot_0 12 rfl rfl)
theorem dX1_saveSnapshot_15 : decode cX1_saveSnapshot 15 = .ok (.invokeinterface 342 1, 5) := by decide +kernel
theorem dX1_saveSnapshot_20 : decode cX1_saveSnapshot 20 = .ok (.ireturn, 1) := dk_172 (dk_at dksX1_saveSnapshot_0 20 rfl rfl)
abbrev cX1_channel : ByteArray := prog_1_method_14_code
def yX1_channel : MethodName := ⟨RX1, "channel", "(III)I"⟩
def dkwX1_channel_0 : List UInt8 := [42, 187, 0, 149, 89, 27, 28, 29, 183, 0, 151, 182, 0, 154, 172]
abbrev dktX1_channel_0 : List UInt8 := dkwX1_channel_0 ++ []
theorem dksX1_channel_0 : cX1_channel.data.toList.drop 0 = dktX1_channel_0 := by decide +kernel
theorem dX1_channel_0 : decode cX1_channel 0 = .ok (.aload_n 0, 1) := dk_42 (dk_at dksX1_channel_0 0 rfl rfl)
theorem dX1_channel_1 : decode cX1_channel 1 = .ok (.new 149, 3) := dk_187 0 149 (dk_at dksX1_channel_0 1 rfl rfl)
theorem dX1_channel_4 : decode cX1_channel 4 = .ok (.dup, 1) := dk_89 (dk_at dksX1_channel_0 4 rfl rfl)
theorem dX1_channel_5 : decode cX1_channel 5 = .ok (.iload_n 1, 1) := dk_27 (dk_at dksX1_channel_0 5 rfl rfl)
theorem dX1_channel_6 : decode cX1_channel 6 = .ok (.iload_n 2, 1) := dk_28 (dk_at dksX1_channel_0 6 rfl rfl)
theorem dX1_channel_7 : decode cX1_channel 7 = .ok (.iload_n 3, 1) := dk_29 (dk_at dksX1_channel_0 7 rfl rfl)
theorem dX1_channel_8 : decode cX1_channel 8 = .ok (.invokespecial 151, 3) := dk_183 0 151 (dk_at dksX1_channel_0 8 rfl rfl)
theorem dX1_channel_11 : decode cX1_channel 11 = .ok (.invokevirtual 154, 3) := dk_182 0 154 (dk_at dksX1_channel_0 11 rfl rfl)
theorem dX1_channel_14 : decode cX1_channel 14 = .ok (.ireturn, 1) := dk_172 (dk_at dksX1_channel_0 14 rfl rfl)
abbrev cX1_split : ByteArray := prog_1_method_15_code
def yX1_split : MethodName := ⟨RX1, "split", "(II)I"⟩
def dkwX1_split_0 : List UInt8 := [42, 187, 0, 158, 89, 27, 28, 183, 0, 160, 182, 0, 154, 172]
abbrev dktX1_split_0 : List UInt8 := dkwX1_split_0 ++ []
theorem dksX1_split_0 : cX1_split.data.toList.drop 0 = dktX1_split_0 := by decide +kernel
theorem dX1_split_0 : decode cX1_split 0 = .ok (.aload_n 0, 1) := dk_42 (dk_at dksX1_split_0 0 rfl rfl)
theorem dX1_split_1 : decode cX1_split 1 = .ok (.new 158, 3) := dk_187 0 158 (dk_at dksX1_split_0 1 rfl rfl)
theorem dX1_split_4 : decode cX1_split 4 = .ok (.dup, 1) := dk_89 (dk_at dksX1_split_0 4 rfl rfl)
theorem dX1_split_5 : decode cX1_split 5 = .ok (.iload_n 1, 1) := dk_27 (dk_at dksX1_split_0 5 rfl rfl)
theorem dX1_split_6 : decode cX1_split 6 = .ok (.iload_n 2, 1) := dk_28 (dk_at dksX1_split_0 6 rfl rfl)
theorem dX1_split_7 : decode cX1_split 7 = .ok (.invokespecial 160, 3) := dk_183 0 160 (dk_at dksX1_split_0 7 rfl rfl)
theorem dX1_split_10 : decode cX1_split 10 = .ok (.invokevirtual 154, 3) := dk_182 0 154 (dk_at dksX1_split_0 10 rfl rfl)
theorem dX1_split_13 : decode cX1_split 13 = .ok (.ireturn, 1) := dk_172 (dk_at dksX1_split_0 13 rfl rfl)
abbrev cX1_shift : ByteArray := prog_1_method_16_code
def yX1_shift : MethodName := ⟨RX1, "shift", "(II)I"⟩
def dkwX1_shift_0 : List UInt8 := [42, 187, 0, 161, 89, 27, 28, 183, 0, 163, 182, 0, 154, 172]
abbrev dktX1_shift_0 : List UInt8 := dkwX1_shift_0 ++ []
theorem dksX1_shift_0 : cX1_shift.data.toList.drop 0 = dktX1_shift_0 := by decide +kernel
theorem dX1_shift_0 : decode cX1_shift 0 = .ok (.aload_n 0, 1) := dk_42 (dk_at dksX1_shift_0 0 rfl rfl)
theorem dX1_shift_1 : decode cX1_shift 1 = .ok (.new 161, 3) := dk_187 0 161 (dk_at dksX1_shift_0 1 rfl rfl)
theorem dX1_shift_4 : decode cX1_shift 4 = .ok (.dup, 1) := dk_89 (dk_at dksX1_shift_0 4 rfl rfl)
theorem dX1_shift_5 : decode cX1_shift 5 = .ok (.iload_n 1, 1) := dk_27 (dk_at dksX1_shift_0 5 rfl rfl)
theorem dX1_shift_6 : decode cX1_shift 6 = .ok (.iload_n 2, 1) := dk_28 (dk_at dksX1_shift_0 6 rfl rfl)
theorem dX1_shift_7 : decode cX1_shift 7 = .ok (.invokespecial 163, 3) := dk_183 0 163 (dk_at dksX1_shift_0 7 rfl rfl)
theorem dX1_shift_10 : decode cX1_shift 10 = .ok (.invokevirtual 154, 3) := dk_182 0 154 (dk_at dksX1_shift_0 10 rfl rfl)
theorem dX1_shift_13 : decode cX1_shift 13 = .ok (.ireturn, 1) := dk_172 (dk_at dksX1_shift_0 13 rfl rfl)
abbrev cX1_channelOf : ByteArray := prog_1_method_17_code
def yX1_channelOf : MethodName := ⟨RX1, "channelOf", "(II)I"⟩
def dkwX1_channelOf_4 : List UInt8 := [182, 0, 185, 172, 42, 180, 0, 78, 27, 182, 0, 189, 172]
abbrev dktX1_channelOf_4 : List UInt8 := dkwX1_channelOf_4 ++ []
def dkwX1_channelOf_3 : List UInt8 := [180, 0, 179, 182, 0, 182, 172, 42, 180, 0, 78, 27, 3, 182, 0, 185, 172, 42, 180, 0, 78, 27, 4]
abbrev dktX1_channelOf_3 : List UInt8 := dkwX1_channelOf_3 ++ dktX1_channelOf_4
def dkwX1_channelOf_2 : List UInt8 := [45, 180, 0, 168, 172, 45, 180, 0, 173, 172, 45, 180, 0, 176, 172, 42, 180, 0, 78, 27, 42, 180, 0, 78]
abbrev dktX1_channelOf_2 : List UInt8 := dkwX1_channelOf_2 ++ dktX1_channelOf_3
def dkwX1_channelOf_1 : List UInt8 := [170, 0, 0, 0, 0, 0, 0, 91, 0, 0, 0, 0, 0, 0, 0, 5, 0, 0, 0, 40, 0, 0, 0, 45, 0, 0, 0, 50, 0, 0, 0, 55, 0, 0, 0, 71, 0, 0, 0, 81]
abbrev dktX1_channelOf_1 : List UInt8 := dkwX1_channelOf_1 ++ dktX1_channelOf_2
def dkwX1_channelOf_0 : List UInt8 := [42, 180, 0, 78, 27, 182, 0, 164, 78, 28, 3, 16, 6, 184, 0, 64, 184, 0, 68, 28]
abbrev dktX1_channelOf_0 : List UInt8 := dkwX1_channelOf_0 ++ dktX1_channelOf_1
theorem dksX1_channelOf_0 : cX1_channelOf.data.toList.drop 0 = dktX1_channelOf_0 := by decide +kernel
theorem dksX1_channelOf_1 : cX1_channelOf.data.toList.drop 20 = dktX1_channelOf_1 := dk_seg dksX1_channelOf_0 20 rfl rfl
theorem dksX1_channelOf_2 : cX1_channelOf.data.toList.drop 60 = dktX1_channelOf_2 := dk_seg dksX1_channelOf_1 40 rfl rfl
theorem dksX1_channelOf_3 : cX1_channelOf.data.toList.drop 84 = dktX1_channelOf_3 := dk_seg dksX1_channelOf_2 24 rfl rfl
theorem dksX1_channelOf_4 : cX1_channelOf.data.toList.drop 107 = dktX1_channelOf_4 := dk_seg dksX1_channelOf_3 23 rfl rfl
theorem dX1_channelOf_0 : decode cX1_channelOf 0 = .ok (.aload_n 0, 1) := dk_42 (dk_at dksX1_channelOf_0 0 rfl rfl)
theorem dX1_channelOf_1 : decode cX1_channelOf 1 = .ok (.getfield 78, 3) := dk_180 0 78 (dk_at dksX1_channelOf_0 1 rfl rfl)
theorem dX1_channelOf_4 : decode cX1_channelOf 4 = .ok (.iload_n 1, 1) := dk_27 (dk_at dksX1_channelOf_0 4 rfl rfl)
theorem dX1_channelOf_5 : decode cX1_channelOf 5 = .ok (.invokevirtual 164, 3) := dk_182 0 164 (dk_at dksX1_channelOf_0 5 rfl rfl)
theorem dX1_channelOf_8 : decode cX1_channelOf 8 = .ok (.astore_n 3, 1) := dk_78 (dk_at dksX1_channelOf_0 8 rfl rfl)
theorem dX1_channelOf_9 : decode cX1_channelOf 9 = .ok (.iload_n 2, 1) := dk_28 (dk_at dksX1_channelOf_0 9 rfl rfl)
theorem dX1_channelOf_10 : decode cX1_channelOf 10 = .ok (.iconst 0, 1) := dk_3 (dk_at dksX1_channelOf_0 10 rfl rfl)
theorem dX1_channelOf_11 : decode cX1_channelOf 11 = .ok (.bipush 6, 2) := dk_16 6 (dk_at dksX1_channelOf_0 11 rfl rfl)
theorem dX1_channelOf_13 : decode cX1_channelOf 13 = .ok (.invokestatic 64, 3) := dk_184 0 64 (dk_at dksX1_channelOf_0 13 rfl rfl)
theorem dX1_channelOf_16 : decode cX1_channelOf 16 = .ok (.invokestatic 68, 3) := dk_184 0 68 (dk_at dksX1_channelOf_0 16 rfl rfl)
theorem dX1_channelOf_19 : decode cX1_channelOf 19 = .ok (.iload_n 2, 1) := dk_28 (dk_at dksX1_channelOf_0 19 rfl rfl)
theorem dX1_channelOf_20 : decode cX1_channelOf 20 = .ok (.tableswitch 91 0 5 #[40, 45, 50, 55, 71, 81], 40) := by decide +kernel
theorem dX1_channelOf_60 : decode cX1_channelOf 60 = .ok (.aload_n 3, 1) := dk_45 (dk_at dksX1_channelOf_2 0 rfl rfl)
theorem dX1_channelOf_61 : decode cX1_channelOf 61 = .ok (.getfield 168, 3) := dk_180 0 168 (dk_at dksX1_channelOf_2 1 rfl rfl)
theorem dX1_channelOf_64 : decode cX1_channelOf 64 = .ok (.ireturn, 1) := dk_172 (dk_at dksX1_channelOf_2 4 rfl rfl)
theorem dX1_channelOf_65 : decode cX1_channelOf 65 = .ok (.aload_n 3, 1) := dk_45 (dk_at dksX1_channelOf_2 5 rfl rfl)
theorem dX1_channelOf_66 : decode cX1_channelOf 66 = .ok (.getfield 173, 3) := dk_180 0 173 (dk_at dksX1_channelOf_2 6 rfl rfl)
theorem dX1_channelOf_69 : decode cX1_channelOf 69 = .ok (.ireturn, 1) := dk_172 (dk_at dksX1_channelOf_2 9 rfl rfl)
theorem dX1_channelOf_70 : decode cX1_channelOf 70 = .ok (.aload_n 3, 1) := dk_45 (dk_at dksX1_channelOf_2 10 rfl rfl)
theorem dX1_channelOf_71 : decode cX1_channelOf 71 = .ok (.getfield 176, 3) := dk_180 0 176 (dk_at dksX1_channelOf_2 11 rfl rfl)
theorem dX1_channelOf_74 : decode cX1_channelOf 74 = .ok (.ireturn, 1) := dk_172 (dk_at dksX1_channelOf_2 14 rfl rfl)
theorem dX1_channelOf_75 : decode cX1_channelOf 75 = .ok (.aload_n 0, 1) := dk_42 (dk_at dksX1_channelOf_2 15 rfl rfl)
theorem dX1_channelOf_76 : decode cX1_channelOf 76 = .ok (.getfield 78, 3) := dk_180 0 78 (dk_at dksX1_channelOf_2 16 rfl rfl)
theorem dX1_channelOf_79 : decode cX1_channelOf 79 = .ok (.iload_n 1, 1) := dk_27 (dk_at dksX1_channelOf_2 19 rfl rfl)
theorem dX1_channelOf_80 : decode cX1_channelOf 80 = .ok (.aload_n 0, 1) := dk_42 (dk_at dksX1_channelOf_2 20 rfl rfl)
theorem dX1_channelOf_81 : decode cX1_channelOf 81 = .ok (.getfield 78, 3) := dk_180 0 78 (dk_at dksX1_channelOf_2 21 rfl rfl)
theorem dX1_channelOf_84 : decode cX1_channelOf 84 = .ok (.getfield 179, 3) := dk_180 0 179 (dk_at dksX1_channelOf_3 0 rfl rfl)
theorem dX1_channelOf_87 : decode cX1_channelOf 87 = .ok (.invokevirtual 182, 3) := dk_182 0 182 (dk_at dksX1_channelOf_3 3 rfl rfl)
theorem dX1_channelOf_90 : decode cX1_channelOf 90 = .ok (.ireturn, 1) := dk_172 (dk_at dksX1_channelOf_3 6 rfl rfl)
theorem dX1_channelOf_91 : decode cX1_channelOf 91 = .ok (.aload_n 0, 1) := dk_42 (dk_at dksX1_channelOf_3 7 rfl rfl)
theorem dX1_channelOf_92 : decode cX1_channelOf 92 = .ok (.getfield 78, 3) := dk_180 0 78 (dk_at dksX1_channelOf_3 8 rfl rfl)
theorem dX1_channelOf_95 : decode cX1_channelOf 95 = .ok (.iload_n 1, 1) := dk_27 (dk_at dksX1_channelOf_3 11 rfl rfl)
theorem dX1_channelOf_96 : decode cX1_channelOf 96 = .ok (.iconst 0, 1) := dk_3 (dk_at dksX1_channelOf_3 12 rfl rfl)
theorem dX1_channelOf_97 : decode cX1_channelOf 97 = .ok (.invokevirtual 185, 3) := dk_182 0 185 (dk_at dksX1_channelOf_3 13 rfl rfl)
theorem dX1_channelOf_100 : decode cX1_channelOf 100 = .ok (.ireturn, 1) := dk_172 (dk_at dksX1_channelOf_3 16 rfl rfl)
theorem dX1_channelOf_101 : decode cX1_channelOf 101 = .ok (.aload_n 0, 1) := dk_42 (dk_at dksX1_channelOf_3 17 rfl rfl)
theorem dX1_channelOf_102 : decode cX1_channelOf 102 = .ok (.getfield 78, 3) := dk_180 0 78 (dk_at dksX1_channelOf_3 18 rfl rfl)
theorem dX1_channelOf_105 : decode cX1_channelOf 105 = .ok (.iload_n 1, 1) := dk_27 (dk_at dksX1_channelOf_3 21 rfl rfl)
theorem dX1_channelOf_106 : decode cX1_channelOf 106 = .ok (.iconst 1, 1) := dk_4 (dk_at dksX1_channelOf_3 22 rfl rfl)
theorem dX1_channelOf_107 : decode cX1_channelOf 107 = .ok (.invokevirtual 185, 3) := dk_182 0 185 (dk_at dksX1_channelOf_4 0 rfl rfl)
theorem dX1_channelOf_110 : decode cX1_channelOf 110 = .ok (.ireturn, 1) := dk_172 (dk_at dksX1_channelOf_4 3 rfl rfl)
theorem dX1_channelOf_111 : decode cX1_channelOf 111 = .ok (.aload_n 0, 1) := dk_42 (dk_at dksX1_channelOf_4 4 rfl rfl)
theorem dX1_channelOf_112 : decode cX1_channelOf 112 = .ok (.getfield 78, 3) := dk_180 0 78 (dk_at dksX1_channelOf_4 5 rfl rfl)
theorem dX1_channelOf_115 : decode cX1_channelOf 115 = .ok (.iload_n 1, 1) := dk_27 (dk_at dksX1_channelOf_4 8 rfl rfl)
theorem dX1_channelOf_116 : decode cX1_channelOf 116 = .ok (.invokevirtual 189, 3) := dk_182 0 189 (dk_at dksX1_channelOf_4 9 rfl rfl)
theorem dX1_channelOf_119 : decode cX1_channelOf 119 = .ok (.ireturn, 1) := dk_172 (dk_at dksX1_channelOf_4 12 rfl rfl)
abbrev cX1_flood : ByteArray := prog_1_method_18_code
def yX1_flood : MethodName := ⟨RX1, "flood", "(III)I"⟩
def dkwX1_flood_0 : List UInt8 := [42, 187, 0, 193, 89, 27, 28, 29, 183, 0, 195, 182, 0, 154, 172]
abbrev dktX1_flood_0 : List UInt8 := dkwX1_flood_0 ++ []
theorem dksX1_flood_0 : cX1_flood.data.toList.drop 0 = dktX1_flood_0 := by decide +kernel
theorem dX1_flood_0 : decode cX1_flood 0 = .ok (.aload_n 0, 1) := dk_42 (dk_at dksX1_flood_0 0 rfl rfl)
theorem dX1_flood_1 : decode cX1_flood 1 = .ok (.new 193, 3) := dk_187 0 193 (dk_at dksX1_flood_0 1 rfl rfl)
theorem dX1_flood_4 : decode cX1_flood 4 = .ok (.dup, 1) := dk_89 (dk_at dksX1_flood_0 4 rfl rfl)
theorem dX1_flood_5 : decode cX1_flood 5 = .ok (.iload_n 1, 1) := dk_27 (dk_at dksX1_flood_0 5 rfl rfl)
theorem dX1_flood_6 : decode cX1_flood 6 = .ok (.iload_n 2, 1) := dk_28 (dk_at dksX1_flood_0 6 rfl rfl)
theorem dX1_flood_7 : decode cX1_flood 7 = .ok (.iload_n 3, 1) := dk_29 (dk_at dksX1_flood_0 7 rfl rfl)
theorem dX1_flood_8 : decode cX1_flood 8 = .ok (.invokespecial 195, 3) := dk_183 0 195 (dk_at dksX1_flood_0 8 rfl rfl)
theorem dX1_flood_11 : decode cX1_flood 11 = .ok (.invokevirtual 154, 3) := dk_182 0 154 (dk_at dksX1_flood_0 11 rfl rfl)
theorem dX1_flood_14 : decode cX1_flood 14 = .ok (.ireturn, 1) := dk_172 (dk_at dksX1_flood_0 14 rfl rfl)
abbrev cX1_flow : ByteArray := prog_1_method_19_code
def yX1_flow : MethodName := ⟨RX1, "flow", "(II)I"⟩
def dkwX1_flow_1 : List UInt8 := [27, 42, 180, 0, 78, 180, 0, 179, 28, 96, 182, 0, 182, 172]
abbrev dktX1_flow_1 : List UInt8 := dkwX1_flow_1 ++ []
def dkwX1_flow_0 : List UInt8 := [42, 180, 0, 78, 27, 182, 0, 164, 78, 28, 3, 17, 0, 199, 184, 0, 64, 184, 0, 68, 42, 180, 0, 78]
abbrev dktX1_flow_0 : List UInt8 := dkwX1_flow_0 ++ dktX1_flow_1
theorem dksX1_flow_0 : cX1_flow.data.toList.drop 0 = dktX1_flow_0 := by decide +kernel
theorem dksX1_flow_1 : cX1_flow.data.toList.drop 24 = dktX1_flow_1 := dk_seg dksX1_flow_0 24 rfl rfl
theorem dX1_flow_0 : decode cX1_flow 0 = .ok (.aload_n 0, 1) := dk_42 (dk_at dksX1_flow_0 0 rfl rfl)
theorem dX1_flow_1 : decode cX1_flow 1 = .ok (.getfield 78, 3) := dk_180 0 78 (dk_at dksX1_flow_0 1 rfl rfl)
theorem dX1_flow_4 : decode cX1_flow 4 = .ok (.iload_n 1, 1) := dk_27 (dk_at dksX1_flow_0 4 rfl rfl)
theorem dX1_flow_5 : decode cX1_flow 5 = .ok (.invokevirtual 164, 3) := dk_182 0 164 (dk_at dksX1_flow_0 5 rfl rfl)
theorem dX1_flow_8 : decode cX1_flow 8 = .ok (.astore_n 3, 1) := dk_78 (dk_at dksX1_flow_0 8 rfl rfl)
theorem dX1_flow_9 : decode cX1_flow 9 = .ok (.iload_n 2, 1) := dk_28 (dk_at dksX1_flow_0 9 rfl rfl)
theorem dX1_flow_10 : decode cX1_flow 10 = .ok (.iconst 0, 1) := dk_3 (dk_at dksX1_flow_0 10 rfl rfl)
theorem dX1_flow_11 : decode cX1_flow 11 = .ok (.sipush 199, 3) := dk_17 0 199 (dk_at dksX1_flow_0 11 rfl rfl)
theorem dX1_flow_14 : decode cX1_flow 14 = .ok (.invokestatic 64, 3) := dk_184 0 64 (dk_at dksX1_flow_0 14 rfl rfl)
theorem dX1_flow_17 : decode cX1_flow 17 = .ok (.invokestatic 68, 3) := dk_184 0 68 (dk_at dksX1_flow_0 17 rfl rfl)
theorem dX1_flow_20 : decode cX1_flow 20 = .ok (.aload_n 0, 1) := dk_42 (dk_at dksX1_flow_0 20 rfl rfl)
theorem dX1_flow_21 : decode cX1_flow 21 = .ok (.getfield 78, 3) := dk_180 0 78 (dk_at dksX1_flow_0 21 rfl rfl)
theorem dX1_flow_24 : decode cX1_flow 24 = .ok (.iload_n 1, 1) := dk_27 (dk_at dksX1_flow_1 0 rfl rfl)
theorem dX1_flow_25 : decode cX1_flow 25 = .ok (.aload_n 0, 1) := dk_42 (dk_at dksX1_flow_1 1 rfl rfl)
theorem dX1_flow_26 : decode cX1_flow 26 = .ok (.getfield 78, 3) := dk_180 0 78 (dk_at dksX1_flow_1 2 rfl rfl)
theorem dX1_flow_29 : decode cX1_flow 29 = .ok (.getfield 179, 3) := dk_180 0 179 (dk_at dksX1_flow_1 5 rfl rfl)
theorem dX1_flow_32 : decode cX1_flow 32 = .ok (.iload_n 2, 1) := dk_28 (dk_at dksX1_flow_1 8 rfl rfl)
theorem dX1_flow_33 : decode cX1_flow 33 = .ok (.iadd, 1) := dk_96 (dk_at dksX1_flow_1 9 rfl rfl)
theorem dX1_flow_34 : decode cX1_flow 34 = .ok (.invokevirtual 182, 3) := dk_182 0 182 (dk_at dksX1_flow_1 10 rfl rfl)
theorem dX1_flow_37 : decode cX1_flow 37 = .ok (.ireturn, 1) := dk_172 (dk_at dksX1_flow_1 13 rfl rfl)
abbrev cX1_anchor : ByteArray := prog_1_method_20_code
def yX1_anchor : MethodName := ⟨RX1, "anchor", "(II)I"⟩
def dkwX1_anchor_0 : List UInt8 := [42, 187, 0, 196, 89, 27, 28, 183, 0, 198, 182, 0, 154, 172]
abbrev dktX1_anchor_0 : List UInt8 := dkwX1_anchor_0 ++ []
theorem dksX1_anchor_0 : cX1_anchor.data.toList.drop 0 = dktX1_anchor_0 := by decide +kernel
theorem dX1_anchor_0 : decode cX1_anchor 0 = .ok (.aload_n 0, 1) := dk_42 (dk_at dksX1_anchor_0 0 rfl rfl)
theorem dX1_anchor_1 : decode cX1_anchor 1 = .ok (.new 196, 3) := dk_187 0 196 (dk_at dksX1_anchor_0 1 rfl rfl)
theorem dX1_anchor_4 : decode cX1_anchor 4 = .ok (.dup, 1) := dk_89 (dk_at dksX1_anchor_0 4 rfl rfl)
theorem dX1_anchor_5 : decode cX1_anchor 5 = .ok (.iload_n 1, 1) := dk_27 (dk_at dksX1_anchor_0 5 rfl rfl)
theorem dX1_anchor_6 : decode cX1_anchor 6 = .ok (.iload_n 2, 1) := dk_28 (dk_at dksX1_anchor_0 6 rfl rfl)
theorem dX1_anchor_7 : decode cX1_anchor 7 = .ok (.invokespecial 198, 3) := dk_183 0 198 (dk_at dksX1_anchor_0 7 rfl rfl)
theorem dX1_anchor_10 : decode cX1_anchor 10 = .ok (.invokevirtual 154, 3) := dk_182 0 154 (dk_at dksX1_anchor_0 10 rfl rfl)
theorem dX1_anchor_13 : decode cX1_anchor 13 = .ok (.ireturn, 1) := dk_172 (dk_at dksX1_anchor_0 13 rfl rfl)
abbrev cX1_weigh : ByteArray := prog_1_method_21_code
def yX1_weigh : MethodName := ⟨RX1, "weigh", "(I)I"⟩
def dkwX1_weigh_0 : List UInt8 := [42, 187, 0, 199, 89, 27, 183, 0, 201, 182, 0, 154, 172]
abbrev dktX1_weigh_0 : List UInt8 := dkwX1_weigh_0 ++ []
theorem dksX1_weigh_0 : cX1_weigh.data.toList.drop 0 = dktX1_weigh_0 := by decide +kernel
theorem dX1_weigh_0 : decode cX1_weigh 0 = .ok (.aload_n 0, 1) := dk_42 (dk_at dksX1_weigh_0 0 rfl rfl)
theorem dX1_weigh_1 : decode cX1_weigh 1 = .ok (.new 199, 3) := dk_187 0 199 (dk_at dksX1_weigh_0 1 rfl rfl)
theorem dX1_weigh_4 : decode cX1_weigh 4 = .ok (.dup, 1) := dk_89 (dk_at dksX1_weigh_0 4 rfl rfl)
theorem dX1_weigh_5 : decode cX1_weigh 5 = .ok (.iload_n 1, 1) := dk_27 (dk_at dksX1_weigh_0 5 rfl rfl)
theorem dX1_weigh_6 : decode cX1_weigh 6 = .ok (.invokespecial 201, 3) := dk_183 0 201 (dk_at dksX1_weigh_0 6 rfl rfl)
theorem dX1_weigh_9 : decode cX1_weigh 9 = .ok (.invokevirtual 154, 3) := dk_182 0 154 (dk_at dksX1_weigh_0 9 rfl rfl)
theorem dX1_weigh_12 : decode cX1_weigh 12 = .ok (.ireturn, 1) := dk_172 (dk_at dksX1_weigh_0 12 rfl rfl)
abbrev cX1_anchorOf : ByteArray := prog_1_method_22_code
def yX1_anchorOf : MethodName := ⟨RX1, "anchorOf", "(II)I"⟩
def dkwX1_anchorOf_4 : List UInt8 := [167, 0, 4, 3, 172]
abbrev dktX1_anchorOf_4 : List UInt8 := dkwX1_anchorOf_4 ++ []
def dkwX1_anchorOf_3 : List UInt8 := [42, 180, 0, 78, 45, 42, 180, 0, 78, 180, 0, 179, 182, 0, 222, 172, 45, 182, 0, 226, 153, 0, 7, 4]
abbrev dktX1_anchorOf_3 : List UInt8 := dkwX1_anchorOf_3 ++ dktX1_anchorOf_4
def dkwX1_anchorOf_2 : List UInt8 := [45, 180, 0, 208, 172, 45, 180, 0, 212, 172, 45, 180, 0, 215, 172, 42, 180, 0, 78, 45, 182, 0, 218, 172]
abbrev dktX1_anchorOf_2 : List UInt8 := dkwX1_anchorOf_2 ++ dktX1_anchorOf_3
def dkwX1_anchorOf_1 : List UInt8 := [170, 0, 0, 0, 73, 0, 0, 0, 0, 0, 0, 0, 4, 0, 0, 0, 33, 0, 0, 0, 38, 0, 0, 0, 43, 0, 0, 0, 48, 0, 0, 0, 57]
abbrev dktX1_anchorOf_1 : List UInt8 := dkwX1_anchorOf_1 ++ dktX1_anchorOf_2
def dkwX1_anchorOf_0 : List UInt8 := [42, 180, 0, 78, 27, 182, 0, 204, 78, 28, 3, 8, 184, 0, 64, 184, 0, 68, 28]
abbrev dktX1_anchorOf_0 : List UInt8 := dkwX1_anchorOf_0 ++ dktX1_anchorOf_1
theorem dksX1_anchorOf_0 : cX1_anchorOf.data.toList.drop 0 = dktX1_anchorOf_0 := by decide +kernel
theorem dksX1_anchorOf_1 : cX1_anchorOf.data.toList.drop 19 = dktX1_anchorOf_1 := dk_seg dksX1_anchorOf_0 19 rfl rfl
theorem dksX1_anchorOf_2 : cX1_anchorOf.data.toList.drop 52 = dktX1_anchorOf_2 := dk_seg dksX1_anchorOf_1 33 rfl rfl
theorem dksX1_anchorOf_3 : cX1_anchorOf.data.toList.drop 76 = dktX1_anchorOf_3 := dk_seg dksX1_anchorOf_2 24 rfl rfl
theorem dksX1_anchorOf_4 : cX1_anchorOf.data.toList.drop 100 = dktX1_anchorOf_4 := dk_seg dksX1_anchorOf_3 24 rfl rfl
theorem dX1_anchorOf_0 : decode cX1_anchorOf 0 = .ok (.aload_n 0, 1) := dk_42 (dk_at dksX1_anchorOf_0 0 rfl rfl)
theorem dX1_anchorOf_1 : decode cX1_anchorOf 1 = .ok (.getfield 78, 3) := dk_180 0 78 (dk_at dksX1_anchorOf_0 1 rfl rfl)
theorem dX1_anchorOf_4 : decode cX1_anchorOf 4 = .ok (.iload_n 1, 1) := dk_27 (dk_at dksX1_anchorOf_0 4 rfl rfl)
theorem dX1_anchorOf_5 : decode cX1_anchorOf 5 = .ok (.invokevirtual 204, 3) := dk_182 0 204 (dk_at dksX1_anchorOf_0 5 rfl rfl)
theorem dX1_anchorOf_8 : decode cX1_anchorOf 8 = .ok (.astore_n 3, 1) := dk_78 (dk_at dksX1_anchorOf_0 8 rfl rfl)
theorem dX1_anchorOf_9 : decode cX1_anchorOf 9 = .ok (.iload_n 2, 1) := dk_28 (dk_at dksX1_anchorOf_0 9 rfl rfl)
theorem dX1_anchorOf_10 : decode cX1_anchorOf 10 = .ok (.iconst 0, 1) := dk_3 (dk_at dksX1_anchorOf_0 10 rfl rfl)
theorem dX1_anchorOf_11 : decode cX1_anchorOf 11 = .ok (.iconst 5, 1) := dk_8 (dk_at dksX1_anchorOf_0 11 rfl rfl)
theorem dX1_anchorOf_12 : decode cX1_anchorOf 12 = .ok (.invokestatic 64, 3) := dk_184 0 64 (dk_at dksX1_anchorOf_0 12 rfl rfl)
theorem dX1_anchorOf_15 : decode cX1_anchorOf 15 = .ok (.invokestatic 68, 3) := dk_184 0 68 (dk_at dksX1_anchorOf_0 15 rfl rfl)
theorem dX1_anchorOf_18 : decode cX1_anchorOf 18 = .ok (.iload_n 2, 1) := dk_28 (dk_at dksX1_anchorOf_0 18 rfl rfl)
theorem dX1_anchorOf_19 : decode cX1_anchorOf 19 = .ok (.tableswitch 73 0 4 #[33, 38, 43, 48, 57], 33) := by decide +kernel
theorem dX1_anchorOf_52 : decode cX1_anchorOf 52 = .ok (.aload_n 3, 1) := dk_45 (dk_at dksX1_anchorOf_2 0 rfl rfl)
theorem dX1_anchorOf_53 : decode cX1_anchorOf 53 = .ok (.getfield 208, 3) := dk_180 0 208 (dk_at dksX1_anchorOf_2 1 rfl rfl)
theorem dX1_anchorOf_56 : decode cX1_anchorOf 56 = .ok (.ireturn, 1) := dk_172 (dk_at dksX1_anchorOf_2 4 rfl rfl)
theorem dX1_anchorOf_57 : decode cX1_anchorOf 57 = .ok (.aload_n 3, 1) := dk_45 (dk_at dksX1_anchorOf_2 5 rfl rfl)
theorem dX1_anchorOf_58 : decode cX1_anchorOf 58 = .ok (.getfield 212, 3) := dk_180 0 212 (dk_at dksX1_anchorOf_2 6 rfl rfl)
theorem dX1_anchorOf_61 : decode cX1_anchorOf 61 = .ok (.ireturn, 1) := dk_172 (dk_at dksX1_anchorOf_2 9 rfl rfl)
theorem dX1_anchorOf_62 : decode cX1_anchorOf 62 = .ok (.aload_n 3, 1) := dk_45 (dk_at dksX1_anchorOf_2 10 rfl rfl)
theorem dX1_anchorOf_63 : decode cX1_anchorOf 63 = .ok (.getfield 215, 3) := dk_180 0 215 (dk_at dksX1_anchorOf_2 11 rfl rfl)
theorem dX1_anchorOf_66 : decode cX1_anchorOf 66 = .ok (.ireturn, 1) := dk_172 (dk_at dksX1_anchorOf_2 14 rfl rfl)
theorem dX1_anchorOf_67 : decode cX1_anchorOf 67 = .ok (.aload_n 0, 1) := dk_42 (dk_at dksX1_anchorOf_2 15 rfl rfl)
theorem dX1_anchorOf_68 : decode cX1_anchorOf 68 = .ok (.getfield 78, 3) := dk_180 0 78 (dk_at dksX1_anchorOf_2 16 rfl rfl)
theorem dX1_anchorOf_71 : decode cX1_anchorOf 71 = .ok (.aload_n 3, 1) := dk_45 (dk_at dksX1_anchorOf_2 19 rfl rfl)
theorem dX1_anchorOf_72 : decode cX1_anchorOf 72 = .ok (.invokevirtual 218, 3) := dk_182 0 218 (dk_at dksX1_anchorOf_2 20 rfl rfl)
theorem dX1_anchorOf_75 : decode cX1_anchorOf 75 = .ok (.ireturn, 1) := dk_172 (dk_at dksX1_anchorOf_2 23 rfl rfl)
theorem dX1_anchorOf_76 : decode cX1_anchorOf 76 = .ok (.aload_n 0, 1) := dk_42 (dk_at dksX1_anchorOf_3 0 rfl rfl)
theorem dX1_anchorOf_77 : decode cX1_anchorOf 77 = .ok (.getfield 78, 3) := dk_180 0 78 (dk_at dksX1_anchorOf_3 1 rfl rfl)
theorem dX1_anchorOf_80 : decode cX1_anchorOf 80 = .ok (.aload_n 3, 1) := dk_45 (dk_at dksX1_anchorOf_3 4 rfl rfl)
theorem dX1_anchorOf_81 : decode cX1_anchorOf 81 = .ok (.aload_n 0, 1) := dk_42 (dk_at dksX1_anchorOf_3 5 rfl rfl)
theorem dX1_anchorOf_82 : decode cX1_anchorOf 82 = .ok (.getfield 78, 3) := dk_180 0 78 (dk_at dksX1_anchorOf_3 6 rfl rfl)
theorem dX1_anchorOf_85 : decode cX1_anchorOf 85 = .ok (.getfield 179, 3) := dk_180 0 179 (dk_at dksX1_anchorOf_3 9 rfl rfl)
theorem dX1_anchorOf_88 : decode cX1_anchorOf 88 = .ok (.invokevirtual 222, 3) := dk_182 0 222 (dk_at dksX1_anchorOf_3 12 rfl rfl)
theorem dX1_anchorOf_91 : decode cX1_anchorOf 91 = .ok (.ireturn, 1) := dk_172 (dk_at dksX1_anchorOf_3 15 rfl rfl)
theorem dX1_anchorOf_92 : decode cX1_anchorOf 92 = .ok (.aload_n 3, 1) := dk_45 (dk_at dksX1_anchorOf_3 16 rfl rfl)
theorem dX1_anchorOf_93 : decode cX1_anchorOf 93 = .ok (.invokevirtual 226, 3) := dk_182 0 226 (dk_at dksX1_anchorOf_3 17 rfl rfl)
theorem dX1_anchorOf_96 : decode cX1_anchorOf 96 = .ok (.ifCond .eq 7, 3) := dk_153 0 7 (dk_at dksX1_anchorOf_3 20 rfl rfl)
theorem dX1_anchorOf_99 : decode cX1_anchorOf 99 = .ok (.iconst 1, 1) := dk_4 (dk_at dksX1_anchorOf_3 23 rfl rfl)
theorem dX1_anchorOf_100 : decode cX1_anchorOf 100 = .ok (.goto 4, 3) := dk_167 0 4 (dk_at dksX1_anchorOf_4 0 rfl rfl)
theorem dX1_anchorOf_103 : decode cX1_anchorOf 103 = .ok (.iconst 0, 1) := dk_3 (dk_at dksX1_anchorOf_4 3 rfl rfl)
theorem dX1_anchorOf_104 : decode cX1_anchorOf 104 = .ok (.ireturn, 1) := dk_172 (dk_at dksX1_anchorOf_4 4 rfl rfl)
abbrev cX1_dragIn : ByteArray := prog_1_method_23_code
def yX1_dragIn : MethodName := ⟨RX1, "dragIn", "(II)I"⟩
def dkwX1_dragIn_1 : List UInt8 := [45, 28, 182, 0, 229, 172]
abbrev dktX1_dragIn_1 : List UInt8 := dkwX1_dragIn_1 ++ []
def dkwX1_dragIn_0 : List UInt8 := [42, 180, 0, 78, 27, 182, 0, 204, 78, 28, 3, 17, 0, 199, 184, 0, 64, 184, 0, 68, 42, 180, 0, 78]
abbrev dktX1_dragIn_0 : List UInt8 := dkwX1_dragIn_0 ++ dktX1_dragIn_1
theorem dksX1_dragIn_0 : cX1_dragIn.data.toList.drop 0 = dktX1_dragIn_0 := by decide +kernel
theorem dksX1_dragIn_1 : cX1_dragIn.data.toList.drop 24 = dktX1_dragIn_1 := dk_seg dksX1_dragIn_0 24 rfl rfl
theorem dX1_dragIn_0 : decode cX1_dragIn 0 = .ok (.aload_n 0, 1) := dk_42 (dk_at dksX1_dragIn_0 0 rfl rfl)
theorem dX1_dragIn_1 : decode cX1_dragIn 1 = .ok (.getfield 78, 3) := dk_180 0 78 (dk_at dksX1_dragIn_0 1 rfl rfl)
theorem dX1_dragIn_4 : decode cX1_dragIn 4 = .ok (.iload_n 1, 1) := dk_27 (dk_at dksX1_dragIn_0 4 rfl rfl)
theorem dX1_dragIn_5 : decode cX1_dragIn 5 = .ok (.invokevirtual 204, 3) := dk_182 0 204 (dk_at dksX1_dragIn_0 5 rfl rfl)
theorem dX1_dragIn_8 : decode cX1_dragIn 8 = .ok (.astore_n 3, 1) := dk_78 (dk_at dksX1_dragIn_0 8 rfl rfl)
theorem dX1_dragIn_9 : decode cX1_dragIn 9 = .ok (.iload_n 2, 1) := dk_28 (dk_at dksX1_dragIn_0 9 rfl rfl)
theorem dX1_dragIn_10 : decode cX1_dragIn 10 = .ok (.iconst 0, 1) := dk_3 (dk_at dksX1_dragIn_0 10 rfl rfl)
theorem dX1_dragIn_11 : decode cX1_dragIn 11 = .ok (.sipush 199, 3) := dk_17 0 199 (dk_at dksX1_dragIn_0 11 rfl rfl)
theorem dX1_dragIn_14 : decode cX1_dragIn 14 = .ok (.invokestatic 64, 3) := dk_184 0 64 (dk_at dksX1_dragIn_0 14 rfl rfl)
theorem dX1_dragIn_17 : decode cX1_dragIn 17 = .ok (.invokestatic 68, 3) := dk_184 0 68 (dk_at dksX1_dragIn_0 17 rfl rfl)
theorem dX1_dragIn_20 : decode cX1_dragIn 20 = .ok (.aload_n 0, 1) := dk_42 (dk_at dksX1_dragIn_0 20 rfl rfl)
theorem dX1_dragIn_21 : decode cX1_dragIn 21 = .ok (.getfield 78, 3) := dk_180 0 78 (dk_at dksX1_dragIn_0 21 rfl rfl)
theorem dX1_dragIn_24 : decode cX1_dragIn 24 = .ok (.aload_n 3, 1) := dk_45 (dk_at dksX1_dragIn_1 0 rfl rfl)
theorem dX1_dragIn_25 : decode cX1_dragIn 25 = .ok (.iload_n 2, 1) := dk_28 (dk_at dksX1_dragIn_1 1 rfl rfl)
theorem dX1_dragIn_26 : decode cX1_dragIn 26 = .ok (.invokevirtual 229, 3) := dk_182 0 229 (dk_at dksX1_dragIn_1 2 rfl rfl)
theorem dX1_dragIn_29 : decode cX1_dragIn 29 = .ok (.ireturn, 1) := dk_172 (dk_at dksX1_dragIn_1 5 rfl rfl)
abbrev cX1_dragAgain : ByteArray := prog_1_method_24_code
def yX1_dragAgain : MethodName := ⟨RX1, "dragAgain", "(II)I"⟩
def dkwX1_dragAgain_1 : List UInt8 := [45, 28, 182, 0, 232, 172]
abbrev dktX1_dragAgain_1 : List UInt8 := dkwX1_dragAgain_1 ++ []
def dkwX1_dragAgain_0 : List UInt8 := [42, 180, 0, 78, 27, 182, 0, 204, 78, 28, 3, 17, 0, 199, 184, 0, 64, 184, 0, 68, 42, 180, 0, 78]
abbrev dktX1_dragAgain_0 : List UInt8 := dkwX1_dragAgain_0 ++ dktX1_dragAgain_1
theorem dksX1_dragAgain_0 : cX1_dragAgain.data.toList.drop 0 = dktX1_dragAgain_0 := by decide +kernel
theorem dksX1_dragAgain_1 : cX1_dragAgain.data.toList.drop 24 = dktX1_dragAgain_1 := dk_seg dksX1_dragAgain_0 24 rfl rfl
theorem dX1_dragAgain_0 : decode cX1_dragAgain 0 = .ok (.aload_n 0, 1) := dk_42 (dk_at dksX1_dragAgain_0 0 rfl rfl)
theorem dX1_dragAgain_1 : decode cX1_dragAgain 1 = .ok (.getfield 78, 3) := dk_180 0 78 (dk_at dksX1_dragAgain_0 1 rfl rfl)
theorem dX1_dragAgain_4 : decode cX1_dragAgain 4 = .ok (.iload_n 1, 1) := dk_27 (dk_at dksX1_dragAgain_0 4 rfl rfl)
theorem dX1_dragAgain_5 : decode cX1_dragAgain 5 = .ok (.invokevirtual 204, 3) := dk_182 0 204 (dk_at dksX1_dragAgain_0 5 rfl rfl)
theorem dX1_dragAgain_8 : decode cX1_dragAgain 8 = .ok (.astore_n 3, 1) := dk_78 (dk_at dksX1_dragAgain_0 8 rfl rfl)
theorem dX1_dragAgain_9 : decode cX1_dragAgain 9 = .ok (.iload_n 2, 1) := dk_28 (dk_at dksX1_dragAgain_0 9 rfl rfl)
theorem dX1_dragAgain_10 : decode cX1_dragAgain 10 = .ok (.iconst 0, 1) := dk_3 (dk_at dksX1_dragAgain_0 10 rfl rfl)
theorem dX1_dragAgain_11 : decode cX1_dragAgain 11 = .ok (.sipush 199, 3) := dk_17 0 199 (dk_at dksX1_dragAgain_0 11 rfl rfl)
theorem dX1_dragAgain_14 : decode cX1_dragAgain 14 = .ok (.invokestatic 64, 3) := dk_184 0 64 (dk_at dksX1_dragAgain_0 14 rfl rfl)
theorem dX1_dragAgain_17 : decode cX1_dragAgain 17 = .ok (.invokestatic 68, 3) := dk_184 0 68 (dk_at dksX1_dragAgain_0 17 rfl rfl)
theorem dX1_dragAgain_20 : decode cX1_dragAgain 20 = .ok (.aload_n 0, 1) := dk_42 (dk_at dksX1_dragAgain_0 20 rfl rfl)
theorem dX1_dragAgain_21 : decode cX1_dragAgain 21 = .ok (.getfield 78, 3) := dk_180 0 78 (dk_at dksX1_dragAgain_0 21 rfl rfl)
theorem dX1_dragAgain_24 : decode cX1_dragAgain 24 = .ok (.aload_n 3, 1) := dk_45 (dk_at dksX1_dragAgain_1 0 rfl rfl)
theorem dX1_dragAgain_25 : decode cX1_dragAgain 25 = .ok (.iload_n 2, 1) := dk_28 (dk_at dksX1_dragAgain_1 1 rfl rfl)
theorem dX1_dragAgain_26 : decode cX1_dragAgain 26 = .ok (.invokevirtual 232, 3) := dk_182 0 232 (dk_at dksX1_dragAgain_1 2 rfl rfl)
theorem dX1_dragAgain_29 : decode cX1_dragAgain 29 = .ok (.ireturn, 1) := dk_172 (dk_at dksX1_dragAgain_1 5 rfl rfl)
abbrev cX1_come : ByteArray := prog_1_method_25_code
def yX1_come : MethodName := ⟨RX1, "come", "(IIII)I"⟩
def dkwX1_come_0 : List UInt8 := [42, 187, 0, 235, 89, 27, 28, 29, 21, 4, 183, 0, 237, 182, 0, 154, 172]
abbrev dktX1_come_0 : List UInt8 := dkwX1_come_0 ++ []
theorem dksX1_come_0 : cX1_come.data.toList.drop 0 = dktX1_come_0 := by decide +kernel
theorem dX1_come_0 : decode cX1_come 0 = .ok (.aload_n 0, 1) := dk_42 (dk_at dksX1_come_0 0 rfl rfl)
theorem dX1_come_1 : decode cX1_come 1 = .ok (.new 235, 3) := dk_187 0 235 (dk_at dksX1_come_0 1 rfl rfl)
theorem dX1_come_4 : decode cX1_come 4 = .ok (.dup, 1) := dk_89 (dk_at dksX1_come_0 4 rfl rfl)
theorem dX1_come_5 : decode cX1_come 5 = .ok (.iload_n 1, 1) := dk_27 (dk_at dksX1_come_0 5 rfl rfl)
theorem dX1_come_6 : decode cX1_come 6 = .ok (.iload_n 2, 1) := dk_28 (dk_at dksX1_come_0 6 rfl rfl)
theorem dX1_come_7 : decode cX1_come 7 = .ok (.iload_n 3, 1) := dk_29 (dk_at dksX1_come_0 7 rfl rfl)
theorem dX1_come_8 : decode cX1_come 8 = .ok (.iload 4, 2) := dk_21 4 (dk_at dksX1_come_0 8 rfl rfl)
theorem dX1_come_10 : decode cX1_come 10 = .ok (.invokespecial 237, 3) := dk_183 0 237 (dk_at dksX1_come_0 10 rfl rfl)
theorem dX1_come_13 : decode cX1_come 13 = .ok (.invokevirtual 154, 3) := dk_182 0 154 (dk_at dksX1_come_0 13 rfl rfl)
theorem dX1_come_16 : decode cX1_come 16 = .ok (.ireturn, 1) := dk_172 (dk_at dksX1_come_0 16 rfl rfl)
abbrev cX1_group : ByteArray := prog_1_method_26_code
def yX1_group : MethodName := ⟨RX1, "group", "(IIII)I"⟩
def dkwX1_group_4 : List UInt8 := [182, 0, 250, 167, 0, 15, 42, 180, 0, 78, 180, 1, 3, 25, 6, 182, 0, 250, 172]
abbrev dktX1_group_4 : List UInt8 := dkwX1_group_4 ++ []
def dkwX1_group_3 : List UInt8 := [25, 6, 182, 0, 250, 167, 0, 36, 21, 4, 4, 160, 0, 18, 42, 180, 0, 78, 180, 1, 0, 25, 6]
abbrev dktX1_group_3 : List UInt8 := dkwX1_group_3 ++ dktX1_group_4
def dkwX1_group_2 : List UInt8 := [153, 0, 7, 4, 167, 0, 4, 3, 184, 0, 68, 21, 4, 154, 0, 18, 42, 180, 0, 78, 180, 0, 246]
abbrev dktX1_group_2 : List UInt8 := dkwX1_group_2 ++ dktX1_group_3
def dkwX1_group_1 : List UInt8 := [182, 0, 240, 183, 0, 245, 58, 6, 27, 3, 5, 184, 0, 64, 153, 0, 17, 21, 4, 3, 5, 184, 0, 64]
abbrev dktX1_group_1 : List UInt8 := dkwX1_group_1 ++ dktX1_group_2
def dkwX1_group_0 : List UInt8 := [42, 180, 0, 78, 28, 182, 0, 240, 54, 5, 187, 0, 243, 89, 27, 21, 5, 42, 180, 0, 78, 29]
abbrev dktX1_group_0 : List UInt8 := dkwX1_group_0 ++ dktX1_group_1
theorem dksX1_group_0 : cX1_group.data.toList.drop 0 = dktX1_group_0 := by decide +kernel
theorem dksX1_group_1 : cX1_group.data.toList.drop 22 = dktX1_group_1 := dk_seg dksX1_group_0 22 rfl rfl
theorem dksX1_group_2 : cX1_group.data.toList.drop 46 = dktX1_group_2 := dk_seg dksX1_group_1 24 rfl rfl
theorem dksX1_group_3 : cX1_group.data.toList.drop 69 = dktX1_group_3 := dk_seg dksX1_group_2 23 rfl rfl
theorem dksX1_group_4 : cX1_group.data.toList.drop 92 = dktX1_group_4 := dk_seg dksX1_group_3 23 rfl rfl
theorem dX1_group_0 : decode cX1_group 0 = .ok (.aload_n 0, 1) := dk_42 (dk_at dksX1_group_0 0 rfl rfl)
theorem dX1_group_1 : decode cX1_group 1 = .ok (.getfield 78, 3) := dk_180 0 78 (dk_at dksX1_group_0 1 rfl rfl)
theorem dX1_group_4 : decode cX1_group 4 = .ok (.iload_n 2, 1) := dk_28 (dk_at dksX1_group_0 4 rfl rfl)
theorem dX1_group_5 : decode cX1_group 5 = .ok (.invokevirtual 240, 3) := dk_182 0 240 (dk_at dksX1_group_0 5 rfl rfl)
theorem dX1_group_8 : decode cX1_group 8 = .ok (.istore 5, 2) := dk_54 5 (dk_at dksX1_group_0 8 rfl rfl)
theorem dX1_group_10 : decode cX1_group 10 = .ok (.new 243, 3) := dk_187 0 243 (dk_at dksX1_group_0 10 rfl rfl)
theorem dX1_group_13 : decode cX1_group 13 = .ok (.dup, 1) := dk_89 (dk_at dksX1_group_0 13 rfl rfl)
theorem dX1_group_14 : decode cX1_group 14 = .ok (.iload_n 1, 1) := dk_27 (dk_at dksX1_group_0 14 rfl rfl)
theorem dX1_group_15 : decode cX1_group 15 = .ok (.iload 5, 2) := dk_21 5 (dk_at dksX1_group_0 15 rfl rfl)
theorem dX1_group_17 : decode cX1_group 17 = .ok (.aload_n 0, 1) := dk_42 (dk_at dksX1_group_0 17 rfl rfl)
theorem dX1_group_18 : decode cX1_group 18 = .ok (.getfield 78, 3) := dk_180 0 78 (dk_at dksX1_group_0 18 rfl rfl)
theorem dX1_group_21 : decode cX1_group 21 = .ok (.iload_n 3, 1) := dk_29 (dk_at dksX1_group_0 21 rfl rfl)
theorem dX1_group_22 : decode cX1_group 22 = .ok (.invokevirtual 240, 3) := dk_182 0 240 (dk_at dksX1_group_1 0 rfl rfl)
theorem dX1_group_25 : decode cX1_group 25 = .ok (.invokespecial 245, 3) := dk_183 0 245 (dk_at dksX1_group_1 3 rfl rfl)
theorem dX1_group_28 : decode cX1_group 28 = .ok (.astore 6, 2) := dk_58 6 (dk_at dksX1_group_1 6 rfl rfl)
theorem dX1_group_30 : decode cX1_group 30 = .ok (.iload_n 1, 1) := dk_27 (dk_at dksX1_group_1 8 rfl rfl)
theorem dX1_group_31 : decode cX1_group 31 = .ok (.iconst 0, 1) := dk_3 (dk_at dksX1_group_1 9 rfl rfl)
theorem dX1_group_32 : decode cX1_group 32 = .ok (.iconst 2, 1) := dk_5 (dk_at dksX1_group_1 10 rfl rfl)
theorem dX1_group_33 : decode cX1_group 33 = .ok (.invokestatic 64, 3) := dk_184 0 64 (dk_at dksX1_group_1 11 rfl rfl)
theorem dX1_group_36 : decode cX1_group 36 = .ok (.ifCond .eq 17, 3) := dk_153 0 17 (dk_at dksX1_group_1 14 rfl rfl)
theorem dX1_group_39 : decode cX1_group 39 = .ok (.iload 4, 2) := dk_21 4 (dk_at dksX1_group_1 17 rfl rfl)
theorem dX1_group_41 : decode cX1_group 41 = .ok (.iconst 0, 1) := dk_3 (dk_at dksX1_group_1 19 rfl rfl)
theorem dX1_group_42 : decode cX1_group 42 = .ok (.iconst 2, 1) := dk_5 (dk_at dksX1_group_1 20 rfl rfl)
theorem dX1_group_43 : decode cX1_group 43 = .ok (.invokestatic 64, 3) := dk_184 0 64 (dk_at dksX1_group_1 21 rfl rfl)
theorem dX1_group_46 : decode cX1_group 46 = .ok (.ifCond .eq 7, 3) := dk_153 0 7 (dk_at dksX1_group_2 0 rfl rfl)
theorem dX1_group_49 : decode cX1_group 49 = .ok (.iconst 1, 1) := dk_4 (dk_at dksX1_group_2 3 rfl rfl)
theorem dX1_group_50 : decode cX1_group 50 = .ok (.goto 4, 3) := dk_167 0 4 (dk_at dksX1_group_2 4 rfl rfl)
theorem dX1_group_53 : decode cX1_group 53 = .ok (.iconst 0, 1) := dk_3 (dk_at dksX1_group_2 7 rfl rfl)
theorem dX1_group_54 : decode cX1_group 54 = .ok (.invokestatic 68, 3) := dk_184 0 68 (dk_at dksX1_group_2 8 rfl rfl)
theorem dX1_group_57 : decode cX1_group 57 = .ok (.iload 4, 2) := dk_21 4 (dk_at dksX1_group_2 11 rfl rfl)
theorem dX1_group_59 : decode cX1_group 59 = .ok (.ifCond .ne 18, 3) := dk_154 0 18 (dk_at dksX1_group_2 13 rfl rfl)
theorem dX1_group_62 : decode cX1_group 62 = .ok (.aload_n 0, 1) := dk_42 (dk_at dksX1_group_2 16 rfl rfl)
theorem dX1_group_63 : decode cX1_group 63 = .ok (.getfield 78, 3) := dk_180 0 78 (dk_at dksX1_group_2 17 rfl rfl)
theorem dX1_group_66 : decode cX1_group 66 = .ok (.getfield 246, 3) := dk_180 0 246 (dk_at dksX1_group_2 20 rfl rfl)
theorem dX1_group_69 : decode cX1_group 69 = .ok (.aload 6, 2) := dk_25 6 (dk_at dksX1_group_3 0 rfl rfl)
theorem dX1_group_71 : decode cX1_group 71 = .ok (.invokevirtual 250, 3) := dk_182 0 250 (dk_at dksX1_group_3 2 rfl rfl)
theorem dX1_group_74 : decode cX1_group 74 = .ok (.goto 36, 3) := dk_167 0 36 (dk_at dksX1_group_3 5 rfl rfl)
theorem dX1_group_77 : decode cX1_group 77 = .ok (.iload 4, 2) := dk_21 4 (dk_at dksX1_group_3 8 rfl rfl)
theorem dX1_group_79 : decode cX1_group 79 = .ok (.iconst 1, 1) := dk_4 (dk_at dksX1_group_3 10 rfl rfl)
theorem dX1_group_80 : decode cX1_group 80 = .ok (.if_icmp .ne 18, 3) := dk_160 0 18 (dk_at dksX1_group_3 11 rfl rfl)
theorem dX1_group_83 : decode cX1_group 83 = .ok (.aload_n 0, 1) := dk_42 (dk_at dksX1_group_3 14 rfl rfl)
theorem dX1_group_84 : decode cX1_group 84 = .ok (.getfield 78, 3) := dk_180 0 78 (dk_at dksX1_group_3 15 rfl rfl)
theorem dX1_group_87 : decode cX1_group 87 = .ok (.getfield 256, 3) := dk_180 1 0 (dk_at dksX1_group_3 18 rfl rfl)
theorem dX1_group_90 : decode cX1_group 90 = .ok (.aload 6, 2) := dk_25 6 (dk_at dksX1_group_3 21 rfl rfl)
theorem dX1_group_92 : decode cX1_group 92 = .ok (.invokevirtual 250, 3) := dk_182 0 250 (dk_at dksX1_group_4 0 rfl rfl)
theorem dX1_group_95 : decode cX1_group 95 = .ok (.goto 15, 3) := dk_167 0 15 (dk_at dksX1_group_4 3 rfl rfl)
theorem dX1_group_98 : decode cX1_group 98 = .ok (.aload_n 0, 1) := dk_42 (dk_at dksX1_group_4 6 rfl rfl)
theorem dX1_group_99 : decode cX1_group 99 = .ok (.getfield 78, 3) := dk_180 0 78 (dk_at dksX1_group_4 7 rfl rfl)
theorem dX1_group_102 : decode cX1_group 102 = .ok (.getfield 259, 3) := dk_180 1 3 (dk_at dksX1_group_4 10 rfl rfl)
theorem dX1_group_105 : decode cX1_group 105 = .ok (.aload 6, 2) := dk_25 6 (dk_at dksX1_group_4 13 rfl rfl)
theorem dX1_group_107 : decode cX1_group 107 = .ok (.invokevirtual 250, 3) := dk_182 0 250 (dk_at dksX1_group_4 15 rfl rfl)
theorem dX1_group_110 : decode cX1_group 110 = .ok (.ireturn, 1) := dk_172 (dk_at dksX1_group_4 18 rfl rfl)
abbrev cX1_board : ByteArray := prog_1_method_27_code
def yX1_board : MethodName := ⟨RX1, "board", "(IIIZ)I"⟩
def dkwX1_board_1 : List UInt8 := [172]
abbrev dktX1_board_1 : List UInt8 := dkwX1_board_1 ++ []
def dkwX1_board_0 : List UInt8 := [42, 187, 1, 6, 89, 27, 28, 29, 21, 4, 153, 0, 7, 4, 167, 0, 4, 3, 183, 1, 8, 182, 0, 154]
abbrev dktX1_board_0 : List UInt8 := dkwX1_board_0 ++ dktX1_board_1
theorem dksX1_board_0 : cX1_board.data.toList.drop 0 = dktX1_board_0 := by decide +kernel
theorem dksX1_board_1 : cX1_board.data.toList.drop 24 = dktX1_board_1 := dk_seg dksX1_board_0 24 rfl rfl
theorem dX1_board_0 : decode cX1_board 0 = .ok (.aload_n 0, 1) := dk_42 (dk_at dksX1_board_0 0 rfl rfl)
theorem dX1_board_1 : decode cX1_board 1 = .ok (.new 262, 3) := dk_187 1 6 (dk_at dksX1_board_0 1 rfl rfl)
theorem dX1_board_4 : decode cX1_board 4 = .ok (.dup, 1) := dk_89 (dk_at dksX1_board_0 4 rfl rfl)
theorem dX1_board_5 : decode cX1_board 5 = .ok (.iload_n 1, 1) := dk_27 (dk_at dksX1_board_0 5 rfl rfl)
theorem dX1_board_6 : decode cX1_board 6 = .ok (.iload_n 2, 1) := dk_28 (dk_at dksX1_board_0 6 rfl rfl)
theorem dX1_board_7 : decode cX1_board 7 = .ok (.iload_n 3, 1) := dk_29 (dk_at dksX1_board_0 7 rfl rfl)
theorem dX1_board_8 : decode cX1_board 8 = .ok (.iload 4, 2) := dk_21 4 (dk_at dksX1_board_0 8 rfl rfl)
theorem dX1_board_10 : decode cX1_board 10 = .ok (.ifCond .eq 7, 3) := dk_153 0 7 (dk_at dksX1_board_0 10 rfl rfl)
theorem dX1_board_13 : decode cX1_board 13 = .ok (.iconst 1, 1) := dk_4 (dk_at dksX1_board_0 13 rfl rfl)
theorem dX1_board_14 : decode cX1_board 14 = .ok (.goto 4, 3) := dk_167 0 4 (dk_at dksX1_board_0 14 rfl rfl)
theorem dX1_board_17 : decode cX1_board 17 = .ok (.iconst 0, 1) := dk_3 (dk_at dksX1_board_0 17 rfl rfl)
theorem dX1_board_18 : decode cX1_board 18 = .ok (.invokespecial 264, 3) := dk_183 1 8 (dk_at dksX1_board_0 18 rfl rfl)
theorem dX1_board_21 : decode cX1_board 21 = .ok (.invokevirtual 154, 3) := dk_182 0 154 (dk_at dksX1_board_0 21 rfl rfl)
theorem dX1_board_24 : decode cX1_board 24 = .ok (.ireturn, 1) := dk_172 (dk_at dksX1_board_1 0 rfl rfl)
abbrev cX1_fare : ByteArray := prog_1_method_29_code
def yX1_fare : MethodName := ⟨RX1, "fare", "(II)I"⟩
def dkwX1_fare_0 : List UInt8 := [42, 187, 1, 12, 89, 27, 28, 183, 1, 14, 182, 0, 154, 172]
abbrev dktX1_fare_0 : List UInt8 := dkwX1_fare_0 ++ []
theorem dksX1_fare_0 : cX1_fare.data.toList.drop 0 = dktX1_fare_0 := by decide +kernel
theorem dX1_fare_0 : decode cX1_fare 0 = .ok (.aload_n 0, 1) := dk_42 (dk_at dksX1_fare_0 0 rfl rfl)
theorem dX1_fare_1 : decode cX1_fare 1 = .ok (.new 268, 3) := dk_187 1 12 (dk_at dksX1_fare_0 1 rfl rfl)
theorem dX1_fare_4 : decode cX1_fare 4 = .ok (.dup, 1) := dk_89 (dk_at dksX1_fare_0 4 rfl rfl)
theorem dX1_fare_5 : decode cX1_fare 5 = .ok (.iload_n 1, 1) := dk_27 (dk_at dksX1_fare_0 5 rfl rfl)
theorem dX1_fare_6 : decode cX1_fare 6 = .ok (.iload_n 2, 1) := dk_28 (dk_at dksX1_fare_0 6 rfl rfl)
theorem dX1_fare_7 : decode cX1_fare 7 = .ok (.invokespecial 270, 3) := dk_183 1 14 (dk_at dksX1_fare_0 7 rfl rfl)
theorem dX1_fare_10 : decode cX1_fare 10 = .ok (.invokevirtual 154, 3) := dk_182 0 154 (dk_at dksX1_fare_0 10 rfl rfl)
theorem dX1_fare_13 : decode cX1_fare 13 = .ok (.ireturn, 1) := dk_172 (dk_at dksX1_fare_0 13 rfl rfl)
abbrev cX1_kindIn : ByteArray := prog_1_method_8_code
def yX1_kindIn : MethodName := ⟨RX1, "kindIn", "(I)I"⟩
def dkwX1_kindIn_0 : List UInt8 := [26, 3, 5, 184, 0, 64, 184, 0, 68, 26, 172]
abbrev dktX1_kindIn_0 : List UInt8 := dkwX1_kindIn_0 ++ []
theorem dksX1_kindIn_0 : cX1_kindIn.data.toList.drop 0 = dktX1_kindIn_0 := by decide +kernel
theorem dX1_kindIn_0 : decode cX1_kindIn 0 = .ok (.iload_n 0, 1) := dk_26 (dk_at dksX1_kindIn_0 0 rfl rfl)
theorem dX1_kindIn_1 : decode cX1_kindIn 1 = .ok (.iconst 0, 1) := dk_3 (dk_at dksX1_kindIn_0 1 rfl rfl)
theorem dX1_kindIn_2 : decode cX1_kindIn 2 = .ok (.iconst 2, 1) := dk_5 (dk_at dksX1_kindIn_0 2 rfl rfl)
theorem dX1_kindIn_3 : decode cX1_kindIn 3 = .ok (.invokestatic 64, 3) := dk_184 0 64 (dk_at dksX1_kindIn_0 3 rfl rfl)
theorem dX1_kindIn_6 : decode cX1_kindIn 6 = .ok (.invokestatic 68, 3) := dk_184 0 68 (dk_at dksX1_kindIn_0 6 rfl rfl)
theorem dX1_kindIn_9 : decode cX1_kindIn 9 = .ok (.iload_n 0, 1) := dk_26 (dk_at dksX1_kindIn_0 9 rfl rfl)
theorem dX1_kindIn_10 : decode cX1_kindIn 10 = .ok (.ireturn, 1) := dk_172 (dk_at dksX1_kindIn_0 10 rfl rfl)
abbrev cX1_line : ByteArray := prog_1_method_30_code
def yX1_line : MethodName := ⟨RX1, "line", "(I)I"⟩
def dkwX1_line_7 : List UInt8 := [180, 0, 98, 185, 1, 56, 1, 0, 172]
abbrev dktX1_line_7 : List UInt8 := dkwX1_line_7 ++ []
def dkwX1_line_6 : List UInt8 := [167, 255, 152, 42, 45, 182, 1, 25, 154, 0, 9, 19, 1, 54, 167, 0, 4, 45, 181, 0, 98, 42]
abbrev dktX1_line_6 : List UInt8 := dkwX1_line_6 ++ dktX1_line_7
def dkwX1_line_5 : List UInt8 := [180, 1, 43, 182, 1, 46, 19, 1, 49, 182, 1, 30, 25, 5, 185, 0, 45, 1, 0, 182, 1, 51, 87]
abbrev dktX1_line_5 : List UInt8 := dkwX1_line_5 ++ dktX1_line_6
def dkwX1_line_4 : List UInt8 := [18, 96, 182, 1, 30, 25, 6, 180, 1, 34, 184, 1, 37, 182, 1, 30, 19, 1, 41, 182, 1, 30, 25, 6]
abbrev dktX1_line_4 : List UInt8 := dkwX1_line_4 ++ dktX1_line_5
def dkwX1_line_3 : List UInt8 := [25, 6, 180, 1, 22, 28, 160, 0, 64, 45, 45, 182, 1, 25, 158, 0, 9, 19, 1, 28, 167, 0, 5]
abbrev dktX1_line_3 : List UInt8 := dkwX1_line_3 ++ dktX1_line_4
def dkwX1_line_2 : List UInt8 := [25, 4, 185, 0, 39, 1, 0, 192, 0, 43, 58, 5, 25, 5, 185, 0, 54, 1, 0, 192, 0, 243, 58, 6]
abbrev dktX1_line_2 : List UInt8 := dkwX1_line_2 ++ dktX1_line_3
def dkwX1_line_1 : List UInt8 := [180, 1, 15, 182, 1, 19, 185, 0, 27, 1, 0, 58, 4, 25, 4, 185, 0, 33, 1, 0, 153, 0, 100]
abbrev dktX1_line_1 : List UInt8 := dkwX1_line_1 ++ dktX1_line_2
def dkwX1_line_0 : List UInt8 := [42, 180, 0, 78, 27, 182, 0, 240, 61, 187, 0, 89, 89, 183, 0, 91, 78, 42, 180, 0, 78, 180, 0, 246]
abbrev dktX1_line_0 : List UInt8 := dkwX1_line_0 ++ dktX1_line_1
theorem dksX1_line_0 : cX1_line.data.toList.drop 0 = dktX1_line_0 := by decide +kernel
theorem dksX1_line_1 : cX1_line.data.toList.drop 24 = dktX1_line_1 := dk_seg dksX1_line_0 24 rfl rfl
theorem dksX1_line_2 : cX1_line.data.toList.drop 47 = dktX1_line_2 := dk_seg dksX1_line_1 23 rfl rfl
theorem dksX1_line_3 : cX1_line.data.toList.drop 71 = dktX1_line_3 := dk_seg dksX1_line_2 24 rfl rfl
theorem dksX1_line_4 : cX1_line.data.toList.drop 94 = dktX1_line_4 := dk_seg dksX1_line_3 23 rfl rfl
theorem dksX1_line_5 : cX1_line.data.toList.drop 118 = dktX1_line_5 := dk_seg dksX1_line_4 24 rfl rfl
theorem dksX1_line_6 : cX1_line.data.toList.drop 141 = dktX1_line_6 := dk_seg dksX1_line_5 23 rfl rfl
theorem dksX1_line_7 : cX1_line.data.toList.drop 163 = dktX1_line_7 := dk_seg dksX1_line_6 22 rfl rfl
theorem dX1_line_0 : decode cX1_line 0 = .ok (.aload_n 0, 1) := dk_42 (dk_at dksX1_line_0 0 rfl rfl)
theorem dX1_line_1 : decode cX1_line 1 = .ok (.getfield 78, 3) := dk_180 0 78 (dk_at dksX1_line_0 1 rfl rfl)
theorem dX1_line_4 : decode cX1_line 4 = .ok (.iload_n 1, 1) := dk_27 (dk_at dksX1_line_0 4 rfl rfl)
theorem dX1_line_5 : decode cX1_line 5 = .ok (.invokevirtual 240, 3) := dk_182 0 240 (dk_at dksX1_line_0 5 rfl rfl)
theorem dX1_line_8 : decode cX1_line 8 = .ok (.istore_n 2, 1) := dk_61 (dk_at dksX1_line_0 8 rfl rfl)
theorem dX1_line_9 : decode cX1_line 9 = .ok (.new 89, 3) := dk_187 0 89 (dk_at dksX1_line_0 9 rfl rfl)
theorem dX1_line_12 : decode cX1_line 12 = .ok (.dup, 1) := dk_89 (dk_at dksX1_line_0 12 rfl rfl)
theorem dX1_line_13 : decode cX1_line 13 = .ok (.invokespecial 91, 3) := dk_183 0 91 (dk_at dksX1_line_0 13 rfl rfl)
theorem dX1_line_16 : decode cX1_line 16 = .ok (.astore_n 3, 1) := dk_78 (dk_at dksX1_line_0 16 rfl rfl)
theorem dX1_line_17 : decode cX1_line 17 = .ok (.aload_n 0, 1) := dk_42 (dk_at dksX1_line_0 17 rfl rfl)
theorem dX1_line_18 : decode cX1_line 18 = .ok (.getfield 78, 3) := dk_180 0 78 (dk_at dksX1_line_0 18 rfl rfl)
theorem dX1_line_21 : decode cX1_line 21 = .ok (.getfield 246, 3) := dk_180 0 246 (dk_at dksX1_line_0 21 rfl rfl)
theorem dX1_line_24 : decode cX1_line 24 = .ok (.getfield 271, 3) := dk_180 1 15 (dk_at dksX1_line_1 0 rfl rfl)
theorem dX1_line_27 : decode cX1_line 27 = .ok (.invokevirtual 275, 3) := dk_182 1 19 (dk_at dksX1_line_1 3 rfl rfl)
theorem dX1_line_30 : decode cX1_line 30 = .ok (.invokeinterface 27 1, 5) := by decide +kernel
theorem dX1_line_35 : decode cX1_line 35 = .ok (.astore 4, 2) := dk_58 4 (dk_at dksX1_line_1 11 rfl rfl)
theorem dX1_line_37 : decode cX1_line 37 = .ok (.aload 4, 2) := dk_25 4 (dk_at dksX1_line_1 13 rfl rfl)
theorem dX1_line_39 : decode cX1_line 39 = .ok (.invokeinterface 33 1, 5) := by decide +kernel
theorem dX1_line_44 : decode cX1_line 44 = .ok (.ifCond .eq 100, 3) := dk_153 0 100 (dk_at dksX1_line_1 20 rfl rfl)
theorem dX1_line_47 : decode cX1_line 47 = .ok (.aload 4, 2) := dk_25 4 (dk_at dksX1_line_2 0 rfl rfl)
theorem dX1_line_49 : decode cX1_line 49 = .ok (.invokeinterface 39 1, 5) := by decide +kernel
theorem dX1_line_54 : decode cX1_line 54 = .ok (.checkcast 43, 3) := dk_192 0 43 (dk_at dksX1_line_2 7 rfl rfl)
theorem dX1_line_57 : decode cX1_line 57 = .ok (.astore 5, 2) := dk_58 5 (dk_at dksX1_line_2 10 rfl rfl)
theorem dX1_line_59 : decode cX1_line 59 = .ok (.aload 5, 2) := dk_25 5 (dk_at dksX1_line_2 12 rfl rfl)
theorem dX1_line_61 : decode cX1_line 61 = .ok (.invokeinterface 54 1, 5) := by decide +kernel
theorem dX1_line_66 : decode cX1_line 66 = .ok (.checkcast 243, 3) := dk_192 0 243 (dk_at dksX1_line_2 19 rfl rfl)
theorem dX1_line_69 : decode cX1_line 69 = .ok (.astore 6, 2) := dk_58 6 (dk_at dksX1_line_2 22 rfl rfl)
theorem dX1_line_71 : decode cX1_line 71 = .ok (.aload 6, 2) := dk_25 6 (dk_at dksX1_line_3 0 rfl rfl)
theorem dX1_line_73 : decode cX1_line 73 = .ok (.getfield 278, 3) := dk_180 1 22 (dk_at dksX1_line_3 2 rfl rfl)
theorem dX1_line_76 : decode cX1_line 76 = .ok (.iload_n 2, 1) := dk_28 (dk_at dksX1_line_3 5 rfl rfl)
theorem dX1_line_77 : decode cX1_line 77 = .ok (.if_icmp .ne 64, 3) := dk_160 0 64 (dk_at dksX1_line_3 6 rfl rfl)
theorem dX1_line_80 : decode cX1_line 80 = .ok (.aload_n 3, 1) := dk_45 (dk_at dksX1_line_3 9 rfl rfl)
theorem dX1_line_81 : decode cX1_line 81 = .ok (.aload_n 3, 1) := dk_45 (dk_at dksX1_line_3 10 rfl rfl)
theorem dX1_line_82 : decode cX1_line 82 = .ok (.invokevirtual 281, 3) := dk_182 1 25 (dk_at dksX1_line_3 11 rfl rfl)
theorem dX1_line_85 : decode cX1_line 85 = .ok (.ifCond .le 9, 3) := dk_158 0 9 (dk_at dksX1_line_3 14 rfl rfl)
theorem dX1_line_88 : decode cX1_line 88 = .ok (.ldc_w 284, 3) := dk_19 1 28 (dk_at dksX1_line_3 17 rfl rfl)
theorem dX1_line_91 : decode cX1_line 91 = .ok (.goto 5, 3) := dk_167 0 5 (dk_at dksX1_line_3 20 rfl rfl)
theorem dX1_line_94 : decode cX1_line 94 = .ok (.ldc 96, 2) := dk_18 96 (dk_at dksX1_line_4 0 rfl rfl)
theorem dX1_line_96 : decode cX1_line 96 = .ok (.invokevirtual 286, 3) := dk_182 1 30 (dk_at dksX1_line_4 2 rfl rfl)
theorem dX1_line_99 : decode cX1_line 99 = .ok (.aload 6, 2) := dk_25 6 (dk_at dksX1_line_4 5 rfl rfl)
theorem dX1_line_101 : decode cX1_line 101 = .ok (.getfield 290, 3) := dk_180 1 34 (dk_at dksX1_line_4 7 rfl rfl)
theorem dX1_line_104 : decode cX1_line 104 = .ok (.invokestatic 293, 3) := dk_184 1 37 (dk_at dksX1_line_4 10 rfl rfl)
theorem dX1_line_107 : decode cX1_line 107 = .ok (.invokevirtual 286, 3) := dk_182 1 30 (dk_at dksX1_line_4 13 rfl rfl)
theorem dX1_line_110 : decode cX1_line 110 = .ok (.ldc_w 297, 3) := dk_19 1 41 (dk_at dksX1_line_4 16 rfl rfl)
theorem dX1_line_113 : decode cX1_line 113 = .ok (.invokevirtual 286, 3) := dk_182 1 30 (dk_at dksX1_line_4 19 rfl rfl)
theorem dX1_line_116 : decode cX1_line 116 = .ok (.aload 6, 2) := dk_25 6 (dk_at dksX1_line_4 22 rfl rfl)
theorem dX1_line_118 : decode cX1_line 118 = .ok (.getfield 299, 3) := dk_180 1 43 (dk_at dksX1_line_5 0 rfl rfl)
theorem dX1_line_121 : decode cX1_line 121 = .ok (.invokevirtual 302, 3) := dk_182 1 46 (dk_at dksX1_line_5 3 rfl rfl)
theorem dX1_line_124 : decode cX1_line 124 = .ok (.ldc_w 305, 3) := dk_19 1 49 (dk_at dksX1_line_5 6 rfl rfl)
theorem dX1_line_127 : decode cX1_line 127 = .ok (.invokevirtual 286, 3) := dk_182 1 30 (dk_at dksX1_line_5 9 rfl rfl)
theorem dX1_line_130 : decode cX1_line 130 = .ok (.aload 5, 2) := dk_25 5 (dk_at dksX1_line_5 12 rfl rfl)
theorem dX1_line_132 : decode cX1_line 132 = .ok (.invokeinterface 45 1, 5) := by decide +kernel
theorem dX1_line_137 : decode cX1_line 137 = .ok (.invokevirtual 307, 3) := dk_182 1 51 (dk_at dksX1_line_5 19 rfl rfl)
theorem dX1_line_140 : decode cX1_line 140 = .ok (.pop, 1) := dk_87 (dk_at dksX1_line_5 22 rfl rfl)
theorem dX1_line_141 : decode cX1_line 141 = .ok (.goto (-104), 3) := dk_167 255 152 (dk_at dksX1_line_6 0 rfl rfl)
theorem dX1_line_144 : decode cX1_line 144 = .ok (.aload_n 0, 1) := dk_42 (dk_at dksX1_line_6 3 rfl rfl)
theorem dX1_line_145 : decode cX1_line 145 = .ok (.aload_n 3, 1) := dk_45 (dk_at dksX1_line_6 4 rfl rfl)
theorem dX1_line_146 : decode cX1_line 146 = .ok (.invokevirtual 281, 3) := dk_182 1 25 (dk_at dksX1_line_6 5 rfl rfl)
theorem dX1_line_149 : decode cX1_line 149 = .ok (.ifCond .ne 9, 3) := dk_154 0 9 (dk_at dksX1_line_6 8 rfl rfl)
theorem dX1_line_152 : decode cX1_line 152 = .ok (.ldc_w 310, 3) := dk_19 1 54 (dk_at dksX1_line_6 11 rfl rfl)
theorem dX1_line_155 : decode cX1_line 155 = .ok (.goto 4, 3) := dk_167 0 4 (dk_at dksX1_line_6 14 rfl rfl)
theorem dX1_line_158 : decode cX1_line 158 = .ok (.aload_n 3, 1) := dk_45 (dk_at dksX1_line_6 17 rfl rfl)
theorem dX1_line_159 : decode cX1_line 159 = .ok (.putfield 98, 3) := dk_181 0 98 (dk_at dksX1_line_6 18 rfl rfl)
theorem dX1_line_162 : decode cX1_line 162 = .ok (.aload_n 0, 1) := dk_42 (dk_at dksX1_line_6 21 rfl rfl)
theorem dX1_line_163 : decode cX1_line 163 = .ok (.getfield 98, 3) := dk_180 0 98 (dk_at dksX1_line_7 0 rfl rfl)
theorem dX1_line_166 : decode cX1_line 166 = .ok (.invokeinterface 312 1, 5) := by decide +kernel
theorem dX1_line_171 : decode cX1_line 171 = .ok (.ireturn, 1) := dk_172 (dk_at dksX1_line_7 8 rfl rfl)
abbrev cX1_character : ByteArray := prog_1_method_31_code
def yX1_character : MethodName := ⟨RX1, "character", "(I)C"⟩
def dkwX1_character_1 : List UInt8 := [185, 1, 62, 2, 0, 172]
abbrev dktX1_character_1 : List UInt8 := dkwX1_character_1 ++ []
def dkwX1_character_0 : List UInt8 := [27, 3, 42, 180, 0, 98, 185, 1, 56, 1, 0, 4, 100, 184, 0, 64, 184, 1, 59, 42, 180, 0, 98, 27]
abbrev dktX1_character_0 : List UInt8 := dkwX1_character_0 ++ dktX1_character_1
theorem dksX1_character_0 : cX1_character.data.toList.drop 0 = dktX1_character_0 := by decide +kernel
theorem dksX1_character_1 : cX1_character.data.toList.drop 24 = dktX1_character_1 := dk_seg dksX1_character_0 24 rfl rfl
theorem dX1_character_0 : decode cX1_character 0 = .ok (.iload_n 1, 1) := dk_27 (dk_at dksX1_character_0 0 rfl rfl)
theorem dX1_character_1 : decode cX1_character 1 = .ok (.iconst 0, 1) := dk_3 (dk_at dksX1_character_0 1 rfl rfl)
theorem dX1_character_2 : decode cX1_character 2 = .ok (.aload_n 0, 1) := dk_42 (dk_at dksX1_character_0 2 rfl rfl)
theorem dX1_character_3 : decode cX1_character 3 = .ok (.getfield 98, 3) := dk_180 0 98 (dk_at dksX1_character_0 3 rfl rfl)
theorem dX1_character_6 : decode cX1_character 6 = .ok (.invokeinterface 312 1, 5) := by decide +kernel
theorem dX1_character_11 : decode cX1_character 11 = .ok (.iconst 1, 1) := dk_4 (dk_at dksX1_character_0 11 rfl rfl)
theorem dX1_character_12 : decode cX1_character 12 = .ok (.isub, 1) := dk_100 (dk_at dksX1_character_0 12 rfl rfl)
theorem dX1_character_13 : decode cX1_character 13 = .ok (.invokestatic 64, 3) := dk_184 0 64 (dk_at dksX1_character_0 13 rfl rfl)
theorem dX1_character_16 : decode cX1_character 16 = .ok (.invokestatic 315, 3) := dk_184 1 59 (dk_at dksX1_character_0 16 rfl rfl)
theorem dX1_character_19 : decode cX1_character 19 = .ok (.aload_n 0, 1) := dk_42 (dk_at dksX1_character_0 19 rfl rfl)
theorem dX1_character_20 : decode cX1_character 20 = .ok (.getfield 98, 3) := dk_180 0 98 (dk_at dksX1_character_0 20 rfl rfl)
theorem dX1_character_23 : decode cX1_character 23 = .ok (.iload_n 1, 1) := dk_27 (dk_at dksX1_character_0 23 rfl rfl)
theorem dX1_character_24 : decode cX1_character 24 = .ok (.invokeinterface 318 2, 5) := by decide +kernel
theorem dX1_character_29 : decode cX1_character 29 = .ok (.ireturn, 1) := dk_172 (dk_at dksX1_character_1 5 rfl rfl)
abbrev cX1_busiest : ByteArray := prog_1_method_33_code
def yX1_busiest : MethodName := ⟨RX1, "busiest", "()I"⟩
def dkwX1_busiest_2 : List UInt8 := [153, 0, 7, 28, 167, 0, 4, 27, 60, 132, 2, 1, 167, 255, 222, 27, 172]
abbrev dktX1_busiest_2 : List UInt8 := dkwX1_busiest_2 ++ []
def dkwX1_busiest_1 : List UInt8 := [61, 28, 42, 180, 0, 78, 180, 1, 82, 185, 1, 86, 1, 0, 163, 0, 24, 42, 28, 27, 182, 1, 89]
abbrev dktX1_busiest_1 : List UInt8 := dkwX1_busiest_1 ++ dktX1_busiest_2
def dkwX1_busiest_0 : List UInt8 := [42, 180, 0, 78, 180, 0, 246, 182, 1, 76, 158, 0, 7, 4, 167, 0, 4, 3, 184, 1, 79, 3, 60, 4]
abbrev dktX1_busiest_0 : List UInt8 := dkwX1_busiest_0 ++ dktX1_busiest_1
theorem dksX1_busiest_0 : cX1_busiest.data.toList.drop 0 = dktX1_busiest_0 := by decide +kernel
theorem dksX1_busiest_1 : cX1_busiest.data.toList.drop 24 = dktX1_busiest_1 := dk_seg dksX1_busiest_0 24 rfl rfl
theorem dksX1_busiest_2 : cX1_busiest.data.toList.drop 47 = dktX1_busiest_2 := dk_seg dksX1_busiest_1 23 rfl rfl
theorem dX1_busiest_0 : decode cX1_busiest 0 = .ok (.aload_n 0, 1) := dk_42 (dk_at dksX1_busiest_0 0 rfl rfl)
theorem dX1_busiest_1 : decode cX1_busiest 1 = .ok (.getfield 78, 3) := dk_180 0 78 (dk_at dksX1_busiest_0 1 rfl rfl)
theorem dX1_busiest_4 : decode cX1_busiest 4 = .ok (.getfield 246, 3) := dk_180 0 246 (dk_at dksX1_busiest_0 4 rfl rfl)
theorem dX1_busiest_7 : decode cX1_busiest 7 = .ok (.invokevirtual 332, 3) := dk_182 1 76 (dk_at dksX1_busiest_0 7 rfl rfl)
theorem dX1_busiest_10 : decode cX1_busiest 10 = .ok (.ifCond .le 7, 3) := dk_158 0 7 (dk_at dksX1_busiest_0 10 rfl rfl)
theorem dX1_busiest_13 : decode cX1_busiest 13 = .ok (.iconst 1, 1) := dk_4 (dk_at dksX1_busiest_0 13 rfl rfl)
theorem dX1_busiest_14 : decode cX1_busiest 14 = .ok (.goto 4, 3) := dk_167 0 4 (dk_at dksX1_busiest_0 14 rfl rfl)
theorem dX1_busiest_17 : decode cX1_busiest 17 = .ok (.iconst 0, 1) := dk_3 (dk_at dksX1_busiest_0 17 rfl rfl)
theorem dX1_busiest_18 : decode cX1_busiest 18 = .ok (.invokestatic 335, 3) := dk_184 1 79 (dk_at dksX1_busiest_0 18 rfl rfl)
theorem dX1_busiest_21 : decode cX1_busiest 21 = .ok (.iconst 0, 1) := dk_3 (dk_at dksX1_busiest_0 21 rfl rfl)
theorem dX1_busiest_22 : decode cX1_busiest 22 = .ok (.istore_n 1, 1) := dk_60 (dk_at dksX1_busiest_0 22 rfl rfl)
theorem dX1_busiest_23 : decode cX1_busiest 23 = .ok (.iconst 1, 1) := dk_4 (dk_at dksX1_busiest_0 23 rfl rfl)
theorem dX1_busiest_24 : decode cX1_busiest 24 = .ok (.istore_n 2, 1) := dk_61 (dk_at dksX1_busiest_1 0 rfl rfl)
theorem dX1_busiest_25 : decode cX1_busiest 25 = .ok (.iload_n 2, 1) := dk_28 (dk_at dksX1_busiest_1 1 rfl rfl)
theorem dX1_busiest_26 : decode cX1_busiest 26 = .ok (.aload_n 0, 1) := dk_42 (dk_at dksX1_busiest_1 2 rfl rfl)
theorem dX1_busiest_27 : decode cX1_busiest 27 = .ok (.getfield 78, 3) := dk_180 0 78 (dk_at dksX1_busiest_1 3 rfl rfl)
theorem dX1_busiest_30 : decode cX1_busiest 30 = .ok (.getfield 338, 3) := dk_180 1 82 (dk_at dksX1_busiest_1 6 rfl rfl)
theorem dX1_busiest_33 : decode cX1_busiest 33 = .ok (.invokeinterface 342 1, 5) := by decide +kernel
theorem dX1_busiest_38 : decode cX1_busiest 38 = .ok (.if_icmp .gt 24, 3) := dk_163 0 24 (dk_at dksX1_busiest_1 14 rfl rfl)
theorem dX1_busiest_41 : decode cX1_busiest 41 = .ok (.aload_n 0, 1) := dk_42 (dk_at dksX1_busiest_1 17 rfl rfl)
theorem dX1_busiest_42 : decode cX1_busiest 42 = .ok (.iload_n 2, 1) := dk_28 (dk_at dksX1_busiest_1 18 rfl rfl)
theorem dX1_busiest_43 : decode cX1_busiest 43 = .ok (.iload_n 1, 1) := dk_27 (dk_at dksX1_busiest_1 19 rfl rfl)
theorem dX1_busiest_44 : decode cX1_busiest 44 = .ok (.invokevirtual 345, 3) := dk_182 1 89 (dk_at dksX1_busiest_1 20 rfl rfl)
theorem dX1_busiest_47 : decode cX1_busiest 47 = .ok (.ifCond .eq 7, 3) := dk_153 0 7 (dk_at dksX1_busiest_2 0 rfl rfl)
theorem dX1_busiest_50 : decode cX1_busiest 50 = .ok (.iload_n 2, 1) := dk_28 (dk_at dksX1_busiest_2 3 rfl rfl)
theorem dX1_busiest_51 : decode cX1_busiest 51 = .ok (.goto 4, 3) := dk_167 0 4 (dk_at dksX1_busiest_2 4 rfl rfl)
theorem dX1_busiest_54 : decode cX1_busiest 54 = .ok (.iload_n 1, 1) := dk_27 (dk_at dksX1_busiest_2 7 rfl rfl)
theorem dX1_busiest_55 : decode cX1_busiest 55 = .ok (.istore_n 1, 1) := dk_60 (dk_at dksX1_busiest_2 8 rfl rfl)
theorem dX1_busiest_56 : decode cX1_busiest 56 = .ok (.iinc 2 1, 3) := dk_132 2 1 (dk_at dksX1_busiest_2 9 rfl rfl)
theorem dX1_busiest_59 : decode cX1_busiest 59 = .ok (.goto (-34), 3) := dk_167 255 222 (dk_at dksX1_busiest_2 12 rfl rfl)
theorem dX1_busiest_62 : decode cX1_busiest 62 = .ok (.iload_n 1, 1) := dk_27 (dk_at dksX1_busiest_2 15 rfl rfl)
theorem dX1_busiest_63 : decode cX1_busiest 63 = .ok (.ireturn, 1) := dk_172 (dk_at dksX1_busiest_2 16 rfl rfl)
abbrev cX1_requireElement : ByteArray := prog_1_method_5_code
def yX1_requireElement : MethodName := ⟨RX1, "requireElement", "(Z)V"⟩
def dkwX1_requireElement_0 : List UInt8 := [26, 154, 0, 11, 187, 0, 13, 89, 183, 0, 15, 191, 177]
abbrev dktX1_requireElement_0 : List UInt8 := dkwX1_requireElement_0 ++ []
theorem dksX1_requireElement_0 : cX1_requireElement.data.toList.drop 0 = dktX1_requireElement_0 := by decide +kernel
theorem dX1_requireElement_0 : decode cX1_requireElement 0 = .ok (.iload_n 0, 1) := dk_26 (dk_at dksX1_requireElement_0 0 rfl rfl)
theorem dX1_requireElement_1 : decode cX1_requireElement 1 = .ok (.ifCond .ne 11, 3) := dk_154 0 11 (dk_at dksX1_requireElement_0 1 rfl rfl)
theorem dX1_requireElement_4 : decode cX1_requireElement 4 = .ok (.new 13, 3) := dk_187 0 13 (dk_at dksX1_requireElement_0 4 rfl rfl)
theorem dX1_requireElement_7 : decode cX1_requireElement 7 = .ok (.dup, 1) := dk_89 (dk_at dksX1_requireElement_0 7 rfl rfl)
theorem dX1_requireElement_8 : decode cX1_requireElement 8 = .ok (.invokespecial 15, 3) := dk_183 0 15 (dk_at dksX1_requireElement_0 8 rfl rfl)
theorem dX1_requireElement_11 : decode cX1_requireElement 11 = .ok (.athrow, 1) := dk_191 (dk_at dksX1_requireElement_0 11 rfl rfl)
theorem dX1_requireElement_12 : decode cX1_requireElement 12 = .ok (.return_, 1) := dk_177 (dk_at dksX1_requireElement_0 12 rfl rfl)
abbrev cX1_isBusier : ByteArray := prog_1_method_32_code
def yX1_isBusier : MethodName := ⟨RX1, "isBusier", "(II)Z"⟩
def dkwX1_isBusier_2 : List UInt8 := [184, 1, 71, 162, 0, 7, 4, 167, 0, 4, 3, 172]
abbrev dktX1_isBusier_2 : List UInt8 := dkwX1_isBusier_2 ++ []
def dkwX1_isBusier_1 : List UInt8 := [154, 0, 34, 27, 42, 180, 0, 78, 180, 1, 69, 100, 184, 1, 71, 28, 42, 180, 0, 78, 180, 1, 69, 100]
abbrev dktX1_isBusier_1 : List UInt8 := dkwX1_isBusier_1 ++ dktX1_isBusier_2
def dkwX1_isBusier_0 : List UInt8 := [42, 180, 0, 78, 27, 182, 1, 66, 42, 180, 0, 78, 28, 182, 1, 66, 100, 62, 29, 157, 0, 34, 29]
abbrev dktX1_isBusier_0 : List UInt8 := dkwX1_isBusier_0 ++ dktX1_isBusier_1
theorem dksX1_isBusier_0 : cX1_isBusier.data.toList.drop 0 = dktX1_isBusier_0 := by decide +kernel
theorem dksX1_isBusier_1 : cX1_isBusier.data.toList.drop 23 = dktX1_isBusier_1 := dk_seg dksX1_isBusier_0 23 rfl rfl
theorem dksX1_isBusier_2 : cX1_isBusier.data.toList.drop 47 = dktX1_isBusier_2 := dk_seg dksX1_isBusier_1 24 rfl rfl
theorem dX1_isBusier_0 : decode cX1_isBusier 0 = .ok (.aload_n 0, 1) := dk_42 (dk_at dksX1_isBusier_0 0 rfl rfl)
theorem dX1_isBusier_1 : decode cX1_isBusier 1 = .ok (.getfield 78, 3) := dk_180 0 78 (dk_at dksX1_isBusier_0 1 rfl rfl)
theorem dX1_isBusier_4 : decode cX1_isBusier 4 = .ok (.iload_n 1, 1) := dk_27 (dk_at dksX1_isBusier_0 4 rfl rfl)
theorem dX1_isBusier_5 : decode cX1_isBusier 5 = .ok (.invokevirtual 322, 3) := dk_182 1 66 (dk_at dksX1_isBusier_0 5 rfl rfl)
theorem dX1_isBusier_8 : decode cX1_isBusier 8 = .ok (.aload_n 0, 1) := dk_42 (dk_at dksX1_isBusier_0 8 rfl rfl)
theorem dX1_isBusier_9 : decode cX1_isBusier 9 = .ok (.getfield 78, 3) := dk_180 0 78 (dk_at dksX1_isBusier_0 9 rfl rfl)
theorem dX1_isBusier_12 : decode cX1_isBusier 12 = .ok (.iload_n 2, 1) := dk_28 (dk_at dksX1_isBusier_0 12 rfl rfl)
theorem dX1_isBusier_13 : decode cX1_isBusier 13 = .ok (.invokevirtual 322, 3) := dk_182 1 66 (dk_at dksX1_isBusier_0 13 rfl rfl)
theorem dX1_isBusier_16 : decode cX1_isBusier 16 = .ok (.isub, 1) := dk_100 (dk_at dksX1_isBusier_0 16 rfl rfl)
theorem dX1_isBusier_17 : decode cX1_isBusier 17 = .ok (.istore_n 3, 1) := dk_62 (dk_at dksX1_isBusier_0 17 rfl rfl)
theorem dX1_isBusier_18 : decode cX1_isBusier 18 = .ok (.iload_n 3, 1) := dk_29 (dk_at dksX1_isBusier_0 18 rfl rfl)
theorem dX1_isBusier_19 : decode cX1_isBusier 19 = .ok (.ifCond .gt 34, 3) := dk_157 0 34 (dk_at dksX1_isBusier_0 19 rfl rfl)
theorem dX1_isBusier_22 : decode cX1_isBusier 22 = .ok (.iload_n 3, 1) := dk_29 (dk_at dksX1_isBusier_0 22 rfl rfl)
theorem dX1_isBusier_23 : decode cX1_isBusier 23 = .ok (.ifCond .ne 34, 3) := dk_154 0 34 (dk_at dksX1_isBusier_1 0 rfl rfl)
theorem dX1_isBusier_26 : decode cX1_isBusier 26 = .ok (.iload_n 1, 1) := dk_27 (dk_at dksX1_isBusier_1 3 rfl rfl)
theorem dX1_isBusier_27 : decode cX1_isBusier 27 = .ok (.aload_n 0, 1) := dk_42 (dk_at dksX1_isBusier_1 4 rfl rfl)
theorem dX1_isBusier_28 : decode cX1_isBusier 28 = .ok (.getfield 78, 3) := dk_180 0 78 (dk_at dksX1_isBusier_1 5 rfl rfl)
theorem dX1_isBusier_31 : decode cX1_isBusier 31 = .ok (.getfield 325, 3) := dk_180 1 69 (dk_at dksX1_isBusier_1 8 rfl rfl)
theorem dX1_isBusier_34 : decode cX1_isBusier 34 = .ok (.isub, 1) := dk_100 (dk_at dksX1_isBusier_1 11 rfl rfl)
theorem dX1_isBusier_35 : decode cX1_isBusier 35 = .ok (.invokestatic 327, 3) := dk_184 1 71 (dk_at dksX1_isBusier_1 12 rfl rfl)
theorem dX1_isBusier_38 : decode cX1_isBusier 38 = .ok (.iload_n 2, 1) := dk_28 (dk_at dksX1_isBusier_1 15 rfl rfl)
theorem dX1_isBusier_39 : decode cX1_isBusier 39 = .ok (.aload_n 0, 1) := dk_42 (dk_at dksX1_isBusier_1 16 rfl rfl)
theorem dX1_isBusier_40 : decode cX1_isBusier 40 = .ok (.getfield 78, 3) := dk_180 0 78 (dk_at dksX1_isBusier_1 17 rfl rfl)
theorem dX1_isBusier_43 : decode cX1_isBusier 43 = .ok (.getfield 325, 3) := dk_180 1 69 (dk_at dksX1_isBusier_1 20 rfl rfl)
theorem dX1_isBusier_46 : decode cX1_isBusier 46 = .ok (.isub, 1) := dk_100 (dk_at dksX1_isBusier_1 23 rfl rfl)
theorem dX1_isBusier_47 : decode cX1_isBusier 47 = .ok (.invokestatic 327, 3) := dk_184 1 71 (dk_at dksX1_isBusier_2 0 rfl rfl)
theorem dX1_isBusier_50 : decode cX1_isBusier 50 = .ok (.if_icmp .ge 7, 3) := dk_162 0 7 (dk_at dksX1_isBusier_2 3 rfl rfl)
theorem dX1_isBusier_53 : decode cX1_isBusier 53 = .ok (.iconst 1, 1) := dk_4 (dk_at dksX1_isBusier_2 6 rfl rfl)
theorem dX1_isBusier_54 : decode cX1_isBusier 54 = .ok (.goto 4, 3) := dk_167 0 4 (dk_at dksX1_isBusier_2 7 rfl rfl)
theorem dX1_isBusier_57 : decode cX1_isBusier 57 = .ok (.iconst 0, 1) := dk_3 (dk_at dksX1_isBusier_2 10 rfl rfl)
theorem dX1_isBusier_58 : decode cX1_isBusier 58 = .ok (.ireturn, 1) := dk_172 (dk_at dksX1_isBusier_2 11 rfl rfl)
abbrev cX1_rope : ByteArray := prog_1_method_34_code
def yX1_rope : MethodName := ⟨RX1, "rope", "(I)I"⟩
def dkwX1_rope_0 : List UInt8 := [42, 187, 1, 93, 89, 27, 183, 1, 95, 182, 0, 154, 172]
abbrev dktX1_rope_0 : List UInt8 := dkwX1_rope_0 ++ []
theorem dksX1_rope_0 : cX1_rope.data.toList.drop 0 = dktX1_rope_0 := by decide +kernel
theorem dX1_rope_0 : decode cX1_rope 0 = .ok (.aload_n 0, 1) := dk_42 (dk_at dksX1_rope_0 0 rfl rfl)
theorem dX1_rope_1 : decode cX1_rope 1 = .ok (.new 349, 3) := dk_187 1 93 (dk_at dksX1_rope_0 1 rfl rfl)
theorem dX1_rope_4 : decode cX1_rope 4 = .ok (.dup, 1) := dk_89 (dk_at dksX1_rope_0 4 rfl rfl)
theorem dX1_rope_5 : decode cX1_rope 5 = .ok (.iload_n 1, 1) := dk_27 (dk_at dksX1_rope_0 5 rfl rfl)
theorem dX1_rope_6 : decode cX1_rope 6 = .ok (.invokespecial 351, 3) := dk_183 1 95 (dk_at dksX1_rope_0 6 rfl rfl)
theorem dX1_rope_9 : decode cX1_rope 9 = .ok (.invokevirtual 154, 3) := dk_182 0 154 (dk_at dksX1_rope_0 9 rfl rfl)
theorem dX1_rope_12 : decode cX1_rope 12 = .ok (.ireturn, 1) := dk_172 (dk_at dksX1_rope_0 12 rfl rfl)
abbrev cX1_cross : ByteArray := prog_1_method_35_code
def yX1_cross : MethodName := ⟨RX1, "cross", "(Z)I"⟩
def dkwX1_cross_0 : List UInt8 := [42, 187, 1, 96, 89, 27, 183, 1, 98, 182, 0, 154, 172]
abbrev dktX1_cross_0 : List UInt8 := dkwX1_cross_0 ++ []
theorem dksX1_cross_0 : cX1_cross.data.toList.drop 0 = dktX1_cross_0 := by decide +kernel
theorem dX1_cross_0 : decode cX1_cross 0 = .ok (.aload_n 0, 1) := dk_42 (dk_at dksX1_cross_0 0 rfl rfl)
theorem dX1_cross_1 : decode cX1_cross 1 = .ok (.new 352, 3) := dk_187 1 96 (dk_at dksX1_cross_0 1 rfl rfl)
theorem dX1_cross_4 : decode cX1_cross 4 = .ok (.dup, 1) := dk_89 (dk_at dksX1_cross_0 4 rfl rfl)
theorem dX1_cross_5 : decode cX1_cross 5 = .ok (.iload_n 1, 1) := dk_27 (dk_at dksX1_cross_0 5 rfl rfl)
theorem dX1_cross_6 : decode cX1_cross 6 = .ok (.invokespecial 354, 3) := dk_183 1 98 (dk_at dksX1_cross_0 6 rfl rfl)
theorem dX1_cross_9 : decode cX1_cross 9 = .ok (.invokevirtual 154, 3) := dk_182 0 154 (dk_at dksX1_cross_0 9 rfl rfl)
theorem dX1_cross_12 : decode cX1_cross 12 = .ok (.ireturn, 1) := dk_172 (dk_at dksX1_cross_0 12 rfl rfl)
abbrev cX1_pass : ByteArray := prog_1_method_37_code
def yX1_pass : MethodName := ⟨RX1, "pass", "(I)I"⟩
def dkwX1_pass_0 : List UInt8 := [42, 187, 1, 103, 89, 27, 183, 1, 105, 182, 0, 154, 172]
abbrev dktX1_pass_0 : List UInt8 := dkwX1_pass_0 ++ []
theorem dksX1_pass_0 : cX1_pass.data.toList.drop 0 = dktX1_pass_0 := by decide +kernel
theorem dX1_pass_0 : decode cX1_pass 0 = .ok (.aload_n 0, 1) := dk_42 (dk_at dksX1_pass_0 0 rfl rfl)
theorem dX1_pass_1 : decode cX1_pass 1 = .ok (.new 359, 3) := dk_187 1 103 (dk_at dksX1_pass_0 1 rfl rfl)
theorem dX1_pass_4 : decode cX1_pass 4 = .ok (.dup, 1) := dk_89 (dk_at dksX1_pass_0 4 rfl rfl)
theorem dX1_pass_5 : decode cX1_pass 5 = .ok (.iload_n 1, 1) := dk_27 (dk_at dksX1_pass_0 5 rfl rfl)
theorem dX1_pass_6 : decode cX1_pass 6 = .ok (.invokespecial 361, 3) := dk_183 1 105 (dk_at dksX1_pass_0 6 rfl rfl)
theorem dX1_pass_9 : decode cX1_pass 9 = .ok (.invokevirtual 154, 3) := dk_182 0 154 (dk_at dksX1_pass_0 9 rfl rfl)
theorem dX1_pass_12 : decode cX1_pass 12 = .ok (.ireturn, 1) := dk_172 (dk_at dksX1_pass_0 12 rfl rfl)
abbrev cX1_number : ByteArray := prog_1_method_39_code
def yX1_number : MethodName := ⟨RX1, "number", "(I)I"⟩
def dkwX1_number_9 : List UInt8 := [172]
abbrev dktX1_number_9 : List UInt8 := dkwX1_number_9 ++ []
def dkwX1_number_8 : List UInt8 := [180, 1, 123, 172, 42, 182, 1, 126, 172, 42, 180, 0, 85, 182, 0, 110, 172, 42, 180, 0, 92, 182, 1, 25]
abbrev dktX1_number_8 : List UInt8 := dkwX1_number_8 ++ dktX1_number_9
def dkwX1_number_7 : List UInt8 := [182, 1, 76, 172, 42, 180, 0, 78, 180, 1, 117, 172, 42, 180, 0, 78, 180, 1, 120, 172, 42, 180, 0, 78]
abbrev dktX1_number_7 : List UInt8 := dkwX1_number_7 ++ dktX1_number_8
def dkwX1_number_6 : List UInt8 := [182, 1, 76, 42, 180, 0, 78, 180, 1, 3, 182, 1, 76, 96, 172, 42, 180, 0, 78, 180, 0, 246]
abbrev dktX1_number_6 : List UInt8 := dkwX1_number_6 ++ dktX1_number_7
def dkwX1_number_5 : List UInt8 := [182, 1, 116, 172, 42, 180, 0, 78, 180, 1, 3, 182, 1, 116, 172, 42, 180, 0, 78, 180, 1, 0]
abbrev dktX1_number_5 : List UInt8 := dkwX1_number_5 ++ dktX1_number_6
def dkwX1_number_4 : List UInt8 := [172, 42, 180, 0, 78, 180, 1, 69, 172, 42, 180, 0, 78, 180, 1, 113, 172, 42, 180, 0, 78, 180, 1, 0]
abbrev dktX1_number_4 : List UInt8 := dkwX1_number_4 ++ dktX1_number_5
def dkwX1_number_3 : List UInt8 := [180, 0, 78, 180, 1, 107, 185, 1, 86, 1, 0, 172, 42, 180, 0, 78, 180, 1, 110, 185, 1, 86, 1, 0]
abbrev dktX1_number_3 : List UInt8 := dkwX1_number_3 ++ dktX1_number_4
def dkwX1_number_2 : List UInt8 := [42, 180, 0, 78, 180, 0, 179, 172, 42, 180, 0, 78, 180, 1, 82, 185, 1, 86, 1, 0, 172, 42]
abbrev dktX1_number_2 : List UInt8 := dkwX1_number_2 ++ dktX1_number_3
def dkwX1_number_1 : List UInt8 := [170, 0, 0, 0, 228, 0, 0, 0, 0, 0, 0, 0, 14, 0, 0, 0, 73, 0, 0, 0, 81, 0, 0, 0, 94, 0, 0, 0, 107, 0, 0, 0, 120, 0, 0, 0, 128, 0, 0, 0, 136, 0, 0, 0, 147, 0, 0, 0, 158, 0, 0, 0, 180, 0, 0, 0, 191, 0, 0, 0, 199, 0, 0, 0, 207, 0, 0, 0, 215, 0, 0, 0, 220]
abbrev dktX1_number_1 : List UInt8 := dkwX1_number_1 ++ dktX1_number_2
def dkwX1_number_0 : List UInt8 := [27, 3, 16, 15, 184, 0, 64, 184, 0, 68, 27]
abbrev dktX1_number_0 : List UInt8 := dkwX1_number_0 ++ dktX1_number_1
theorem dksX1_number_0 : cX1_number.data.toList.drop 0 = dktX1_number_0 := by decide +kernel
theorem dksX1_number_1 : cX1_number.data.toList.drop 11 = dktX1_number_1 := dk_seg dksX1_number_0 11 rfl rfl
theorem dksX1_number_2 : cX1_number.data.toList.drop 84 = dktX1_number_2 := dk_seg dksX1_number_1 73 rfl rfl
theorem dksX1_number_3 : cX1_number.data.toList.drop 106 = dktX1_number_3 := dk_seg dksX1_number_2 22 rfl rfl
theorem dksX1_number_4 : cX1_number.data.toList.drop 130 = dktX1_number_4 := dk_seg dksX1_number_3 24 rfl rfl
theorem dksX1_number_5 : cX1_number.data.toList.drop 154 = dktX1_number_5 := dk_seg dksX1_number_4 24 rfl rfl
theorem dksX1_number_6 : cX1_number.data.toList.drop 176 = dktX1_number_6 := dk_seg dksX1_number_5 22 rfl rfl
theorem dksX1_number_7 : cX1_number.data.toList.drop 198 = dktX1_number_7 := dk_seg dksX1_number_6 22 rfl rfl
theorem dksX1_number_8 : cX1_number.data.toList.drop 222 = dktX1_number_8 := dk_seg dksX1_number_7 24 rfl rfl
theorem dksX1_number_9 : cX1_number.data.toList.drop 246 = dktX1_number_9 := dk_seg dksX1_number_8 24 rfl rfl
theorem dX1_number_0 : decode cX1_number 0 = .ok (.iload_n 1, 1) := dk_27 (dk_at dksX1_number_0 0 rfl rfl)
theorem dX1_number_1 : decode cX1_number 1 = .ok (.iconst 0, 1) := dk_3 (dk_at dksX1_number_0 1 rfl rfl)
theorem dX1_number_2 : decode cX1_number 2 = .ok (.bipush 15, 2) := dk_16 15 (dk_at dksX1_number_0 2 rfl rfl)
theorem dX1_number_4 : decode cX1_number 4 = .ok (.invokestatic 64, 3) := dk_184 0 64 (dk_at dksX1_number_0 4 rfl rfl)
theorem dX1_number_7 : decode cX1_number 7 = .ok (.invokestatic 68, 3) := dk_184 0 68 (dk_at dksX1_number_0 7 rfl rfl)
theorem dX1_number_10 : decode cX1_number 10 = .ok (.iload_n 1, 1) := dk_27 (dk_at dksX1_number_0 10 rfl rfl)
theorem dX1_number_11 : decode cX1_number 11 = .ok (.tableswitch 228 0 14 #[73, 81, 94, 107, 120, 128, 136, 147, 158, 180, 191, 199, 207, 215, 220], 73) := by decide +kernel
theorem dX1_number_84 : decode cX1_number 84 = .ok (.aload_n 0, 1) := dk_42 (dk_at dksX1_number_2 0 rfl rfl)
theorem dX1_number_85 : decode cX1_number 85 = .ok (.getfield 78, 3) := dk_180 0 78 (dk_at dksX1_number_2 1 rfl rfl)
theorem dX1_number_88 : decode cX1_number 88 = .ok (.getfield 179, 3) := dk_180 0 179 (dk_at dksX1_number_2 4 rfl rfl)
theorem dX1_number_91 : decode cX1_number 91 = .ok (.ireturn, 1) := dk_172 (dk_at dksX1_number_2 7 rfl rfl)
theorem dX1_number_92 : decode cX1_number 92 = .ok (.aload_n 0, 1) := dk_42 (dk_at dksX1_number_2 8 rfl rfl)
theorem dX1_number_93 : decode cX1_number 93 = .ok (.getfield 78, 3) := dk_180 0 78 (dk_at dksX1_number_2 9 rfl rfl)
theorem dX1_number_96 : decode cX1_number 96 = .ok (.getfield 338, 3) := dk_180 1 82 (dk_at dksX1_number_2 12 rfl rfl)
theorem dX1_number_99 : decode cX1_number 99 = .ok (.invokeinterface 342 1, 5) := by decide +kernel
theorem dX1_number_104 : decode cX1_number 104 = .ok (.ireturn, 1) := dk_172 (dk_at dksX1_number_2 20 rfl rfl)
theorem dX1_number_105 : decode cX1_number 105 = .ok (.aload_n 0, 1) := dk_42 (dk_at dksX1_number_2 21 rfl rfl)
theorem dX1_number_106 : decode cX1_number 106 = .ok (.getfield 78, 3) := dk_180 0 78 (dk_at dksX1_number_3 0 rfl rfl)
theorem dX1_number_109 : decode cX1_number 109 = .ok (.getfield 363, 3) := dk_180 1 107 (dk_at dksX1_number_3 3 rfl rfl)
theorem dX1_number_112 : decode cX1_number 112 = .ok (.invokeinterface 342 1, 5) := by decide +kernel
theorem dX1_number_117 : decode cX1_number 117 = .ok (.ireturn, 1) := dk_172 (dk_at dksX1_number_3 11 rfl rfl)
theorem dX1_number_118 : decode cX1_number 118 = .ok (.aload_n 0, 1) := dk_42 (dk_at dksX1_number_3 12 rfl rfl)
theorem dX1_number_119 : decode cX1_number 119 = .ok (.getfield 78, 3) := dk_180 0 78 (dk_at dksX1_number_3 13 rfl rfl)
theorem dX1_number_122 : decode cX1_number 122 = .ok (.getfield 366, 3) := dk_180 1 110 (dk_at dksX1_number_3 16 rfl rfl)
theorem dX1_number_125 : decode cX1_number 125 = .ok (.invokeinterface 342 1, 5) := by decide +kernel
theorem dX1_number_130 : decode cX1_number 130 = .ok (.ireturn, 1) := dk_172 (dk_at dksX1_number_4 0 rfl rfl)
theorem dX1_number_131 : decode cX1_number 131 = .ok (.aload_n 0, 1) := dk_42 (dk_at dksX1_number_4 1 rfl rfl)
theorem dX1_number_132 : decode cX1_number 132 = .ok (.getfield 78, 3) := dk_180 0 78 (dk_at dksX1_number_4 2 rfl rfl)
theorem dX1_number_135 : decode cX1_number 135 = .ok (.getfield 325, 3) := dk_180 1 69 (dk_at dksX1_number_4 5 rfl rfl)
theorem dX1_number_138 : decode cX1_number 138 = .ok (.ireturn, 1) := dk_172 (dk_at dksX1_number_4 8 rfl rfl)
theorem dX1_number_139 : decode cX1_number 139 = .ok (.aload_n 0, 1) := dk_42 (dk_at dksX1_number_4 9 rfl rfl)
theorem dX1_number_140 : decode cX1_number 140 = .ok (.getfield 78, 3) := dk_180 0 78 (dk_at dksX1_number_4 10 rfl rfl)
theorem dX1_number_143 : decode cX1_number 143 = .ok (.getfield 369, 3) := dk_180 1 113 (dk_at dksX1_number_4 13 rfl rfl)
theorem dX1_number_146 : decode cX1_number 146 = .ok (.ireturn, 1) := dk_172 (dk_at dksX1_number_4 16 rfl rfl)
theorem dX1_number_147 : decode cX1_number 147 = .ok (.aload_n 0, 1) := dk_42 (dk_at dksX1_number_4 17 rfl rfl)
theorem dX1_number_148 : decode cX1_number 148 = .ok (.getfield 78, 3) := dk_180 0 78 (dk_at dksX1_number_4 18 rfl rfl)
theorem dX1_number_151 : decode cX1_number 151 = .ok (.getfield 256, 3) := dk_180 1 0 (dk_at dksX1_number_4 21 rfl rfl)
theorem dX1_number_154 : decode cX1_number 154 = .ok (.invokevirtual 372, 3) := dk_182 1 116 (dk_at dksX1_number_5 0 rfl rfl)
theorem dX1_number_157 : decode cX1_number 157 = .ok (.ireturn, 1) := dk_172 (dk_at dksX1_number_5 3 rfl rfl)
theorem dX1_number_158 : decode cX1_number 158 = .ok (.aload_n 0, 1) := dk_42 (dk_at dksX1_number_5 4 rfl rfl)
theorem dX1_number_159 : decode cX1_number 159 = .ok (.getfield 78, 3) := dk_180 0 78 (dk_at dksX1_number_5 5 rfl rfl)
theorem dX1_number_162 : decode cX1_number 162 = .ok (.getfield 259, 3) := dk_180 1 3 (dk_at dksX1_number_5 8 rfl rfl)
theorem dX1_number_165 : decode cX1_number 165 = .ok (.invokevirtual 372, 3) := dk_182 1 116 (dk_at dksX1_number_5 11 rfl rfl)
theorem dX1_number_168 : decode cX1_number 168 = .ok (.ireturn, 1) := dk_172 (dk_at dksX1_number_5 14 rfl rfl)
theorem dX1_number_169 : decode cX1_number 169 = .ok (.aload_n 0, 1) := dk_42 (dk_at dksX1_number_5 15 rfl rfl)
theorem dX1_number_170 : decode cX1_number 170 = .ok (.getfield 78, 3) := dk_180 0 78 (dk_at dksX1_number_5 16 rfl rfl)
theorem dX1_number_173 : decode cX1_number 173 = .ok (.getfield 256, 3) := dk_180 1 0 (dk_at dksX1_number_5 19 rfl rfl)
theorem dX1_number_176 : decode cX1_number 176 = .ok (.invokevirtual 332, 3) := dk_182 1 76 (dk_at dksX1_number_6 0 rfl rfl)
theorem dX1_number_179 : decode cX1_number 179 = .ok (.aload_n 0, 1) := dk_42 (dk_at dksX1_number_6 3 rfl rfl)
theorem dX1_number_180 : decode cX1_number 180 = .ok (.getfield 78, 3) := dk_180 0 78 (dk_at dksX1_number_6 4 rfl rfl)
theorem dX1_number_183 : decode cX1_number 183 = .ok (.getfield 259, 3) := dk_180 1 3 (dk_at dksX1_number_6 7 rfl rfl)
theorem dX1_number_186 : decode cX1_number 186 = .ok (.invokevirtual 332, 3) := dk_182 1 76 (dk_at dksX1_number_6 10 rfl rfl)
theorem dX1_number_189 : decode cX1_number 189 = .ok (.iadd, 1) := dk_96 (dk_at dksX1_number_6 13 rfl rfl)
theorem dX1_number_190 : decode cX1_number 190 = .ok (.ireturn, 1) := dk_172 (dk_at dksX1_number_6 14 rfl rfl)
theorem dX1_number_191 : decode cX1_number 191 = .ok (.aload_n 0, 1) := dk_42 (dk_at dksX1_number_6 15 rfl rfl)
theorem dX1_number_192 : decode cX1_number 192 = .ok (.getfield 78, 3) := dk_180 0 78 (dk_at dksX1_number_6 16 rfl rfl)
theorem dX1_number_195 : decode cX1_number 195 = .ok (.getfield 246, 3) := dk_180 0 246 (dk_at dksX1_number_6 19 rfl rfl)
theorem dX1_number_198 : decode cX1_number 198 = .ok (.invokevirtual 332, 3) := dk_182 1 76 (dk_at dksX1_number_7 0 rfl rfl)
theorem dX1_number_201 : decode cX1_number 201 = .ok (.ireturn, 1) := dk_172 (dk_at dksX1_number_7 3 rfl rfl)
theorem dX1_number_202 : decode cX1_number 202 = .ok (.aload_n 0, 1) := dk_42 (dk_at dksX1_number_7 4 rfl rfl)
theorem dX1_number_203 : decode cX1_number 203 = .ok (.getfield 78, 3) := dk_180 0 78 (dk_at dksX1_number_7 5 rfl rfl)
theorem dX1_number_206 : decode cX1_number 206 = .ok (.getfield 373, 3) := dk_180 1 117 (dk_at dksX1_number_7 8 rfl rfl)
theorem dX1_number_209 : decode cX1_number 209 = .ok (.ireturn, 1) := dk_172 (dk_at dksX1_number_7 11 rfl rfl)
theorem dX1_number_210 : decode cX1_number 210 = .ok (.aload_n 0, 1) := dk_42 (dk_at dksX1_number_7 12 rfl rfl)
theorem dX1_number_211 : decode cX1_number 211 = .ok (.getfield 78, 3) := dk_180 0 78 (dk_at dksX1_number_7 13 rfl rfl)
theorem dX1_number_214 : decode cX1_number 214 = .ok (.getfield 376, 3) := dk_180 1 120 (dk_at dksX1_number_7 16 rfl rfl)
theorem dX1_number_217 : decode cX1_number 217 = .ok (.ireturn, 1) := dk_172 (dk_at dksX1_number_7 19 rfl rfl)
theorem dX1_number_218 : decode cX1_number 218 = .ok (.aload_n 0, 1) := dk_42 (dk_at dksX1_number_7 20 rfl rfl)
theorem dX1_number_219 : decode cX1_number 219 = .ok (.getfield 78, 3) := dk_180 0 78 (dk_at dksX1_number_7 21 rfl rfl)
theorem dX1_number_222 : decode cX1_number 222 = .ok (.getfield 379, 3) := dk_180 1 123 (dk_at dksX1_number_8 0 rfl rfl)
theorem dX1_number_225 : decode cX1_number 225 = .ok (.ireturn, 1) := dk_172 (dk_at dksX1_number_8 3 rfl rfl)
theorem dX1_number_226 : decode cX1_number 226 = .ok (.aload_n 0, 1) := dk_42 (dk_at dksX1_number_8 4 rfl rfl)
theorem dX1_number_227 : decode cX1_number 227 = .ok (.invokevirtual 382, 3) := dk_182 1 126 (dk_at dksX1_number_8 5 rfl rfl)
theorem dX1_number_230 : decode cX1_number 230 = .ok (.ireturn, 1) := dk_172 (dk_at dksX1_number_8 8 rfl rfl)
theorem dX1_number_231 : decode cX1_number 231 = .ok (.aload_n 0, 1) := dk_42 (dk_at dksX1_number_8 9 rfl rfl)
theorem dX1_number_232 : decode cX1_number 232 = .ok (.getfield 85, 3) := dk_180 0 85 (dk_at dksX1_number_8 10 rfl rfl)
theorem dX1_number_235 : decode cX1_number 235 = .ok (.invokevirtual 110, 3) := dk_182 0 110 (dk_at dksX1_number_8 13 rfl rfl)
theorem dX1_number_238 : decode cX1_number 238 = .ok (.ireturn, 1) := dk_172 (dk_at dksX1_number_8 16 rfl rfl)
theorem dX1_number_239 : decode cX1_number 239 = .ok (.aload_n 0, 1) := dk_42 (dk_at dksX1_number_8 17 rfl rfl)
theorem dX1_number_240 : decode cX1_number 240 = .ok (.getfield 92, 3) := dk_180 0 92 (dk_at dksX1_number_8 18 rfl rfl)
theorem dX1_number_243 : decode cX1_number 243 = .ok (.invokevirtual 281, 3) := dk_182 1 25 (dk_at dksX1_number_8 21 rfl rfl)
theorem dX1_number_246 : decode cX1_number 246 = .ok (.ireturn, 1) := dk_172 (dk_at dksX1_number_9 0 rfl rfl)
abbrev cX1_width : ByteArray := prog_1_method_38_code
def yX1_width : MethodName := ⟨RX1, "width", "()I"⟩
def dkwX1_width_1 : List UInt8 := [44, 185, 0, 39, 1, 0, 192, 0, 169, 78, 27, 45, 180, 0, 168, 96, 60, 167, 255, 230, 27, 172]
abbrev dktX1_width_1 : List UInt8 := dkwX1_width_1 ++ []
def dkwX1_width_0 : List UInt8 := [3, 60, 42, 180, 0, 78, 180, 1, 82, 185, 1, 106, 1, 0, 77, 44, 185, 0, 33, 1, 0, 153, 0, 23]
abbrev dktX1_width_0 : List UInt8 := dkwX1_width_0 ++ dktX1_width_1
theorem dksX1_width_0 : cX1_width.data.toList.drop 0 = dktX1_width_0 := by decide +kernel
theorem dksX1_width_1 : cX1_width.data.toList.drop 24 = dktX1_width_1 := dk_seg dksX1_width_0 24 rfl rfl
theorem dX1_width_0 : decode cX1_width 0 = .ok (.iconst 0, 1) := dk_3 (dk_at dksX1_width_0 0 rfl rfl)
theorem dX1_width_1 : decode cX1_width 1 = .ok (.istore_n 1, 1) := dk_60 (dk_at dksX1_width_0 1 rfl rfl)
theorem dX1_width_2 : decode cX1_width 2 = .ok (.aload_n 0, 1) := dk_42 (dk_at dksX1_width_0 2 rfl rfl)
theorem dX1_width_3 : decode cX1_width 3 = .ok (.getfield 78, 3) := dk_180 0 78 (dk_at dksX1_width_0 3 rfl rfl)
theorem dX1_width_6 : decode cX1_width 6 = .ok (.getfield 338, 3) := dk_180 1 82 (dk_at dksX1_width_0 6 rfl rfl)
theorem dX1_width_9 : decode cX1_width 9 = .ok (.invokeinterface 362 1, 5) := by decide +kernel
theorem dX1_width_14 : decode cX1_width 14 = .ok (.astore_n 2, 1) := dk_77 (dk_at dksX1_width_0 14 rfl rfl)
theorem dX1_width_15 : decode cX1_width 15 = .ok (.aload_n 2, 1) := dk_44 (dk_at dksX1_width_0 15 rfl rfl)
theorem dX1_width_16 : decode cX1_width 16 = .ok (.invokeinterface 33 1, 5) := by decide +kernel
theorem dX1_width_21 : decode cX1_width 21 = .ok (.ifCond .eq 23, 3) := dk_153 0 23 (dk_at dksX1_width_0 21 rfl rfl)
theorem dX1_width_24 : decode cX1_width 24 = .ok (.aload_n 2, 1) := dk_44 (dk_at dksX1_width_1 0 rfl rfl)
theorem dX1_width_25 : decode cX1_width 25 = .ok (.invokeinterface 39 1, 5) := by decide +kernel
theorem dX1_width_30 : decode cX1_width 30 = .ok (.checkcast 169, 3) := dk_192 0 169 (dk_at dksX1_width_1 6 rfl rfl)
theorem dX1_width_33 : decode cX1_width 33 = .ok (.astore_n 3, 1) := dk_78 (dk_at dksX1_width_1 9 rfl rfl)
theorem dX1_width_34 : decode cX1_width 34 = .ok (.iload_n 1, 1) := dk_27 (dk_at dksX1_width_1 10 rfl rfl)
theorem dX1_width_35 : decode cX1_width 35 = .ok (.aload_n 3, 1) := dk_45 (dk_at dksX1_width_1 11 rfl rfl)
theorem dX1_width_36 : decode cX1_width 36 = .ok (.getfield 168, 3) := dk_180 0 168 (dk_at dksX1_width_1 12 rfl rfl)
theorem dX1_width_39 : decode cX1_width 39 = .ok (.iadd, 1) := dk_96 (dk_at dksX1_width_1 15 rfl rfl)
theorem dX1_width_40 : decode cX1_width 40 = .ok (.istore_n 1, 1) := dk_60 (dk_at dksX1_width_1 16 rfl rfl)
theorem dX1_width_41 : decode cX1_width 41 = .ok (.goto (-26), 3) := dk_167 255 230 (dk_at dksX1_width_1 17 rfl rfl)
theorem dX1_width_44 : decode cX1_width 44 = .ok (.iload_n 1, 1) := dk_27 (dk_at dksX1_width_1 20 rfl rfl)
theorem dX1_width_45 : decode cX1_width 45 = .ok (.ireturn, 1) := dk_172 (dk_at dksX1_width_1 21 rfl rfl)
abbrev cX1_meanFare : ByteArray := prog_1_method_40_code
def yX1_meanFare : MethodName := ⟨RX1, "meanFare", "()D"⟩
def dkwX1_meanFare_1 : List UInt8 := [180, 1, 120, 135, 42, 180, 0, 78, 180, 1, 117, 135, 111, 175]
abbrev dktX1_meanFare_1 : List UInt8 := dkwX1_meanFare_1 ++ []
def dkwX1_meanFare_0 : List UInt8 := [42, 180, 0, 78, 180, 1, 117, 154, 0, 11, 187, 1, 128, 89, 183, 1, 130, 191, 42, 180, 0, 78]
abbrev dktX1_meanFare_0 : List UInt8 := dkwX1_meanFare_0 ++ dktX1_meanFare_1
theorem dksX1_meanFare_0 : cX1_meanFare.data.toList.drop 0 = dktX1_meanFare_0 := by decide +kernel
theorem dksX1_meanFare_1 : cX1_meanFare.data.toList.drop 22 = dktX1_meanFare_1 := dk_seg dksX1_meanFare_0 22 rfl rfl
theorem dX1_meanFare_0 : decode cX1_meanFare 0 = .ok (.aload_n 0, 1) := dk_42 (dk_at dksX1_meanFare_0 0 rfl rfl)
theorem dX1_meanFare_1 : decode cX1_meanFare 1 = .ok (.getfield 78, 3) := dk_180 0 78 (dk_at dksX1_meanFare_0 1 rfl rfl)
theorem dX1_meanFare_4 : decode cX1_meanFare 4 = .ok (.getfield 373, 3) := dk_180 1 117 (dk_at dksX1_meanFare_0 4 rfl rfl)
theorem dX1_meanFare_7 : decode cX1_meanFare 7 = .ok (.ifCond .ne 11, 3) := dk_154 0 11 (dk_at dksX1_meanFare_0 7 rfl rfl)
theorem dX1_meanFare_10 : decode cX1_meanFare 10 = .ok (.new 384, 3) := dk_187 1 128 (dk_at dksX1_meanFare_0 10 rfl rfl)
theorem dX1_meanFare_13 : decode cX1_meanFare 13 = .ok (.dup, 1) := dk_89 (dk_at dksX1_meanFare_0 13 rfl rfl)
theorem dX1_meanFare_14 : decode cX1_meanFare 14 = .ok (.invokespecial 386, 3) := dk_183 1 130 (dk_at dksX1_meanFare_0 14 rfl rfl)
theorem dX1_meanFare_17 : decode cX1_meanFare 17 = .ok (.athrow, 1) := dk_191 (dk_at dksX1_meanFare_0 17 rfl rfl)
theorem dX1_meanFare_18 : decode cX1_meanFare 18 = .ok (.aload_n 0, 1) := dk_42 (dk_at dksX1_meanFare_0 18 rfl rfl)
theorem dX1_meanFare_19 : decode cX1_meanFare 19 = .ok (.getfield 78, 3) := dk_180 0 78 (dk_at dksX1_meanFare_0 19 rfl rfl)
theorem dX1_meanFare_22 : decode cX1_meanFare 22 = .ok (.getfield 376, 3) := dk_180 1 120 (dk_at dksX1_meanFare_1 0 rfl rfl)
theorem dX1_meanFare_25 : decode cX1_meanFare 25 = .ok (.i2d, 1) := dk_135 (dk_at dksX1_meanFare_1 3 rfl rfl)
theorem dX1_meanFare_26 : decode cX1_meanFare 26 = .ok (.aload_n 0, 1) := dk_42 (dk_at dksX1_meanFare_1 4 rfl rfl)
theorem dX1_meanFare_27 : decode cX1_meanFare 27 = .ok (.getfield 78, 3) := dk_180 0 78 (dk_at dksX1_meanFare_1 5 rfl rfl)
theorem dX1_meanFare_30 : decode cX1_meanFare 30 = .ok (.getfield 373, 3) := dk_180 1 117 (dk_at dksX1_meanFare_1 8 rfl rfl)
theorem dX1_meanFare_33 : decode cX1_meanFare 33 = .ok (.i2d, 1) := dk_135 (dk_at dksX1_meanFare_1 11 rfl rfl)
theorem dX1_meanFare_34 : decode cX1_meanFare 34 = .ok (.ddiv, 1) := dk_111 (dk_at dksX1_meanFare_1 12 rfl rfl)
theorem dX1_meanFare_35 : decode cX1_meanFare 35 = .ok (.dreturn, 1) := dk_175 (dk_at dksX1_meanFare_1 13 rfl rfl)
abbrev cX1_fore : ByteArray := prog_1_method_41_code
def yX1_fore : MethodName := ⟨RX1, "fore", "()F"⟩
def dkwX1_fore_1 : List UInt8 := [180, 1, 0, 182, 1, 116, 134, 42, 180, 0, 78, 182, 1, 131, 134, 110, 174]
abbrev dktX1_fore_1 : List UInt8 := dkwX1_fore_1 ++ []
def dkwX1_fore_0 : List UInt8 := [42, 180, 0, 78, 182, 1, 131, 154, 0, 11, 187, 1, 128, 89, 183, 1, 130, 191, 42, 180, 0, 78]
abbrev dktX1_fore_0 : List UInt8 := dkwX1_fore_0 ++ dktX1_fore_1
theorem dksX1_fore_0 : cX1_fore.data.toList.drop 0 = dktX1_fore_0 := by decide +kernel
theorem dksX1_fore_1 : cX1_fore.data.toList.drop 22 = dktX1_fore_1 := dk_seg dksX1_fore_0 22 rfl rfl
theorem dX1_fore_0 : decode cX1_fore 0 = .ok (.aload_n 0, 1) := dk_42 (dk_at dksX1_fore_0 0 rfl rfl)
theorem dX1_fore_1 : decode cX1_fore 1 = .ok (.getfield 78, 3) := dk_180 0 78 (dk_at dksX1_fore_0 1 rfl rfl)
theorem dX1_fore_4 : decode cX1_fore 4 = .ok (.invokevirtual 387, 3) := dk_182 1 131 (dk_at dksX1_fore_0 4 rfl rfl)
theorem dX1_fore_7 : decode cX1_fore 7 = .ok (.ifCond .ne 11, 3) := dk_154 0 11 (dk_at dksX1_fore_0 7 rfl rfl)
theorem dX1_fore_10 : decode cX1_fore 10 = .ok (.new 384, 3) := dk_187 1 128 (dk_at dksX1_fore_0 10 rfl rfl)
theorem dX1_fore_13 : decode cX1_fore 13 = .ok (.dup, 1) := dk_89 (dk_at dksX1_fore_0 13 rfl rfl)
theorem dX1_fore_14 : decode cX1_fore 14 = .ok (.invokespecial 386, 3) := dk_183 1 130 (dk_at dksX1_fore_0 14 rfl rfl)
theorem dX1_fore_17 : decode cX1_fore 17 = .ok (.athrow, 1) := dk_191 (dk_at dksX1_fore_0 17 rfl rfl)
theorem dX1_fore_18 : decode cX1_fore 18 = .ok (.aload_n 0, 1) := dk_42 (dk_at dksX1_fore_0 18 rfl rfl)
theorem dX1_fore_19 : decode cX1_fore 19 = .ok (.getfield 78, 3) := dk_180 0 78 (dk_at dksX1_fore_0 19 rfl rfl)
theorem dX1_fore_22 : decode cX1_fore 22 = .ok (.getfield 256, 3) := dk_180 1 0 (dk_at dksX1_fore_1 0 rfl rfl)
theorem dX1_fore_25 : decode cX1_fore 25 = .ok (.invokevirtual 372, 3) := dk_182 1 116 (dk_at dksX1_fore_1 3 rfl rfl)
theorem dX1_fore_28 : decode cX1_fore 28 = .ok (.i2f, 1) := dk_134 (dk_at dksX1_fore_1 6 rfl rfl)
theorem dX1_fore_29 : decode cX1_fore 29 = .ok (.aload_n 0, 1) := dk_42 (dk_at dksX1_fore_1 7 rfl rfl)
theorem dX1_fore_30 : decode cX1_fore 30 = .ok (.getfield 78, 3) := dk_180 0 78 (dk_at dksX1_fore_1 8 rfl rfl)
theorem dX1_fore_33 : decode cX1_fore 33 = .ok (.invokevirtual 387, 3) := dk_182 1 131 (dk_at dksX1_fore_1 11 rfl rfl)
theorem dX1_fore_36 : decode cX1_fore 36 = .ok (.i2f, 1) := dk_134 (dk_at dksX1_fore_1 14 rfl rfl)
theorem dX1_fore_37 : decode cX1_fore 37 = .ok (.fdiv, 1) := dk_110 (dk_at dksX1_fore_1 15 rfl rfl)
theorem dX1_fore_38 : decode cX1_fore 38 = .ok (.freturn, 1) := dk_174 (dk_at dksX1_fore_1 16 rfl rfl)
abbrev cX1_feed : ByteArray := prog_1_method_42_code
def yX1_feed : MethodName := ⟨RX1, "feed", "(C)I"⟩
def dkwX1_feed_1 : List UInt8 := [27, 182, 1, 137, 87, 42, 180, 0, 92, 182, 1, 25, 172]
abbrev dktX1_feed_1 : List UInt8 := dkwX1_feed_1 ++ []
def dkwX1_feed_0 : List UInt8 := [42, 180, 0, 92, 182, 1, 25, 16, 60, 162, 0, 7, 4, 167, 0, 4, 3, 184, 1, 134, 42, 180, 0, 92]
abbrev dktX1_feed_0 : List UInt8 := dkwX1_feed_0 ++ dktX1_feed_1
theorem dksX1_feed_0 : cX1_feed.data.toList.drop 0 = dktX1_feed_0 := by decide +kernel
theorem dksX1_feed_1 : cX1_feed.data.toList.drop 24 = dktX1_feed_1 := dk_seg dksX1_feed_0 24 rfl rfl
theorem dX1_feed_0 : decode cX1_feed 0 = .ok (.aload_n 0, 1) := dk_42 (dk_at dksX1_feed_0 0 rfl rfl)
theorem dX1_feed_1 : decode cX1_feed 1 = .ok (.getfield 92, 3) := dk_180 0 92 (dk_at dksX1_feed_0 1 rfl rfl)
theorem dX1_feed_4 : decode cX1_feed 4 = .ok (.invokevirtual 281, 3) := dk_182 1 25 (dk_at dksX1_feed_0 4 rfl rfl)
theorem dX1_feed_7 : decode cX1_feed 7 = .ok (.bipush 60, 2) := dk_16 60 (dk_at dksX1_feed_0 7 rfl rfl)
theorem dX1_feed_9 : decode cX1_feed 9 = .ok (.if_icmp .ge 7, 3) := dk_162 0 7 (dk_at dksX1_feed_0 9 rfl rfl)
theorem dX1_feed_12 : decode cX1_feed 12 = .ok (.iconst 1, 1) := dk_4 (dk_at dksX1_feed_0 12 rfl rfl)
theorem dX1_feed_13 : decode cX1_feed 13 = .ok (.goto 4, 3) := dk_167 0 4 (dk_at dksX1_feed_0 13 rfl rfl)
theorem dX1_feed_16 : decode cX1_feed 16 = .ok (.iconst 0, 1) := dk_3 (dk_at dksX1_feed_0 16 rfl rfl)
theorem dX1_feed_17 : decode cX1_feed 17 = .ok (.invokestatic 390, 3) := dk_184 1 134 (dk_at dksX1_feed_0 17 rfl rfl)
theorem dX1_feed_20 : decode cX1_feed 20 = .ok (.aload_n 0, 1) := dk_42 (dk_at dksX1_feed_0 20 rfl rfl)
theorem dX1_feed_21 : decode cX1_feed 21 = .ok (.getfield 92, 3) := dk_180 0 92 (dk_at dksX1_feed_0 21 rfl rfl)
theorem dX1_feed_24 : decode cX1_feed 24 = .ok (.iload_n 1, 1) := dk_27 (dk_at dksX1_feed_1 0 rfl rfl)
theorem dX1_feed_25 : decode cX1_feed 25 = .ok (.invokevirtual 393, 3) := dk_182 1 137 (dk_at dksX1_feed_1 1 rfl rfl)
theorem dX1_feed_28 : decode cX1_feed 28 = .ok (.pop, 1) := dk_87 (dk_at dksX1_feed_1 4 rfl rfl)
theorem dX1_feed_29 : decode cX1_feed 29 = .ok (.aload_n 0, 1) := dk_42 (dk_at dksX1_feed_1 5 rfl rfl)
theorem dX1_feed_30 : decode cX1_feed 30 = .ok (.getfield 92, 3) := dk_180 0 92 (dk_at dksX1_feed_1 6 rfl rfl)
theorem dX1_feed_33 : decode cX1_feed 33 = .ok (.invokevirtual 281, 3) := dk_182 1 25 (dk_at dksX1_feed_1 9 rfl rfl)
theorem dX1_feed_36 : decode cX1_feed 36 = .ok (.ireturn, 1) := dk_172 (dk_at dksX1_feed_1 12 rfl rfl)
abbrev cX1_requireState : ByteArray := prog_1_method_4_code
def yX1_requireState : MethodName := ⟨RX1, "requireState", "(Z)V"⟩
def dkwX1_requireState_0 : List UInt8 := [26, 154, 0, 11, 187, 0, 10, 89, 183, 0, 12, 191, 177]
abbrev dktX1_requireState_0 : List UInt8 := dkwX1_requireState_0 ++ []
theorem dksX1_requireState_0 : cX1_requireState.data.toList.drop 0 = dktX1_requireState_0 := by decide +kernel
theorem dX1_requireState_0 : decode cX1_requireState 0 = .ok (.iload_n 0, 1) := dk_26 (dk_at dksX1_requireState_0 0 rfl rfl)
theorem dX1_requireState_1 : decode cX1_requireState 1 = .ok (.ifCond .ne 11, 3) := dk_154 0 11 (dk_at dksX1_requireState_0 1 rfl rfl)
theorem dX1_requireState_4 : decode cX1_requireState 4 = .ok (.new 10, 3) := dk_187 0 10 (dk_at dksX1_requireState_0 4 rfl rfl)
theorem dX1_requireState_7 : decode cX1_requireState 7 = .ok (.dup, 1) := dk_89 (dk_at dksX1_requireState_0 7 rfl rfl)
theorem dX1_requireState_8 : decode cX1_requireState 8 = .ok (.invokespecial 12, 3) := dk_183 0 12 (dk_at dksX1_requireState_0 8 rfl rfl)
theorem dX1_requireState_11 : decode cX1_requireState 11 = .ok (.athrow, 1) := dk_191 (dk_at dksX1_requireState_0 11 rfl rfl)
theorem dX1_requireState_12 : decode cX1_requireState 12 = .ok (.return_, 1) := dk_177 (dk_at dksX1_requireState_0 12 rfl rfl)
abbrev cX1_read : ByteArray := prog_1_method_45_code
def yX1_read : MethodName := ⟨RX1, "read", "()I"⟩
def dkwX1_read_2 : List UInt8 := [182, 0, 139, 43, 185, 1, 86, 1, 0, 172]
abbrev dktX1_read_2 : List UInt8 := dkwX1_read_2 ++ []
def dkwX1_read_1 : List UInt8 := [184, 1, 160, 167, 0, 17, 78, 42, 45, 180, 0, 143, 45, 180, 0, 144, 182, 0, 145, 191, 42, 44]
abbrev dktX1_read_1 : List UInt8 := dkwX1_read_1 ++ dktX1_read_2
def dkwX1_read_0 : List UInt8 := [42, 182, 1, 157, 76, 43, 198, 0, 7, 4, 167, 0, 4, 3, 184, 0, 68, 42, 182, 0, 129, 77, 43, 44]
abbrev dktX1_read_0 : List UInt8 := dkwX1_read_0 ++ dktX1_read_1
theorem dksX1_read_0 : cX1_read.data.toList.drop 0 = dktX1_read_0 := by decide +kernel
theorem dksX1_read_1 : cX1_read.data.toList.drop 24 = dktX1_read_1 := dk_seg dksX1_read_0 24 rfl rfl
theorem dksX1_read_2 : cX1_read.data.toList.drop 46 = dktX1_read_2 := dk_seg dksX1_read_1 22 rfl rfl
theorem dX1_read_0 : decode cX1_read 0 = .ok (.aload_n 0, 1) := dk_42 (dk_at dksX1_read_0 0 rfl rfl)
theorem dX1_read_1 : decode cX1_read 1 = .ok (.invokevirtual 413, 3) := dk_182 1 157 (dk_at dksX1_read_0 1 rfl rfl)
theorem dX1_read_4 : decode cX1_read 4 = .ok (.astore_n 1, 1) := dk_76 (dk_at dksX1_read_0 4 rfl rfl)
theorem dX1_read_5 : decode cX1_read 5 = .ok (.aload_n 1, 1) := dk_43 (dk_at dksX1_read_0 5 rfl rfl)
theorem dX1_read_6 : decode cX1_read 6 = .ok (.ifnull 7, 3) := dk_198 0 7 (dk_at dksX1_read_0 6 rfl rfl)
theorem dX1_read_9 : decode cX1_read 9 = .ok (.iconst 1, 1) := dk_4 (dk_at dksX1_read_0 9 rfl rfl)
theorem dX1_read_10 : decode cX1_read 10 = .ok (.goto 4, 3) := dk_167 0 4 (dk_at dksX1_read_0 10 rfl rfl)
theorem dX1_read_13 : decode cX1_read 13 = .ok (.iconst 0, 1) := dk_3 (dk_at dksX1_read_0 13 rfl rfl)
theorem dX1_read_14 : decode cX1_read 14 = .ok (.invokestatic 68, 3) := dk_184 0 68 (dk_at dksX1_read_0 14 rfl rfl)
theorem dX1_read_17 : decode cX1_read 17 = .ok (.aload_n 0, 1) := dk_42 (dk_at dksX1_read_0 17 rfl rfl)
theorem dX1_read_18 : decode cX1_read 18 = .ok (.invokevirtual 129, 3) := dk_182 0 129 (dk_at dksX1_read_0 18 rfl rfl)
theorem dX1_read_21 : decode cX1_read 21 = .ok (.astore_n 2, 1) := dk_77 (dk_at dksX1_read_0 21 rfl rfl)
theorem dX1_read_22 : decode cX1_read 22 = .ok (.aload_n 1, 1) := dk_43 (dk_at dksX1_read_0 22 rfl rfl)
theorem dX1_read_23 : decode cX1_read 23 = .ok (.aload_n 2, 1) := dk_44 (dk_at dksX1_read_0 23 rfl rfl)
theorem dX1_read_24 : decode cX1_read 24 = .ok (.invokestatic 416, 3) := dk_184 1 160 (dk_at dksX1_read_1 0 rfl rfl)
theorem dX1_read_27 : decode cX1_read 27 = .ok (.goto 17, 3) := dk_167 0 17 (dk_at dksX1_read_1 3 rfl rfl)
theorem dX1_read_30 : decode cX1_read 30 = .ok (.astore_n 3, 1) := dk_78 (dk_at dksX1_read_1 6 rfl rfl)
theorem dX1_read_31 : decode cX1_read 31 = .ok (.aload_n 0, 1) := dk_42 (dk_at dksX1_read_1 7 rfl rfl)
theorem dX1_read_32 : decode cX1_read 32 = .ok (.aload_n 3, 1) := dk_45 (dk_at dksX1_read_1 8 rfl rfl)
theorem dX1_read_33 : decode cX1_read 33 = .ok (.getfield 143, 3) := dk_180 0 143 (dk_at dksX1_read_1 9 rfl rfl)
theorem dX1_read_36 : decode cX1_read 36 = .ok (.aload_n 3, 1) := dk_45 (dk_at dksX1_read_1 12 rfl rfl)
theorem dX1_read_37 : decode cX1_read 37 = .ok (.getfield 144, 3) := dk_180 0 144 (dk_at dksX1_read_1 13 rfl rfl)
theorem dX1_read_40 : decode cX1_read 40 = .ok (.invokevirtual 145, 3) := dk_182 0 145 (dk_at dksX1_read_1 16 rfl rfl)
theorem dX1_read_43 : decode cX1_read 43 = .ok (.athrow, 1) := dk_191 (dk_at dksX1_read_1 19 rfl rfl)
theorem dX1_read_44 : decode cX1_read 44 = .ok (.aload_n 0, 1) := dk_42 (dk_at dksX1_read_1 20 rfl rfl)
theorem dX1_read_45 : decode cX1_read 45 = .ok (.aload_n 2, 1) := dk_44 (dk_at dksX1_read_1 21 rfl rfl)
theorem dX1_read_46 : decode cX1_read 46 = .ok (.invokevirtual 139, 3) := dk_182 0 139 (dk_at dksX1_read_2 0 rfl rfl)
theorem dX1_read_49 : decode cX1_read 49 = .ok (.aload_n 1, 1) := dk_43 (dk_at dksX1_read_2 3 rfl rfl)
theorem dX1_read_50 : decode cX1_read 50 = .ok (.invokeinterface 342 1, 5) := by decide +kernel
theorem dX1_read_55 : decode cX1_read 55 = .ok (.ireturn, 1) := dk_172 (dk_at dksX1_read_2 9 rfl rfl)
abbrev cX1_taken : ByteArray := prog_1_method_43_code
def yX1_taken : MethodName := ⟨RX1, "taken", "()Ljava/util/List;"⟩
def dkwX1_taken_2 : List UInt8 := [3, 182, 1, 149, 45, 191]
abbrev dktX1_taken_2 : List UInt8 := dkwX1_taken_2 ++ []
def dkwX1_taken_1 : List UInt8 := [43, 180, 1, 154, 181, 0, 102, 1, 77, 42, 180, 0, 92, 3, 182, 1, 149, 44, 176, 78, 42, 180, 0, 92]
abbrev dktX1_taken_1 : List UInt8 := dkwX1_taken_1 ++ dktX1_taken_2
def dkwX1_taken_0 : List UInt8 := [187, 1, 140, 89, 42, 183, 1, 142, 182, 1, 145, 76, 42, 180, 0, 92, 3, 182, 1, 149, 43, 176, 76, 42]
abbrev dktX1_taken_0 : List UInt8 := dkwX1_taken_0 ++ dktX1_taken_1
theorem dksX1_taken_0 : cX1_taken.data.toList.drop 0 = dktX1_taken_0 := by decide +kernel
theorem dksX1_taken_1 : cX1_taken.data.toList.drop 24 = dktX1_taken_1 := dk_seg dksX1_taken_0 24 rfl rfl
theorem dksX1_taken_2 : cX1_taken.data.toList.drop 48 = dktX1_taken_2 := dk_seg dksX1_taken_1 24 rfl rfl
theorem dX1_taken_0 : decode cX1_taken 0 = .ok (.new 396, 3) := dk_187 1 140 (dk_at dksX1_taken_0 0 rfl rfl)
theorem dX1_taken_3 : decode cX1_taken 3 = .ok (.dup, 1) := dk_89 (dk_at dksX1_taken_0 3 rfl rfl)
theorem dX1_taken_4 : decode cX1_taken 4 = .ok (.aload_n 0, 1) := dk_42 (dk_at dksX1_taken_0 4 rfl rfl)
theorem dX1_taken_5 : decode cX1_taken 5 = .ok (.invokespecial 398, 3) := dk_183 1 142 (dk_at dksX1_taken_0 5 rfl rfl)
theorem dX1_taken_8 : decode cX1_taken 8 = .ok (.invokevirtual 401, 3) := dk_182 1 145 (dk_at dksX1_taken_0 8 rfl rfl)
theorem dX1_taken_11 : decode cX1_taken 11 = .ok (.astore_n 1, 1) := dk_76 (dk_at dksX1_taken_0 11 rfl rfl)
theorem dX1_taken_12 : decode cX1_taken 12 = .ok (.aload_n 0, 1) := dk_42 (dk_at dksX1_taken_0 12 rfl rfl)
theorem dX1_taken_13 : decode cX1_taken 13 = .ok (.getfield 92, 3) := dk_180 0 92 (dk_at dksX1_taken_0 13 rfl rfl)
theorem dX1_taken_16 : decode cX1_taken 16 = .ok (.iconst 0, 1) := dk_3 (dk_at dksX1_taken_0 16 rfl rfl)
theorem dX1_taken_17 : decode cX1_taken 17 = .ok (.invokevirtual 405, 3) := dk_182 1 149 (dk_at dksX1_taken_0 17 rfl rfl)
theorem dX1_taken_20 : decode cX1_taken 20 = .ok (.aload_n 1, 1) := dk_43 (dk_at dksX1_taken_0 20 rfl rfl)
theorem dX1_taken_21 : decode cX1_taken 21 = .ok (.areturn, 1) := dk_176 (dk_at dksX1_taken_0 21 rfl rfl)
theorem dX1_taken_22 : decode cX1_taken 22 = .ok (.astore_n 1, 1) := dk_76 (dk_at dksX1_taken_0 22 rfl rfl)
theorem dX1_taken_23 : decode cX1_taken 23 = .ok (.aload_n 0, 1) := dk_42 (dk_at dksX1_taken_0 23 rfl rfl)
theorem dX1_taken_24 : decode cX1_taken 24 = .ok (.aload_n 1, 1) := dk_43 (dk_at dksX1_taken_1 0 rfl rfl)
theorem dX1_taken_25 : decode cX1_taken 25 = .ok (.getfield 410, 3) := dk_180 1 154 (dk_at dksX1_taken_1 1 rfl rfl)
theorem dX1_taken_28 : decode cX1_taken 28 = .ok (.putfield 102, 3) := dk_181 0 102 (dk_at dksX1_taken_1 4 rfl rfl)
theorem dX1_taken_31 : decode cX1_taken 31 = .ok (.aconst_null, 1) := dk_1 (dk_at dksX1_taken_1 7 rfl rfl)
theorem dX1_taken_32 : decode cX1_taken 32 = .ok (.astore_n 2, 1) := dk_77 (dk_at dksX1_taken_1 8 rfl rfl)
theorem dX1_taken_33 : decode cX1_taken 33 = .ok (.aload_n 0, 1) := dk_42 (dk_at dksX1_taken_1 9 rfl rfl)
theorem dX1_taken_34 : decode cX1_taken 34 = .ok (.getfield 92, 3) := dk_180 0 92 (dk_at dksX1_taken_1 10 rfl rfl)
theorem dX1_taken_37 : decode cX1_taken 37 = .ok (.iconst 0, 1) := dk_3 (dk_at dksX1_taken_1 13 rfl rfl)
theorem dX1_taken_38 : decode cX1_taken 38 = .ok (.invokevirtual 405, 3) := dk_182 1 149 (dk_at dksX1_taken_1 14 rfl rfl)
theorem dX1_taken_41 : decode cX1_taken 41 = .ok (.aload_n 2, 1) := dk_44 (dk_at dksX1_taken_1 17 rfl rfl)
theorem dX1_taken_42 : decode cX1_taken 42 = .ok (.areturn, 1) := dk_176 (dk_at dksX1_taken_1 18 rfl rfl)
theorem dX1_taken_43 : decode cX1_taken 43 = .ok (.astore_n 3, 1) := dk_78 (dk_at dksX1_taken_1 19 rfl rfl)
theorem dX1_taken_44 : decode cX1_taken 44 = .ok (.aload_n 0, 1) := dk_42 (dk_at dksX1_taken_1 20 rfl rfl)
theorem dX1_taken_45 : decode cX1_taken 45 = .ok (.getfield 92, 3) := dk_180 0 92 (dk_at dksX1_taken_1 21 rfl rfl)
theorem dX1_taken_48 : decode cX1_taken 48 = .ok (.iconst 0, 1) := dk_3 (dk_at dksX1_taken_2 0 rfl rfl)
theorem dX1_taken_49 : decode cX1_taken 49 = .ok (.invokevirtual 405, 3) := dk_182 1 149 (dk_at dksX1_taken_2 1 rfl rfl)
theorem dX1_taken_52 : decode cX1_taken 52 = .ok (.aload_n 3, 1) := dk_45 (dk_at dksX1_taken_2 4 rfl rfl)
theorem dX1_taken_53 : decode cX1_taken 53 = .ok (.athrow, 1) := dk_191 (dk_at dksX1_taken_2 5 rfl rfl)
abbrev cX1_doAll : ByteArray := prog_1_method_44_code
def yX1_doAll : MethodName := ⟨RX1, "doAll", "(Ljava/util/List;LBraidedFerry$River;)V"⟩
def dkwX1_doAll_2 : List UInt8 := [16, 20, 28, 183, 0, 18, 191, 132, 2, 1, 167, 255, 207, 177]
abbrev dktX1_doAll_2 : List UInt8 := dkwX1_doAll_2 ++ []
def dkwX1_doAll_1 : List UInt8 := [192, 0, 134, 58, 4, 25, 4, 43, 185, 0, 133, 2, 0, 54, 5, 167, 0, 16, 58, 5, 187, 0, 16, 89]
abbrev dktX1_doAll_1 : List UInt8 := dkwX1_doAll_1 ++ dktX1_doAll_2
def dkwX1_doAll_0 : List UInt8 := [3, 61, 42, 185, 1, 106, 1, 0, 78, 45, 185, 0, 33, 1, 0, 153, 0, 46, 45, 185, 0, 39, 1, 0]
abbrev dktX1_doAll_0 : List UInt8 := dkwX1_doAll_0 ++ dktX1_doAll_1
theorem dksX1_doAll_0 : cX1_doAll.data.toList.drop 0 = dktX1_doAll_0 := by decide +kernel
theorem dksX1_doAll_1 : cX1_doAll.data.toList.drop 24 = dktX1_doAll_1 := dk_seg dksX1_doAll_0 24 rfl rfl
theorem dksX1_doAll_2 : cX1_doAll.data.toList.drop 48 = dktX1_doAll_2 := dk_seg dksX1_doAll_1 24 rfl rfl
theorem dX1_doAll_0 : decode cX1_doAll 0 = .ok (.iconst 0, 1) := dk_3 (dk_at dksX1_doAll_0 0 rfl rfl)
theorem dX1_doAll_1 : decode cX1_doAll 1 = .ok (.istore_n 2, 1) := dk_61 (dk_at dksX1_doAll_0 1 rfl rfl)
theorem dX1_doAll_2 : decode cX1_doAll 2 = .ok (.aload_n 0, 1) := dk_42 (dk_at dksX1_doAll_0 2 rfl rfl)
theorem dX1_doAll_3 : decode cX1_doAll 3 = .ok (.invokeinterface 362 1, 5) := by decide +kernel
theorem dX1_doAll_8 : decode cX1_doAll 8 = .ok (.astore_n 3, 1) := dk_78 (dk_at dksX1_doAll_0 8 rfl rfl)
theorem dX1_doAll_9 : decode cX1_doAll 9 = .ok (.aload_n 3, 1) := dk_45 (dk_at dksX1_doAll_0 9 rfl rfl)
theorem dX1_doAll_10 : decode cX1_doAll 10 = .ok (.invokeinterface 33 1, 5) := by decide +kernel
theorem dX1_doAll_15 : decode cX1_doAll 15 = .ok (.ifCond .eq 46, 3) := dk_153 0 46 (dk_at dksX1_doAll_0 15 rfl rfl)
theorem dX1_doAll_18 : decode cX1_doAll 18 = .ok (.aload_n 3, 1) := dk_45 (dk_at dksX1_doAll_0 18 rfl rfl)
theorem dX1_doAll_19 : decode cX1_doAll 19 = .ok (.invokeinterface 39 1, 5) := by decide +kernel
theorem dX1_doAll_24 : decode cX1_doAll 24 = .ok (.checkcast 134, 3) := dk_192 0 134 (dk_at dksX1_doAll_1 0 rfl rfl)
theorem dX1_doAll_27 : decode cX1_doAll 27 = .ok (.astore 4, 2) := dk_58 4 (dk_at dksX1_doAll_1 3 rfl rfl)
theorem dX1_doAll_29 : decode cX1_doAll 29 = .ok (.aload 4, 2) := dk_25 4 (dk_at dksX1_doAll_1 5 rfl rfl)
theorem dX1_doAll_31 : decode cX1_doAll 31 = .ok (.aload_n 1, 1) := dk_43 (dk_at dksX1_doAll_1 7 rfl rfl)
theorem dX1_doAll_32 : decode cX1_doAll 32 = .ok (.invokeinterface 133 2, 5) := by decide +kernel
theorem dX1_doAll_37 : decode cX1_doAll 37 = .ok (.istore 5, 2) := dk_54 5 (dk_at dksX1_doAll_1 13 rfl rfl)
theorem dX1_doAll_39 : decode cX1_doAll 39 = .ok (.goto 16, 3) := dk_167 0 16 (dk_at dksX1_doAll_1 15 rfl rfl)
theorem dX1_doAll_42 : decode cX1_doAll 42 = .ok (.astore 5, 2) := dk_58 5 (dk_at dksX1_doAll_1 18 rfl rfl)
theorem dX1_doAll_44 : decode cX1_doAll 44 = .ok (.new 16, 3) := dk_187 0 16 (dk_at dksX1_doAll_1 20 rfl rfl)
theorem dX1_doAll_47 : decode cX1_doAll 47 = .ok (.dup, 1) := dk_89 (dk_at dksX1_doAll_1 23 rfl rfl)
theorem dX1_doAll_48 : decode cX1_doAll 48 = .ok (.bipush 20, 2) := dk_16 20 (dk_at dksX1_doAll_2 0 rfl rfl)
theorem dX1_doAll_50 : decode cX1_doAll 50 = .ok (.iload_n 2, 1) := dk_28 (dk_at dksX1_doAll_2 2 rfl rfl)
theorem dX1_doAll_51 : decode cX1_doAll 51 = .ok (.invokespecial 18, 3) := dk_183 0 18 (dk_at dksX1_doAll_2 3 rfl rfl)
theorem dX1_doAll_54 : decode cX1_doAll 54 = .ok (.athrow, 1) := dk_191 (dk_at dksX1_doAll_2 6 rfl rfl)
theorem dX1_doAll_55 : decode cX1_doAll 55 = .ok (.iinc 2 1, 3) := dk_132 2 1 (dk_at dksX1_doAll_2 7 rfl rfl)
theorem dX1_doAll_58 : decode cX1_doAll 58 = .ok (.goto (-49), 3) := dk_167 255 207 (dk_at dksX1_doAll_2 10 rfl rfl)
theorem dX1_doAll_61 : decode cX1_doAll 61 = .ok (.return_, 1) := dk_177 (dk_at dksX1_doAll_2 13 rfl rfl)
abbrev cX1_faultPosition : ByteArray := prog_1_method_46_code
def yX1_faultPosition : MethodName := ⟨RX1, "faultPosition", "()I"⟩
def dkwX1_faultPosition_0 : List UInt8 := [42, 180, 0, 102, 2, 159, 0, 7, 4, 167, 0, 4, 3, 184, 1, 79, 42, 180, 0, 102, 172]
abbrev dktX1_faultPosition_0 : List UInt8 := dkwX1_faultPosition_0 ++ []
theorem dksX1_faultPosition_0 : cX1_faultPosition.data.toList.drop 0 = dktX1_faultPosition_0 := by decide +kernel
theorem dX1_faultPosition_0 : decode cX1_faultPosition 0 = .ok (.aload_n 0, 1) := dk_42 (dk_at dksX1_faultPosition_0 0 rfl rfl)
theorem dX1_faultPosition_1 : decode cX1_faultPosition 1 = .ok (.getfield 102, 3) := dk_180 0 102 (dk_at dksX1_faultPosition_0 1 rfl rfl)
theorem dX1_faultPosition_4 : decode cX1_faultPosition 4 = .ok (.iconst (-1), 1) := dk_2 (dk_at dksX1_faultPosition_0 4 rfl rfl)
theorem dX1_faultPosition_5 : decode cX1_faultPosition 5 = .ok (.if_icmp .eq 7, 3) := dk_159 0 7 (dk_at dksX1_faultPosition_0 5 rfl rfl)
theorem dX1_faultPosition_8 : decode cX1_faultPosition 8 = .ok (.iconst 1, 1) := dk_4 (dk_at dksX1_faultPosition_0 8 rfl rfl)
theorem dX1_faultPosition_9 : decode cX1_faultPosition 9 = .ok (.goto 4, 3) := dk_167 0 4 (dk_at dksX1_faultPosition_0 9 rfl rfl)
theorem dX1_faultPosition_12 : decode cX1_faultPosition 12 = .ok (.iconst 0, 1) := dk_3 (dk_at dksX1_faultPosition_0 12 rfl rfl)
theorem dX1_faultPosition_13 : decode cX1_faultPosition 13 = .ok (.invokestatic 335, 3) := dk_184 1 79 (dk_at dksX1_faultPosition_0 13 rfl rfl)
theorem dX1_faultPosition_16 : decode cX1_faultPosition 16 = .ok (.aload_n 0, 1) := dk_42 (dk_at dksX1_faultPosition_0 16 rfl rfl)
theorem dX1_faultPosition_17 : decode cX1_faultPosition 17 = .ok (.getfield 102, 3) := dk_180 0 102 (dk_at dksX1_faultPosition_0 17 rfl rfl)
theorem dX1_faultPosition_20 : decode cX1_faultPosition 20 = .ok (.ireturn, 1) := dk_172 (dk_at dksX1_faultPosition_0 20 rfl rfl)
abbrev cX1_refusal : ByteArray := prog_1_method_47_code
def yX1_refusal : MethodName := ⟨RX1, "refusal", "(Z)I"⟩
def dkwX1_refusal_1 : List UInt8 := [167, 0, 7, 42, 180, 0, 123, 172]
abbrev dktX1_refusal_1 : List UInt8 := dkwX1_refusal_1 ++ []
def dkwX1_refusal_0 : List UInt8 := [42, 180, 0, 120, 153, 0, 7, 4, 167, 0, 4, 3, 184, 1, 79, 27, 153, 0, 10, 42, 180, 0, 120]
abbrev dktX1_refusal_0 : List UInt8 := dkwX1_refusal_0 ++ dktX1_refusal_1
theorem dksX1_refusal_0 : cX1_refusal.data.toList.drop 0 = dktX1_refusal_0 := by decide +kernel
theorem dksX1_refusal_1 : cX1_refusal.data.toList.drop 23 = dktX1_refusal_1 := dk_seg dksX1_refusal_0 23 rfl rfl
theorem dX1_refusal_0 : decode cX1_refusal 0 = .ok (.aload_n 0, 1) := dk_42 (dk_at dksX1_refusal_0 0 rfl rfl)
theorem dX1_refusal_1 : decode cX1_refusal 1 = .ok (.getfield 120, 3) := dk_180 0 120 (dk_at dksX1_refusal_0 1 rfl rfl)
theorem dX1_refusal_4 : decode cX1_refusal 4 = .ok (.ifCond .eq 7, 3) := dk_153 0 7 (dk_at dksX1_refusal_0 4 rfl rfl)
theorem dX1_refusal_7 : decode cX1_refusal 7 = .ok (.iconst 1, 1) := dk_4 (dk_at dksX1_refusal_0 7 rfl rfl)
theorem dX1_refusal_8 : decode cX1_refusal 8 = .ok (.goto 4, 3) := dk_167 0 4 (dk_at dksX1_refusal_0 8 rfl rfl)
theorem dX1_refusal_11 : decode cX1_refusal 11 = .ok (.iconst 0, 1) := dk_3 (dk_at dksX1_refusal_0 11 rfl rfl)
theorem dX1_refusal_12 : decode cX1_refusal 12 = .ok (.invokestatic 335, 3) := dk_184 1 79 (dk_at dksX1_refusal_0 12 rfl rfl)
theorem dX1_refusal_15 : decode cX1_refusal 15 = .ok (.iload_n 1, 1) := dk_27 (dk_at dksX1_refusal_0 15 rfl rfl)
theorem dX1_refusal_16 : decode cX1_refusal 16 = .ok (.ifCond .eq 10, 3) := dk_153 0 10 (dk_at dksX1_refusal_0 16 rfl rfl)
theorem dX1_refusal_19 : decode cX1_refusal 19 = .ok (.aload_n 0, 1) := dk_42 (dk_at dksX1_refusal_0 19 rfl rfl)
theorem dX1_refusal_20 : decode cX1_refusal 20 = .ok (.getfield 120, 3) := dk_180 0 120 (dk_at dksX1_refusal_0 20 rfl rfl)
theorem dX1_refusal_23 : decode cX1_refusal 23 = .ok (.goto 7, 3) := dk_167 0 7 (dk_at dksX1_refusal_1 0 rfl rfl)
theorem dX1_refusal_26 : decode cX1_refusal 26 = .ok (.aload_n 0, 1) := dk_42 (dk_at dksX1_refusal_1 3 rfl rfl)
theorem dX1_refusal_27 : decode cX1_refusal 27 = .ok (.getfield 123, 3) := dk_180 0 123 (dk_at dksX1_refusal_1 4 rfl rfl)
theorem dX1_refusal_30 : decode cX1_refusal 30 = .ok (.ireturn, 1) := dk_172 (dk_at dksX1_refusal_1 7 rfl rfl)
abbrev cX1_undo : ByteArray := prog_1_method_48_code
def yX1_undo : MethodName := ⟨RX1, "undo", "()I"⟩
def dkwX1_undo_1 : List UInt8 := [182, 1, 167, 192, 0, 75, 181, 0, 78, 42, 180, 0, 85, 182, 0, 110, 172]
abbrev dktX1_undo_1 : List UInt8 := dkwX1_undo_1 ++ []
def dkwX1_undo_0 : List UInt8 := [42, 180, 0, 85, 182, 1, 164, 154, 0, 7, 4, 167, 0, 4, 3, 184, 1, 134, 42, 42, 180, 0, 85]
abbrev dktX1_undo_0 : List UInt8 := dkwX1_undo_0 ++ dktX1_undo_1
theorem dksX1_undo_0 : cX1_undo.data.toList.drop 0 = dktX1_undo_0 := by decide +kernel
theorem dksX1_undo_1 : cX1_undo.data.toList.drop 23 = dktX1_undo_1 := dk_seg dksX1_undo_0 23 rfl rfl
theorem dX1_undo_0 : decode cX1_undo 0 = .ok (.aload_n 0, 1) := dk_42 (dk_at dksX1_undo_0 0 rfl rfl)
theorem dX1_undo_1 : decode cX1_undo 1 = .ok (.getfield 85, 3) := dk_180 0 85 (dk_at dksX1_undo_0 1 rfl rfl)
theorem dX1_undo_4 : decode cX1_undo 4 = .ok (.invokevirtual 420, 3) := dk_182 1 164 (dk_at dksX1_undo_0 4 rfl rfl)
theorem dX1_undo_7 : decode cX1_undo 7 = .ok (.ifCond .ne 7, 3) := dk_154 0 7 (dk_at dksX1_undo_0 7 rfl rfl)
theorem dX1_undo_10 : decode cX1_undo 10 = .ok (.iconst 1, 1) := dk_4 (dk_at dksX1_undo_0 10 rfl rfl)
theorem dX1_undo_11 : decode cX1_undo 11 = .ok (.goto 4, 3) := dk_167 0 4 (dk_at dksX1_undo_0 11 rfl rfl)
theorem dX1_undo_14 : decode cX1_undo 14 = .ok (.iconst 0, 1) := dk_3 (dk_at dksX1_undo_0 14 rfl rfl)
theorem dX1_undo_15 : decode cX1_undo 15 = .ok (.invokestatic 390, 3) := dk_184 1 134 (dk_at dksX1_undo_0 15 rfl rfl)
theorem dX1_undo_18 : decode cX1_undo 18 = .ok (.aload_n 0, 1) := dk_42 (dk_at dksX1_undo_0 18 rfl rfl)
theorem dX1_undo_19 : decode cX1_undo 19 = .ok (.aload_n 0, 1) := dk_42 (dk_at dksX1_undo_0 19 rfl rfl)
theorem dX1_undo_20 : decode cX1_undo 20 = .ok (.getfield 85, 3) := dk_180 0 85 (dk_at dksX1_undo_0 20 rfl rfl)
theorem dX1_undo_23 : decode cX1_undo 23 = .ok (.invokevirtual 423, 3) := dk_182 1 167 (dk_at dksX1_undo_1 0 rfl rfl)
theorem dX1_undo_26 : decode cX1_undo 26 = .ok (.checkcast 75, 3) := dk_192 0 75 (dk_at dksX1_undo_1 3 rfl rfl)
theorem dX1_undo_29 : decode cX1_undo 29 = .ok (.putfield 78, 3) := dk_181 0 78 (dk_at dksX1_undo_1 6 rfl rfl)
theorem dX1_undo_32 : decode cX1_undo 32 = .ok (.aload_n 0, 1) := dk_42 (dk_at dksX1_undo_1 9 rfl rfl)
theorem dX1_undo_33 : decode cX1_undo 33 = .ok (.getfield 85, 3) := dk_180 0 85 (dk_at dksX1_undo_1 10 rfl rfl)
theorem dX1_undo_36 : decode cX1_undo 36 = .ok (.invokevirtual 110, 3) := dk_182 0 110 (dk_at dksX1_undo_1 13 rfl rfl)
theorem dX1_undo_39 : decode cX1_undo 39 = .ok (.ireturn, 1) := dk_172 (dk_at dksX1_undo_1 16 rfl rfl)
abbrev cX1_restoreSnapshot : ByteArray := prog_1_method_50_code
def yX1_restoreSnapshot : MethodName := ⟨RX1, "restoreSnapshot", "()I"⟩
def dkwX1_restoreSnapshot_2 : List UInt8 := [185, 1, 86, 1, 0, 172]
abbrev dktX1_restoreSnapshot_2 : List UInt8 := dkwX1_restoreSnapshot_2 ++ []
def dkwX1_restoreSnapshot_1 : List UInt8 := [180, 1, 170, 182, 0, 106, 181, 0, 78, 42, 180, 0, 85, 182, 1, 173, 42, 180, 0, 78, 180, 1, 82]
abbrev dktX1_restoreSnapshot_1 : List UInt8 := dkwX1_restoreSnapshot_1 ++ dktX1_restoreSnapshot_2
def dkwX1_restoreSnapshot_0 : List UInt8 := [42, 180, 1, 170, 198, 0, 7, 4, 167, 0, 4, 3, 184, 1, 134, 42, 187, 0, 75, 89, 183, 0, 77, 42]
abbrev dktX1_restoreSnapshot_0 : List UInt8 := dkwX1_restoreSnapshot_0 ++ dktX1_restoreSnapshot_1
theorem dksX1_restoreSnapshot_0 : cX1_restoreSnapshot.data.toList.drop 0 = dktX1_restoreSnapshot_0 := by decide +kernel
theorem dksX1_restoreSnapshot_1 : cX1_restoreSnapshot.data.toList.drop 24 = dktX1_restoreSnapshot_1 := dk_seg dksX1_restoreSnapshot_0 24 rfl rfl
theorem dksX1_restoreSnapshot_2 : cX1_restoreSnapshot.data.toList.drop 47 = dktX1_restoreSnapshot_2 := dk_seg dksX1_restoreSnapshot_1 23 rfl rfl
theorem dX1_restoreSnapshot_0 : decode cX1_restoreSnapshot 0 = .ok (.aload_n 0, 1) := dk_42 (dk_at dksX1_restoreSnapshot_0 0 rfl rfl)
theorem dX1_restoreSnapshot_1 : decode cX1_restoreSnapshot 1 = .ok (.getfield 426, 3) := dk_180 1 170 (dk_at dksX1_restoreSnapshot_0 1 rfl rfl)
theorem dX1_restoreSnapshot_4 : decode cX1_restoreSnapshot 4 = .ok (.ifnull 7, 3) := dk_198 0 7 (dk_at dksX1_restoreSnapshot_0 4 rfl rfl)
theorem dX1_restoreSnapshot_7 : decode cX1_restoreSnapshot 7 = .ok (.iconst 1, 1) := dk_4 (dk_at dksX1_restoreSnapshot_0 7 rfl rfl)
theorem dX1_restoreSnapshot_8 : decode cX1_restoreSnapshot 8 = .ok (.goto 4, 3) := dk_167 0 4 (dk_at dksX1_restoreSnapshot_0 8 rfl rfl)
theorem dX1_restoreSnapshot_11 : decode cX1_restoreSnapshot 11 = .ok (.iconst 0, 1) := dk_3 (dk_at dksX1_restoreSnapshot_0 11 rfl rfl)
theorem dX1_restoreSnapshot_12 : decode cX1_restoreSnapshot 12 = .ok (.invokestatic 390, 3) := dk_184 1 134 (dk_at dksX1_restoreSnapshot_0 12 rfl rfl)
theorem dX1_restoreSnapshot_15 : decode cX1_restoreSnapshot 15 = .ok (.aload_n 0, 1) := dk_42 (dk_at dksX1_restoreSnapshot_0 15 rfl rfl)
theorem dX1_restoreSnapshot_16 : decode cX1_restoreSnapshot 16 = .ok (.new 75, 3) := dk_187 0 75 (dk_at dksX1_restoreSnapshot_0 16 rfl rfl)
theorem dX1_restoreSnapshot_19 : decode cX1_restoreSnapshot 19 = .ok (.dup, 1) := dk_89 (dk_at dksX1_restoreSnapshot_0 19 rfl rfl)
theorem dX1_restoreSnapshot_20 : decode cX1_restoreSnapshot 20 = .ok (.invokespecial 77, 3) := dk_183 0 77 (dk_at dksX1_restoreSnapshot_0 20 rfl rfl)
theorem dX1_restoreSnapshot_23 : decode cX1_restoreSnapshot 23 = .ok (.aload_n 0, 1) := dk_42 (dk_at dksX1_restoreSnapshot_0 23 rfl rfl)
theorem dX1_restoreSnapshot_24 : decode cX1_restoreSnapshot 24 = .ok (.getfield 426, 3) := dk_180 1 170 (dk_at dksX1_restoreSnapshot_1 0 rfl rfl)
theorem dX1_restoreSnapshot_27 : decode cX1_restoreSnapshot 27 = .ok (.invokevirtual 106, 3) := dk_182 0 106 (dk_at dksX1_restoreSnapshot_1 3 rfl rfl)
theorem dX1_restoreSnapshot_30 : decode cX1_restoreSnapshot 30 = .ok (.putfield 78, 3) := dk_181 0 78 (dk_at dksX1_restoreSnapshot_1 6 rfl rfl)
theorem dX1_restoreSnapshot_33 : decode cX1_restoreSnapshot 33 = .ok (.aload_n 0, 1) := dk_42 (dk_at dksX1_restoreSnapshot_1 9 rfl rfl)
theorem dX1_restoreSnapshot_34 : decode cX1_restoreSnapshot 34 = .ok (.getfield 85, 3) := dk_180 0 85 (dk_at dksX1_restoreSnapshot_1 10 rfl rfl)
theorem dX1_restoreSnapshot_37 : decode cX1_restoreSnapshot 37 = .ok (.invokevirtual 429, 3) := dk_182 1 173 (dk_at dksX1_restoreSnapshot_1 13 rfl rfl)
theorem dX1_restoreSnapshot_40 : decode cX1_restoreSnapshot 40 = .ok (.aload_n 0, 1) := dk_42 (dk_at dksX1_restoreSnapshot_1 16 rfl rfl)
theorem dX1_restoreSnapshot_41 : decode cX1_restoreSnapshot 41 = .ok (.getfield 78, 3) := dk_180 0 78 (dk_at dksX1_restoreSnapshot_1 17 rfl rfl)
theorem dX1_restoreSnapshot_44 : decode cX1_restoreSnapshot 44 = .ok (.getfield 338, 3) := dk_180 1 82 (dk_at dksX1_restoreSnapshot_1 20 rfl rfl)
theorem dX1_restoreSnapshot_47 : decode cX1_restoreSnapshot 47 = .ok (.invokeinterface 342 1, 5) := by decide +kernel
theorem dX1_restoreSnapshot_52 : decode cX1_restoreSnapshot 52 = .ok (.ireturn, 1) := dk_172 (dk_at dksX1_restoreSnapshot_2 5 rfl rfl)
theorem q73 : (Jvm.Cond.initialized "BraidedFerry") ∈ lw_all := lw_g (lw_at lw_m1 1 rfl) rfl
theorem q145 : (Jvm.Cond.instantiable "BraidedFerry" (8 : Nat)) ∈ lw_all := lw_g (lw_at lw_m1 73 rfl) rfl
theorem q147 : (Jvm.Cond.instanceMethod ({ cls := "BraidedFerry", name := "<init>", desc := "()V" } : Jvm.MethodName)) ∈ lw_all := lw_g (lw_at lw_m1 75 rfl) rfl
theorem q148 : (Jvm.Cond.code ({ cls := "BraidedFerry", name := "<init>", desc := "()V" } : Jvm.MethodName) prog_1_method_9_code (1 : Nat) (Option.none : Option Jvm.ClassFile.FieldType)) ∈ lw_all := lw_g (lw_at lw_m1 76 rfl) rfl
theorem q149 : (Jvm.Cond.methodLink "BraidedFerry" (72 : Nat) ({ cls := "java/lang/Object", name := "<init>", desc := "()V" } : Jvm.MethodName)) ∈ lw_all := lw_g (lw_at lw_m1 77 rfl) rfl
theorem q152 : (Jvm.Cond.classLink "BraidedFerry" (75 : Nat) "BraidedFerry$River") ∈ lw_all := lw_g (lw_at lw_m1 80 rfl) rfl
theorem q154 : (Jvm.Cond.methodLinkNest "BraidedFerry" (77 : Nat) ({ cls := "BraidedFerry$River", name := "<init>", desc := "()V" } : Jvm.MethodName) "BraidedFerry") ∈ lw_tbl := lw_at lw_m1 82 rfl
theorem q249 : (Jvm.Cond.fieldLinkNest "BraidedFerry" (271 : Nat) "BraidedFerry$Tally" "counts" "Ljava/util/LinkedHashMap;" "BraidedFerry") ∈ lw_tbl := lw_at lw_m1 177 rfl
theorem q254 : (Jvm.Cond.fieldLinkNest "BraidedFerry" (338 : Nat) "BraidedFerry$River" "channels" "Ljava/util/List;" "BraidedFerry") ∈ lw_tbl := lw_at lw_m1 182 rfl
theorem q256 : (Jvm.Cond.fieldLinkNest "BraidedFerry" (363 : Nat) "BraidedFerry$River" "floods" "Ljava/util/List;" "BraidedFerry") ∈ lw_tbl := lw_at lw_m1 184 rfl
theorem q258 : (Jvm.Cond.fieldLinkNest "BraidedFerry" (366 : Nat) "BraidedFerry$River" "anchors" "Ljava/util/List;" "BraidedFerry") ∈ lw_tbl := lw_at lw_m1 186 rfl
theorem q260 : (Jvm.Cond.fieldLinkNest "BraidedFerry" (246 : Nat) "BraidedFerry$River" "waiting" "LBraidedFerry$Tally;" "BraidedFerry") ∈ lw_tbl := lw_at lw_m1 188 rfl
theorem q262 : (Jvm.Cond.fieldLinkNest "BraidedFerry" (256 : Nat) "BraidedFerry$River" "fore" "LBraidedFerry$Tally;" "BraidedFerry") ∈ lw_tbl := lw_at lw_m1 190 rfl
theorem q264 : (Jvm.Cond.fieldLinkNest "BraidedFerry" (259 : Nat) "BraidedFerry$River" "aft" "LBraidedFerry$Tally;" "BraidedFerry") ∈ lw_tbl := lw_at lw_m1 192 rfl
theorem q267 : (Jvm.Cond.fieldLinkNest "BraidedFerry" (179 : Nat) "BraidedFerry$River" "hour" "I" "BraidedFerry") ∈ lw_tbl := lw_at lw_m1 195 rfl
theorem q270 : (Jvm.Cond.fieldLinkNest "BraidedFerry" (325 : Nat) "BraidedFerry$River" "stop" "I" "BraidedFerry") ∈ lw_tbl := lw_at lw_m1 198 rfl
theorem q272 : (Jvm.Cond.fieldLinkNest "BraidedFerry" (369 : Nat) "BraidedFerry$River" "rope" "I" "BraidedFerry") ∈ lw_tbl := lw_at lw_m1 200 rfl
theorem q274 : (Jvm.Cond.fieldLinkNest "BraidedFerry" (373 : Nat) "BraidedFerry$River" "landed" "I" "BraidedFerry") ∈ lw_tbl := lw_at lw_m1 202 rfl
theorem q276 : (Jvm.Cond.fieldLinkNest "BraidedFerry" (376 : Nat) "BraidedFerry$River" "paid" "I" "BraidedFerry") ∈ lw_tbl := lw_at lw_m1 204 rfl
theorem q278 : (Jvm.Cond.fieldLinkNest "BraidedFerry" (379 : Nat) "BraidedFerry$River" "crossings" "I" "BraidedFerry") ∈ lw_tbl := lw_at lw_m1 206 rfl
theorem q307 : (Jvm.Cond.classLink "BraidedFerry" (82 : Nat) "java/util/ArrayDeque") ∈ lw_all := lw_g (lw_at lw_m1 235 rfl) rfl
theorem q309 : (Jvm.Cond.methodLink "BraidedFerry" (84 : Nat) ({ cls := "java/util/ArrayDeque", name := "<init>", desc := "()V" } : Jvm.MethodName)) ∈ lw_all := lw_g (lw_at lw_m1 237 rfl) rfl
theorem q325 : (Jvm.Cond.classLink "BraidedFerry" (89 : Nat) "java/lang/StringBuilder") ∈ lw_all := lw_g (lw_at lw_m2 13 rfl) rfl
theorem q327 : (Jvm.Cond.methodLink "BraidedFerry" (91 : Nat) ({ cls := "java/lang/StringBuilder", name := "<init>", desc := "()V" } : Jvm.MethodName)) ∈ lw_all := lw_g (lw_at lw_m2 15 rfl) rfl
theorem q358 : (Jvm.Cond.stringRef "BraidedFerry" (96 : Nat) "") ∈ lw_tbl := lw_at lw_m2 46 rfl
theorem q359 : (Jvm.Cond.fieldLink "BraidedFerry" (78 : Nat) "BraidedFerry" "river" "LBraidedFerry$River;") ∈ lw_all := lw_g (lw_at lw_m2 47 rfl) rfl
theorem q360 : (Jvm.Cond.fieldLink "BraidedFerry" (85 : Nat) "BraidedFerry" "past" "Ljava/util/ArrayDeque;") ∈ lw_all := lw_g (lw_at lw_m2 48 rfl) rfl
theorem q362 : (Jvm.Cond.fieldLink "BraidedFerry" (92 : Nat) "BraidedFerry" "input" "Ljava/lang/StringBuilder;") ∈ lw_all := lw_g (lw_at lw_m2 50 rfl) rfl
theorem q363 : (Jvm.Cond.fieldLink "BraidedFerry" (98 : Nat) "BraidedFerry" "line" "Ljava/lang/CharSequence;") ∈ lw_all := lw_g (lw_at lw_m2 51 rfl) rfl
theorem q364 : (Jvm.Cond.fieldLink "BraidedFerry" (102 : Nat) "BraidedFerry" "fault" "I") ∈ lw_all := lw_g (lw_at lw_m2 52 rfl) rfl
theorem q365 : (Jvm.Cond.fieldLink "BraidedFerry" (120 : Nat) "BraidedFerry" "reason" "I") ∈ lw_all := lw_g (lw_at lw_m2 53 rfl) rfl
theorem q366 : (Jvm.Cond.fieldLink "BraidedFerry" (123 : Nat) "BraidedFerry" "detail" "I") ∈ lw_all := lw_g (lw_at lw_m2 54 rfl) rfl
theorem q367 : (Jvm.Cond.fieldLink "BraidedFerry" (426 : Nat) "BraidedFerry" "saved" "LBraidedFerry$River;") ∈ lw_all := lw_g (lw_at lw_m2 55 rfl) rfl
theorem q368 : (Jvm.Cond.lays "BraidedFerry" "BraidedFerry" "river" "LBraidedFerry$River;") ∈ lw_all := lw_g (lw_at lw_m2 56 rfl) rfl
theorem q369 : (Jvm.Cond.soleField "BraidedFerry" "river") ∈ lw_all := lw_g (lw_at lw_m2 57 rfl) rfl
theorem q370 : (Jvm.Cond.laysFinal "BraidedFerry" "BraidedFerry" "past" "Ljava/util/ArrayDeque;") ∈ lw_all := lw_g (lw_at lw_m2 58 rfl) rfl
theorem q371 : (Jvm.Cond.soleField "BraidedFerry" "past") ∈ lw_all := lw_g (lw_at lw_m2 59 rfl) rfl
theorem q372 : (Jvm.Cond.laysFinal "BraidedFerry" "BraidedFerry" "input" "Ljava/lang/StringBuilder;") ∈ lw_all := lw_g (lw_at lw_m2 60 rfl) rfl
theorem q373 : (Jvm.Cond.soleField "BraidedFerry" "input") ∈ lw_all := lw_g (lw_at lw_m2 61 rfl) rfl
theorem q374 : (Jvm.Cond.lays "BraidedFerry" "BraidedFerry" "line" "Ljava/lang/CharSequence;") ∈ lw_all := lw_g (lw_at lw_m2 62 rfl) rfl
theorem q375 : (Jvm.Cond.soleField "BraidedFerry" "line") ∈ lw_all := lw_g (lw_at lw_m2 63 rfl) rfl
theorem q376 : (Jvm.Cond.lays "BraidedFerry" "BraidedFerry" "fault" "I") ∈ lw_all := lw_g (lw_at lw_m2 64 rfl) rfl
theorem q377 : (Jvm.Cond.soleField "BraidedFerry" "fault") ∈ lw_all := lw_g (lw_at lw_m2 65 rfl) rfl
theorem q378 : (Jvm.Cond.lays "BraidedFerry" "BraidedFerry" "reason" "I") ∈ lw_all := lw_g (lw_at lw_m2 66 rfl) rfl
theorem q379 : (Jvm.Cond.soleField "BraidedFerry" "reason") ∈ lw_all := lw_g (lw_at lw_m2 67 rfl) rfl
theorem q380 : (Jvm.Cond.lays "BraidedFerry" "BraidedFerry" "detail" "I") ∈ lw_all := lw_g (lw_at lw_m2 68 rfl) rfl
theorem q381 : (Jvm.Cond.soleField "BraidedFerry" "detail") ∈ lw_all := lw_g (lw_at lw_m2 69 rfl) rfl
theorem q382 : (Jvm.Cond.lays "BraidedFerry" "BraidedFerry" "saved" "LBraidedFerry$River;") ∈ lw_all := lw_g (lw_at lw_m2 70 rfl) rfl
theorem q383 : (Jvm.Cond.soleField "BraidedFerry" "saved") ∈ lw_all := lw_g (lw_at lw_m2 71 rfl) rfl
theorem q384 : (Jvm.Cond.superclass "BraidedFerry" "java/lang/Object") ∈ lw_all := lw_g (lw_at lw_m2 72 rfl) rfl
theorem q386 : (Jvm.Cond.instanceMethod ({ cls := "BraidedFerry", name := "land", desc := "()I" } : Jvm.MethodName)) ∈ lw_all := lw_g (lw_at lw_m2 74 rfl) rfl
theorem q387 : (Jvm.Cond.selects "BraidedFerry" ({ cls := "BraidedFerry", name := "land", desc := "()I" } : Jvm.MethodName) ({ cls := "BraidedFerry", name := "land", desc := "()I" } : Jvm.MethodName)) ∈ lw_all := lw_g (lw_at lw_m2 75 rfl) rfl
theorem q388 : (Jvm.Cond.code ({ cls := "BraidedFerry", name := "land", desc := "()I" } : Jvm.MethodName) prog_1_method_28_code (1 : Nat) (Option.some Jvm.ClassFile.FieldType.int)) ∈ lw_all := lw_g (lw_at lw_m2 76 rfl) rfl
theorem q389 : (Jvm.Cond.classLink "BraidedFerry" (265 : Nat) "BraidedFerry$Landing") ∈ lw_all := lw_g (lw_at lw_m2 77 rfl) rfl
theorem q391 : (Jvm.Cond.methodLinkNest "BraidedFerry" (267 : Nat) ({ cls := "BraidedFerry$Landing", name := "<init>", desc := "()V" } : Jvm.MethodName) "BraidedFerry") ∈ lw_tbl := lw_at lw_m2 79 rfl
theorem q396 : (Jvm.Cond.methodLink "BraidedFerry" (154 : Nat) ({ cls := "BraidedFerry", name := "change", desc := "(LBraidedFerry$Deed;)I" } : Jvm.MethodName)) ∈ lw_all := lw_g (lw_at lw_m2 84 rfl) rfl
theorem q397 : (Jvm.Cond.privateMethod ({ cls := "BraidedFerry", name := "change", desc := "(LBraidedFerry$Deed;)I" } : Jvm.MethodName)) ∈ lw_tbl := lw_at lw_m2 85 rfl
theorem q398 : (Jvm.Cond.instanceMethod ({ cls := "BraidedFerry", name := "change", desc := "(LBraidedFerry$Deed;)I" } : Jvm.MethodName)) ∈ lw_all := lw_g (lw_at lw_m2 86 rfl) rfl
theorem q399 : (Jvm.Cond.codeWith ({ cls := "BraidedFerry", name := "change", desc := "(LBraidedFerry$Deed;)I" } : Jvm.MethodName) prog_1_method_13_code (4 : Nat) (Option.some Jvm.ClassFile.FieldType.int) [((5 : Nat), (19 : Nat), (20 : Nat), (16 : Nat))]) ∈ lw_all := lw_g (lw_at lw_m2 87 rfl) rfl
theorem q400 : (Jvm.Cond.classLink "BraidedFerry" (16 : Nat) "BraidedFerry$Refusal") ∈ lw_all := lw_g (lw_at lw_m2 88 rfl) rfl
theorem q401 : (Jvm.Cond.methodLink "BraidedFerry" (129 : Nat) ({ cls := "BraidedFerry", name := "draft", desc := "()LBraidedFerry$River;" } : Jvm.MethodName)) ∈ lw_all := lw_g (lw_at lw_m2 89 rfl) rfl
theorem q402 : (Jvm.Cond.privateMethod ({ cls := "BraidedFerry", name := "draft", desc := "()LBraidedFerry$River;" } : Jvm.MethodName)) ∈ lw_tbl := lw_at lw_m2 90 rfl
theorem q403 : (Jvm.Cond.instanceMethod ({ cls := "BraidedFerry", name := "draft", desc := "()LBraidedFerry$River;" } : Jvm.MethodName)) ∈ lw_all := lw_g (lw_at lw_m2 91 rfl) rfl
theorem q404 : (Jvm.Cond.code ({ cls := "BraidedFerry", name := "draft", desc := "()LBraidedFerry$River;" } : Jvm.MethodName) prog_1_method_10_code (1 : Nat) (Option.some (Jvm.ClassFile.FieldType.object "BraidedFerry$River"))) ∈ lw_all := lw_g (lw_at lw_m2 92 rfl) rfl
theorem q405 : (Jvm.Cond.methodLink "BraidedFerry" (106 : Nat) ({ cls := "BraidedFerry$River", name := "become", desc := "(LBraidedFerry$River;)LBraidedFerry$River;" } : Jvm.MethodName)) ∈ lw_all := lw_g (lw_at lw_m2 93 rfl) rfl
theorem q594 : (Jvm.Cond.selects "BraidedFerry" ({ cls := "java/lang/Object", name := "getClass", desc := "()Ljava/lang/Class;" } : Jvm.MethodName) ({ cls := "java/lang/Object", name := "getClass", desc := "()Ljava/lang/Class;" } : Jvm.MethodName)) ∈ lw_all := lw_g (lw_at lw_m3 42 rfl) rfl
theorem q786 : (Jvm.Cond.selects "BraidedFerry" ({ cls := "java/lang/Object", name := "hashCode", desc := "()I" } : Jvm.MethodName) ({ cls := "java/lang/Object", name := "hashCode", desc := "()I" } : Jvm.MethodName)) ∈ lw_all := lw_g (lw_at lw_m3 234 rfl) rfl
theorem q1111 : (Jvm.Cond.selects "BraidedFerry" ({ cls := "java/lang/Object", name := "equals", desc := "(Ljava/lang/Object;)Z" } : Jvm.MethodName) ({ cls := "java/lang/Object", name := "equals", desc := "(Ljava/lang/Object;)Z" } : Jvm.MethodName)) ∈ lw_all := lw_g (lw_at lw_m5 79 rfl) rfl
theorem q1618 : (Jvm.Cond.interfaceEntry "BraidedFerry" (133 : Nat)) ∈ lw_tbl := lw_at lw_m7 106 rfl
theorem q1619 : (Jvm.Cond.methodLink "BraidedFerry" (133 : Nat) ({ cls := "BraidedFerry$Deed", name := "done", desc := "(LBraidedFerry$River;)I" } : Jvm.MethodName)) ∈ lw_all := lw_g (lw_at lw_m7 107 rfl) rfl
theorem q1642 : (Jvm.Cond.static ({ cls := "BraidedFerry", name := "inRange", desc := "(III)Z" } : Jvm.MethodName)) ∈ lw_all := lw_g (lw_at lw_m7 130 rfl) rfl
theorem q1643 : (Jvm.Cond.code ({ cls := "BraidedFerry", name := "inRange", desc := "(III)Z" } : Jvm.MethodName) prog_1_method_1_code (3 : Nat) (Option.some Jvm.ClassFile.FieldType.boolean)) ∈ lw_all := lw_g (lw_at lw_m7 131 rfl) rfl
theorem q1645 : (Jvm.Cond.static ({ cls := "BraidedFerry", name := "requireIndex", desc := "(Z)V" } : Jvm.MethodName)) ∈ lw_all := lw_g (lw_at lw_m7 133 rfl) rfl
theorem q1646 : (Jvm.Cond.code ({ cls := "BraidedFerry", name := "requireIndex", desc := "(Z)V" } : Jvm.MethodName) prog_1_method_3_code (1 : Nat) (Option.none : Option Jvm.ClassFile.FieldType)) ∈ lw_all := lw_g (lw_at lw_m7 134 rfl) rfl
theorem q1647 : (Jvm.Cond.classLink "BraidedFerry" (7 : Nat) "java/lang/IndexOutOfBoundsException") ∈ lw_all := lw_g (lw_at lw_m7 135 rfl) rfl
theorem q1656 : (Jvm.Cond.methodLink "BraidedFerry" (9 : Nat) ({ cls := "java/lang/IndexOutOfBoundsException", name := "<init>", desc := "()V" } : Jvm.MethodName)) ∈ lw_all := lw_g (lw_at lw_m7 144 rfl) rfl
theorem q1683 : (Jvm.Cond.static ({ cls := "BraidedFerry", name := "require", desc := "(Z)V" } : Jvm.MethodName)) ∈ lw_all := lw_g (lw_at lw_m7 171 rfl) rfl
theorem q1684 : (Jvm.Cond.code ({ cls := "BraidedFerry", name := "require", desc := "(Z)V" } : Jvm.MethodName) prog_1_method_2_code (1 : Nat) (Option.none : Option Jvm.ClassFile.FieldType)) ∈ lw_all := lw_g (lw_at lw_m7 172 rfl) rfl
theorem q1685 : (Jvm.Cond.classLink "BraidedFerry" (1 : Nat) "java/lang/IllegalArgumentException") ∈ lw_all := lw_g (lw_at lw_m7 173 rfl) rfl
theorem q1686 : (Jvm.Cond.methodLink "BraidedFerry" (3 : Nat) ({ cls := "java/lang/IllegalArgumentException", name := "<init>", desc := "()V" } : Jvm.MethodName)) ∈ lw_all := lw_g (lw_at lw_m7 174 rfl) rfl
theorem q1695 : (Jvm.Cond.static ({ cls := "BraidedFerry", name := "allow", desc := "(ZII)V" } : Jvm.MethodName)) ∈ lw_all := lw_g (lw_at lw_m7 183 rfl) rfl
theorem q1696 : (Jvm.Cond.code ({ cls := "BraidedFerry", name := "allow", desc := "(ZII)V" } : Jvm.MethodName) prog_1_method_6_code (3 : Nat) (Option.none : Option Jvm.ClassFile.FieldType)) ∈ lw_all := lw_g (lw_at lw_m7 184 rfl) rfl
theorem q1705 : (Jvm.Cond.methodLink "BraidedFerry" (18 : Nat) ({ cls := "BraidedFerry$Refusal", name := "<init>", desc := "(II)V" } : Jvm.MethodName)) ∈ lw_all := lw_g (lw_at lw_m7 193 rfl) rfl
theorem q1715 : (Jvm.Cond.fieldLinkNest "BraidedFerry" (143 : Nat) "BraidedFerry$Refusal" "reason" "I" "BraidedFerry") ∈ lw_tbl := lw_at lw_m7 203 rfl
theorem q1717 : (Jvm.Cond.fieldLinkNest "BraidedFerry" (144 : Nat) "BraidedFerry$Refusal" "detail" "I" "BraidedFerry") ∈ lw_tbl := lw_at lw_m7 205 rfl
theorem q1731 : (Jvm.Cond.fieldLinkNest "BraidedFerry" (208 : Nat) "BraidedFerry$Anchor" "channel" "I" "BraidedFerry") ∈ lw_tbl := lw_at lw_m7 219 rfl
theorem q1734 : (Jvm.Cond.fieldLinkNest "BraidedFerry" (212 : Nat) "BraidedFerry$Anchor" "scope" "I" "BraidedFerry") ∈ lw_tbl := lw_at lw_m7 222 rfl
theorem q1737 : (Jvm.Cond.fieldLinkNest "BraidedFerry" (215 : Nat) "BraidedFerry$Anchor" "drag" "I" "BraidedFerry") ∈ lw_tbl := lw_at lw_m7 225 rfl
theorem q1765 : (Jvm.Cond.fieldLinkNest "BraidedFerry" (290 : Nat) "BraidedFerry$Group" "kind" "I" "BraidedFerry") ∈ lw_tbl := lw_at lw_m8 13 rfl
theorem q1767 : (Jvm.Cond.fieldLinkNest "BraidedFerry" (278 : Nat) "BraidedFerry$Group" "from" "I" "BraidedFerry") ∈ lw_tbl := lw_at lw_m8 15 rfl
theorem q1771 : (Jvm.Cond.fieldLinkNest "BraidedFerry" (299 : Nat) "BraidedFerry$Group" "to" "I" "BraidedFerry") ∈ lw_tbl := lw_at lw_m8 19 rfl
theorem q1793 : (Jvm.Cond.static ({ cls := "BraidedFerry", name := "sum", desc := "(Ljava/util/Map;Z)I" } : Jvm.MethodName)) ∈ lw_all := lw_g (lw_at lw_m8 41 rfl) rfl
theorem q1794 : (Jvm.Cond.code ({ cls := "BraidedFerry", name := "sum", desc := "(Ljava/util/Map;Z)I" } : Jvm.MethodName) prog_1_method_7_code (5 : Nat) (Option.some Jvm.ClassFile.FieldType.int)) ∈ lw_all := lw_g (lw_at lw_m8 42 rfl) rfl
theorem q1795 : (Jvm.Cond.interfaceEntry "BraidedFerry" (21 : Nat)) ∈ lw_tbl := lw_at lw_m8 43 rfl
theorem q1796 : (Jvm.Cond.methodLink "BraidedFerry" (21 : Nat) ({ cls := "java/util/Map", name := "entrySet", desc := "()Ljava/util/Set;" } : Jvm.MethodName)) ∈ lw_all := lw_g (lw_at lw_m8 44 rfl) rfl
theorem q1803 : (Jvm.Cond.interfaceEntry "BraidedFerry" (27 : Nat)) ∈ lw_tbl := lw_at lw_m8 51 rfl
theorem q1804 : (Jvm.Cond.methodLink "BraidedFerry" (27 : Nat) ({ cls := "java/util/Set", name := "iterator", desc := "()Ljava/util/Iterator;" } : Jvm.MethodName)) ∈ lw_all := lw_g (lw_at lw_m8 52 rfl) rfl
theorem q1805 : (Jvm.Cond.interfaceEntry "BraidedFerry" (33 : Nat)) ∈ lw_tbl := lw_at lw_m8 53 rfl
theorem q1806 : (Jvm.Cond.methodLink "BraidedFerry" (33 : Nat) ({ cls := "java/util/Iterator", name := "hasNext", desc := "()Z" } : Jvm.MethodName)) ∈ lw_all := lw_g (lw_at lw_m8 54 rfl) rfl
theorem q1807 : (Jvm.Cond.interfaceEntry "BraidedFerry" (39 : Nat)) ∈ lw_tbl := lw_at lw_m8 55 rfl
theorem q1808 : (Jvm.Cond.methodLink "BraidedFerry" (39 : Nat) ({ cls := "java/util/Iterator", name := "next", desc := "()Ljava/lang/Object;" } : Jvm.MethodName)) ∈ lw_all := lw_g (lw_at lw_m8 56 rfl) rfl
theorem q1809 : (Jvm.Cond.classLink "BraidedFerry" (43 : Nat) "java/util/Map$Entry") ∈ lw_all := lw_g (lw_at lw_m8 57 rfl) rfl
theorem q1810 : (Jvm.Cond.interfaceEntry "BraidedFerry" (45 : Nat)) ∈ lw_tbl := lw_at lw_m8 58 rfl
theorem q1811 : (Jvm.Cond.methodLink "BraidedFerry" (45 : Nat) ({ cls := "java/util/Map$Entry", name := "getValue", desc := "()Ljava/lang/Object;" } : Jvm.MethodName)) ∈ lw_all := lw_g (lw_at lw_m8 59 rfl) rfl
theorem q1812 : (Jvm.Cond.classLink "BraidedFerry" (48 : Nat) "java/lang/Integer") ∈ lw_all := lw_g (lw_at lw_m8 60 rfl) rfl
theorem q1813 : (Jvm.Cond.methodLink "BraidedFerry" (50 : Nat) ({ cls := "java/lang/Integer", name := "intValue", desc := "()I" } : Jvm.MethodName)) ∈ lw_all := lw_g (lw_at lw_m8 61 rfl) rfl
theorem q1814 : (Jvm.Cond.interfaceEntry "BraidedFerry" (54 : Nat)) ∈ lw_tbl := lw_at lw_m8 62 rfl
theorem q1815 : (Jvm.Cond.methodLink "BraidedFerry" (54 : Nat) ({ cls := "java/util/Map$Entry", name := "getKey", desc := "()Ljava/lang/Object;" } : Jvm.MethodName)) ∈ lw_all := lw_g (lw_at lw_m8 63 rfl) rfl
theorem q1816 : (Jvm.Cond.classLink "BraidedFerry" (57 : Nat) "BraidedFerry$Weighed") ∈ lw_all := lw_g (lw_at lw_m8 64 rfl) rfl
theorem q1817 : (Jvm.Cond.interfaceEntry "BraidedFerry" (59 : Nat)) ∈ lw_tbl := lw_at lw_m8 65 rfl
theorem q1818 : (Jvm.Cond.methodLink "BraidedFerry" (59 : Nat) ({ cls := "BraidedFerry$Weighed", name := "weight", desc := "()I" } : Jvm.MethodName)) ∈ lw_all := lw_g (lw_at lw_m8 66 rfl) rfl
theorem q2118 : (Jvm.Cond.fieldLinkNest "BraidedFerry" (168 : Nat) "BraidedFerry$Channel" "width" "I" "BraidedFerry") ∈ lw_tbl := lw_at lw_m9 126 rfl
theorem q2122 : (Jvm.Cond.fieldLinkNest "BraidedFerry" (173 : Nat) "BraidedFerry$Channel" "flow" "I" "BraidedFerry") ∈ lw_tbl := lw_at lw_m9 130 rfl
theorem q2125 : (Jvm.Cond.fieldLinkNest "BraidedFerry" (176 : Nat) "BraidedFerry$Channel" "bed" "I" "BraidedFerry") ∈ lw_tbl := lw_at lw_m9 133 rfl
theorem q2218 : (Jvm.Cond.methodLink "BraidedFerry" (139 : Nat) ({ cls := "BraidedFerry", name := "replace", desc := "(LBraidedFerry$River;)V" } : Jvm.MethodName)) ∈ lw_all := lw_g (lw_at lw_m9 226 rfl) rfl
theorem q2219 : (Jvm.Cond.privateMethod ({ cls := "BraidedFerry", name := "replace", desc := "(LBraidedFerry$River;)V" } : Jvm.MethodName)) ∈ lw_tbl := lw_at lw_m9 227 rfl
theorem q2220 : (Jvm.Cond.instanceMethod ({ cls := "BraidedFerry", name := "replace", desc := "(LBraidedFerry$River;)V" } : Jvm.MethodName)) ∈ lw_all := lw_g (lw_at lw_m9 228 rfl) rfl
theorem q2221 : (Jvm.Cond.code ({ cls := "BraidedFerry", name := "replace", desc := "(LBraidedFerry$River;)V" } : Jvm.MethodName) prog_1_method_11_code (3 : Nat) (Option.none : Option Jvm.ClassFile.FieldType)) ∈ lw_all := lw_g (lw_at lw_m9 229 rfl) rfl
theorem q2222 : (Jvm.Cond.methodLink "BraidedFerry" (110 : Nat) ({ cls := "java/util/ArrayDeque", name := "size", desc := "()I" } : Jvm.MethodName)) ∈ lw_all := lw_g (lw_at lw_m9 230 rfl) rfl
theorem q2229 : (Jvm.Cond.methodLink "BraidedFerry" (113 : Nat) ({ cls := "java/util/ArrayDeque", name := "removeLast", desc := "()Ljava/lang/Object;" } : Jvm.MethodName)) ∈ lw_all := lw_g (lw_at lw_m9 237 rfl) rfl
theorem q2245 : (Jvm.Cond.methodLink "BraidedFerry" (116 : Nat) ({ cls := "java/util/ArrayDeque", name := "push", desc := "(Ljava/lang/Object;)V" } : Jvm.MethodName)) ∈ lw_all := lw_g (lw_at lw_m10 13 rfl) rfl
theorem q2271 : (Jvm.Cond.methodLink "BraidedFerry" (145 : Nat) ({ cls := "BraidedFerry", name := "refuse", desc := "(II)Ljava/lang/UnsupportedOperationException;" } : Jvm.MethodName)) ∈ lw_all := lw_g (lw_at lw_m10 39 rfl) rfl
theorem q2272 : (Jvm.Cond.privateMethod ({ cls := "BraidedFerry", name := "refuse", desc := "(II)Ljava/lang/UnsupportedOperationException;" } : Jvm.MethodName)) ∈ lw_tbl := lw_at lw_m10 40 rfl
theorem q2273 : (Jvm.Cond.instanceMethod ({ cls := "BraidedFerry", name := "refuse", desc := "(II)Ljava/lang/UnsupportedOperationException;" } : Jvm.MethodName)) ∈ lw_all := lw_g (lw_at lw_m10 41 rfl) rfl
theorem q2274 : (Jvm.Cond.code ({ cls := "BraidedFerry", name := "refuse", desc := "(II)Ljava/lang/UnsupportedOperationException;" } : Jvm.MethodName) prog_1_method_12_code (3 : Nat) (Option.some (Jvm.ClassFile.FieldType.object "java/lang/UnsupportedOperationException"))) ∈ lw_all := lw_g (lw_at lw_m10 42 rfl) rfl
theorem q2275 : (Jvm.Cond.classLink "BraidedFerry" (126 : Nat) "java/lang/UnsupportedOperationException") ∈ lw_all := lw_g (lw_at lw_m10 43 rfl) rfl
theorem q2284 : (Jvm.Cond.methodLink "BraidedFerry" (128 : Nat) ({ cls := "java/lang/UnsupportedOperationException", name := "<init>", desc := "()V" } : Jvm.MethodName)) ∈ lw_all := lw_g (lw_at lw_m10 52 rfl) rfl
theorem q2291 : (Jvm.Cond.instanceMethod ({ cls := "BraidedFerry", name := "why", desc := "(ZZ)I" } : Jvm.MethodName)) ∈ lw_all := lw_g (lw_at lw_m10 59 rfl) rfl
theorem q2292 : (Jvm.Cond.selects "BraidedFerry" ({ cls := "BraidedFerry", name := "why", desc := "(ZZ)I" } : Jvm.MethodName) ({ cls := "BraidedFerry", name := "why", desc := "(ZZ)I" } : Jvm.MethodName)) ∈ lw_all := lw_g (lw_at lw_m10 60 rfl) rfl
theorem q2293 : (Jvm.Cond.codeWith ({ cls := "BraidedFerry", name := "why", desc := "(ZZ)I" } : Jvm.MethodName) prog_1_method_36_code (4 : Nat) (Option.some Jvm.ClassFile.FieldType.int) [((0 : Nat), (9 : Nat), (10 : Nat), (16 : Nat))]) ∈ lw_all := lw_g (lw_at lw_m10 61 rfl) rfl
theorem q2294 : (Jvm.Cond.methodLink "BraidedFerry" (356 : Nat) ({ cls := "BraidedFerry$River", name := "check", desc := "(Z)V" } : Jvm.MethodName)) ∈ lw_all := lw_g (lw_at lw_m10 62 rfl) rfl
theorem q2296 : (Jvm.Cond.instanceMethod ({ cls := "BraidedFerry", name := "saveSnapshot", desc := "()I" } : Jvm.MethodName)) ∈ lw_all := lw_g (lw_at lw_m10 64 rfl) rfl
theorem q2297 : (Jvm.Cond.selects "BraidedFerry" ({ cls := "BraidedFerry", name := "saveSnapshot", desc := "()I" } : Jvm.MethodName) ({ cls := "BraidedFerry", name := "saveSnapshot", desc := "()I" } : Jvm.MethodName)) ∈ lw_all := lw_g (lw_at lw_m10 65 rfl) rfl
theorem q2298 : (Jvm.Cond.code ({ cls := "BraidedFerry", name := "saveSnapshot", desc := "()I" } : Jvm.MethodName) prog_1_method_49_code (1 : Nat) (Option.some Jvm.ClassFile.FieldType.int)) ∈ lw_all := lw_g (lw_at lw_m10 66 rfl) rfl
theorem q2299 : (Jvm.Cond.interfaceEntry "BraidedFerry" (342 : Nat)) ∈ lw_tbl := lw_at lw_m10 67 rfl
theorem q2300 : (Jvm.Cond.methodLink "BraidedFerry" (342 : Nat) ({ cls := "java/util/List", name := "size", desc := "()I" } : Jvm.MethodName)) ∈ lw_all := lw_g (lw_at lw_m10 68 rfl) rfl
theorem q2307 : (Jvm.Cond.instanceMethod ({ cls := "BraidedFerry", name := "channel", desc := "(III)I" } : Jvm.MethodName)) ∈ lw_all := lw_g (lw_at lw_m10 75 rfl) rfl
theorem q2308 : (Jvm.Cond.selects "BraidedFerry" ({ cls := "BraidedFerry", name := "channel", desc := "(III)I" } : Jvm.MethodName) ({ cls := "BraidedFerry", name := "channel", desc := "(III)I" } : Jvm.MethodName)) ∈ lw_all := lw_g (lw_at lw_m10 76 rfl) rfl
theorem q2309 : (Jvm.Cond.code ({ cls := "BraidedFerry", name := "channel", desc := "(III)I" } : Jvm.MethodName) prog_1_method_14_code (4 : Nat) (Option.some Jvm.ClassFile.FieldType.int)) ∈ lw_all := lw_g (lw_at lw_m10 77 rfl) rfl
theorem q2310 : (Jvm.Cond.classLink "BraidedFerry" (149 : Nat) "BraidedFerry$Digging") ∈ lw_all := lw_g (lw_at lw_m10 78 rfl) rfl
theorem q2312 : (Jvm.Cond.methodLink "BraidedFerry" (151 : Nat) ({ cls := "BraidedFerry$Digging", name := "<init>", desc := "(III)V" } : Jvm.MethodName)) ∈ lw_all := lw_g (lw_at lw_m10 80 rfl) rfl
theorem q2344 : (Jvm.Cond.instanceMethod ({ cls := "BraidedFerry", name := "split", desc := "(II)I" } : Jvm.MethodName)) ∈ lw_all := lw_g (lw_at lw_m10 112 rfl) rfl
theorem q2345 : (Jvm.Cond.selects "BraidedFerry" ({ cls := "BraidedFerry", name := "split", desc := "(II)I" } : Jvm.MethodName) ({ cls := "BraidedFerry", name := "split", desc := "(II)I" } : Jvm.MethodName)) ∈ lw_all := lw_g (lw_at lw_m10 113 rfl) rfl
theorem q2346 : (Jvm.Cond.code ({ cls := "BraidedFerry", name := "split", desc := "(II)I" } : Jvm.MethodName) prog_1_method_15_code (3 : Nat) (Option.some Jvm.ClassFile.FieldType.int)) ∈ lw_all := lw_g (lw_at lw_m10 114 rfl) rfl
theorem q2347 : (Jvm.Cond.classLink "BraidedFerry" (158 : Nat) "BraidedFerry$Splitting") ∈ lw_all := lw_g (lw_at lw_m10 115 rfl) rfl
theorem q2349 : (Jvm.Cond.methodLink "BraidedFerry" (160 : Nat) ({ cls := "BraidedFerry$Splitting", name := "<init>", desc := "(II)V" } : Jvm.MethodName)) ∈ lw_all := lw_g (lw_at lw_m10 117 rfl) rfl
theorem q2395 : (Jvm.Cond.instanceMethod ({ cls := "BraidedFerry", name := "shift", desc := "(II)I" } : Jvm.MethodName)) ∈ lw_all := lw_g (lw_at lw_m10 163 rfl) rfl
theorem q2396 : (Jvm.Cond.selects "BraidedFerry" ({ cls := "BraidedFerry", name := "shift", desc := "(II)I" } : Jvm.MethodName) ({ cls := "BraidedFerry", name := "shift", desc := "(II)I" } : Jvm.MethodName)) ∈ lw_all := lw_g (lw_at lw_m10 164 rfl) rfl
theorem q2397 : (Jvm.Cond.code ({ cls := "BraidedFerry", name := "shift", desc := "(II)I" } : Jvm.MethodName) prog_1_method_16_code (3 : Nat) (Option.some Jvm.ClassFile.FieldType.int)) ∈ lw_all := lw_g (lw_at lw_m10 165 rfl) rfl
theorem q2398 : (Jvm.Cond.classLink "BraidedFerry" (161 : Nat) "BraidedFerry$Shifting") ∈ lw_all := lw_g (lw_at lw_m10 166 rfl) rfl
theorem q2400 : (Jvm.Cond.methodLink "BraidedFerry" (163 : Nat) ({ cls := "BraidedFerry$Shifting", name := "<init>", desc := "(II)V" } : Jvm.MethodName)) ∈ lw_all := lw_g (lw_at lw_m10 168 rfl) rfl
theorem q2411 : (Jvm.Cond.instanceMethod ({ cls := "BraidedFerry", name := "channelOf", desc := "(II)I" } : Jvm.MethodName)) ∈ lw_all := lw_g (lw_at lw_m10 179 rfl) rfl
theorem q2412 : (Jvm.Cond.selects "BraidedFerry" ({ cls := "BraidedFerry", name := "channelOf", desc := "(II)I" } : Jvm.MethodName) ({ cls := "BraidedFerry", name := "channelOf", desc := "(II)I" } : Jvm.MethodName)) ∈ lw_all := lw_g (lw_at lw_m10 180 rfl) rfl
theorem q2413 : (Jvm.Cond.code ({ cls := "BraidedFerry", name := "channelOf", desc := "(II)I" } : Jvm.MethodName) prog_1_method_17_code (4 : Nat) (Option.some Jvm.ClassFile.FieldType.int)) ∈ lw_all := lw_g (lw_at lw_m10 181 rfl) rfl
theorem q2414 : (Jvm.Cond.methodLink "BraidedFerry" (164 : Nat) ({ cls := "BraidedFerry$River", name := "channel", desc := "(I)LBraidedFerry$Channel;" } : Jvm.MethodName)) ∈ lw_all := lw_g (lw_at lw_m10 182 rfl) rfl
theorem q2415 : (Jvm.Cond.methodLink "BraidedFerry" (64 : Nat) ({ cls := "BraidedFerry", name := "inRange", desc := "(III)Z" } : Jvm.MethodName)) ∈ lw_all := lw_g (lw_at lw_m10 183 rfl) rfl
theorem q2416 : (Jvm.Cond.methodLink "BraidedFerry" (68 : Nat) ({ cls := "BraidedFerry", name := "require", desc := "(Z)V" } : Jvm.MethodName)) ∈ lw_all := lw_g (lw_at lw_m10 184 rfl) rfl
theorem q2417 : (Jvm.Cond.methodLink "BraidedFerry" (182 : Nat) ({ cls := "BraidedFerry$River", name := "flow", desc := "(II)I" } : Jvm.MethodName)) ∈ lw_all := lw_g (lw_at lw_m10 185 rfl) rfl
theorem q2418 : (Jvm.Cond.methodLink "BraidedFerry" (185 : Nat) ({ cls := "BraidedFerry$River", name := "anchorsIn", desc := "(IZ)I" } : Jvm.MethodName)) ∈ lw_all := lw_g (lw_at lw_m10 186 rfl) rfl
theorem q2422 : (Jvm.Cond.methodLink "BraidedFerry" (189 : Nat) ({ cls := "BraidedFerry$River", name := "leastDrag", desc := "(I)I" } : Jvm.MethodName)) ∈ lw_all := lw_g (lw_at lw_m10 190 rfl) rfl
theorem q2427 : (Jvm.Cond.instanceMethod ({ cls := "BraidedFerry", name := "flood", desc := "(III)I" } : Jvm.MethodName)) ∈ lw_all := lw_g (lw_at lw_m10 195 rfl) rfl
theorem q2428 : (Jvm.Cond.selects "BraidedFerry" ({ cls := "BraidedFerry", name := "flood", desc := "(III)I" } : Jvm.MethodName) ({ cls := "BraidedFerry", name := "flood", desc := "(III)I" } : Jvm.MethodName)) ∈ lw_all := lw_g (lw_at lw_m10 196 rfl) rfl
theorem q2429 : (Jvm.Cond.code ({ cls := "BraidedFerry", name := "flood", desc := "(III)I" } : Jvm.MethodName) prog_1_method_18_code (4 : Nat) (Option.some Jvm.ClassFile.FieldType.int)) ∈ lw_all := lw_g (lw_at lw_m10 197 rfl) rfl
theorem q2430 : (Jvm.Cond.classLink "BraidedFerry" (193 : Nat) "BraidedFerry$Flooding") ∈ lw_all := lw_g (lw_at lw_m10 198 rfl) rfl
theorem q2432 : (Jvm.Cond.methodLink "BraidedFerry" (195 : Nat) ({ cls := "BraidedFerry$Flooding", name := "<init>", desc := "(III)V" } : Jvm.MethodName)) ∈ lw_all := lw_g (lw_at lw_m10 200 rfl) rfl
theorem q2448 : (Jvm.Cond.instanceMethod ({ cls := "BraidedFerry", name := "flow", desc := "(II)I" } : Jvm.MethodName)) ∈ lw_all := lw_g (lw_at lw_m10 216 rfl) rfl
theorem q2449 : (Jvm.Cond.selects "BraidedFerry" ({ cls := "BraidedFerry", name := "flow", desc := "(II)I" } : Jvm.MethodName) ({ cls := "BraidedFerry", name := "flow", desc := "(II)I" } : Jvm.MethodName)) ∈ lw_all := lw_g (lw_at lw_m10 217 rfl) rfl
theorem q2450 : (Jvm.Cond.code ({ cls := "BraidedFerry", name := "flow", desc := "(II)I" } : Jvm.MethodName) prog_1_method_19_code (4 : Nat) (Option.some Jvm.ClassFile.FieldType.int)) ∈ lw_all := lw_g (lw_at lw_m10 218 rfl) rfl
theorem q2455 : (Jvm.Cond.instanceMethod ({ cls := "BraidedFerry", name := "anchor", desc := "(II)I" } : Jvm.MethodName)) ∈ lw_all := lw_g (lw_at lw_m10 223 rfl) rfl
theorem q2456 : (Jvm.Cond.selects "BraidedFerry" ({ cls := "BraidedFerry", name := "anchor", desc := "(II)I" } : Jvm.MethodName) ({ cls := "BraidedFerry", name := "anchor", desc := "(II)I" } : Jvm.MethodName)) ∈ lw_all := lw_g (lw_at lw_m10 224 rfl) rfl
theorem q2457 : (Jvm.Cond.code ({ cls := "BraidedFerry", name := "anchor", desc := "(II)I" } : Jvm.MethodName) prog_1_method_20_code (3 : Nat) (Option.some Jvm.ClassFile.FieldType.int)) ∈ lw_all := lw_g (lw_at lw_m10 225 rfl) rfl
theorem q2458 : (Jvm.Cond.classLink "BraidedFerry" (196 : Nat) "BraidedFerry$Anchoring") ∈ lw_all := lw_g (lw_at lw_m10 226 rfl) rfl
theorem q2460 : (Jvm.Cond.methodLink "BraidedFerry" (198 : Nat) ({ cls := "BraidedFerry$Anchoring", name := "<init>", desc := "(II)V" } : Jvm.MethodName)) ∈ lw_all := lw_g (lw_at lw_m10 228 rfl) rfl
theorem q2471 : (Jvm.Cond.instanceMethod ({ cls := "BraidedFerry", name := "weigh", desc := "(I)I" } : Jvm.MethodName)) ∈ lw_all := lw_g (lw_at lw_m10 239 rfl) rfl
theorem q2472 : (Jvm.Cond.selects "BraidedFerry" ({ cls := "BraidedFerry", name := "weigh", desc := "(I)I" } : Jvm.MethodName) ({ cls := "BraidedFerry", name := "weigh", desc := "(I)I" } : Jvm.MethodName)) ∈ lw_all := lw_g (lw_at lw_m11 0 rfl) rfl
theorem q2473 : (Jvm.Cond.code ({ cls := "BraidedFerry", name := "weigh", desc := "(I)I" } : Jvm.MethodName) prog_1_method_21_code (2 : Nat) (Option.some Jvm.ClassFile.FieldType.int)) ∈ lw_all := lw_g (lw_at lw_m11 1 rfl) rfl
theorem q2474 : (Jvm.Cond.classLink "BraidedFerry" (199 : Nat) "BraidedFerry$Weighing") ∈ lw_all := lw_g (lw_at lw_m11 2 rfl) rfl
theorem q2476 : (Jvm.Cond.methodLink "BraidedFerry" (201 : Nat) ({ cls := "BraidedFerry$Weighing", name := "<init>", desc := "(I)V" } : Jvm.MethodName)) ∈ lw_all := lw_g (lw_at lw_m11 4 rfl) rfl
theorem q2497 : (Jvm.Cond.instanceMethod ({ cls := "BraidedFerry", name := "anchorOf", desc := "(II)I" } : Jvm.MethodName)) ∈ lw_all := lw_g (lw_at lw_m11 25 rfl) rfl
theorem q2498 : (Jvm.Cond.selects "BraidedFerry" ({ cls := "BraidedFerry", name := "anchorOf", desc := "(II)I" } : Jvm.MethodName) ({ cls := "BraidedFerry", name := "anchorOf", desc := "(II)I" } : Jvm.MethodName)) ∈ lw_all := lw_g (lw_at lw_m11 26 rfl) rfl
theorem q2499 : (Jvm.Cond.code ({ cls := "BraidedFerry", name := "anchorOf", desc := "(II)I" } : Jvm.MethodName) prog_1_method_22_code (4 : Nat) (Option.some Jvm.ClassFile.FieldType.int)) ∈ lw_all := lw_g (lw_at lw_m11 27 rfl) rfl
theorem q2500 : (Jvm.Cond.methodLink "BraidedFerry" (204 : Nat) ({ cls := "BraidedFerry$River", name := "anchor", desc := "(I)LBraidedFerry$Anchor;" } : Jvm.MethodName)) ∈ lw_all := lw_g (lw_at lw_m11 28 rfl) rfl
theorem q2501 : (Jvm.Cond.methodLink "BraidedFerry" (218 : Nat) ({ cls := "BraidedFerry$River", name := "hold", desc := "(LBraidedFerry$Anchor;)I" } : Jvm.MethodName)) ∈ lw_all := lw_g (lw_at lw_m11 29 rfl) rfl
theorem q2502 : (Jvm.Cond.methodLink "BraidedFerry" (222 : Nat) ({ cls := "BraidedFerry$River", name := "pull", desc := "(LBraidedFerry$Anchor;I)I" } : Jvm.MethodName)) ∈ lw_all := lw_g (lw_at lw_m11 30 rfl) rfl
theorem q2503 : (Jvm.Cond.methodLink "BraidedFerry" (226 : Nat) ({ cls := "BraidedFerry$Anchor", name := "holds", desc := "()Z" } : Jvm.MethodName)) ∈ lw_all := lw_g (lw_at lw_m11 31 rfl) rfl
theorem q2508 : (Jvm.Cond.instanceMethod ({ cls := "BraidedFerry", name := "dragIn", desc := "(II)I" } : Jvm.MethodName)) ∈ lw_all := lw_g (lw_at lw_m11 36 rfl) rfl
theorem q2509 : (Jvm.Cond.selects "BraidedFerry" ({ cls := "BraidedFerry", name := "dragIn", desc := "(II)I" } : Jvm.MethodName) ({ cls := "BraidedFerry", name := "dragIn", desc := "(II)I" } : Jvm.MethodName)) ∈ lw_all := lw_g (lw_at lw_m11 37 rfl) rfl
theorem q2510 : (Jvm.Cond.code ({ cls := "BraidedFerry", name := "dragIn", desc := "(II)I" } : Jvm.MethodName) prog_1_method_23_code (4 : Nat) (Option.some Jvm.ClassFile.FieldType.int)) ∈ lw_all := lw_g (lw_at lw_m11 38 rfl) rfl
theorem q2511 : (Jvm.Cond.methodLink "BraidedFerry" (229 : Nat) ({ cls := "BraidedFerry$River", name := "dragIn", desc := "(LBraidedFerry$Anchor;I)I" } : Jvm.MethodName)) ∈ lw_all := lw_g (lw_at lw_m11 39 rfl) rfl
theorem q2519 : (Jvm.Cond.instanceMethod ({ cls := "BraidedFerry", name := "dragAgain", desc := "(II)I" } : Jvm.MethodName)) ∈ lw_all := lw_g (lw_at lw_m11 47 rfl) rfl
theorem q2520 : (Jvm.Cond.selects "BraidedFerry" ({ cls := "BraidedFerry", name := "dragAgain", desc := "(II)I" } : Jvm.MethodName) ({ cls := "BraidedFerry", name := "dragAgain", desc := "(II)I" } : Jvm.MethodName)) ∈ lw_all := lw_g (lw_at lw_m11 48 rfl) rfl
theorem q2521 : (Jvm.Cond.code ({ cls := "BraidedFerry", name := "dragAgain", desc := "(II)I" } : Jvm.MethodName) prog_1_method_24_code (4 : Nat) (Option.some Jvm.ClassFile.FieldType.int)) ∈ lw_all := lw_g (lw_at lw_m11 49 rfl) rfl
theorem q2522 : (Jvm.Cond.methodLink "BraidedFerry" (232 : Nat) ({ cls := "BraidedFerry$River", name := "dragAgain", desc := "(LBraidedFerry$Anchor;I)I" } : Jvm.MethodName)) ∈ lw_all := lw_g (lw_at lw_m11 50 rfl) rfl
theorem q2534 : (Jvm.Cond.instanceMethod ({ cls := "BraidedFerry", name := "come", desc := "(IIII)I" } : Jvm.MethodName)) ∈ lw_all := lw_g (lw_at lw_m11 62 rfl) rfl
theorem q2535 : (Jvm.Cond.selects "BraidedFerry" ({ cls := "BraidedFerry", name := "come", desc := "(IIII)I" } : Jvm.MethodName) ({ cls := "BraidedFerry", name := "come", desc := "(IIII)I" } : Jvm.MethodName)) ∈ lw_all := lw_g (lw_at lw_m11 63 rfl) rfl
theorem q2536 : (Jvm.Cond.code ({ cls := "BraidedFerry", name := "come", desc := "(IIII)I" } : Jvm.MethodName) prog_1_method_25_code (5 : Nat) (Option.some Jvm.ClassFile.FieldType.int)) ∈ lw_all := lw_g (lw_at lw_m11 64 rfl) rfl
theorem q2537 : (Jvm.Cond.classLink "BraidedFerry" (235 : Nat) "BraidedFerry$Coming") ∈ lw_all := lw_g (lw_at lw_m11 65 rfl) rfl
theorem q2539 : (Jvm.Cond.methodLink "BraidedFerry" (237 : Nat) ({ cls := "BraidedFerry$Coming", name := "<init>", desc := "(IIII)V" } : Jvm.MethodName)) ∈ lw_all := lw_g (lw_at lw_m11 67 rfl) rfl
theorem q2556 : (Jvm.Cond.instanceMethod ({ cls := "BraidedFerry", name := "group", desc := "(IIII)I" } : Jvm.MethodName)) ∈ lw_all := lw_g (lw_at lw_m11 84 rfl) rfl
theorem q2557 : (Jvm.Cond.selects "BraidedFerry" ({ cls := "BraidedFerry", name := "group", desc := "(IIII)I" } : Jvm.MethodName) ({ cls := "BraidedFerry", name := "group", desc := "(IIII)I" } : Jvm.MethodName)) ∈ lw_all := lw_g (lw_at lw_m11 85 rfl) rfl
theorem q2558 : (Jvm.Cond.code ({ cls := "BraidedFerry", name := "group", desc := "(IIII)I" } : Jvm.MethodName) prog_1_method_26_code (7 : Nat) (Option.some Jvm.ClassFile.FieldType.int)) ∈ lw_all := lw_g (lw_at lw_m11 86 rfl) rfl
theorem q2559 : (Jvm.Cond.methodLink "BraidedFerry" (240 : Nat) ({ cls := "BraidedFerry$River", name := "stop", desc := "(I)I" } : Jvm.MethodName)) ∈ lw_all := lw_g (lw_at lw_m11 87 rfl) rfl
theorem q2560 : (Jvm.Cond.classLink "BraidedFerry" (243 : Nat) "BraidedFerry$Group") ∈ lw_all := lw_g (lw_at lw_m11 88 rfl) rfl
theorem q2561 : (Jvm.Cond.methodLink "BraidedFerry" (245 : Nat) ({ cls := "BraidedFerry$Group", name := "<init>", desc := "(III)V" } : Jvm.MethodName)) ∈ lw_all := lw_g (lw_at lw_m11 89 rfl) rfl
theorem q2562 : (Jvm.Cond.methodLink "BraidedFerry" (250 : Nat) ({ cls := "BraidedFerry$Tally", name := "of", desc := "(LBraidedFerry$Weighed;)I" } : Jvm.MethodName)) ∈ lw_all := lw_g (lw_at lw_m11 90 rfl) rfl
theorem q2567 : (Jvm.Cond.instanceMethod ({ cls := "BraidedFerry", name := "board", desc := "(IIIZ)I" } : Jvm.MethodName)) ∈ lw_all := lw_g (lw_at lw_m11 95 rfl) rfl
theorem q2568 : (Jvm.Cond.selects "BraidedFerry" ({ cls := "BraidedFerry", name := "board", desc := "(IIIZ)I" } : Jvm.MethodName) ({ cls := "BraidedFerry", name := "board", desc := "(IIIZ)I" } : Jvm.MethodName)) ∈ lw_all := lw_g (lw_at lw_m11 96 rfl) rfl
theorem q2569 : (Jvm.Cond.code ({ cls := "BraidedFerry", name := "board", desc := "(IIIZ)I" } : Jvm.MethodName) prog_1_method_27_code (5 : Nat) (Option.some Jvm.ClassFile.FieldType.int)) ∈ lw_all := lw_g (lw_at lw_m11 97 rfl) rfl
theorem q2570 : (Jvm.Cond.classLink "BraidedFerry" (262 : Nat) "BraidedFerry$Boarding") ∈ lw_all := lw_g (lw_at lw_m11 98 rfl) rfl
theorem q2572 : (Jvm.Cond.methodLink "BraidedFerry" (264 : Nat) ({ cls := "BraidedFerry$Boarding", name := "<init>", desc := "(IIII)V" } : Jvm.MethodName)) ∈ lw_all := lw_g (lw_at lw_m11 100 rfl) rfl
theorem q2589 : (Jvm.Cond.instanceMethod ({ cls := "BraidedFerry", name := "fare", desc := "(II)I" } : Jvm.MethodName)) ∈ lw_all := lw_g (lw_at lw_m11 117 rfl) rfl
theorem q2590 : (Jvm.Cond.selects "BraidedFerry" ({ cls := "BraidedFerry", name := "fare", desc := "(II)I" } : Jvm.MethodName) ({ cls := "BraidedFerry", name := "fare", desc := "(II)I" } : Jvm.MethodName)) ∈ lw_all := lw_g (lw_at lw_m11 118 rfl) rfl
theorem q2591 : (Jvm.Cond.code ({ cls := "BraidedFerry", name := "fare", desc := "(II)I" } : Jvm.MethodName) prog_1_method_29_code (3 : Nat) (Option.some Jvm.ClassFile.FieldType.int)) ∈ lw_all := lw_g (lw_at lw_m11 119 rfl) rfl
theorem q2592 : (Jvm.Cond.classLink "BraidedFerry" (268 : Nat) "BraidedFerry$Pricing") ∈ lw_all := lw_g (lw_at lw_m11 120 rfl) rfl
theorem q2594 : (Jvm.Cond.methodLink "BraidedFerry" (270 : Nat) ({ cls := "BraidedFerry$Pricing", name := "<init>", desc := "(II)V" } : Jvm.MethodName)) ∈ lw_all := lw_g (lw_at lw_m11 122 rfl) rfl
theorem q2598 : (Jvm.Cond.static ({ cls := "BraidedFerry", name := "kindIn", desc := "(I)I" } : Jvm.MethodName)) ∈ lw_all := lw_g (lw_at lw_m11 126 rfl) rfl
theorem q2599 : (Jvm.Cond.code ({ cls := "BraidedFerry", name := "kindIn", desc := "(I)I" } : Jvm.MethodName) prog_1_method_8_code (1 : Nat) (Option.some Jvm.ClassFile.FieldType.int)) ∈ lw_all := lw_g (lw_at lw_m11 127 rfl) rfl
theorem q2610 : (Jvm.Cond.instanceMethod ({ cls := "BraidedFerry", name := "line", desc := "(I)I" } : Jvm.MethodName)) ∈ lw_all := lw_g (lw_at lw_m11 138 rfl) rfl
theorem q2611 : (Jvm.Cond.selects "BraidedFerry" ({ cls := "BraidedFerry", name := "line", desc := "(I)I" } : Jvm.MethodName) ({ cls := "BraidedFerry", name := "line", desc := "(I)I" } : Jvm.MethodName)) ∈ lw_all := lw_g (lw_at lw_m11 139 rfl) rfl
theorem q2612 : (Jvm.Cond.code ({ cls := "BraidedFerry", name := "line", desc := "(I)I" } : Jvm.MethodName) prog_1_method_30_code (7 : Nat) (Option.some Jvm.ClassFile.FieldType.int)) ∈ lw_all := lw_g (lw_at lw_m11 140 rfl) rfl
theorem q2613 : (Jvm.Cond.methodLink "BraidedFerry" (275 : Nat) ({ cls := "java/util/LinkedHashMap", name := "entrySet", desc := "()Ljava/util/Set;" } : Jvm.MethodName)) ∈ lw_all := lw_g (lw_at lw_m11 141 rfl) rfl
theorem q2614 : (Jvm.Cond.methodLink "BraidedFerry" (281 : Nat) ({ cls := "java/lang/StringBuilder", name := "length", desc := "()I" } : Jvm.MethodName)) ∈ lw_all := lw_g (lw_at lw_m11 142 rfl) rfl
theorem q2615 : (Jvm.Cond.stringRef "BraidedFerry" (284 : Nat) ", ") ∈ lw_tbl := lw_at lw_m11 143 rfl
theorem q2616 : (Jvm.Cond.methodLink "BraidedFerry" (286 : Nat) ({ cls := "java/lang/StringBuilder", name := "append", desc := "(Ljava/lang/String;)Ljava/lang/StringBuilder;" } : Jvm.MethodName)) ∈ lw_all := lw_g (lw_at lw_m11 144 rfl) rfl
theorem q2617 : (Jvm.Cond.methodLink "BraidedFerry" (293 : Nat) ({ cls := "BraidedFerry$Weighed", name := "nameOf", desc := "(I)Ljava/lang/String;" } : Jvm.MethodName)) ∈ lw_all := lw_g (lw_at lw_m11 145 rfl) rfl
theorem q2623 : (Jvm.Cond.stringRef "BraidedFerry" (297 : Nat) " to ") ∈ lw_tbl := lw_at lw_m11 151 rfl
theorem q2624 : (Jvm.Cond.methodLink "BraidedFerry" (302 : Nat) ({ cls := "java/lang/StringBuilder", name := "append", desc := "(I)Ljava/lang/StringBuilder;" } : Jvm.MethodName)) ∈ lw_all := lw_g (lw_at lw_m11 152 rfl) rfl
theorem q2625 : (Jvm.Cond.stringRef "BraidedFerry" (305 : Nat) " x") ∈ lw_tbl := lw_at lw_m11 153 rfl
theorem q2626 : (Jvm.Cond.methodLink "BraidedFerry" (307 : Nat) ({ cls := "java/lang/StringBuilder", name := "append", desc := "(Ljava/lang/Object;)Ljava/lang/StringBuilder;" } : Jvm.MethodName)) ∈ lw_all := lw_g (lw_at lw_m11 154 rfl) rfl
theorem q2638 : (Jvm.Cond.selects "BraidedFerry" ({ cls := "java/lang/Object", name := "toString", desc := "()Ljava/lang/String;" } : Jvm.MethodName) ({ cls := "java/lang/Object", name := "toString", desc := "()Ljava/lang/String;" } : Jvm.MethodName)) ∈ lw_all := lw_g (lw_at lw_m11 166 rfl) rfl
theorem q2728 : (Jvm.Cond.stringRef "BraidedFerry" (310 : Nat) "nobody") ∈ lw_tbl := lw_at lw_m12 16 rfl
theorem q2729 : (Jvm.Cond.interfaceEntry "BraidedFerry" (312 : Nat)) ∈ lw_tbl := lw_at lw_m12 17 rfl
theorem q2730 : (Jvm.Cond.methodLink "BraidedFerry" (312 : Nat) ({ cls := "java/lang/CharSequence", name := "length", desc := "()I" } : Jvm.MethodName)) ∈ lw_all := lw_g (lw_at lw_m12 18 rfl) rfl
theorem q2745 : (Jvm.Cond.instanceMethod ({ cls := "BraidedFerry", name := "character", desc := "(I)C" } : Jvm.MethodName)) ∈ lw_all := lw_g (lw_at lw_m12 33 rfl) rfl
theorem q2746 : (Jvm.Cond.selects "BraidedFerry" ({ cls := "BraidedFerry", name := "character", desc := "(I)C" } : Jvm.MethodName) ({ cls := "BraidedFerry", name := "character", desc := "(I)C" } : Jvm.MethodName)) ∈ lw_all := lw_g (lw_at lw_m12 34 rfl) rfl
theorem q2747 : (Jvm.Cond.code ({ cls := "BraidedFerry", name := "character", desc := "(I)C" } : Jvm.MethodName) prog_1_method_31_code (2 : Nat) (Option.some Jvm.ClassFile.FieldType.char)) ∈ lw_all := lw_g (lw_at lw_m12 35 rfl) rfl
theorem q2748 : (Jvm.Cond.methodLink "BraidedFerry" (315 : Nat) ({ cls := "BraidedFerry", name := "requireIndex", desc := "(Z)V" } : Jvm.MethodName)) ∈ lw_all := lw_g (lw_at lw_m12 36 rfl) rfl
theorem q2749 : (Jvm.Cond.interfaceEntry "BraidedFerry" (318 : Nat)) ∈ lw_tbl := lw_at lw_m12 37 rfl
theorem q2750 : (Jvm.Cond.methodLink "BraidedFerry" (318 : Nat) ({ cls := "java/lang/CharSequence", name := "charAt", desc := "(I)C" } : Jvm.MethodName)) ∈ lw_all := lw_g (lw_at lw_m12 38 rfl) rfl
theorem q2788 : (Jvm.Cond.instanceMethod ({ cls := "BraidedFerry", name := "busiest", desc := "()I" } : Jvm.MethodName)) ∈ lw_all := lw_g (lw_at lw_m12 76 rfl) rfl
theorem q2789 : (Jvm.Cond.selects "BraidedFerry" ({ cls := "BraidedFerry", name := "busiest", desc := "()I" } : Jvm.MethodName) ({ cls := "BraidedFerry", name := "busiest", desc := "()I" } : Jvm.MethodName)) ∈ lw_all := lw_g (lw_at lw_m12 77 rfl) rfl
theorem q2790 : (Jvm.Cond.code ({ cls := "BraidedFerry", name := "busiest", desc := "()I" } : Jvm.MethodName) prog_1_method_33_code (3 : Nat) (Option.some Jvm.ClassFile.FieldType.int)) ∈ lw_all := lw_g (lw_at lw_m12 78 rfl) rfl
theorem q2791 : (Jvm.Cond.methodLink "BraidedFerry" (332 : Nat) ({ cls := "BraidedFerry$Tally", name := "all", desc := "()I" } : Jvm.MethodName)) ∈ lw_all := lw_g (lw_at lw_m12 79 rfl) rfl
theorem q2795 : (Jvm.Cond.methodLink "BraidedFerry" (335 : Nat) ({ cls := "BraidedFerry", name := "requireElement", desc := "(Z)V" } : Jvm.MethodName)) ∈ lw_all := lw_g (lw_at lw_m12 83 rfl) rfl
theorem q2796 : (Jvm.Cond.static ({ cls := "BraidedFerry", name := "requireElement", desc := "(Z)V" } : Jvm.MethodName)) ∈ lw_all := lw_g (lw_at lw_m12 84 rfl) rfl
theorem q2797 : (Jvm.Cond.code ({ cls := "BraidedFerry", name := "requireElement", desc := "(Z)V" } : Jvm.MethodName) prog_1_method_5_code (1 : Nat) (Option.none : Option Jvm.ClassFile.FieldType)) ∈ lw_all := lw_g (lw_at lw_m12 85 rfl) rfl
theorem q2798 : (Jvm.Cond.classLink "BraidedFerry" (13 : Nat) "java/util/NoSuchElementException") ∈ lw_all := lw_g (lw_at lw_m12 86 rfl) rfl
theorem q2799 : (Jvm.Cond.methodLink "BraidedFerry" (15 : Nat) ({ cls := "java/util/NoSuchElementException", name := "<init>", desc := "()V" } : Jvm.MethodName)) ∈ lw_all := lw_g (lw_at lw_m12 87 rfl) rfl
theorem q2800 : (Jvm.Cond.methodLink "BraidedFerry" (345 : Nat) ({ cls := "BraidedFerry", name := "isBusier", desc := "(II)Z" } : Jvm.MethodName)) ∈ lw_all := lw_g (lw_at lw_m12 88 rfl) rfl
theorem q2801 : (Jvm.Cond.privateMethod ({ cls := "BraidedFerry", name := "isBusier", desc := "(II)Z" } : Jvm.MethodName)) ∈ lw_tbl := lw_at lw_m12 89 rfl
theorem q2802 : (Jvm.Cond.instanceMethod ({ cls := "BraidedFerry", name := "isBusier", desc := "(II)Z" } : Jvm.MethodName)) ∈ lw_all := lw_g (lw_at lw_m12 90 rfl) rfl
theorem q2803 : (Jvm.Cond.code ({ cls := "BraidedFerry", name := "isBusier", desc := "(II)Z" } : Jvm.MethodName) prog_1_method_32_code (4 : Nat) (Option.some Jvm.ClassFile.FieldType.boolean)) ∈ lw_all := lw_g (lw_at lw_m12 91 rfl) rfl
theorem q2804 : (Jvm.Cond.methodLink "BraidedFerry" (322 : Nat) ({ cls := "BraidedFerry$River", name := "waitingAt", desc := "(I)I" } : Jvm.MethodName)) ∈ lw_all := lw_g (lw_at lw_m12 92 rfl) rfl
theorem q2808 : (Jvm.Cond.methodLink "BraidedFerry" (327 : Nat) ({ cls := "java/lang/Math", name := "abs", desc := "(I)I" } : Jvm.MethodName)) ∈ lw_all := lw_g (lw_at lw_m12 96 rfl) rfl
theorem q2813 : (Jvm.Cond.instanceMethod ({ cls := "BraidedFerry", name := "rope", desc := "(I)I" } : Jvm.MethodName)) ∈ lw_all := lw_g (lw_at lw_m12 101 rfl) rfl
theorem q2814 : (Jvm.Cond.selects "BraidedFerry" ({ cls := "BraidedFerry", name := "rope", desc := "(I)I" } : Jvm.MethodName) ({ cls := "BraidedFerry", name := "rope", desc := "(I)I" } : Jvm.MethodName)) ∈ lw_all := lw_g (lw_at lw_m12 102 rfl) rfl
theorem q2815 : (Jvm.Cond.code ({ cls := "BraidedFerry", name := "rope", desc := "(I)I" } : Jvm.MethodName) prog_1_method_34_code (2 : Nat) (Option.some Jvm.ClassFile.FieldType.int)) ∈ lw_all := lw_g (lw_at lw_m12 103 rfl) rfl
theorem q2816 : (Jvm.Cond.classLink "BraidedFerry" (349 : Nat) "BraidedFerry$Roping") ∈ lw_all := lw_g (lw_at lw_m12 104 rfl) rfl
theorem q2818 : (Jvm.Cond.methodLink "BraidedFerry" (351 : Nat) ({ cls := "BraidedFerry$Roping", name := "<init>", desc := "(I)V" } : Jvm.MethodName)) ∈ lw_all := lw_g (lw_at lw_m12 106 rfl) rfl
theorem q2830 : (Jvm.Cond.instanceMethod ({ cls := "BraidedFerry", name := "cross", desc := "(Z)I" } : Jvm.MethodName)) ∈ lw_all := lw_g (lw_at lw_m12 118 rfl) rfl
theorem q2831 : (Jvm.Cond.selects "BraidedFerry" ({ cls := "BraidedFerry", name := "cross", desc := "(Z)I" } : Jvm.MethodName) ({ cls := "BraidedFerry", name := "cross", desc := "(Z)I" } : Jvm.MethodName)) ∈ lw_all := lw_g (lw_at lw_m12 119 rfl) rfl
theorem q2832 : (Jvm.Cond.code ({ cls := "BraidedFerry", name := "cross", desc := "(Z)I" } : Jvm.MethodName) prog_1_method_35_code (2 : Nat) (Option.some Jvm.ClassFile.FieldType.int)) ∈ lw_all := lw_g (lw_at lw_m12 120 rfl) rfl
theorem q2833 : (Jvm.Cond.classLink "BraidedFerry" (352 : Nat) "BraidedFerry$Crossing") ∈ lw_all := lw_g (lw_at lw_m12 121 rfl) rfl
theorem q2835 : (Jvm.Cond.methodLink "BraidedFerry" (354 : Nat) ({ cls := "BraidedFerry$Crossing", name := "<init>", desc := "(Z)V" } : Jvm.MethodName)) ∈ lw_all := lw_g (lw_at lw_m12 123 rfl) rfl
theorem q2847 : (Jvm.Cond.instanceMethod ({ cls := "BraidedFerry", name := "pass", desc := "(I)I" } : Jvm.MethodName)) ∈ lw_all := lw_g (lw_at lw_m12 135 rfl) rfl
theorem q2848 : (Jvm.Cond.selects "BraidedFerry" ({ cls := "BraidedFerry", name := "pass", desc := "(I)I" } : Jvm.MethodName) ({ cls := "BraidedFerry", name := "pass", desc := "(I)I" } : Jvm.MethodName)) ∈ lw_all := lw_g (lw_at lw_m12 136 rfl) rfl
theorem q2849 : (Jvm.Cond.code ({ cls := "BraidedFerry", name := "pass", desc := "(I)I" } : Jvm.MethodName) prog_1_method_37_code (2 : Nat) (Option.some Jvm.ClassFile.FieldType.int)) ∈ lw_all := lw_g (lw_at lw_m12 137 rfl) rfl
theorem q2850 : (Jvm.Cond.classLink "BraidedFerry" (359 : Nat) "BraidedFerry$Passing") ∈ lw_all := lw_g (lw_at lw_m12 138 rfl) rfl
theorem q2852 : (Jvm.Cond.methodLink "BraidedFerry" (361 : Nat) ({ cls := "BraidedFerry$Passing", name := "<init>", desc := "(I)V" } : Jvm.MethodName)) ∈ lw_all := lw_g (lw_at lw_m12 140 rfl) rfl
theorem q2862 : (Jvm.Cond.instanceMethod ({ cls := "BraidedFerry", name := "number", desc := "(I)I" } : Jvm.MethodName)) ∈ lw_all := lw_g (lw_at lw_m12 150 rfl) rfl
theorem q2863 : (Jvm.Cond.selects "BraidedFerry" ({ cls := "BraidedFerry", name := "number", desc := "(I)I" } : Jvm.MethodName) ({ cls := "BraidedFerry", name := "number", desc := "(I)I" } : Jvm.MethodName)) ∈ lw_all := lw_g (lw_at lw_m12 151 rfl) rfl
theorem q2864 : (Jvm.Cond.code ({ cls := "BraidedFerry", name := "number", desc := "(I)I" } : Jvm.MethodName) prog_1_method_39_code (2 : Nat) (Option.some Jvm.ClassFile.FieldType.int)) ∈ lw_all := lw_g (lw_at lw_m12 152 rfl) rfl
theorem q2865 : (Jvm.Cond.methodLink "BraidedFerry" (372 : Nat) ({ cls := "BraidedFerry$Tally", name := "weight", desc := "()I" } : Jvm.MethodName)) ∈ lw_all := lw_g (lw_at lw_m12 153 rfl) rfl
theorem q2866 : (Jvm.Cond.methodLink "BraidedFerry" (382 : Nat) ({ cls := "BraidedFerry", name := "width", desc := "()I" } : Jvm.MethodName)) ∈ lw_all := lw_g (lw_at lw_m12 154 rfl) rfl
theorem q2867 : (Jvm.Cond.privateMethod ({ cls := "BraidedFerry", name := "width", desc := "()I" } : Jvm.MethodName)) ∈ lw_tbl := lw_at lw_m12 155 rfl
theorem q2868 : (Jvm.Cond.instanceMethod ({ cls := "BraidedFerry", name := "width", desc := "()I" } : Jvm.MethodName)) ∈ lw_all := lw_g (lw_at lw_m12 156 rfl) rfl
theorem q2869 : (Jvm.Cond.code ({ cls := "BraidedFerry", name := "width", desc := "()I" } : Jvm.MethodName) prog_1_method_38_code (4 : Nat) (Option.some Jvm.ClassFile.FieldType.int)) ∈ lw_all := lw_g (lw_at lw_m12 157 rfl) rfl
theorem q2870 : (Jvm.Cond.interfaceEntry "BraidedFerry" (362 : Nat)) ∈ lw_tbl := lw_at lw_m12 158 rfl
theorem q2871 : (Jvm.Cond.methodLink "BraidedFerry" (362 : Nat) ({ cls := "java/util/List", name := "iterator", desc := "()Ljava/util/Iterator;" } : Jvm.MethodName)) ∈ lw_all := lw_g (lw_at lw_m12 159 rfl) rfl
theorem q2872 : (Jvm.Cond.classLink "BraidedFerry" (169 : Nat) "BraidedFerry$Channel") ∈ lw_all := lw_g (lw_at lw_m12 160 rfl) rfl
theorem q2891 : (Jvm.Cond.instanceMethod ({ cls := "BraidedFerry", name := "meanFare", desc := "()D" } : Jvm.MethodName)) ∈ lw_all := lw_g (lw_at lw_m12 179 rfl) rfl
theorem q2892 : (Jvm.Cond.selects "BraidedFerry" ({ cls := "BraidedFerry", name := "meanFare", desc := "()D" } : Jvm.MethodName) ({ cls := "BraidedFerry", name := "meanFare", desc := "()D" } : Jvm.MethodName)) ∈ lw_all := lw_g (lw_at lw_m12 180 rfl) rfl
theorem q2893 : (Jvm.Cond.code ({ cls := "BraidedFerry", name := "meanFare", desc := "()D" } : Jvm.MethodName) prog_1_method_40_code (1 : Nat) (Option.some Jvm.ClassFile.FieldType.double)) ∈ lw_all := lw_g (lw_at lw_m12 181 rfl) rfl
theorem q2894 : (Jvm.Cond.classLink "BraidedFerry" (384 : Nat) "java/lang/ArithmeticException") ∈ lw_all := lw_g (lw_at lw_m12 182 rfl) rfl
theorem q2895 : (Jvm.Cond.methodLink "BraidedFerry" (386 : Nat) ({ cls := "java/lang/ArithmeticException", name := "<init>", desc := "()V" } : Jvm.MethodName)) ∈ lw_all := lw_g (lw_at lw_m12 183 rfl) rfl
theorem q2903 : (Jvm.Cond.instanceMethod ({ cls := "BraidedFerry", name := "fore", desc := "()F" } : Jvm.MethodName)) ∈ lw_all := lw_g (lw_at lw_m12 191 rfl) rfl
theorem q2904 : (Jvm.Cond.selects "BraidedFerry" ({ cls := "BraidedFerry", name := "fore", desc := "()F" } : Jvm.MethodName) ({ cls := "BraidedFerry", name := "fore", desc := "()F" } : Jvm.MethodName)) ∈ lw_all := lw_g (lw_at lw_m12 192 rfl) rfl
theorem q2905 : (Jvm.Cond.code ({ cls := "BraidedFerry", name := "fore", desc := "()F" } : Jvm.MethodName) prog_1_method_41_code (1 : Nat) (Option.some Jvm.ClassFile.FieldType.float)) ∈ lw_all := lw_g (lw_at lw_m12 193 rfl) rfl
theorem q2906 : (Jvm.Cond.methodLink "BraidedFerry" (387 : Nat) ({ cls := "BraidedFerry$River", name := "load", desc := "()I" } : Jvm.MethodName)) ∈ lw_all := lw_g (lw_at lw_m12 194 rfl) rfl
theorem q2912 : (Jvm.Cond.instanceMethod ({ cls := "BraidedFerry", name := "feed", desc := "(C)I" } : Jvm.MethodName)) ∈ lw_all := lw_g (lw_at lw_m12 200 rfl) rfl
theorem q2913 : (Jvm.Cond.selects "BraidedFerry" ({ cls := "BraidedFerry", name := "feed", desc := "(C)I" } : Jvm.MethodName) ({ cls := "BraidedFerry", name := "feed", desc := "(C)I" } : Jvm.MethodName)) ∈ lw_all := lw_g (lw_at lw_m12 201 rfl) rfl
theorem q2914 : (Jvm.Cond.code ({ cls := "BraidedFerry", name := "feed", desc := "(C)I" } : Jvm.MethodName) prog_1_method_42_code (2 : Nat) (Option.some Jvm.ClassFile.FieldType.int)) ∈ lw_all := lw_g (lw_at lw_m12 202 rfl) rfl
theorem q2915 : (Jvm.Cond.methodLink "BraidedFerry" (390 : Nat) ({ cls := "BraidedFerry", name := "requireState", desc := "(Z)V" } : Jvm.MethodName)) ∈ lw_all := lw_g (lw_at lw_m12 203 rfl) rfl
theorem q2916 : (Jvm.Cond.static ({ cls := "BraidedFerry", name := "requireState", desc := "(Z)V" } : Jvm.MethodName)) ∈ lw_all := lw_g (lw_at lw_m12 204 rfl) rfl
theorem q2917 : (Jvm.Cond.code ({ cls := "BraidedFerry", name := "requireState", desc := "(Z)V" } : Jvm.MethodName) prog_1_method_4_code (1 : Nat) (Option.none : Option Jvm.ClassFile.FieldType)) ∈ lw_all := lw_g (lw_at lw_m12 205 rfl) rfl
theorem q2918 : (Jvm.Cond.classLink "BraidedFerry" (10 : Nat) "java/lang/IllegalStateException") ∈ lw_all := lw_g (lw_at lw_m12 206 rfl) rfl
theorem q2919 : (Jvm.Cond.methodLink "BraidedFerry" (12 : Nat) ({ cls := "java/lang/IllegalStateException", name := "<init>", desc := "()V" } : Jvm.MethodName)) ∈ lw_all := lw_g (lw_at lw_m12 207 rfl) rfl
theorem q2920 : (Jvm.Cond.methodLink "BraidedFerry" (393 : Nat) ({ cls := "java/lang/StringBuilder", name := "append", desc := "(C)Ljava/lang/StringBuilder;" } : Jvm.MethodName)) ∈ lw_all := lw_g (lw_at lw_m12 208 rfl) rfl
theorem q2937 : (Jvm.Cond.instanceMethod ({ cls := "BraidedFerry", name := "read", desc := "()I" } : Jvm.MethodName)) ∈ lw_all := lw_g (lw_at lw_m12 225 rfl) rfl
theorem q2938 : (Jvm.Cond.selects "BraidedFerry" ({ cls := "BraidedFerry", name := "read", desc := "()I" } : Jvm.MethodName) ({ cls := "BraidedFerry", name := "read", desc := "()I" } : Jvm.MethodName)) ∈ lw_all := lw_g (lw_at lw_m12 226 rfl) rfl
theorem q2939 : (Jvm.Cond.codeWith ({ cls := "BraidedFerry", name := "read", desc := "()I" } : Jvm.MethodName) prog_1_method_45_code (4 : Nat) (Option.some Jvm.ClassFile.FieldType.int) [((22 : Nat), (27 : Nat), (30 : Nat), (16 : Nat))]) ∈ lw_all := lw_g (lw_at lw_m12 227 rfl) rfl
theorem q2940 : (Jvm.Cond.methodLink "BraidedFerry" (413 : Nat) ({ cls := "BraidedFerry", name := "taken", desc := "()Ljava/util/List;" } : Jvm.MethodName)) ∈ lw_all := lw_g (lw_at lw_m12 228 rfl) rfl
theorem q2941 : (Jvm.Cond.privateMethod ({ cls := "BraidedFerry", name := "taken", desc := "()Ljava/util/List;" } : Jvm.MethodName)) ∈ lw_tbl := lw_at lw_m12 229 rfl
theorem q2942 : (Jvm.Cond.instanceMethod ({ cls := "BraidedFerry", name := "taken", desc := "()Ljava/util/List;" } : Jvm.MethodName)) ∈ lw_all := lw_g (lw_at lw_m12 230 rfl) rfl
theorem q2943 : (Jvm.Cond.codeWith ({ cls := "BraidedFerry", name := "taken", desc := "()Ljava/util/List;" } : Jvm.MethodName) prog_1_method_43_code (4 : Nat) (Option.some (Jvm.ClassFile.FieldType.object "java/util/List")) [((0 : Nat), (12 : Nat), (22 : Nat), (408 : Nat)), ((0 : Nat), (12 : Nat), (43 : Nat), (0 : Nat)), ((22 : Nat), (33 : Nat), (43 : Nat), (0 : Nat))]) ∈ lw_all := lw_g (lw_at lw_m12 231 rfl) rfl
theorem q2944 : (Jvm.Cond.classLink "BraidedFerry" (408 : Nat) "BraidedFerry$FaultException") ∈ lw_all := lw_g (lw_at lw_m12 232 rfl) rfl
theorem q2945 : (Jvm.Cond.classLink "BraidedFerry" (396 : Nat) "BraidedFerry$Parser") ∈ lw_all := lw_g (lw_at lw_m12 233 rfl) rfl
theorem q2947 : (Jvm.Cond.methodLinkNest "BraidedFerry" (398 : Nat) ({ cls := "BraidedFerry$Parser", name := "<init>", desc := "(LBraidedFerry;)V" } : Jvm.MethodName) "BraidedFerry") ∈ lw_tbl := lw_at lw_m12 235 rfl
theorem q2958 : (Jvm.Cond.methodLink "BraidedFerry" (401 : Nat) ({ cls := "BraidedFerry$Parser", name := "text", desc := "()Ljava/util/List;" } : Jvm.MethodName)) ∈ lw_all := lw_g (lw_at lw_m13 6 rfl) rfl
theorem q3069 : (Jvm.Cond.fieldLinkNest "BraidedFerry" (410 : Nat) "BraidedFerry$FaultException" "position" "I" "BraidedFerry") ∈ lw_tbl := lw_at lw_m13 117 rfl
theorem q3147 : (Jvm.Cond.methodLink "BraidedFerry" (405 : Nat) ({ cls := "java/lang/StringBuilder", name := "setLength", desc := "(I)V" } : Jvm.MethodName)) ∈ lw_all := lw_g (lw_at lw_m13 195 rfl) rfl
theorem q3199 : (Jvm.Cond.methodLink "BraidedFerry" (416 : Nat) ({ cls := "BraidedFerry", name := "doAll", desc := "(Ljava/util/List;LBraidedFerry$River;)V" } : Jvm.MethodName)) ∈ lw_all := lw_g (lw_at lw_m14 7 rfl) rfl
theorem q3200 : (Jvm.Cond.static ({ cls := "BraidedFerry", name := "doAll", desc := "(Ljava/util/List;LBraidedFerry$River;)V" } : Jvm.MethodName)) ∈ lw_all := lw_g (lw_at lw_m14 8 rfl) rfl
theorem q3201 : (Jvm.Cond.codeWith ({ cls := "BraidedFerry", name := "doAll", desc := "(Ljava/util/List;LBraidedFerry$River;)V" } : Jvm.MethodName) prog_1_method_44_code (6 : Nat) (Option.none : Option Jvm.ClassFile.FieldType) [((29 : Nat), (39 : Nat), (42 : Nat), (7 : Nat)), ((29 : Nat), (39 : Nat), (42 : Nat), (1 : Nat))]) ∈ lw_all := lw_g (lw_at lw_m14 9 rfl) rfl
theorem q3202 : (Jvm.Cond.classLink "BraidedFerry" (134 : Nat) "BraidedFerry$Deed") ∈ lw_all := lw_g (lw_at lw_m14 10 rfl) rfl
theorem q3207 : (Jvm.Cond.instanceMethod ({ cls := "BraidedFerry", name := "faultPosition", desc := "()I" } : Jvm.MethodName)) ∈ lw_all := lw_g (lw_at lw_m14 15 rfl) rfl
theorem q3208 : (Jvm.Cond.selects "BraidedFerry" ({ cls := "BraidedFerry", name := "faultPosition", desc := "()I" } : Jvm.MethodName) ({ cls := "BraidedFerry", name := "faultPosition", desc := "()I" } : Jvm.MethodName)) ∈ lw_all := lw_g (lw_at lw_m14 16 rfl) rfl
theorem q3209 : (Jvm.Cond.code ({ cls := "BraidedFerry", name := "faultPosition", desc := "()I" } : Jvm.MethodName) prog_1_method_46_code (1 : Nat) (Option.some Jvm.ClassFile.FieldType.int)) ∈ lw_all := lw_g (lw_at lw_m14 17 rfl) rfl
theorem q3214 : (Jvm.Cond.instanceMethod ({ cls := "BraidedFerry", name := "refusal", desc := "(Z)I" } : Jvm.MethodName)) ∈ lw_all := lw_g (lw_at lw_m14 22 rfl) rfl
theorem q3215 : (Jvm.Cond.selects "BraidedFerry" ({ cls := "BraidedFerry", name := "refusal", desc := "(Z)I" } : Jvm.MethodName) ({ cls := "BraidedFerry", name := "refusal", desc := "(Z)I" } : Jvm.MethodName)) ∈ lw_all := lw_g (lw_at lw_m14 23 rfl) rfl
theorem q3216 : (Jvm.Cond.code ({ cls := "BraidedFerry", name := "refusal", desc := "(Z)I" } : Jvm.MethodName) prog_1_method_47_code (2 : Nat) (Option.some Jvm.ClassFile.FieldType.int)) ∈ lw_all := lw_g (lw_at lw_m14 24 rfl) rfl
theorem q3221 : (Jvm.Cond.instanceMethod ({ cls := "BraidedFerry", name := "undo", desc := "()I" } : Jvm.MethodName)) ∈ lw_all := lw_g (lw_at lw_m14 29 rfl) rfl
theorem q3222 : (Jvm.Cond.selects "BraidedFerry" ({ cls := "BraidedFerry", name := "undo", desc := "()I" } : Jvm.MethodName) ({ cls := "BraidedFerry", name := "undo", desc := "()I" } : Jvm.MethodName)) ∈ lw_all := lw_g (lw_at lw_m14 30 rfl) rfl
theorem q3223 : (Jvm.Cond.code ({ cls := "BraidedFerry", name := "undo", desc := "()I" } : Jvm.MethodName) prog_1_method_48_code (1 : Nat) (Option.some Jvm.ClassFile.FieldType.int)) ∈ lw_all := lw_g (lw_at lw_m14 31 rfl) rfl
theorem q3224 : (Jvm.Cond.methodLink "BraidedFerry" (420 : Nat) ({ cls := "java/util/ArrayDeque", name := "isEmpty", desc := "()Z" } : Jvm.MethodName)) ∈ lw_all := lw_g (lw_at lw_m14 32 rfl) rfl
theorem q3228 : (Jvm.Cond.methodLink "BraidedFerry" (423 : Nat) ({ cls := "java/util/ArrayDeque", name := "pop", desc := "()Ljava/lang/Object;" } : Jvm.MethodName)) ∈ lw_all := lw_g (lw_at lw_m14 36 rfl) rfl
theorem q3247 : (Jvm.Cond.instanceMethod ({ cls := "BraidedFerry", name := "restoreSnapshot", desc := "()I" } : Jvm.MethodName)) ∈ lw_all := lw_g (lw_at lw_m14 55 rfl) rfl
theorem q3248 : (Jvm.Cond.selects "BraidedFerry" ({ cls := "BraidedFerry", name := "restoreSnapshot", desc := "()I" } : Jvm.MethodName) ({ cls := "BraidedFerry", name := "restoreSnapshot", desc := "()I" } : Jvm.MethodName)) ∈ lw_all := lw_g (lw_at lw_m14 56 rfl) rfl
theorem q3249 : (Jvm.Cond.code ({ cls := "BraidedFerry", name := "restoreSnapshot", desc := "()I" } : Jvm.MethodName) prog_1_method_50_code (1 : Nat) (Option.some Jvm.ClassFile.FieldType.int)) ∈ lw_all := lw_g (lw_at lw_m14 57 rfl) rfl
theorem q3250 : (Jvm.Cond.methodLink "BraidedFerry" (429 : Nat) ({ cls := "java/util/ArrayDeque", name := "clear", desc := "()V" } : Jvm.MethodName)) ∈ lw_all := lw_g (lw_at lw_m14 58 rfl) rfl
theorem q3682 : (Jvm.Cond.castable "BraidedFerry" "java/lang/Object") ∈ lw_tbl := lw_at lw_m16 10 rfl
theorem in_X1 : ∀ w ∈ wsX10, w ∈ lw_all := lw_in wsX10 [368, 370, 372, 374, 376, 378, 380, 382] (by decide +kernel) (by decide +kernel)

