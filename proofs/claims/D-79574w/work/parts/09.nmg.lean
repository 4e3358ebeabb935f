/-! BraidedFerry$Digging -/
set_option maxRecDepth 100000
def RX5 : String := "BraidedFerry$Digging"
def TX5 : u_T := fun k => match k with
  | _ => ("BraidedFerry$Digging", "channel", "LBraidedFerry$Channel;", true)
def tyX5 : Nat → FieldType := fun k => match k with
  | _ => .object "BraidedFerry$Channel"
abbrev wsX50 : List Cond := u_ws RX5 TX5 1
theorem nmX5 : ∀ a, a < 1 → ∀ b, b < 1 → a ≠ b → (TX5 a).2.1 ≠ (TX5 b).2.1 := by decide +kernel
theorem tyX5_ok : ∀ k, k < 1 → parseFieldDescriptor (TX5 k).2.2.1 = some (tyX5 k) := by decide +kernel
abbrev cX5_done : ByteArray := prog_9_method_2_code
def yX5_done : MethodName := ⟨RX5, "done", "(LBraidedFerry$River;)I"⟩
def dkwX5_done_0 : List UInt8 := [43, 42, 180, 0, 22, 182, 0, 28, 172]
abbrev dktX5_done_0 : List UInt8 := dkwX5_done_0 ++ []
theorem dksX5_done_0 : cX5_done.data.toList.drop 0 = dktX5_done_0 := by decide +kernel
theorem dX5_done_0 : decode cX5_done 0 = .ok (.aload_n 1, 1) := dk_43 (dk_at dksX5_done_0 0 rfl rfl)
theorem dX5_done_1 : decode cX5_done 1 = .ok (.aload_n 0, 1) := dk_42 (dk_at dksX5_done_0 1 rfl rfl)
theorem dX5_done_2 : decode cX5_done 2 = .ok (.getfield 22, 3) := dk_180 0 22 (dk_at dksX5_done_0 2 rfl rfl)
theorem dX5_done_5 : decode cX5_done 5 = .ok (.invokevirtual 28, 3) := dk_182 0 28 (dk_at dksX5_done_0 5 rfl rfl)
theorem dX5_done_8 : decode cX5_done 8 = .ok (.ireturn, 1) := dk_172 (dk_at dksX5_done_0 8 rfl rfl)
abbrev cX5_init : ByteArray := prog_9_method_1_code
def yX5_init : MethodName := ⟨RX5, "<init>", "(III)V"⟩
def dkwX5_init_2 : List UInt8 := [187, 0, 17, 89, 27, 28, 29, 183, 0, 19, 181, 0, 22, 177]
abbrev dktX5_init_2 : List UInt8 := dkwX5_init_2 ++ []
def dkwX5_init_1 : List UInt8 := [153, 0, 17, 29, 4, 16, 9, 184, 0, 9, 153, 0, 7, 4, 167, 0, 4, 3, 184, 0, 13, 42]
abbrev dktX5_init_1 : List UInt8 := dkwX5_init_1 ++ dktX5_init_2
def dkwX5_init_0 : List UInt8 := [42, 183, 0, 3, 27, 16, 10, 16, 99, 184, 0, 9, 153, 0, 27, 28, 3, 16, 9, 184, 0, 9]
abbrev dktX5_init_0 : List UInt8 := dkwX5_init_0 ++ dktX5_init_1
theorem dksX5_init_0 : cX5_init.data.toList.drop 0 = dktX5_init_0 := by decide +kernel
theorem dksX5_init_1 : cX5_init.data.toList.drop 22 = dktX5_init_1 := dk_seg dksX5_init_0 22 rfl rfl
theorem dksX5_init_2 : cX5_init.data.toList.drop 44 = dktX5_init_2 := dk_seg dksX5_init_1 22 rfl rfl
theorem dX5_init_0 : decode cX5_init 0 = .ok (.aload_n 0, 1) := dk_42 (dk_at dksX5_init_0 0 rfl rfl)
theorem dX5_init_1 : decode cX5_init 1 = .ok (.invokespecial 3, 3) := dk_183 0 3 (dk_at dksX5_init_0 1 rfl rfl)
theorem dX5_init_4 : decode cX5_init 4 = .ok (.iload_n 1, 1) := dk_27 (dk_at dksX5_init_0 4 rfl rfl)
theorem dX5_init_5 : decode cX5_init 5 = .ok (.bipush 10, 2) := dk_16 10 (dk_at dksX5_init_0 5 rfl rfl)
theorem dX5_init_7 : decode cX5_init 7 = .ok (.bipush 99, 2) := dk_16 99 (dk_at dksX5_init_0 7 rfl rfl)
theorem dX5_init_9 : decode cX5_init 9 = .ok (.invokestatic 9, 3) := dk_184 0 9 (dk_at dksX5_init_0 9 rfl rfl)
theorem dX5_init_12 : decode cX5_init 12 = .ok (.ifCond .eq 27, 3) := dk_153 0 27 (dk_at dksX5_init_0 12 rfl rfl)
theorem dX5_init_15 : decode cX5_init 15 = .ok (.iload_n 2, 1) := dk_28 (dk_at dksX5_init_0 15 rfl rfl)
theorem dX5_init_16 : decode cX5_init 16 = .ok (.iconst 0, 1) := dk_3 (dk_at dksX5_init_0 16 rfl rfl)
theorem dX5_init_17 : decode cX5_init 17 = .ok (.bipush 9, 2) := dk_16 9 (dk_at dksX5_init_0 17 rfl rfl)
theorem dX5_init_19 : decode cX5_init 19 = .ok (.invokestatic 9, 3) := dk_184 0 9 (dk_at dksX5_init_0 19 rfl rfl)
theorem dX5_init_22 : decode cX5_init 22 = .ok (.ifCond .eq 17, 3) := dk_153 0 17 (dk_at dksX5_init_1 0 rfl rfl)
theorem dX5_init_25 : decode cX5_init 25 = .ok (.iload_n 3, 1) := dk_29 (dk_at dksX5_init_1 3 rfl rfl)
theorem dX5_init_26 : decode cX5_init 26 = .ok (.iconst 1, 1) := dk_4 (dk_at dksX5_init_1 4 rfl rfl)
theorem dX5_init_27 : decode cX5_init 27 = .ok (.bipush 9, 2) := dk_16 9 (dk_at dksX5_init_1 5 rfl rfl)
theorem dX5_init_29 : decode cX5_init 29 = .ok (.invokestatic 9, 3) := dk_184 0 9 (dk_at dksX5_init_1 7 rfl rfl)
theorem dX5_init_32 : decode cX5_init 32 = .ok (.ifCond .eq 7, 3) := dk_153 0 7 (dk_at dksX5_init_1 10 rfl rfl)
theorem dX5_init_35 : decode cX5_init 35 = .ok (.iconst 1, 1) := dk_4 (dk_at dksX5_init_1 13 rfl rfl)
theorem dX5_init_36 : decode cX5_init 36 = .ok (.goto 4, 3) := dk_167 0 4 (dk_at dksX5_init_1 14 rfl rfl)
theorem dX5_init_39 : decode cX5_init 39 = .ok (.iconst 0, 1) := dk_3 (dk_at dksX5_init_1 17 rfl rfl)
theorem dX5_init_40 : decode cX5_init 40 = .ok (.invokestatic 13, 3) := dk_184 0 13 (dk_at dksX5_init_1 18 rfl rfl)
theorem dX5_init_43 : decode cX5_init 43 = .ok (.aload_n 0, 1) := dk_42 (dk_at dksX5_init_1 21 rfl rfl)
theorem dX5_init_44 : decode cX5_init 44 = .ok (.new 17, 3) := dk_187 0 17 (dk_at dksX5_init_2 0 rfl rfl)
theorem dX5_init_47 : decode cX5_init 47 = .ok (.dup, 1) := dk_89 (dk_at dksX5_init_2 3 rfl rfl)
theorem dX5_init_48 : decode cX5_init 48 = .ok (.iload_n 1, 1) := dk_27 (dk_at dksX5_init_2 4 rfl rfl)
theorem dX5_init_49 : decode cX5_init 49 = .ok (.iload_n 2, 1) := dk_28 (dk_at dksX5_init_2 5 rfl rfl)
theorem dX5_init_50 : decode cX5_init 50 = .ok (.iload_n 3, 1) := dk_29 (dk_at dksX5_init_2 6 rfl rfl)
theorem dX5_init_51 : decode cX5_init 51 = .ok (.invokespecial 19, 3) := dk_183 0 19 (dk_at dksX5_init_2 7 rfl rfl)
theorem dX5_init_54 : decode cX5_init 54 = .ok (.putfield 22, 3) := dk_181 0 22 (dk_at dksX5_init_2 10 rfl rfl)
theorem dX5_init_57 : decode cX5_init 57 = .ok (.return_, 1) := dk_177 (dk_at dksX5_init_2 13 rfl rfl)
theorem q88 : (Jvm.Cond.initialized "BraidedFerry$Digging") ∈ lw_all := lw_g (lw_at lw_m1 16 rfl) rfl
theorem q601 : (Jvm.Cond.selects "BraidedFerry$Digging" ({ cls := "java/lang/Object", name := "getClass", desc := "()Ljava/lang/Class;" } : Jvm.MethodName) ({ cls := "java/lang/Object", name := "getClass", desc := "()Ljava/lang/Class;" } : Jvm.MethodName)) ∈ lw_all := lw_g (lw_at lw_m3 49 rfl) rfl
theorem q793 : (Jvm.Cond.selects "BraidedFerry$Digging" ({ cls := "java/lang/Object", name := "hashCode", desc := "()I" } : Jvm.MethodName) ({ cls := "java/lang/Object", name := "hashCode", desc := "()I" } : Jvm.MethodName)) ∈ lw_all := lw_g (lw_at lw_m4 1 rfl) rfl
theorem q1118 : (Jvm.Cond.selects "BraidedFerry$Digging" ({ cls := "java/lang/Object", name := "equals", desc := "(Ljava/lang/Object;)Z" } : Jvm.MethodName) ({ cls := "java/lang/Object", name := "equals", desc := "(Ljava/lang/Object;)Z" } : Jvm.MethodName)) ∈ lw_all := lw_g (lw_at lw_m5 86 rfl) rfl
theorem q1989 : (Jvm.Cond.castable "BraidedFerry$Digging" "BraidedFerry$Deed") ∈ lw_tbl := lw_at lw_m8 237 rfl
theorem q1990 : (Jvm.Cond.selects "BraidedFerry$Digging" ({ cls := "BraidedFerry$Deed", name := "done", desc := "(LBraidedFerry$River;)I" } : Jvm.MethodName) ({ cls := "BraidedFerry$Digging", name := "done", desc := "(LBraidedFerry$River;)I" } : Jvm.MethodName)) ∈ lw_all := lw_g (lw_at lw_m8 238 rfl) rfl
theorem q1991 : (Jvm.Cond.unhidden "BraidedFerry$Digging" "done" "(LBraidedFerry$River;)I") ∈ lw_tbl := lw_at lw_m8 239 rfl
theorem q1992 : (Jvm.Cond.instanceMethod ({ cls := "BraidedFerry$Digging", name := "done", desc := "(LBraidedFerry$River;)I" } : Jvm.MethodName)) ∈ lw_all := lw_g (lw_at lw_m9 0 rfl) rfl
theorem q1993 : (Jvm.Cond.publicMethod ({ cls := "BraidedFerry$Digging", name := "done", desc := "(LBraidedFerry$River;)I" } : Jvm.MethodName)) ∈ lw_tbl := lw_at lw_m9 1 rfl
theorem q1994 : (Jvm.Cond.code ({ cls := "BraidedFerry$Digging", name := "done", desc := "(LBraidedFerry$River;)I" } : Jvm.MethodName) prog_9_method_2_code (2 : Nat) (Option.some Jvm.ClassFile.FieldType.int)) ∈ lw_all := lw_g (lw_at lw_m9 2 rfl) rfl
theorem q1995 : (Jvm.Cond.methodLink "BraidedFerry$Digging" (28 : Nat) ({ cls := "BraidedFerry$River", name := "addChannel", desc := "(LBraidedFerry$Channel;)I" } : Jvm.MethodName)) ∈ lw_all := lw_g (lw_at lw_m9 3 rfl) rfl
theorem q2311 : (Jvm.Cond.instantiable "BraidedFerry$Digging" (1 : Nat)) ∈ lw_all := lw_g (lw_at lw_m10 79 rfl) rfl
theorem q2313 : (Jvm.Cond.instanceMethod ({ cls := "BraidedFerry$Digging", name := "<init>", desc := "(III)V" } : Jvm.MethodName)) ∈ lw_all := lw_g (lw_at lw_m10 81 rfl) rfl
theorem q2314 : (Jvm.Cond.code ({ cls := "BraidedFerry$Digging", name := "<init>", desc := "(III)V" } : Jvm.MethodName) prog_9_method_1_code (4 : Nat) (Option.none : Option Jvm.ClassFile.FieldType)) ∈ lw_all := lw_g (lw_at lw_m10 82 rfl) rfl
theorem q2315 : (Jvm.Cond.methodLink "BraidedFerry$Digging" (3 : Nat) ({ cls := "java/lang/Object", name := "<init>", desc := "()V" } : Jvm.MethodName)) ∈ lw_all := lw_g (lw_at lw_m10 83 rfl) rfl
theorem q2316 : (Jvm.Cond.methodLinkNest "BraidedFerry$Digging" (9 : Nat) ({ cls := "BraidedFerry", name := "inRange", desc := "(III)Z" } : Jvm.MethodName) "BraidedFerry") ∈ lw_tbl := lw_at lw_m10 84 rfl
theorem q2317 : (Jvm.Cond.methodLinkNest "BraidedFerry$Digging" (13 : Nat) ({ cls := "BraidedFerry", name := "require", desc := "(Z)V" } : Jvm.MethodName) "BraidedFerry") ∈ lw_tbl := lw_at lw_m10 85 rfl
theorem q2318 : (Jvm.Cond.classLink "BraidedFerry$Digging" (17 : Nat) "BraidedFerry$Channel") ∈ lw_all := lw_g (lw_at lw_m10 86 rfl) rfl
theorem q2319 : (Jvm.Cond.methodLink "BraidedFerry$Digging" (19 : Nat) ({ cls := "BraidedFerry$Channel", name := "<init>", desc := "(III)V" } : Jvm.MethodName)) ∈ lw_all := lw_g (lw_at lw_m10 87 rfl) rfl
theorem q2320 : (Jvm.Cond.fieldLink "BraidedFerry$Digging" (22 : Nat) "BraidedFerry$Digging" "channel" "LBraidedFerry$Channel;") ∈ lw_all := lw_g (lw_at lw_m10 88 rfl) rfl
theorem q2321 : (Jvm.Cond.laysFinal "BraidedFerry$Digging" "BraidedFerry$Digging" "channel" "LBraidedFerry$Channel;") ∈ lw_all := lw_g (lw_at lw_m10 89 rfl) rfl
theorem q2322 : (Jvm.Cond.soleField "BraidedFerry$Digging" "channel") ∈ lw_all := lw_g (lw_at lw_m10 90 rfl) rfl
theorem q2323 : (Jvm.Cond.superclass "BraidedFerry$Digging" "java/lang/Object") ∈ lw_all := lw_g (lw_at lw_m10 91 rfl) rfl
theorem q2645 : (Jvm.Cond.selects "BraidedFerry$Digging" ({ cls := "java/lang/Object", name := "toString", desc := "()Ljava/lang/String;" } : Jvm.MethodName) ({ cls := "java/lang/Object", name := "toString", desc := "()Ljava/lang/String;" } : Jvm.MethodName)) ∈ lw_all := lw_g (lw_at lw_m11 173 rfl) rfl
theorem q3690 : (Jvm.Cond.castable "BraidedFerry$Digging" "java/lang/Object") ∈ lw_tbl := lw_at lw_m16 18 rfl
theorem in_X5 : ∀ w ∈ wsX50, w ∈ lw_all := lw_in wsX50 [2321] (by decide +kernel) (by decide +kernel)

/-! BraidedFerry$Channel -/
set_option maxRecDepth 100000
def RX6 : String := "BraidedFerry$Channel"
def TX6 : u_T := fun k => match k with
  | 0 => ("BraidedFerry$Channel", "width", "I", true)
  | 1 => ("BraidedFerry$Channel", "flow", "I", true)
  | _ => ("BraidedFerry$Channel", "bed", "I", true)
def tyX6 : Nat → FieldType := fun k => match k with
  | 0 => .int
  | 1 => .int
  | _ => .int
abbrev wsX60 : List Cond := u_ws RX6 TX6 3
theorem nmX6 : ∀ a, a < 3 → ∀ b, b < 3 → a ≠ b → (TX6 a).2.1 ≠ (TX6 b).2.1 := by decide +kernel
theorem tyX6_ok : ∀ k, k < 3 → parseFieldDescriptor (TX6 k).2.2.1 = some (tyX6 k) := by decide +kernel
abbrev cX6_as : ByteArray := prog_5_method_2_code
def yX6_as : MethodName := ⟨RX6, "as", "(I)LBraidedFerry$Channel;"⟩
def dkwX6_as_0 : List UInt8 := [187, 0, 8, 89, 27, 42, 180, 0, 13, 42, 180, 0, 16, 183, 0, 19, 176]
abbrev dktX6_as_0 : List UInt8 := dkwX6_as_0 ++ []
theorem dksX6_as_0 : cX6_as.data.toList.drop 0 = dktX6_as_0 := by decide +kernel
theorem dX6_as_0 : decode cX6_as 0 = .ok (.new 8, 3) := dk_187 0 8 (dk_at dksX6_as_0 0 rfl rfl)
theorem dX6_as_3 : decode cX6_as 3 = .ok (.dup, 1) := dk_89 (dk_at dksX6_as_0 3 rfl rfl)
theorem dX6_as_4 : decode cX6_as 4 = .ok (.iload_n 1, 1) := dk_27 (dk_at dksX6_as_0 4 rfl rfl)
theorem dX6_as_5 : decode cX6_as 5 = .ok (.aload_n 0, 1) := dk_42 (dk_at dksX6_as_0 5 rfl rfl)
theorem dX6_as_6 : decode cX6_as 6 = .ok (.getfield 13, 3) := dk_180 0 13 (dk_at dksX6_as_0 6 rfl rfl)
theorem dX6_as_9 : decode cX6_as 9 = .ok (.aload_n 0, 1) := dk_42 (dk_at dksX6_as_0 9 rfl rfl)
theorem dX6_as_10 : decode cX6_as 10 = .ok (.getfield 16, 3) := dk_180 0 16 (dk_at dksX6_as_0 10 rfl rfl)
theorem dX6_as_13 : decode cX6_as 13 = .ok (.invokespecial 19, 3) := dk_183 0 19 (dk_at dksX6_as_0 13 rfl rfl)
theorem dX6_as_16 : decode cX6_as 16 = .ok (.areturn, 1) := dk_176 (dk_at dksX6_as_0 16 rfl rfl)
abbrev cX6_init : ByteArray := prog_5_method_1_code
def yX6_init : MethodName := ⟨RX6, "<init>", "(III)V"⟩
def dkwX6_init_0 : List UInt8 := [42, 183, 0, 1, 42, 27, 181, 0, 7, 42, 28, 181, 0, 13, 42, 29, 181, 0, 16, 177]
abbrev dktX6_init_0 : List UInt8 := dkwX6_init_0 ++ []
theorem dksX6_init_0 : cX6_init.data.toList.drop 0 = dktX6_init_0 := by decide +kernel
theorem dX6_init_0 : decode cX6_init 0 = .ok (.aload_n 0, 1) := dk_42 (dk_at dksX6_init_0 0 rfl rfl)
theorem dX6_init_1 : decode cX6_init 1 = .ok (.invokespecial 1, 3) := dk_183 0 1 (dk_at dksX6_init_0 1 rfl rfl)
theorem dX6_init_4 : decode cX6_init 4 = .ok (.aload_n 0, 1) := dk_42 (dk_at dksX6_init_0 4 rfl rfl)
theorem dX6_init_5 : decode cX6_init 5 = .ok (.iload_n 1, 1) := dk_27 (dk_at dksX6_init_0 5 rfl rfl)
theorem dX6_init_6 : decode cX6_init 6 = .ok (.putfield 7, 3) := dk_181 0 7 (dk_at dksX6_init_0 6 rfl rfl)
theorem dX6_init_9 : decode cX6_init 9 = .ok (.aload_n 0, 1) := dk_42 (dk_at dksX6_init_0 9 rfl rfl)
theorem dX6_init_10 : decode cX6_init 10 = .ok (.iload_n 2, 1) := dk_28 (dk_at dksX6_init_0 10 rfl rfl)
theorem dX6_init_11 : decode cX6_init 11 = .ok (.putfield 13, 3) := dk_181 0 13 (dk_at dksX6_init_0 11 rfl rfl)
theorem dX6_init_14 : decode cX6_init 14 = .ok (.aload_n 0, 1) := dk_42 (dk_at dksX6_init_0 14 rfl rfl)
theorem dX6_init_15 : decode cX6_init 15 = .ok (.iload_n 3, 1) := dk_29 (dk_at dksX6_init_0 15 rfl rfl)
theorem dX6_init_16 : decode cX6_init 16 = .ok (.putfield 16, 3) := dk_181 0 16 (dk_at dksX6_init_0 16 rfl rfl)
theorem dX6_init_19 : decode cX6_init 19 = .ok (.return_, 1) := dk_177 (dk_at dksX6_init_0 19 rfl rfl)
theorem q93 : (Jvm.Cond.initialized "BraidedFerry$Channel") ∈ lw_all := lw_g (lw_at lw_m1 21 rfl) rfl
theorem q598 : (Jvm.Cond.selects "BraidedFerry$Channel" ({ cls := "java/lang/Object", name := "getClass", desc := "()Ljava/lang/Class;" } : Jvm.MethodName) ({ cls := "java/lang/Object", name := "getClass", desc := "()Ljava/lang/Class;" } : Jvm.MethodName)) ∈ lw_all := lw_g (lw_at lw_m3 46 rfl) rfl
theorem q790 : (Jvm.Cond.selects "BraidedFerry$Channel" ({ cls := "java/lang/Object", name := "hashCode", desc := "()I" } : Jvm.MethodName) ({ cls := "java/lang/Object", name := "hashCode", desc := "()I" } : Jvm.MethodName)) ∈ lw_all := lw_g (lw_at lw_m3 238 rfl) rfl
theorem q1115 : (Jvm.Cond.selects "BraidedFerry$Channel" ({ cls := "java/lang/Object", name := "equals", desc := "(Ljava/lang/Object;)Z" } : Jvm.MethodName) ({ cls := "java/lang/Object", name := "equals", desc := "(Ljava/lang/Object;)Z" } : Jvm.MethodName)) ∈ lw_all := lw_g (lw_at lw_m5 83 rfl) rfl
theorem q2108 : (Jvm.Cond.instanceMethod ({ cls := "BraidedFerry$Channel", name := "as", desc := "(I)LBraidedFerry$Channel;" } : Jvm.MethodName)) ∈ lw_all := lw_g (lw_at lw_m9 116 rfl) rfl
theorem q2109 : (Jvm.Cond.selects "BraidedFerry$Channel" ({ cls := "BraidedFerry$Channel", name := "as", desc := "(I)LBraidedFerry$Channel;" } : Jvm.MethodName) ({ cls := "BraidedFerry$Channel", name := "as", desc := "(I)LBraidedFerry$Channel;" } : Jvm.MethodName)) ∈ lw_all := lw_g (lw_at lw_m9 117 rfl) rfl
theorem q2110 : (Jvm.Cond.code ({ cls := "BraidedFerry$Channel", name := "as", desc := "(I)LBraidedFerry$Channel;" } : Jvm.MethodName) prog_5_method_2_code (2 : Nat) (Option.some (Jvm.ClassFile.FieldType.object "BraidedFerry$Channel"))) ∈ lw_all := lw_g (lw_at lw_m9 118 rfl) rfl
theorem q2111 : (Jvm.Cond.classLink "BraidedFerry$Channel" (8 : Nat) "BraidedFerry$Channel") ∈ lw_all := lw_g (lw_at lw_m9 119 rfl) rfl
theorem q2112 : (Jvm.Cond.instantiable "BraidedFerry$Channel" (3 : Nat)) ∈ lw_all := lw_g (lw_at lw_m9 120 rfl) rfl
theorem q2113 : (Jvm.Cond.methodLink "BraidedFerry$Channel" (19 : Nat) ({ cls := "BraidedFerry$Channel", name := "<init>", desc := "(III)V" } : Jvm.MethodName)) ∈ lw_all := lw_g (lw_at lw_m9 121 rfl) rfl
theorem q2114 : (Jvm.Cond.instanceMethod ({ cls := "BraidedFerry$Channel", name := "<init>", desc := "(III)V" } : Jvm.MethodName)) ∈ lw_all := lw_g (lw_at lw_m9 122 rfl) rfl
theorem q2115 : (Jvm.Cond.code ({ cls := "BraidedFerry$Channel", name := "<init>", desc := "(III)V" } : Jvm.MethodName) prog_5_method_1_code (4 : Nat) (Option.none : Option Jvm.ClassFile.FieldType)) ∈ lw_all := lw_g (lw_at lw_m9 123 rfl) rfl
theorem q2116 : (Jvm.Cond.methodLink "BraidedFerry$Channel" (1 : Nat) ({ cls := "java/lang/Object", name := "<init>", desc := "()V" } : Jvm.MethodName)) ∈ lw_all := lw_g (lw_at lw_m9 124 rfl) rfl
theorem q2117 : (Jvm.Cond.fieldLink "BraidedFerry$Channel" (7 : Nat) "BraidedFerry$Channel" "width" "I") ∈ lw_all := lw_g (lw_at lw_m9 125 rfl) rfl
theorem q2120 : (Jvm.Cond.fieldLink "BraidedFerry$Channel" (13 : Nat) "BraidedFerry$Channel" "flow" "I") ∈ lw_all := lw_g (lw_at lw_m9 128 rfl) rfl
theorem q2123 : (Jvm.Cond.fieldLink "BraidedFerry$Channel" (16 : Nat) "BraidedFerry$Channel" "bed" "I") ∈ lw_all := lw_g (lw_at lw_m9 131 rfl) rfl
theorem q2126 : (Jvm.Cond.laysFinal "BraidedFerry$Channel" "BraidedFerry$Channel" "width" "I") ∈ lw_all := lw_g (lw_at lw_m9 134 rfl) rfl
theorem q2127 : (Jvm.Cond.soleField "BraidedFerry$Channel" "width") ∈ lw_all := lw_g (lw_at lw_m9 135 rfl) rfl
theorem q2128 : (Jvm.Cond.laysFinal "BraidedFerry$Channel" "BraidedFerry$Channel" "flow" "I") ∈ lw_all := lw_g (lw_at lw_m9 136 rfl) rfl
theorem q2129 : (Jvm.Cond.soleField "BraidedFerry$Channel" "flow") ∈ lw_all := lw_g (lw_at lw_m9 137 rfl) rfl
theorem q2130 : (Jvm.Cond.laysFinal "BraidedFerry$Channel" "BraidedFerry$Channel" "bed" "I") ∈ lw_all := lw_g (lw_at lw_m9 138 rfl) rfl
theorem q2131 : (Jvm.Cond.soleField "BraidedFerry$Channel" "bed") ∈ lw_all := lw_g (lw_at lw_m9 139 rfl) rfl
theorem q2132 : (Jvm.Cond.superclass "BraidedFerry$Channel" "java/lang/Object") ∈ lw_all := lw_g (lw_at lw_m9 140 rfl) rfl
theorem q2642 : (Jvm.Cond.selects "BraidedFerry$Channel" ({ cls := "java/lang/Object", name := "toString", desc := "()Ljava/lang/String;" } : Jvm.MethodName) ({ cls := "java/lang/Object", name := "toString", desc := "()Ljava/lang/String;" } : Jvm.MethodName)) ∈ lw_all := lw_g (lw_at lw_m11 170 rfl) rfl
theorem q3692 : (Jvm.Cond.castable "BraidedFerry$Channel" "java/lang/Object") ∈ lw_tbl := lw_at lw_m16 20 rfl
theorem in_X6 : ∀ w ∈ wsX60, w ∈ lw_all := lw_in wsX60 [2126, 2128, 2130] (by decide +kernel) (by decide +kernel)

/-! BraidedFerry$Refusal -/
set_option maxRecDepth 100000
def RX7 : String := "BraidedFerry$Refusal"
def TX7 : u_T := fun k => match k with
  | 0 => ("java/lang/Throwable", "cause", "Ljava/lang/Throwable;", false)
  | 1 => ("java/lang/Throwable", "stackTrace", "[Ljava/lang/StackTraceElement;", false)
  | 2 => ("java/lang/Throwable", "suppressedExceptions", "Ljava/util/List;", false)
  | 3 => ("java/lang/Throwable", "detailMessage", "Ljava/lang/String;", false)
  | 4 => ("java/lang/Throwable", "backtrace", "Ljava/lang/Object;", false)
  | 5 => ("java/lang/Throwable", "depth", "I", false)
  | 6 => ("BraidedFerry$Refusal", "reason", "I", true)
  | _ => ("BraidedFerry$Refusal", "detail", "I", true)
def tyX7 : Nat → FieldType := fun k => match k with
  | 0 => .object "java/lang/Throwable"
  | 1 => .array (.object "java/lang/StackTraceElement")
  | 2 => .object "java/util/List"
  | 3 => .object "java/lang/String"
  | 4 => .object "java/lang/Object"
  | 5 => .int
  | 6 => .int
  | _ => .int
abbrev wsX70 : List Cond := u_ws RX7 TX7 8
theorem nmX7 : ∀ a, a < 8 → ∀ b, b < 8 → a ≠ b → (TX7 a).2.1 ≠ (TX7 b).2.1 := by decide +kernel
theorem tyX7_ok : ∀ k, k < 8 → parseFieldDescriptor (TX7 k).2.2.1 = some (tyX7 k) := by decide +kernel
abbrev cX7_init : ByteArray := prog_20_method_1_code
def yX7_init : MethodName := ⟨RX7, "<init>", "(II)V"⟩
def dkwX7_init_0 : List UInt8 := [42, 1, 1, 3, 3, 183, 0, 1, 42, 27, 181, 0, 7, 42, 28, 181, 0, 13, 177]
abbrev dktX7_init_0 : List UInt8 := dkwX7_init_0 ++ []
theorem dksX7_init_0 : cX7_init.data.toList.drop 0 = dktX7_init_0 := by decide +kernel
theorem dX7_init_0 : decode cX7_init 0 = .ok (.aload_n 0, 1) := dk_42 (dk_at dksX7_init_0 0 rfl rfl)
theorem dX7_init_1 : decode cX7_init 1 = .ok (.aconst_null, 1) := dk_1 (dk_at dksX7_init_0 1 rfl rfl)
theorem dX7_init_2 : decode cX7_init 2 = .ok (.aconst_null, 1) := dk_1 (dk_at dksX7_init_0 2 rfl rfl)
theorem dX7_init_3 : decode cX7_init 3 = .ok (.iconst 0, 1) := dk_3 (dk_at dksX7_init_0 3 rfl rfl)
theorem dX7_init_4 : decode cX7_init 4 = .ok (.iconst 0, 1) := dk_3 (dk_at dksX7_init_0 4 rfl rfl)
theorem dX7_init_5 : decode cX7_init 5 = .ok (.invokespecial 1, 3) := dk_183 0 1 (dk_at dksX7_init_0 5 rfl rfl)
theorem dX7_init_8 : decode cX7_init 8 = .ok (.aload_n 0, 1) := dk_42 (dk_at dksX7_init_0 8 rfl rfl)
theorem dX7_init_9 : decode cX7_init 9 = .ok (.iload_n 1, 1) := dk_27 (dk_at dksX7_init_0 9 rfl rfl)
theorem dX7_init_10 : decode cX7_init 10 = .ok (.putfield 7, 3) := dk_181 0 7 (dk_at dksX7_init_0 10 rfl rfl)
theorem dX7_init_13 : decode cX7_init 13 = .ok (.aload_n 0, 1) := dk_42 (dk_at dksX7_init_0 13 rfl rfl)
theorem dX7_init_14 : decode cX7_init 14 = .ok (.iload_n 2, 1) := dk_28 (dk_at dksX7_init_0 14 rfl rfl)
theorem dX7_init_15 : decode cX7_init 15 = .ok (.putfield 13, 3) := dk_181 0 13 (dk_at dksX7_init_0 15 rfl rfl)
theorem dX7_init_18 : decode cX7_init 18 = .ok (.return_, 1) := dk_177 (dk_at dksX7_init_0 18 rfl rfl)
theorem q117 : (Jvm.Cond.initialized "BraidedFerry$Refusal") ∈ lw_all := lw_g (lw_at lw_m1 45 rfl) rfl
theorem q501 : (Jvm.Cond.selects "BraidedFerry$Refusal" ({ cls := "java/lang/Throwable", name := "fillInStackTrace", desc := "()Ljava/lang/Throwable;" } : Jvm.MethodName) ({ cls := "java/lang/Throwable", name := "fillInStackTrace", desc := "()Ljava/lang/Throwable;" } : Jvm.MethodName)) ∈ lw_all := lw_g (lw_at lw_m2 189 rfl) rfl
theorem q610 : (Jvm.Cond.selects "BraidedFerry$Refusal" ({ cls := "java/lang/Object", name := "getClass", desc := "()Ljava/lang/Class;" } : Jvm.MethodName) ({ cls := "java/lang/Object", name := "getClass", desc := "()Ljava/lang/Class;" } : Jvm.MethodName)) ∈ lw_all := lw_g (lw_at lw_m3 58 rfl) rfl
theorem q804 : (Jvm.Cond.selects "BraidedFerry$Refusal" ({ cls := "java/lang/Object", name := "hashCode", desc := "()I" } : Jvm.MethodName) ({ cls := "java/lang/Object", name := "hashCode", desc := "()I" } : Jvm.MethodName)) ∈ lw_all := lw_g (lw_at lw_m4 12 rfl) rfl
theorem q1130 : (Jvm.Cond.selects "BraidedFerry$Refusal" ({ cls := "java/lang/Object", name := "equals", desc := "(Ljava/lang/Object;)Z" } : Jvm.MethodName) ({ cls := "java/lang/Object", name := "equals", desc := "(Ljava/lang/Object;)Z" } : Jvm.MethodName)) ∈ lw_all := lw_g (lw_at lw_m5 98 rfl) rfl
theorem q1697 : (Jvm.Cond.instantiable "BraidedFerry$Refusal" (8 : Nat)) ∈ lw_all := lw_g (lw_at lw_m7 185 rfl) rfl
theorem q1698 : (Jvm.Cond.castable "BraidedFerry$Refusal" "BraidedFerry$Refusal") ∈ lw_tbl := lw_at lw_m7 186 rfl
theorem q1699 : (Jvm.Cond.selects "BraidedFerry$Refusal" ({ cls := "java/lang/Throwable", name := "fillInStackTrace", desc := "(I)Ljava/lang/Throwable;" } : Jvm.MethodName) ({ cls := "java/lang/Throwable", name := "fillInStackTrace", desc := "(I)Ljava/lang/Throwable;" } : Jvm.MethodName)) ∈ lw_all := lw_g (lw_at lw_m7 187 rfl) rfl
theorem q1700 : (Jvm.Cond.lays "BraidedFerry$Refusal" "java/lang/Throwable" "cause" "Ljava/lang/Throwable;") ∈ lw_all := lw_g (lw_at lw_m7 188 rfl) rfl
theorem q1701 : (Jvm.Cond.lays "BraidedFerry$Refusal" "java/lang/Throwable" "stackTrace" "[Ljava/lang/StackTraceElement;") ∈ lw_all := lw_g (lw_at lw_m7 189 rfl) rfl
theorem q1702 : (Jvm.Cond.lays "BraidedFerry$Refusal" "java/lang/Throwable" "suppressedExceptions" "Ljava/util/List;") ∈ lw_all := lw_g (lw_at lw_m7 190 rfl) rfl
theorem q1703 : (Jvm.Cond.lays "BraidedFerry$Refusal" "java/lang/Throwable" "detailMessage" "Ljava/lang/String;") ∈ lw_all := lw_g (lw_at lw_m7 191 rfl) rfl
theorem q1704 : (Jvm.Cond.lays "BraidedFerry$Refusal" "java/lang/Throwable" "backtrace" "Ljava/lang/Object;") ∈ lw_all := lw_g (lw_at lw_m7 192 rfl) rfl
theorem q1706 : (Jvm.Cond.instanceMethod ({ cls := "BraidedFerry$Refusal", name := "<init>", desc := "(II)V" } : Jvm.MethodName)) ∈ lw_all := lw_g (lw_at lw_m7 194 rfl) rfl
theorem q1707 : (Jvm.Cond.code ({ cls := "BraidedFerry$Refusal", name := "<init>", desc := "(II)V" } : Jvm.MethodName) prog_20_method_1_code (3 : Nat) (Option.none : Option Jvm.ClassFile.FieldType)) ∈ lw_all := lw_g (lw_at lw_m7 195 rfl) rfl
theorem q1708 : (Jvm.Cond.methodLink "BraidedFerry$Refusal" (1 : Nat) ({ cls := "java/lang/Exception", name := "<init>", desc := "(Ljava/lang/String;Ljava/lang/Throwable;ZZ)V" } : Jvm.MethodName)) ∈ lw_all := lw_g (lw_at lw_m7 196 rfl) rfl
theorem q1714 : (Jvm.Cond.fieldLink "BraidedFerry$Refusal" (7 : Nat) "BraidedFerry$Refusal" "reason" "I") ∈ lw_all := lw_g (lw_at lw_m7 202 rfl) rfl
theorem q1716 : (Jvm.Cond.fieldLink "BraidedFerry$Refusal" (13 : Nat) "BraidedFerry$Refusal" "detail" "I") ∈ lw_all := lw_g (lw_at lw_m7 204 rfl) rfl
theorem q1718 : (Jvm.Cond.laysFinal "BraidedFerry$Refusal" "BraidedFerry$Refusal" "reason" "I") ∈ lw_all := lw_g (lw_at lw_m7 206 rfl) rfl
theorem q1719 : (Jvm.Cond.soleField "BraidedFerry$Refusal" "reason") ∈ lw_all := lw_g (lw_at lw_m7 207 rfl) rfl
theorem q1720 : (Jvm.Cond.laysFinal "BraidedFerry$Refusal" "BraidedFerry$Refusal" "detail" "I") ∈ lw_all := lw_g (lw_at lw_m7 208 rfl) rfl
theorem q1721 : (Jvm.Cond.soleField "BraidedFerry$Refusal" "detail") ∈ lw_all := lw_g (lw_at lw_m7 209 rfl) rfl
theorem q1722 : (Jvm.Cond.lays "BraidedFerry$Refusal" "java/lang/Throwable" "depth" "I") ∈ lw_all := lw_g (lw_at lw_m7 210 rfl) rfl
theorem q1723 : (Jvm.Cond.superclass "BraidedFerry$Refusal" "java/lang/Exception") ∈ lw_all := lw_g (lw_at lw_m7 211 rfl) rfl
theorem q2654 : (Jvm.Cond.selects "BraidedFerry$Refusal" ({ cls := "java/lang/Throwable", name := "getLocalizedMessage", desc := "()Ljava/lang/String;" } : Jvm.MethodName) ({ cls := "java/lang/Throwable", name := "getLocalizedMessage", desc := "()Ljava/lang/String;" } : Jvm.MethodName)) ∈ lw_all := lw_g (lw_at lw_m11 182 rfl) rfl
theorem q2669 : (Jvm.Cond.selects "BraidedFerry$Refusal" ({ cls := "java/lang/Throwable", name := "getMessage", desc := "()Ljava/lang/String;" } : Jvm.MethodName) ({ cls := "java/lang/Throwable", name := "getMessage", desc := "()Ljava/lang/String;" } : Jvm.MethodName)) ∈ lw_all := lw_g (lw_at lw_m11 197 rfl) rfl
theorem q2692 : (Jvm.Cond.selects "BraidedFerry$Refusal" ({ cls := "java/lang/Object", name := "toString", desc := "()Ljava/lang/String;" } : Jvm.MethodName) ({ cls := "java/lang/Throwable", name := "toString", desc := "()Ljava/lang/String;" } : Jvm.MethodName)) ∈ lw_all := lw_g (lw_at lw_m11 220 rfl) rfl
theorem q3702 : (Jvm.Cond.castable "BraidedFerry$Refusal" "java/lang/Object") ∈ lw_tbl := lw_at lw_m16 30 rfl
theorem in_X7 : ∀ w ∈ wsX70, w ∈ lw_all := lw_in wsX70 [1700, 1701, 1702, 1703, 1704, 1722, 1718, 1720] (by decide +kernel) (by decide +kernel)

/-! BraidedFerry$Anchor -/
set_option maxRecDepth 100000
def RX8 : String := "BraidedFerry$Anchor"
def TX8 : u_T := fun k => match k with
  | 0 => ("BraidedFerry$Anchor", "channel", "I", true)
  | 1 => ("BraidedFerry$Anchor", "scope", "I", true)
  | _ => ("BraidedFerry$Anchor", "drag", "I", true)
def tyX8 : Nat → FieldType := fun k => match k with
  | 0 => .int
  | 1 => .int
  | _ => .int
abbrev wsX80 : List Cond := u_ws RX8 TX8 3
theorem nmX8 : ∀ a, a < 3 → ∀ b, b < 3 → a ≠ b → (TX8 a).2.1 ≠ (TX8 b).2.1 := by decide +kernel
theorem tyX8_ok : ∀ k, k < 3 → parseFieldDescriptor (TX8 k).2.2.1 = some (tyX8 k) := by decide +kernel
abbrev cX8_init : ByteArray := prog_2_method_1_code
def yX8_init : MethodName := ⟨RX8, "<init>", "(III)V"⟩
def dkwX8_init_0 : List UInt8 := [42, 183, 0, 3, 42, 27, 181, 0, 9, 42, 28, 181, 0, 15, 42, 29, 181, 0, 18, 177]
abbrev dktX8_init_0 : List UInt8 := dkwX8_init_0 ++ []
theorem dksX8_init_0 : cX8_init.data.toList.drop 0 = dktX8_init_0 := by decide +kernel
theorem dX8_init_0 : decode cX8_init 0 = .ok (.aload_n 0, 1) := dk_42 (dk_at dksX8_init_0 0 rfl rfl)
theorem dX8_init_1 : decode cX8_init 1 = .ok (.invokespecial 3, 3) := dk_183 0 3 (dk_at dksX8_init_0 1 rfl rfl)
theorem dX8_init_4 : decode cX8_init 4 = .ok (.aload_n 0, 1) := dk_42 (dk_at dksX8_init_0 4 rfl rfl)
theorem dX8_init_5 : decode cX8_init 5 = .ok (.iload_n 1, 1) := dk_27 (dk_at dksX8_init_0 5 rfl rfl)
theorem dX8_init_6 : decode cX8_init 6 = .ok (.putfield 9, 3) := dk_181 0 9 (dk_at dksX8_init_0 6 rfl rfl)
theorem dX8_init_9 : decode cX8_init 9 = .ok (.aload_n 0, 1) := dk_42 (dk_at dksX8_init_0 9 rfl rfl)
theorem dX8_init_10 : decode cX8_init 10 = .ok (.iload_n 2, 1) := dk_28 (dk_at dksX8_init_0 10 rfl rfl)
theorem dX8_init_11 : decode cX8_init 11 = .ok (.putfield 15, 3) := dk_181 0 15 (dk_at dksX8_init_0 11 rfl rfl)
theorem dX8_init_14 : decode cX8_init 14 = .ok (.aload_n 0, 1) := dk_42 (dk_at dksX8_init_0 14 rfl rfl)
theorem dX8_init_15 : decode cX8_init 15 = .ok (.iload_n 3, 1) := dk_29 (dk_at dksX8_init_0 15 rfl rfl)
theorem dX8_init_16 : decode cX8_init 16 = .ok (.putfield 18, 3) := dk_181 0 18 (dk_at dksX8_init_0 16 rfl rfl)
theorem dX8_init_19 : decode cX8_init 19 = .ok (.return_, 1) := dk_177 (dk_at dksX8_init_0 19 rfl rfl)
abbrev cX8_holds : ByteArray := prog_2_method_2_code
def yX8_holds : MethodName := ⟨RX8, "holds", "()Z"⟩
def dkwX8_holds_0 : List UInt8 := [42, 180, 0, 18, 16, 50, 162, 0, 7, 4, 167, 0, 4, 3, 172]
abbrev dktX8_holds_0 : List UInt8 := dkwX8_holds_0 ++ []
theorem dksX8_holds_0 : cX8_holds.data.toList.drop 0 = dktX8_holds_0 := by decide +kernel
theorem dX8_holds_0 : decode cX8_holds 0 = .ok (.aload_n 0, 1) := dk_42 (dk_at dksX8_holds_0 0 rfl rfl)
theorem dX8_holds_1 : decode cX8_holds 1 = .ok (.getfield 18, 3) := dk_180 0 18 (dk_at dksX8_holds_0 1 rfl rfl)
theorem dX8_holds_4 : decode cX8_holds 4 = .ok (.bipush 50, 2) := dk_16 50 (dk_at dksX8_holds_0 4 rfl rfl)
theorem dX8_holds_6 : decode cX8_holds 6 = .ok (.if_icmp .ge 7, 3) := dk_162 0 7 (dk_at dksX8_holds_0 6 rfl rfl)
theorem dX8_holds_9 : decode cX8_holds 9 = .ok (.iconst 1, 1) := dk_4 (dk_at dksX8_holds_0 9 rfl rfl)
theorem dX8_holds_10 : decode cX8_holds 10 = .ok (.goto 4, 3) := dk_167 0 4 (dk_at dksX8_holds_0 10 rfl rfl)
theorem dX8_holds_13 : decode cX8_holds 13 = .ok (.iconst 0, 1) := dk_3 (dk_at dksX8_holds_0 13 rfl rfl)
theorem dX8_holds_14 : decode cX8_holds 14 = .ok (.ireturn, 1) := dk_172 (dk_at dksX8_holds_0 14 rfl rfl)
abbrev cX8_dragged : ByteArray := prog_2_method_3_code
def yX8_dragged : MethodName := ⟨RX8, "dragged", "(II)LBraidedFerry$Anchor;"⟩
def dkwX8_dragged_1 : List UInt8 := [184, 0, 21, 183, 0, 27, 176]
abbrev dktX8_dragged_1 : List UInt8 := dkwX8_dragged_1 ++ []
def dkwX8_dragged_0 : List UInt8 := [187, 0, 10, 89, 42, 180, 0, 9, 42, 180, 0, 15, 16, 99, 42, 180, 0, 18, 27, 28, 104, 96]
abbrev dktX8_dragged_0 : List UInt8 := dkwX8_dragged_0 ++ dktX8_dragged_1
theorem dksX8_dragged_0 : cX8_dragged.data.toList.drop 0 = dktX8_dragged_0 := by decide +kernel
theorem dksX8_dragged_1 : cX8_dragged.data.toList.drop 22 = dktX8_dragged_1 := dk_seg dksX8_dragged_0 22 rfl rfl
theorem dX8_dragged_0 : decode cX8_dragged 0 = .ok (.new 10, 3) := dk_187 0 10 (dk_at dksX8_dragged_0 0 rfl rfl)
theorem dX8_dragged_3 : decode cX8_dragged 3 = .ok (.dup, 1) := dk_89 (dk_at dksX8_dragged_0 3 rfl rfl)
theorem dX8_dragged_4 : decode cX8_dragged 4 = .ok (.aload_n 0, 1) := dk_42 (dk_at dksX8_dragged_0 4 rfl rfl)
theorem dX8_dragged_5 : decode cX8_dragged 5 = .ok (.getfield 9, 3) := dk_180 0 9 (dk_at dksX8_dragged_0 5 rfl rfl)
theorem dX8_dragged_8 : decode cX8_dragged 8 = .ok (.aload_n 0, 1) := dk_42 (dk_at dksX8_dragged_0 8 rfl rfl)
theorem dX8_dragged_9 : decode cX8_dragged 9 = .ok (.getfield 15, 3) := dk_180 0 15 (dk_at dksX8_dragged_0 9 rfl rfl)
theorem dX8_dragged_12 : decode cX8_dragged 12 = .ok (.bipush 99, 2) := dk_16 99 (dk_at dksX8_dragged_0 12 rfl rfl)
theorem dX8_dragged_14 : decode cX8_dragged 14 = .ok (.aload_n 0, 1) := dk_42 (dk_at dksX8_dragged_0 14 rfl rfl)
theorem dX8_dragged_15 : decode cX8_dragged 15 = .ok (.getfield 18, 3) := dk_180 0 18 (dk_at dksX8_dragged_0 15 rfl rfl)
theorem dX8_dragged_18 : decode cX8_dragged 18 = .ok (.iload_n 1, 1) := dk_27 (dk_at dksX8_dragged_0 18 rfl rfl)
theorem dX8_dragged_19 : decode cX8_dragged 19 = .ok (.iload_n 2, 1) := dk_28 (dk_at dksX8_dragged_0 19 rfl rfl)
theorem dX8_dragged_20 : decode cX8_dragged 20 = .ok (.imul, 1) := dk_104 (dk_at dksX8_dragged_0 20 rfl rfl)
theorem dX8_dragged_21 : decode cX8_dragged 21 = .ok (.iadd, 1) := dk_96 (dk_at dksX8_dragged_0 21 rfl rfl)
theorem dX8_dragged_22 : decode cX8_dragged 22 = .ok (.invokestatic 21, 3) := dk_184 0 21 (dk_at dksX8_dragged_1 0 rfl rfl)
theorem dX8_dragged_25 : decode cX8_dragged 25 = .ok (.invokespecial 27, 3) := dk_183 0 27 (dk_at dksX8_dragged_1 3 rfl rfl)
theorem dX8_dragged_28 : decode cX8_dragged 28 = .ok (.areturn, 1) := dk_176 (dk_at dksX8_dragged_1 6 rfl rfl)
abbrev cX8_split : ByteArray := prog_2_method_4_code
def yX8_split : MethodName := ⟨RX8, "split", "(I)LBraidedFerry$Anchor;"⟩
def dkwX8_split_1 : List UInt8 := [180, 0, 9, 42, 180, 0, 15, 42, 180, 0, 18, 183, 0, 27, 176]
abbrev dktX8_split_1 : List UInt8 := dkwX8_split_1 ++ []
def dkwX8_split_0 : List UInt8 := [187, 0, 10, 89, 42, 180, 0, 9, 27, 164, 0, 12, 42, 180, 0, 9, 4, 96, 167, 0, 7, 42]
abbrev dktX8_split_0 : List UInt8 := dkwX8_split_0 ++ dktX8_split_1
theorem dksX8_split_0 : cX8_split.data.toList.drop 0 = dktX8_split_0 := by decide +kernel
theorem dksX8_split_1 : cX8_split.data.toList.drop 22 = dktX8_split_1 := dk_seg dksX8_split_0 22 rfl rfl
theorem dX8_split_0 : decode cX8_split 0 = .ok (.new 10, 3) := dk_187 0 10 (dk_at dksX8_split_0 0 rfl rfl)
theorem dX8_split_3 : decode cX8_split 3 = .ok (.dup, 1) := dk_89 (dk_at dksX8_split_0 3 rfl rfl)
theorem dX8_split_4 : decode cX8_split 4 = .ok (.aload_n 0, 1) := dk_42 (dk_at dksX8_split_0 4 rfl rfl)
theorem dX8_split_5 : decode cX8_split 5 = .ok (.getfield 9, 3) := dk_180 0 9 (dk_at dksX8_split_0 5 rfl rfl)
theorem dX8_split_8 : decode cX8_split 8 = .ok (.iload_n 1, 1) := dk_27 (dk_at dksX8_split_0 8 rfl rfl)
theorem dX8_split_9 : decode cX8_split 9 = .ok (.if_icmp .le 12, 3) := dk_164 0 12 (dk_at dksX8_split_0 9 rfl rfl)
theorem dX8_split_12 : decode cX8_split 12 = .ok (.aload_n 0, 1) := dk_42 (dk_at dksX8_split_0 12 rfl rfl)
theorem dX8_split_13 : decode cX8_split 13 = .ok (.getfield 9, 3) := dk_180 0 9 (dk_at dksX8_split_0 13 rfl rfl)
theorem dX8_split_16 : decode cX8_split 16 = .ok (.iconst 1, 1) := dk_4 (dk_at dksX8_split_0 16 rfl rfl)
theorem dX8_split_17 : decode cX8_split 17 = .ok (.iadd, 1) := dk_96 (dk_at dksX8_split_0 17 rfl rfl)
theorem dX8_split_18 : decode cX8_split 18 = .ok (.goto 7, 3) := dk_167 0 7 (dk_at dksX8_split_0 18 rfl rfl)
theorem dX8_split_21 : decode cX8_split 21 = .ok (.aload_n 0, 1) := dk_42 (dk_at dksX8_split_0 21 rfl rfl)
theorem dX8_split_22 : decode cX8_split 22 = .ok (.getfield 9, 3) := dk_180 0 9 (dk_at dksX8_split_1 0 rfl rfl)
theorem dX8_split_25 : decode cX8_split 25 = .ok (.aload_n 0, 1) := dk_42 (dk_at dksX8_split_1 3 rfl rfl)
theorem dX8_split_26 : decode cX8_split 26 = .ok (.getfield 15, 3) := dk_180 0 15 (dk_at dksX8_split_1 4 rfl rfl)
theorem dX8_split_29 : decode cX8_split 29 = .ok (.aload_n 0, 1) := dk_42 (dk_at dksX8_split_1 7 rfl rfl)
theorem dX8_split_30 : decode cX8_split 30 = .ok (.getfield 18, 3) := dk_180 0 18 (dk_at dksX8_split_1 8 rfl rfl)
theorem dX8_split_33 : decode cX8_split 33 = .ok (.invokespecial 27, 3) := dk_183 0 27 (dk_at dksX8_split_1 11 rfl rfl)
theorem dX8_split_36 : decode cX8_split 36 = .ok (.areturn, 1) := dk_176 (dk_at dksX8_split_1 14 rfl rfl)
theorem q118 : (Jvm.Cond.initialized "BraidedFerry$Anchor") ∈ lw_all := lw_g (lw_at lw_m1 46 rfl) rfl
theorem q595 : (Jvm.Cond.selects "BraidedFerry$Anchor" ({ cls := "java/lang/Object", name := "getClass", desc := "()Ljava/lang/Class;" } : Jvm.MethodName) ({ cls := "java/lang/Object", name := "getClass", desc := "()Ljava/lang/Class;" } : Jvm.MethodName)) ∈ lw_all := lw_g (lw_at lw_m3 43 rfl) rfl
theorem q787 : (Jvm.Cond.selects "BraidedFerry$Anchor" ({ cls := "java/lang/Object", name := "hashCode", desc := "()I" } : Jvm.MethodName) ({ cls := "java/lang/Object", name := "hashCode", desc := "()I" } : Jvm.MethodName)) ∈ lw_all := lw_g (lw_at lw_m3 235 rfl) rfl
theorem q1112 : (Jvm.Cond.selects "BraidedFerry$Anchor" ({ cls := "java/lang/Object", name := "equals", desc := "(Ljava/lang/Object;)Z" } : Jvm.MethodName) ({ cls := "java/lang/Object", name := "equals", desc := "(Ljava/lang/Object;)Z" } : Jvm.MethodName)) ∈ lw_all := lw_g (lw_at lw_m5 80 rfl) rfl
theorem q1724 : (Jvm.Cond.instantiable "BraidedFerry$Anchor" (3 : Nat)) ∈ lw_all := lw_g (lw_at lw_m7 212 rfl) rfl
theorem q1726 : (Jvm.Cond.instanceMethod ({ cls := "BraidedFerry$Anchor", name := "<init>", desc := "(III)V" } : Jvm.MethodName)) ∈ lw_all := lw_g (lw_at lw_m7 214 rfl) rfl
theorem q1727 : (Jvm.Cond.code ({ cls := "BraidedFerry$Anchor", name := "<init>", desc := "(III)V" } : Jvm.MethodName) prog_2_method_1_code (4 : Nat) (Option.none : Option Jvm.ClassFile.FieldType)) ∈ lw_all := lw_g (lw_at lw_m7 215 rfl) rfl
theorem q1728 : (Jvm.Cond.methodLink "BraidedFerry$Anchor" (3 : Nat) ({ cls := "java/lang/Object", name := "<init>", desc := "()V" } : Jvm.MethodName)) ∈ lw_all := lw_g (lw_at lw_m7 216 rfl) rfl
theorem q1729 : (Jvm.Cond.fieldLink "BraidedFerry$Anchor" (9 : Nat) "BraidedFerry$Anchor" "channel" "I") ∈ lw_all := lw_g (lw_at lw_m7 217 rfl) rfl
theorem q1732 : (Jvm.Cond.fieldLink "BraidedFerry$Anchor" (15 : Nat) "BraidedFerry$Anchor" "scope" "I") ∈ lw_all := lw_g (lw_at lw_m7 220 rfl) rfl
theorem q1735 : (Jvm.Cond.fieldLink "BraidedFerry$Anchor" (18 : Nat) "BraidedFerry$Anchor" "drag" "I") ∈ lw_all := lw_g (lw_at lw_m7 223 rfl) rfl
theorem q1738 : (Jvm.Cond.laysFinal "BraidedFerry$Anchor" "BraidedFerry$Anchor" "channel" "I") ∈ lw_all := lw_g (lw_at lw_m7 226 rfl) rfl
theorem q1739 : (Jvm.Cond.soleField "BraidedFerry$Anchor" "channel") ∈ lw_all := lw_g (lw_at lw_m7 227 rfl) rfl
theorem q1740 : (Jvm.Cond.laysFinal "BraidedFerry$Anchor" "BraidedFerry$Anchor" "scope" "I") ∈ lw_all := lw_g (lw_at lw_m7 228 rfl) rfl
theorem q1741 : (Jvm.Cond.soleField "BraidedFerry$Anchor" "scope") ∈ lw_all := lw_g (lw_at lw_m7 229 rfl) rfl
theorem q1742 : (Jvm.Cond.laysFinal "BraidedFerry$Anchor" "BraidedFerry$Anchor" "drag" "I") ∈ lw_all := lw_g (lw_at lw_m7 230 rfl) rfl
theorem q1743 : (Jvm.Cond.soleField "BraidedFerry$Anchor" "drag") ∈ lw_all := lw_g (lw_at lw_m7 231 rfl) rfl
theorem q1744 : (Jvm.Cond.superclass "BraidedFerry$Anchor" "java/lang/Object") ∈ lw_all := lw_g (lw_at lw_m7 232 rfl) rfl
theorem q1877 : (Jvm.Cond.instanceMethod ({ cls := "BraidedFerry$Anchor", name := "holds", desc := "()Z" } : Jvm.MethodName)) ∈ lw_all := lw_g (lw_at lw_m8 125 rfl) rfl
theorem q1878 : (Jvm.Cond.selects "BraidedFerry$Anchor" ({ cls := "BraidedFerry$Anchor", name := "holds", desc := "()Z" } : Jvm.MethodName) ({ cls := "BraidedFerry$Anchor", name := "holds", desc := "()Z" } : Jvm.MethodName)) ∈ lw_all := lw_g (lw_at lw_m8 126 rfl) rfl
theorem q1879 : (Jvm.Cond.code ({ cls := "BraidedFerry$Anchor", name := "holds", desc := "()Z" } : Jvm.MethodName) prog_2_method_2_code (1 : Nat) (Option.some Jvm.ClassFile.FieldType.boolean)) ∈ lw_all := lw_g (lw_at lw_m8 127 rfl) rfl
theorem q1915 : (Jvm.Cond.instanceMethod ({ cls := "BraidedFerry$Anchor", name := "dragged", desc := "(II)LBraidedFerry$Anchor;" } : Jvm.MethodName)) ∈ lw_all := lw_g (lw_at lw_m8 163 rfl) rfl
theorem q1916 : (Jvm.Cond.selects "BraidedFerry$Anchor" ({ cls := "BraidedFerry$Anchor", name := "dragged", desc := "(II)LBraidedFerry$Anchor;" } : Jvm.MethodName) ({ cls := "BraidedFerry$Anchor", name := "dragged", desc := "(II)LBraidedFerry$Anchor;" } : Jvm.MethodName)) ∈ lw_all := lw_g (lw_at lw_m8 164 rfl) rfl
theorem q1917 : (Jvm.Cond.code ({ cls := "BraidedFerry$Anchor", name := "dragged", desc := "(II)LBraidedFerry$Anchor;" } : Jvm.MethodName) prog_2_method_3_code (3 : Nat) (Option.some (Jvm.ClassFile.FieldType.object "BraidedFerry$Anchor"))) ∈ lw_all := lw_g (lw_at lw_m8 165 rfl) rfl
theorem q1918 : (Jvm.Cond.classLink "BraidedFerry$Anchor" (10 : Nat) "BraidedFerry$Anchor") ∈ lw_all := lw_g (lw_at lw_m8 166 rfl) rfl
theorem q1919 : (Jvm.Cond.methodLink "BraidedFerry$Anchor" (21 : Nat) ({ cls := "java/lang/Math", name := "min", desc := "(II)I" } : Jvm.MethodName)) ∈ lw_all := lw_g (lw_at lw_m8 167 rfl) rfl
theorem q1920 : (Jvm.Cond.methodLink "BraidedFerry$Anchor" (27 : Nat) ({ cls := "BraidedFerry$Anchor", name := "<init>", desc := "(III)V" } : Jvm.MethodName)) ∈ lw_all := lw_g (lw_at lw_m8 168 rfl) rfl
theorem q2173 : (Jvm.Cond.instanceMethod ({ cls := "BraidedFerry$Anchor", name := "split", desc := "(I)LBraidedFerry$Anchor;" } : Jvm.MethodName)) ∈ lw_all := lw_g (lw_at lw_m9 181 rfl) rfl
theorem q2174 : (Jvm.Cond.selects "BraidedFerry$Anchor" ({ cls := "BraidedFerry$Anchor", name := "split", desc := "(I)LBraidedFerry$Anchor;" } : Jvm.MethodName) ({ cls := "BraidedFerry$Anchor", name := "split", desc := "(I)LBraidedFerry$Anchor;" } : Jvm.MethodName)) ∈ lw_all := lw_g (lw_at lw_m9 182 rfl) rfl
theorem q2175 : (Jvm.Cond.code ({ cls := "BraidedFerry$Anchor", name := "split", desc := "(I)LBraidedFerry$Anchor;" } : Jvm.MethodName) prog_2_method_4_code (2 : Nat) (Option.some (Jvm.ClassFile.FieldType.object "BraidedFerry$Anchor"))) ∈ lw_all := lw_g (lw_at lw_m9 183 rfl) rfl
theorem q2639 : (Jvm.Cond.selects "BraidedFerry$Anchor" ({ cls := "java/lang/Object", name := "toString", desc := "()Ljava/lang/String;" } : Jvm.MethodName) ({ cls := "java/lang/Object", name := "toString", desc := "()Ljava/lang/String;" } : Jvm.MethodName)) ∈ lw_all := lw_g (lw_at lw_m11 167 rfl) rfl
theorem q3712 : (Jvm.Cond.castable "BraidedFerry$Anchor" "java/lang/Object") ∈ lw_tbl := lw_at lw_m16 40 rfl
theorem in_X8 : ∀ w ∈ wsX80, w ∈ lw_all := lw_in wsX80 [1738, 1740, 1742] (by decide +kernel) (by decide +kernel)

/-! BraidedFerry$Group -/
set_option maxRecDepth 100000
def RX9 : String := "BraidedFerry$Group"
def TX9 : u_T := fun k => match k with
  | 0 => ("BraidedFerry$Group", "kind", "I", true)
  | 1 => ("BraidedFerry$Group", "from", "I", true)
  | _ => ("BraidedFerry$Group", "to", "I", true)
def tyX9 : Nat → FieldType := fun k => match k with
  | 0 => .int
  | 1 => .int
  | _ => .int
abbrev wsX90 : List Cond := u_ws RX9 TX9 3
theorem nmX9 : ∀ a, a < 3 → ∀ b, b < 3 → a ≠ b → (TX9 a).2.1 ≠ (TX9 b).2.1 := by decide +kernel
theorem tyX9_ok : ∀ k, k < 3 → parseFieldDescriptor (TX9 k).2.2.1 = some (tyX9 k) := by decide +kernel
abbrev cX9_hashCode : ByteArray := prog_13_method_7_code
def yX9_hashCode : MethodName := ⟨RX9, "hashCode", "()I"⟩
def dkwX9_hashCode_0 : List UInt8 := [16, 100, 42, 180, 0, 7, 104, 16, 10, 42, 180, 0, 13, 104, 96, 42, 180, 0, 16, 96, 172]
abbrev dktX9_hashCode_0 : List UInt8 := dkwX9_hashCode_0 ++ []
theorem dksX9_hashCode_0 : cX9_hashCode.data.toList.drop 0 = dktX9_hashCode_0 := by decide +kernel
theorem dX9_hashCode_0 : decode cX9_hashCode 0 = .ok (.bipush 100, 2) := dk_16 100 (dk_at dksX9_hashCode_0 0 rfl rfl)
theorem dX9_hashCode_2 : decode cX9_hashCode 2 = .ok (.aload_n 0, 1) := dk_42 (dk_at dksX9_hashCode_0 2 rfl rfl)
theorem dX9_hashCode_3 : decode cX9_hashCode 3 = .ok (.getfield 7, 3) := dk_180 0 7 (dk_at dksX9_hashCode_0 3 rfl rfl)
theorem dX9_hashCode_6 : decode cX9_hashCode 6 = .ok (.imul, 1) := dk_104 (dk_at dksX9_hashCode_0 6 rfl rfl)
theorem dX9_hashCode_7 : decode cX9_hashCode 7 = .ok (.bipush 10, 2) := dk_16 10 (dk_at dksX9_hashCode_0 7 rfl rfl)
theorem dX9_hashCode_9 : decode cX9_hashCode 9 = .ok (.aload_n 0, 1) := dk_42 (dk_at dksX9_hashCode_0 9 rfl rfl)
theorem dX9_hashCode_10 : decode cX9_hashCode 10 = .ok (.getfield 13, 3) := dk_180 0 13 (dk_at dksX9_hashCode_0 10 rfl rfl)
theorem dX9_hashCode_13 : decode cX9_hashCode 13 = .ok (.imul, 1) := dk_104 (dk_at dksX9_hashCode_0 13 rfl rfl)
theorem dX9_hashCode_14 : decode cX9_hashCode 14 = .ok (.iadd, 1) := dk_96 (dk_at dksX9_hashCode_0 14 rfl rfl)
theorem dX9_hashCode_15 : decode cX9_hashCode 15 = .ok (.aload_n 0, 1) := dk_42 (dk_at dksX9_hashCode_0 15 rfl rfl)
theorem dX9_hashCode_16 : decode cX9_hashCode 16 = .ok (.getfield 16, 3) := dk_180 0 16 (dk_at dksX9_hashCode_0 16 rfl rfl)
theorem dX9_hashCode_19 : decode cX9_hashCode 19 = .ok (.iadd, 1) := dk_96 (dk_at dksX9_hashCode_0 19 rfl rfl)
theorem dX9_hashCode_20 : decode cX9_hashCode 20 = .ok (.ireturn, 1) := dk_172 (dk_at dksX9_hashCode_0 20 rfl rfl)
abbrev cX9_equals : ByteArray := prog_13_method_6_code
def yX9_equals : MethodName := ⟨RX9, "equals", "(Ljava/lang/Object;)Z"⟩
def dkwX9_equals_2 : List UInt8 := [167, 0, 4, 3, 172]
abbrev dktX9_equals_2 : List UInt8 := dkwX9_equals_2 ++ []
def dkwX9_equals_1 : List UInt8 := [180, 0, 13, 44, 180, 0, 13, 160, 0, 18, 42, 180, 0, 16, 44, 180, 0, 16, 160, 0, 7, 4]
abbrev dktX9_equals_1 : List UInt8 := dkwX9_equals_1 ++ dktX9_equals_2
def dkwX9_equals_0 : List UInt8 := [43, 193, 0, 8, 153, 0, 45, 43, 192, 0, 8, 77, 42, 180, 0, 7, 44, 180, 0, 7, 160, 0, 29, 42]
abbrev dktX9_equals_0 : List UInt8 := dkwX9_equals_0 ++ dktX9_equals_1
theorem dksX9_equals_0 : cX9_equals.data.toList.drop 0 = dktX9_equals_0 := by decide +kernel
theorem dksX9_equals_1 : cX9_equals.data.toList.drop 24 = dktX9_equals_1 := dk_seg dksX9_equals_0 24 rfl rfl
theorem dksX9_equals_2 : cX9_equals.data.toList.drop 46 = dktX9_equals_2 := dk_seg dksX9_equals_1 22 rfl rfl
theorem dX9_equals_0 : decode cX9_equals 0 = .ok (.aload_n 1, 1) := dk_43 (dk_at dksX9_equals_0 0 rfl rfl)
theorem dX9_equals_1 : decode cX9_equals 1 = .ok (.instanceof 8, 3) := dk_193 0 8 (dk_at dksX9_equals_0 1 rfl rfl)
theorem dX9_equals_4 : decode cX9_equals 4 = .ok (.ifCond .eq 45, 3) := dk_153 0 45 (dk_at dksX9_equals_0 4 rfl rfl)
theorem dX9_equals_7 : decode cX9_equals 7 = .ok (.aload_n 1, 1) := dk_43 (dk_at dksX9_equals_0 7 rfl rfl)
theorem dX9_equals_8 : decode cX9_equals 8 = .ok (.checkcast 8, 3) := dk_192 0 8 (dk_at dksX9_equals_0 8 rfl rfl)
theorem dX9_equals_11 : decode cX9_equals 11 = .ok (.astore_n 2, 1) := dk_77 (dk_at dksX9_equals_0 11 rfl rfl)
theorem dX9_equals_12 : decode cX9_equals 12 = .ok (.aload_n 0, 1) := dk_42 (dk_at dksX9_equals_0 12 rfl rfl)
theorem dX9_equals_13 : decode cX9_equals 13 = .ok (.getfield 7, 3) := dk_180 0 7 (dk_at dksX9_equals_0 13 rfl rfl)
theorem dX9_equals_16 : decode cX9_equals 16 = .ok (.aload_n 2, 1) := dk_44 (dk_at dksX9_equals_0 16 rfl rfl)
theorem dX9_equals_17 : decode cX9_equals 17 = .ok (.getfield 7, 3) := dk_180 0 7 (dk_at dksX9_equals_0 17 rfl rfl)
theorem dX9_equals_20 : decode cX9_equals 20 = .ok (.if_icmp .ne 29, 3) := dk_160 0 29 (dk_at dksX9_equals_0 20 rfl rfl)
theorem dX9_equals_23 : decode cX9_equals 23 = .ok (.aload_n 0, 1) := dk_42 (dk_at dksX9_equals_0 23 rfl rfl)
theorem dX9_equals_24 : decode cX9_equals 24 = .ok (.getfield 13, 3) := dk_180 0 13 (dk_at dksX9_equals_1 0 rfl rfl)
theorem dX9_equals_27 : decode cX9_equals 27 = .ok (.aload_n 2, 1) := dk_44 (dk_at dksX9_equals_1 3 rfl rfl)
theorem dX9_equals_28 : decode cX9_equals 28 = .ok (.getfield 13, 3) := dk_180 0 13 (dk_at dksX9_equals_1 4 rfl rfl)
theorem dX9_equals_31 : decode cX9_equals 31 = .ok (.if_icmp .ne 18, 3) := dk_160 0 18 (dk_at dksX9_equals_1 7 rfl rfl)
theorem dX9_equals_34 : decode cX9_equals 34 = .ok (.aload_n 0, 1) := dk_42 (dk_at dksX9_equals_1 10 rfl rfl)
theorem dX9_equals_35 : decode cX9_equals 35 = .ok (.getfield 16, 3) := dk_180 0 16 (dk_at dksX9_equals_1 11 rfl rfl)
theorem dX9_equals_38 : decode cX9_equals 38 = .ok (.aload_n 2, 1) := dk_44 (dk_at dksX9_equals_1 14 rfl rfl)
theorem dX9_equals_39 : decode cX9_equals 39 = .ok (.getfield 16, 3) := dk_180 0 16 (dk_at dksX9_equals_1 15 rfl rfl)
theorem dX9_equals_42 : decode cX9_equals 42 = .ok (.if_icmp .ne 7, 3) := dk_160 0 7 (dk_at dksX9_equals_1 18 rfl rfl)
theorem dX9_equals_45 : decode cX9_equals 45 = .ok (.iconst 1, 1) := dk_4 (dk_at dksX9_equals_1 21 rfl rfl)
theorem dX9_equals_46 : decode cX9_equals 46 = .ok (.goto 4, 3) := dk_167 0 4 (dk_at dksX9_equals_2 0 rfl rfl)
theorem dX9_equals_49 : decode cX9_equals 49 = .ok (.iconst 0, 1) := dk_3 (dk_at dksX9_equals_2 3 rfl rfl)
theorem dX9_equals_50 : decode cX9_equals 50 = .ok (.ireturn, 1) := dk_172 (dk_at dksX9_equals_2 4 rfl rfl)
abbrev cX9_init : ByteArray := prog_13_method_1_code
def yX9_init : MethodName := ⟨RX9, "<init>", "(III)V"⟩
def dkwX9_init_0 : List UInt8 := [42, 183, 0, 1, 42, 27, 181, 0, 7, 42, 28, 181, 0, 13, 42, 29, 181, 0, 16, 177]
abbrev dktX9_init_0 : List UInt8 := dkwX9_init_0 ++ []
theorem dksX9_init_0 : cX9_init.data.toList.drop 0 = dktX9_init_0 := by decide +kernel
theorem dX9_init_0 : decode cX9_init 0 = .ok (.aload_n 0, 1) := dk_42 (dk_at dksX9_init_0 0 rfl rfl)
theorem dX9_init_1 : decode cX9_init 1 = .ok (.invokespecial 1, 3) := dk_183 0 1 (dk_at dksX9_init_0 1 rfl rfl)
theorem dX9_init_4 : decode cX9_init 4 = .ok (.aload_n 0, 1) := dk_42 (dk_at dksX9_init_0 4 rfl rfl)
theorem dX9_init_5 : decode cX9_init 5 = .ok (.iload_n 1, 1) := dk_27 (dk_at dksX9_init_0 5 rfl rfl)
theorem dX9_init_6 : decode cX9_init 6 = .ok (.putfield 7, 3) := dk_181 0 7 (dk_at dksX9_init_0 6 rfl rfl)
theorem dX9_init_9 : decode cX9_init 9 = .ok (.aload_n 0, 1) := dk_42 (dk_at dksX9_init_0 9 rfl rfl)
theorem dX9_init_10 : decode cX9_init 10 = .ok (.iload_n 2, 1) := dk_28 (dk_at dksX9_init_0 10 rfl rfl)
theorem dX9_init_11 : decode cX9_init 11 = .ok (.putfield 13, 3) := dk_181 0 13 (dk_at dksX9_init_0 11 rfl rfl)
theorem dX9_init_14 : decode cX9_init 14 = .ok (.aload_n 0, 1) := dk_42 (dk_at dksX9_init_0 14 rfl rfl)
theorem dX9_init_15 : decode cX9_init 15 = .ok (.iload_n 3, 1) := dk_29 (dk_at dksX9_init_0 15 rfl rfl)
theorem dX9_init_16 : decode cX9_init 16 = .ok (.putfield 16, 3) := dk_181 0 16 (dk_at dksX9_init_0 16 rfl rfl)
theorem dX9_init_19 : decode cX9_init 19 = .ok (.return_, 1) := dk_177 (dk_at dksX9_init_0 19 rfl rfl)
abbrev cX9_kind : ByteArray := prog_13_method_2_code
def yX9_kind : MethodName := ⟨RX9, "kind", "()I"⟩
theorem dX9_kind_0 : decode cX9_kind 0 = .ok (.aload_n 0, 1) := by decide +kernel
theorem dX9_kind_1 : decode cX9_kind 1 = .ok (.getfield 7, 3) := by decide +kernel
theorem dX9_kind_4 : decode cX9_kind 4 = .ok (.ireturn, 1) := by decide +kernel
abbrev cX9_channels : ByteArray := prog_13_method_3_code
def yX9_channels : MethodName := ⟨RX9, "channels", "()I"⟩
def dkwX9_channels_0 : List UInt8 := [42, 180, 0, 16, 42, 180, 0, 13, 100, 184, 0, 19, 172]
abbrev dktX9_channels_0 : List UInt8 := dkwX9_channels_0 ++ []
theorem dksX9_channels_0 : cX9_channels.data.toList.drop 0 = dktX9_channels_0 := by decide +kernel
theorem dX9_channels_0 : decode cX9_channels 0 = .ok (.aload_n 0, 1) := dk_42 (dk_at dksX9_channels_0 0 rfl rfl)
theorem dX9_channels_1 : decode cX9_channels 1 = .ok (.getfield 16, 3) := dk_180 0 16 (dk_at dksX9_channels_0 1 rfl rfl)
theorem dX9_channels_4 : decode cX9_channels 4 = .ok (.aload_n 0, 1) := dk_42 (dk_at dksX9_channels_0 4 rfl rfl)
theorem dX9_channels_5 : decode cX9_channels 5 = .ok (.getfield 13, 3) := dk_180 0 13 (dk_at dksX9_channels_0 5 rfl rfl)
theorem dX9_channels_8 : decode cX9_channels 8 = .ok (.isub, 1) := dk_100 (dk_at dksX9_channels_0 8 rfl rfl)
theorem dX9_channels_9 : decode cX9_channels 9 = .ok (.invokestatic 19, 3) := dk_184 0 19 (dk_at dksX9_channels_0 9 rfl rfl)
theorem dX9_channels_12 : decode cX9_channels 12 = .ok (.ireturn, 1) := dk_172 (dk_at dksX9_channels_0 12 rfl rfl)
abbrev cX9_split : ByteArray := prog_13_method_4_code
def yX9_split : MethodName := ⟨RX9, "split", "(I)LBraidedFerry$Group;"⟩
def dkwX9_split_1 : List UInt8 := [183, 0, 29, 176]
abbrev dktX9_split_1 : List UInt8 := dkwX9_split_1 ++ []
def dkwX9_split_0 : List UInt8 := [187, 0, 8, 89, 42, 180, 0, 7, 42, 180, 0, 13, 27, 184, 0, 25, 42, 180, 0, 16, 27, 184, 0, 25]
abbrev dktX9_split_0 : List UInt8 := dkwX9_split_0 ++ dktX9_split_1
theorem dksX9_split_0 : cX9_split.data.toList.drop 0 = dktX9_split_0 := by decide +kernel
theorem dksX9_split_1 : cX9_split.data.toList.drop 24 = dktX9_split_1 := dk_seg dksX9_split_0 24 rfl rfl
theorem dX9_split_0 : decode cX9_split 0 = .ok (.new 8, 3) := dk_187 0 8 (dk_at dksX9_split_0 0 rfl rfl)
theorem dX9_split_3 : decode cX9_split 3 = .ok (.dup, 1) := dk_89 (dk_at dksX9_split_0 3 rfl rfl)
theorem dX9_split_4 : decode cX9_split 4 = .ok (.aload_n 0, 1) := dk_42 (dk_at dksX9_split_0 4 rfl rfl)
theorem dX9_split_5 : decode cX9_split 5 = .ok (.getfield 7, 3) := dk_180 0 7 (dk_at dksX9_split_0 5 rfl rfl)
theorem dX9_split_8 : decode cX9_split 8 = .ok (.aload_n 0, 1) := dk_42 (dk_at dksX9_split_0 8 rfl rfl)
theorem dX9_split_9 : decode cX9_split 9 = .ok (.getfield 13, 3) := dk_180 0 13 (dk_at dksX9_split_0 9 rfl rfl)
theorem dX9_split_12 : decode cX9_split 12 = .ok (.iload_n 1, 1) := dk_27 (dk_at dksX9_split_0 12 rfl rfl)
theorem dX9_split_13 : decode cX9_split 13 = .ok (.invokestatic 25, 3) := dk_184 0 25 (dk_at dksX9_split_0 13 rfl rfl)
theorem dX9_split_16 : decode cX9_split 16 = .ok (.aload_n 0, 1) := dk_42 (dk_at dksX9_split_0 16 rfl rfl)
theorem dX9_split_17 : decode cX9_split 17 = .ok (.getfield 16, 3) := dk_180 0 16 (dk_at dksX9_split_0 17 rfl rfl)
theorem dX9_split_20 : decode cX9_split 20 = .ok (.iload_n 1, 1) := dk_27 (dk_at dksX9_split_0 20 rfl rfl)
theorem dX9_split_21 : decode cX9_split 21 = .ok (.invokestatic 25, 3) := dk_184 0 25 (dk_at dksX9_split_0 21 rfl rfl)
theorem dX9_split_24 : decode cX9_split 24 = .ok (.invokespecial 29, 3) := dk_183 0 29 (dk_at dksX9_split_1 0 rfl rfl)
theorem dX9_split_27 : decode cX9_split 27 = .ok (.areturn, 1) := dk_176 (dk_at dksX9_split_1 3 rfl rfl)
abbrev cX9_behind : ByteArray := prog_13_method_5_code
def yX9_behind : MethodName := ⟨RX9, "behind", "(II)I"⟩
def dkwX9_behind_0 : List UInt8 := [26, 27, 164, 0, 9, 26, 4, 96, 167, 0, 4, 26, 172]
abbrev dktX9_behind_0 : List UInt8 := dkwX9_behind_0 ++ []
theorem dksX9_behind_0 : cX9_behind.data.toList.drop 0 = dktX9_behind_0 := by decide +kernel
theorem dX9_behind_0 : decode cX9_behind 0 = .ok (.iload_n 0, 1) := dk_26 (dk_at dksX9_behind_0 0 rfl rfl)
theorem dX9_behind_1 : decode cX9_behind 1 = .ok (.iload_n 1, 1) := dk_27 (dk_at dksX9_behind_0 1 rfl rfl)
theorem dX9_behind_2 : decode cX9_behind 2 = .ok (.if_icmp .le 9, 3) := dk_164 0 9 (dk_at dksX9_behind_0 2 rfl rfl)
theorem dX9_behind_5 : decode cX9_behind 5 = .ok (.iload_n 0, 1) := dk_26 (dk_at dksX9_behind_0 5 rfl rfl)
theorem dX9_behind_6 : decode cX9_behind 6 = .ok (.iconst 1, 1) := dk_4 (dk_at dksX9_behind_0 6 rfl rfl)
theorem dX9_behind_7 : decode cX9_behind 7 = .ok (.iadd, 1) := dk_96 (dk_at dksX9_behind_0 7 rfl rfl)
theorem dX9_behind_8 : decode cX9_behind 8 = .ok (.goto 4, 3) := dk_167 0 4 (dk_at dksX9_behind_0 8 rfl rfl)
theorem dX9_behind_11 : decode cX9_behind 11 = .ok (.iload_n 0, 1) := dk_26 (dk_at dksX9_behind_0 11 rfl rfl)
theorem dX9_behind_12 : decode cX9_behind 12 = .ok (.ireturn, 1) := dk_172 (dk_at dksX9_behind_0 12 rfl rfl)
theorem q119 : (Jvm.Cond.initialized "BraidedFerry$Group") ∈ lw_all := lw_g (lw_at lw_m1 47 rfl) rfl
theorem q605 : (Jvm.Cond.selects "BraidedFerry$Group" ({ cls := "java/lang/Object", name := "getClass", desc := "()Ljava/lang/Class;" } : Jvm.MethodName) ({ cls := "java/lang/Object", name := "getClass", desc := "()Ljava/lang/Class;" } : Jvm.MethodName)) ∈ lw_all := lw_g (lw_at lw_m3 53 rfl) rfl
theorem q797 : (Jvm.Cond.selects "BraidedFerry$Group" ({ cls := "java/lang/Object", name := "hashCode", desc := "()I" } : Jvm.MethodName) ({ cls := "BraidedFerry$Group", name := "hashCode", desc := "()I" } : Jvm.MethodName)) ∈ lw_all := lw_g (lw_at lw_m4 5 rfl) rfl
theorem q798 : (Jvm.Cond.instanceMethod ({ cls := "BraidedFerry$Group", name := "hashCode", desc := "()I" } : Jvm.MethodName)) ∈ lw_all := lw_g (lw_at lw_m4 6 rfl) rfl
theorem q799 : (Jvm.Cond.code ({ cls := "BraidedFerry$Group", name := "hashCode", desc := "()I" } : Jvm.MethodName) prog_13_method_7_code (1 : Nat) (Option.some Jvm.ClassFile.FieldType.int)) ∈ lw_all := lw_g (lw_at lw_m4 7 rfl) rfl
theorem q1122 : (Jvm.Cond.selects "BraidedFerry$Group" ({ cls := "java/lang/Object", name := "equals", desc := "(Ljava/lang/Object;)Z" } : Jvm.MethodName) ({ cls := "BraidedFerry$Group", name := "equals", desc := "(Ljava/lang/Object;)Z" } : Jvm.MethodName)) ∈ lw_all := lw_g (lw_at lw_m5 90 rfl) rfl
theorem q1123 : (Jvm.Cond.instanceMethod ({ cls := "BraidedFerry$Group", name := "equals", desc := "(Ljava/lang/Object;)Z" } : Jvm.MethodName)) ∈ lw_all := lw_g (lw_at lw_m5 91 rfl) rfl
theorem q1124 : (Jvm.Cond.code ({ cls := "BraidedFerry$Group", name := "equals", desc := "(Ljava/lang/Object;)Z" } : Jvm.MethodName) prog_13_method_6_code (3 : Nat) (Option.some Jvm.ClassFile.FieldType.boolean)) ∈ lw_all := lw_g (lw_at lw_m5 92 rfl) rfl
theorem q1125 : (Jvm.Cond.classLink "BraidedFerry$Group" (8 : Nat) "BraidedFerry$Group") ∈ lw_all := lw_g (lw_at lw_m5 93 rfl) rfl
theorem q1758 : (Jvm.Cond.instantiable "BraidedFerry$Group" (3 : Nat)) ∈ lw_all := lw_g (lw_at lw_m8 6 rfl) rfl
theorem q1760 : (Jvm.Cond.instanceMethod ({ cls := "BraidedFerry$Group", name := "<init>", desc := "(III)V" } : Jvm.MethodName)) ∈ lw_all := lw_g (lw_at lw_m8 8 rfl) rfl
theorem q1761 : (Jvm.Cond.code ({ cls := "BraidedFerry$Group", name := "<init>", desc := "(III)V" } : Jvm.MethodName) prog_13_method_1_code (4 : Nat) (Option.none : Option Jvm.ClassFile.FieldType)) ∈ lw_all := lw_g (lw_at lw_m8 9 rfl) rfl
theorem q1762 : (Jvm.Cond.methodLink "BraidedFerry$Group" (1 : Nat) ({ cls := "java/lang/Object", name := "<init>", desc := "()V" } : Jvm.MethodName)) ∈ lw_all := lw_g (lw_at lw_m8 10 rfl) rfl
theorem q1763 : (Jvm.Cond.fieldLink "BraidedFerry$Group" (7 : Nat) "BraidedFerry$Group" "kind" "I") ∈ lw_all := lw_g (lw_at lw_m8 11 rfl) rfl
theorem q1766 : (Jvm.Cond.fieldLink "BraidedFerry$Group" (13 : Nat) "BraidedFerry$Group" "from" "I") ∈ lw_all := lw_g (lw_at lw_m8 14 rfl) rfl
theorem q1769 : (Jvm.Cond.fieldLink "BraidedFerry$Group" (16 : Nat) "BraidedFerry$Group" "to" "I") ∈ lw_all := lw_g (lw_at lw_m8 17 rfl) rfl
theorem q1772 : (Jvm.Cond.laysFinal "BraidedFerry$Group" "BraidedFerry$Group" "kind" "I") ∈ lw_all := lw_g (lw_at lw_m8 20 rfl) rfl
theorem q1773 : (Jvm.Cond.soleField "BraidedFerry$Group" "kind") ∈ lw_all := lw_g (lw_at lw_m8 21 rfl) rfl
theorem q1774 : (Jvm.Cond.laysFinal "BraidedFerry$Group" "BraidedFerry$Group" "from" "I") ∈ lw_all := lw_g (lw_at lw_m8 22 rfl) rfl
theorem q1775 : (Jvm.Cond.soleField "BraidedFerry$Group" "from") ∈ lw_all := lw_g (lw_at lw_m8 23 rfl) rfl
theorem q1776 : (Jvm.Cond.laysFinal "BraidedFerry$Group" "BraidedFerry$Group" "to" "I") ∈ lw_all := lw_g (lw_at lw_m8 24 rfl) rfl
theorem q1777 : (Jvm.Cond.soleField "BraidedFerry$Group" "to") ∈ lw_all := lw_g (lw_at lw_m8 25 rfl) rfl
theorem q1778 : (Jvm.Cond.superclass "BraidedFerry$Group" "java/lang/Object") ∈ lw_all := lw_g (lw_at lw_m8 26 rfl) rfl
theorem q1821 : (Jvm.Cond.castable "BraidedFerry$Group" "BraidedFerry$Weighed") ∈ lw_tbl := lw_at lw_m8 69 rfl
theorem q1822 : (Jvm.Cond.unhidden "BraidedFerry$Group" "weight" "()I") ∈ lw_tbl := lw_at lw_m8 70 rfl
theorem q1830 : (Jvm.Cond.selects "BraidedFerry$Group" ({ cls := "BraidedFerry$Weighed", name := "kind", desc := "()I" } : Jvm.MethodName) ({ cls := "BraidedFerry$Group", name := "kind", desc := "()I" } : Jvm.MethodName)) ∈ lw_all := lw_g (lw_at lw_m8 78 rfl) rfl
theorem q1831 : (Jvm.Cond.unhidden "BraidedFerry$Group" "kind" "()I") ∈ lw_tbl := lw_at lw_m8 79 rfl
theorem q1832 : (Jvm.Cond.instanceMethod ({ cls := "BraidedFerry$Group", name := "kind", desc := "()I" } : Jvm.MethodName)) ∈ lw_all := lw_g (lw_at lw_m8 80 rfl) rfl
theorem q1833 : (Jvm.Cond.publicMethod ({ cls := "BraidedFerry$Group", name := "kind", desc := "()I" } : Jvm.MethodName)) ∈ lw_tbl := lw_at lw_m8 81 rfl
theorem q1834 : (Jvm.Cond.code ({ cls := "BraidedFerry$Group", name := "kind", desc := "()I" } : Jvm.MethodName) prog_13_method_2_code (1 : Nat) (Option.some Jvm.ClassFile.FieldType.int)) ∈ lw_all := lw_g (lw_at lw_m8 82 rfl) rfl
theorem q2052 : (Jvm.Cond.instanceMethod ({ cls := "BraidedFerry$Group", name := "channels", desc := "()I" } : Jvm.MethodName)) ∈ lw_all := lw_g (lw_at lw_m9 60 rfl) rfl
theorem q2053 : (Jvm.Cond.selects "BraidedFerry$Group" ({ cls := "BraidedFerry$Group", name := "channels", desc := "()I" } : Jvm.MethodName) ({ cls := "BraidedFerry$Group", name := "channels", desc := "()I" } : Jvm.MethodName)) ∈ lw_all := lw_g (lw_at lw_m9 61 rfl) rfl
theorem q2054 : (Jvm.Cond.code ({ cls := "BraidedFerry$Group", name := "channels", desc := "()I" } : Jvm.MethodName) prog_13_method_3_code (1 : Nat) (Option.some Jvm.ClassFile.FieldType.int)) ∈ lw_all := lw_g (lw_at lw_m9 62 rfl) rfl
theorem q2055 : (Jvm.Cond.methodLink "BraidedFerry$Group" (19 : Nat) ({ cls := "java/lang/Math", name := "abs", desc := "(I)I" } : Jvm.MethodName)) ∈ lw_all := lw_g (lw_at lw_m9 63 rfl) rfl
theorem q2180 : (Jvm.Cond.instanceMethod ({ cls := "BraidedFerry$Group", name := "split", desc := "(I)LBraidedFerry$Group;" } : Jvm.MethodName)) ∈ lw_all := lw_g (lw_at lw_m9 188 rfl) rfl
theorem q2181 : (Jvm.Cond.selects "BraidedFerry$Group" ({ cls := "BraidedFerry$Group", name := "split", desc := "(I)LBraidedFerry$Group;" } : Jvm.MethodName) ({ cls := "BraidedFerry$Group", name := "split", desc := "(I)LBraidedFerry$Group;" } : Jvm.MethodName)) ∈ lw_all := lw_g (lw_at lw_m9 189 rfl) rfl
theorem q2182 : (Jvm.Cond.code ({ cls := "BraidedFerry$Group", name := "split", desc := "(I)LBraidedFerry$Group;" } : Jvm.MethodName) prog_13_method_4_code (2 : Nat) (Option.some (Jvm.ClassFile.FieldType.object "BraidedFerry$Group"))) ∈ lw_all := lw_g (lw_at lw_m9 190 rfl) rfl
theorem q2183 : (Jvm.Cond.methodLink "BraidedFerry$Group" (25 : Nat) ({ cls := "BraidedFerry$Group", name := "behind", desc := "(II)I" } : Jvm.MethodName)) ∈ lw_all := lw_g (lw_at lw_m9 191 rfl) rfl
theorem q2184 : (Jvm.Cond.static ({ cls := "BraidedFerry$Group", name := "behind", desc := "(II)I" } : Jvm.MethodName)) ∈ lw_all := lw_g (lw_at lw_m9 192 rfl) rfl
theorem q2185 : (Jvm.Cond.code ({ cls := "BraidedFerry$Group", name := "behind", desc := "(II)I" } : Jvm.MethodName) prog_13_method_5_code (2 : Nat) (Option.some Jvm.ClassFile.FieldType.int)) ∈ lw_all := lw_g (lw_at lw_m9 193 rfl) rfl
theorem q2186 : (Jvm.Cond.methodLink "BraidedFerry$Group" (29 : Nat) ({ cls := "BraidedFerry$Group", name := "<init>", desc := "(III)V" } : Jvm.MethodName)) ∈ lw_all := lw_g (lw_at lw_m9 194 rfl) rfl
theorem q2687 : (Jvm.Cond.selects "BraidedFerry$Group" ({ cls := "java/lang/Object", name := "toString", desc := "()Ljava/lang/String;" } : Jvm.MethodName) ({ cls := "java/lang/Object", name := "toString", desc := "()Ljava/lang/String;" } : Jvm.MethodName)) ∈ lw_all := lw_g (lw_at lw_m11 215 rfl) rfl
theorem q3714 : (Jvm.Cond.castable "BraidedFerry$Group" "java/lang/Object") ∈ lw_tbl := lw_at lw_m16 42 rfl
theorem in_X9 : ∀ w ∈ wsX90, w ∈ lw_all := lw_in wsX90 [1772, 1774, 1776] (by decide +kernel) (by decide +kernel)

/-! BraidedFerry$Weighed -/
set_option maxRecDepth 100000
def RX10 : String := "BraidedFerry$Weighed"
abbrev cX10_weight : ByteArray := prog_26_method_2_code
def yX10_weight : MethodName := ⟨RX10, "weight", "()I"⟩
def dkwX10_weight_0 : List UInt8 := [42, 185, 0, 3, 1, 0, 184, 0, 9, 172]
abbrev dktX10_weight_0 : List UInt8 := dkwX10_weight_0 ++ []
theorem dksX10_weight_0 : cX10_weight.data.toList.drop 0 = dktX10_weight_0 := by decide +kernel
theorem dX10_weight_0 : decode cX10_weight 0 = .ok (.aload_n 0, 1) := dk_42 (dk_at dksX10_weight_0 0 rfl rfl)
theorem dX10_weight_1 : decode cX10_weight 1 = .ok (.invokeinterface 3 1, 5) := by decide +kernel
theorem dX10_weight_6 : decode cX10_weight 6 = .ok (.invokestatic 9, 3) := dk_184 0 9 (dk_at dksX10_weight_0 6 rfl rfl)
theorem dX10_weight_9 : decode cX10_weight 9 = .ok (.ireturn, 1) := dk_172 (dk_at dksX10_weight_0 9 rfl rfl)
abbrev cX10_weightOf : ByteArray := prog_26_method_3_code
def yX10_weightOf : MethodName := ⟨RX10, "weightOf", "(I)I"⟩
def dkwX10_weightOf_0 : List UInt8 := [26, 154, 0, 7, 4, 167, 0, 15, 26, 4, 160, 0, 8, 16, 8, 167, 0, 5, 16, 20, 172]
abbrev dktX10_weightOf_0 : List UInt8 := dkwX10_weightOf_0 ++ []
theorem dksX10_weightOf_0 : cX10_weightOf.data.toList.drop 0 = dktX10_weightOf_0 := by decide +kernel
theorem dX10_weightOf_0 : decode cX10_weightOf 0 = .ok (.iload_n 0, 1) := dk_26 (dk_at dksX10_weightOf_0 0 rfl rfl)
theorem dX10_weightOf_1 : decode cX10_weightOf 1 = .ok (.ifCond .ne 7, 3) := dk_154 0 7 (dk_at dksX10_weightOf_0 1 rfl rfl)
theorem dX10_weightOf_4 : decode cX10_weightOf 4 = .ok (.iconst 1, 1) := dk_4 (dk_at dksX10_weightOf_0 4 rfl rfl)
theorem dX10_weightOf_5 : decode cX10_weightOf 5 = .ok (.goto 15, 3) := dk_167 0 15 (dk_at dksX10_weightOf_0 5 rfl rfl)
theorem dX10_weightOf_8 : decode cX10_weightOf 8 = .ok (.iload_n 0, 1) := dk_26 (dk_at dksX10_weightOf_0 8 rfl rfl)
theorem dX10_weightOf_9 : decode cX10_weightOf 9 = .ok (.iconst 1, 1) := dk_4 (dk_at dksX10_weightOf_0 9 rfl rfl)
theorem dX10_weightOf_10 : decode cX10_weightOf 10 = .ok (.if_icmp .ne 8, 3) := dk_160 0 8 (dk_at dksX10_weightOf_0 10 rfl rfl)
theorem dX10_weightOf_13 : decode cX10_weightOf 13 = .ok (.bipush 8, 2) := dk_16 8 (dk_at dksX10_weightOf_0 13 rfl rfl)
theorem dX10_weightOf_15 : decode cX10_weightOf 15 = .ok (.goto 5, 3) := dk_167 0 5 (dk_at dksX10_weightOf_0 15 rfl rfl)
theorem dX10_weightOf_18 : decode cX10_weightOf 18 = .ok (.bipush 20, 2) := dk_16 20 (dk_at dksX10_weightOf_0 18 rfl rfl)
theorem dX10_weightOf_20 : decode cX10_weightOf 20 = .ok (.ireturn, 1) := dk_172 (dk_at dksX10_weightOf_0 20 rfl rfl)
abbrev cX10_nameOf : ByteArray := prog_26_method_4_code
def yX10_nameOf : MethodName := ⟨RX10, "nameOf", "(I)Ljava/lang/String;"⟩
def dkwX10_nameOf_0 : List UInt8 := [26, 154, 0, 8, 18, 13, 167, 0, 15, 26, 4, 160, 0, 8, 18, 15, 167, 0, 5, 18, 17, 176]
abbrev dktX10_nameOf_0 : List UInt8 := dkwX10_nameOf_0 ++ []
theorem dksX10_nameOf_0 : cX10_nameOf.data.toList.drop 0 = dktX10_nameOf_0 := by decide +kernel
theorem dX10_nameOf_0 : decode cX10_nameOf 0 = .ok (.iload_n 0, 1) := dk_26 (dk_at dksX10_nameOf_0 0 rfl rfl)
theorem dX10_nameOf_1 : decode cX10_nameOf 1 = .ok (.ifCond .ne 8, 3) := dk_154 0 8 (dk_at dksX10_nameOf_0 1 rfl rfl)
theorem dX10_nameOf_4 : decode cX10_nameOf 4 = .ok (.ldc 13, 2) := dk_18 13 (dk_at dksX10_nameOf_0 4 rfl rfl)
theorem dX10_nameOf_6 : decode cX10_nameOf 6 = .ok (.goto 15, 3) := dk_167 0 15 (dk_at dksX10_nameOf_0 6 rfl rfl)
theorem dX10_nameOf_9 : decode cX10_nameOf 9 = .ok (.iload_n 0, 1) := dk_26 (dk_at dksX10_nameOf_0 9 rfl rfl)
theorem dX10_nameOf_10 : decode cX10_nameOf 10 = .ok (.iconst 1, 1) := dk_4 (dk_at dksX10_nameOf_0 10 rfl rfl)
theorem dX10_nameOf_11 : decode cX10_nameOf 11 = .ok (.if_icmp .ne 8, 3) := dk_160 0 8 (dk_at dksX10_nameOf_0 11 rfl rfl)
theorem dX10_nameOf_14 : decode cX10_nameOf 14 = .ok (.ldc 15, 2) := dk_18 15 (dk_at dksX10_nameOf_0 14 rfl rfl)
theorem dX10_nameOf_16 : decode cX10_nameOf 16 = .ok (.goto 5, 3) := dk_167 0 5 (dk_at dksX10_nameOf_0 16 rfl rfl)
theorem dX10_nameOf_19 : decode cX10_nameOf 19 = .ok (.ldc 17, 2) := dk_18 17 (dk_at dksX10_nameOf_0 19 rfl rfl)
theorem dX10_nameOf_21 : decode cX10_nameOf 21 = .ok (.areturn, 1) := dk_176 (dk_at dksX10_nameOf_0 21 rfl rfl)
abbrev cX10_kindOf : ByteArray := prog_26_method_5_code
def yX10_kindOf : MethodName := ⟨RX10, "kindOf", "(Ljava/lang/String;)I"⟩
def dkwX10_kindOf_5 : List UInt8 := [3, 167, 0, 12, 4, 167, 0, 8, 5, 167, 0, 4, 2, 172]
abbrev dktX10_kindOf_5 : List UInt8 := dkwX10_kindOf_5 ++ []
def dkwX10_kindOf_4 : List UInt8 := [170, 0, 0, 0, 0, 0, 0, 40, 0, 0, 0, 0, 0, 0, 0, 2, 0, 0, 0, 28, 0, 0, 0, 32, 0, 0, 0, 36]
abbrev dktX10_kindOf_4 : List UInt8 := dkwX10_kindOf_4 ++ dktX10_kindOf_5
def dkwX10_kindOf_3 : List UInt8 := [61, 167, 0, 14, 43, 18, 17, 182, 0, 24, 153, 0, 5, 5, 61, 28]
abbrev dktX10_kindOf_3 : List UInt8 := dkwX10_kindOf_3 ++ dktX10_kindOf_4
def dkwX10_kindOf_2 : List UInt8 := [43, 18, 13, 182, 0, 24, 153, 0, 33, 3, 61, 167, 0, 28, 43, 18, 15, 182, 0, 24, 153, 0, 19, 4]
abbrev dktX10_kindOf_2 : List UInt8 := dkwX10_kindOf_2 ++ dktX10_kindOf_3
def dkwX10_kindOf_1 : List UInt8 := [171, 0, 0, 0, 0, 0, 0, 75, 0, 0, 0, 3, 0, 48, 12, 110, 0, 0, 0, 36, 0, 48, 245, 30, 0, 0, 0, 50, 6, 189, 187, 91, 0, 0, 0, 64]
abbrev dktX10_kindOf_1 : List UInt8 := dkwX10_kindOf_1 ++ dktX10_kindOf_2
def dkwX10_kindOf_0 : List UInt8 := [42, 76, 2, 61, 43, 182, 0, 19]
abbrev dktX10_kindOf_0 : List UInt8 := dkwX10_kindOf_0 ++ dktX10_kindOf_1
theorem dksX10_kindOf_0 : cX10_kindOf.data.toList.drop 0 = dktX10_kindOf_0 := by decide +kernel
theorem dksX10_kindOf_1 : cX10_kindOf.data.toList.drop 8 = dktX10_kindOf_1 := dk_seg dksX10_kindOf_0 8 rfl rfl
theorem dksX10_kindOf_2 : cX10_kindOf.data.toList.drop 44 = dktX10_kindOf_2 := dk_seg dksX10_kindOf_1 36 rfl rfl
theorem dksX10_kindOf_3 : cX10_kindOf.data.toList.drop 68 = dktX10_kindOf_3 := dk_seg dksX10_kindOf_2 24 rfl rfl
theorem dksX10_kindOf_4 : cX10_kindOf.data.toList.drop 84 = dktX10_kindOf_4 := dk_seg dksX10_kindOf_3 16 rfl rfl
theorem dksX10_kindOf_5 : cX10_kindOf.data.toList.drop 112 = dktX10_kindOf_5 := dk_seg dksX10_kindOf_4 28 rfl rfl
theorem dX10_kindOf_0 : decode cX10_kindOf 0 = .ok (.aload_n 0, 1) := dk_42 (dk_at dksX10_kindOf_0 0 rfl rfl)
theorem dX10_kindOf_1 : decode cX10_kindOf 1 = .ok (.astore_n 1, 1) := dk_76 (dk_at dksX10_kindOf_0 1 rfl rfl)
theorem dX10_kindOf_2 : decode cX10_kindOf 2 = .ok (.iconst (-1), 1) := dk_2 (dk_at dksX10_kindOf_0 2 rfl rfl)
theorem dX10_kindOf_3 : decode cX10_kindOf 3 = .ok (.istore_n 2, 1) := dk_61 (dk_at dksX10_kindOf_0 3 rfl rfl)
theorem dX10_kindOf_4 : decode cX10_kindOf 4 = .ok (.aload_n 1, 1) := dk_43 (dk_at dksX10_kindOf_0 4 rfl rfl)
theorem dX10_kindOf_5 : decode cX10_kindOf 5 = .ok (.invokevirtual 19, 3) := dk_182 0 19 (dk_at dksX10_kindOf_0 5 rfl rfl)
theorem dX10_kindOf_8 : decode cX10_kindOf 8 = .ok (.lookupswitch 75 #[(3148910, 36), (3208478, 50), (113097563, 64)], 36) := by decide +kernel
theorem dX10_kindOf_44 : decode cX10_kindOf 44 = .ok (.aload_n 1, 1) := dk_43 (dk_at dksX10_kindOf_2 0 rfl rfl)
theorem dX10_kindOf_45 : decode cX10_kindOf 45 = .ok (.ldc 13, 2) := dk_18 13 (dk_at dksX10_kindOf_2 1 rfl rfl)
theorem dX10_kindOf_47 : decode cX10_kindOf 47 = .ok (.invokevirtual 24, 3) := dk_182 0 24 (dk_at dksX10_kindOf_2 3 rfl rfl)
theorem dX10_kindOf_50 : decode cX10_kindOf 50 = .ok (.ifCond .eq 33, 3) := dk_153 0 33 (dk_at dksX10_kindOf_2 6 rfl rfl)
theorem dX10_kindOf_53 : decode cX10_kindOf 53 = .ok (.iconst 0, 1) := dk_3 (dk_at dksX10_kindOf_2 9 rfl rfl)
theorem dX10_kindOf_54 : decode cX10_kindOf 54 = .ok (.istore_n 2, 1) := dk_61 (dk_at dksX10_kindOf_2 10 rfl rfl)
theorem dX10_kindOf_55 : decode cX10_kindOf 55 = .ok (.goto 28, 3) := dk_167 0 28 (dk_at dksX10_kindOf_2 11 rfl rfl)
theorem dX10_kindOf_58 : decode cX10_kindOf 58 = .ok (.aload_n 1, 1) := dk_43 (dk_at dksX10_kindOf_2 14 rfl rfl)
theorem dX10_kindOf_59 : decode cX10_kindOf 59 = .ok (.ldc 15, 2) := dk_18 15 (dk_at dksX10_kindOf_2 15 rfl rfl)
theorem dX10_kindOf_61 : decode cX10_kindOf 61 = .ok (.invokevirtual 24, 3) := dk_182 0 24 (dk_at dksX10_kindOf_2 17 rfl rfl)
theorem dX10_kindOf_64 : decode cX10_kindOf 64 = .ok (.ifCond .eq 19, 3) := dk_153 0 19 (dk_at dksX10_kindOf_2 20 rfl rfl)
theorem dX10_kindOf_67 : decode cX10_kindOf 67 = .ok (.iconst 1, 1) := dk_4 (dk_at dksX10_kindOf_2 23 rfl rfl)
theorem dX10_kindOf_68 : decode cX10_kindOf 68 = .ok (.istore_n 2, 1) := dk_61 (dk_at dksX10_kindOf_3 0 rfl rfl)
theorem dX10_kindOf_69 : decode cX10_kindOf 69 = .ok (.goto 14, 3) := dk_167 0 14 (dk_at dksX10_kindOf_3 1 rfl rfl)
theorem dX10_kindOf_72 : decode cX10_kindOf 72 = .ok (.aload_n 1, 1) := dk_43 (dk_at dksX10_kindOf_3 4 rfl rfl)
theorem dX10_kindOf_73 : decode cX10_kindOf 73 = .ok (.ldc 17, 2) := dk_18 17 (dk_at dksX10_kindOf_3 5 rfl rfl)
theorem dX10_kindOf_75 : decode cX10_kindOf 75 = .ok (.invokevirtual 24, 3) := dk_182 0 24 (dk_at dksX10_kindOf_3 7 rfl rfl)
theorem dX10_kindOf_78 : decode cX10_kindOf 78 = .ok (.ifCond .eq 5, 3) := dk_153 0 5 (dk_at dksX10_kindOf_3 10 rfl rfl)
theorem dX10_kindOf_81 : decode cX10_kindOf 81 = .ok (.iconst 2, 1) := dk_5 (dk_at dksX10_kindOf_3 13 rfl rfl)
theorem dX10_kindOf_82 : decode cX10_kindOf 82 = .ok (.istore_n 2, 1) := dk_61 (dk_at dksX10_kindOf_3 14 rfl rfl)
theorem dX10_kindOf_83 : decode cX10_kindOf 83 = .ok (.iload_n 2, 1) := dk_28 (dk_at dksX10_kindOf_3 15 rfl rfl)
theorem dX10_kindOf_84 : decode cX10_kindOf 84 = .ok (.tableswitch 40 0 2 #[28, 32, 36], 28) := by decide +kernel
theorem dX10_kindOf_112 : decode cX10_kindOf 112 = .ok (.iconst 0, 1) := dk_3 (dk_at dksX10_kindOf_5 0 rfl rfl)
theorem dX10_kindOf_113 : decode cX10_kindOf 113 = .ok (.goto 12, 3) := dk_167 0 12 (dk_at dksX10_kindOf_5 1 rfl rfl)
theorem dX10_kindOf_116 : decode cX10_kindOf 116 = .ok (.iconst 1, 1) := dk_4 (dk_at dksX10_kindOf_5 4 rfl rfl)
theorem dX10_kindOf_117 : decode cX10_kindOf 117 = .ok (.goto 8, 3) := dk_167 0 8 (dk_at dksX10_kindOf_5 5 rfl rfl)
theorem dX10_kindOf_120 : decode cX10_kindOf 120 = .ok (.iconst 2, 1) := dk_5 (dk_at dksX10_kindOf_5 8 rfl rfl)
theorem dX10_kindOf_121 : decode cX10_kindOf 121 = .ok (.goto 4, 3) := dk_167 0 4 (dk_at dksX10_kindOf_5 9 rfl rfl)
theorem dX10_kindOf_124 : decode cX10_kindOf 124 = .ok (.iconst (-1), 1) := dk_2 (dk_at dksX10_kindOf_5 12 rfl rfl)
theorem dX10_kindOf_125 : decode cX10_kindOf 125 = .ok (.ireturn, 1) := dk_172 (dk_at dksX10_kindOf_5 13 rfl rfl)
theorem q120 : (Jvm.Cond.initialized "BraidedFerry$Weighed") ∈ lw_all := lw_g (lw_at lw_m1 48 rfl) rfl
theorem q1819 : (Jvm.Cond.interfaceMethod "BraidedFerry$Weighed" "BraidedFerry$Weighed" "weight" "()I") ∈ lw_tbl := lw_at lw_m8 67 rfl
theorem q1820 : (Jvm.Cond.declares ({ cls := "BraidedFerry$Weighed", name := "weight", desc := "()I" } : Jvm.MethodName)) ∈ lw_tbl := lw_at lw_m8 68 rfl
theorem q1823 : (Jvm.Cond.instanceMethod ({ cls := "BraidedFerry$Weighed", name := "weight", desc := "()I" } : Jvm.MethodName)) ∈ lw_all := lw_g (lw_at lw_m8 71 rfl) rfl
theorem q1824 : (Jvm.Cond.publicMethod ({ cls := "BraidedFerry$Weighed", name := "weight", desc := "()I" } : Jvm.MethodName)) ∈ lw_tbl := lw_at lw_m8 72 rfl
theorem q1825 : (Jvm.Cond.code ({ cls := "BraidedFerry$Weighed", name := "weight", desc := "()I" } : Jvm.MethodName) prog_26_method_2_code (1 : Nat) (Option.some Jvm.ClassFile.FieldType.int)) ∈ lw_all := lw_g (lw_at lw_m8 73 rfl) rfl
theorem q1826 : (Jvm.Cond.interfaceEntry "BraidedFerry$Weighed" (3 : Nat)) ∈ lw_tbl := lw_at lw_m8 74 rfl
theorem q1827 : (Jvm.Cond.methodLink "BraidedFerry$Weighed" (3 : Nat) ({ cls := "BraidedFerry$Weighed", name := "kind", desc := "()I" } : Jvm.MethodName)) ∈ lw_all := lw_g (lw_at lw_m8 75 rfl) rfl
theorem q1828 : (Jvm.Cond.interfaceMethod "BraidedFerry$Weighed" "BraidedFerry$Weighed" "kind" "()I") ∈ lw_tbl := lw_at lw_m8 76 rfl
theorem q1829 : (Jvm.Cond.declares ({ cls := "BraidedFerry$Weighed", name := "kind", desc := "()I" } : Jvm.MethodName)) ∈ lw_tbl := lw_at lw_m8 77 rfl
theorem q1835 : (Jvm.Cond.methodLink "BraidedFerry$Weighed" (9 : Nat) ({ cls := "BraidedFerry$Weighed", name := "weightOf", desc := "(I)I" } : Jvm.MethodName)) ∈ lw_all := lw_g (lw_at lw_m8 83 rfl) rfl
theorem q1836 : (Jvm.Cond.static ({ cls := "BraidedFerry$Weighed", name := "weightOf", desc := "(I)I" } : Jvm.MethodName)) ∈ lw_all := lw_g (lw_at lw_m8 84 rfl) rfl
theorem q1837 : (Jvm.Cond.code ({ cls := "BraidedFerry$Weighed", name := "weightOf", desc := "(I)I" } : Jvm.MethodName) prog_26_method_3_code (1 : Nat) (Option.some Jvm.ClassFile.FieldType.int)) ∈ lw_all := lw_g (lw_at lw_m8 85 rfl) rfl
theorem q2618 : (Jvm.Cond.static ({ cls := "BraidedFerry$Weighed", name := "nameOf", desc := "(I)Ljava/lang/String;" } : Jvm.MethodName)) ∈ lw_all := lw_g (lw_at lw_m11 146 rfl) rfl
theorem q2619 : (Jvm.Cond.code ({ cls := "BraidedFerry$Weighed", name := "nameOf", desc := "(I)Ljava/lang/String;" } : Jvm.MethodName) prog_26_method_4_code (1 : Nat) (Option.some (Jvm.ClassFile.FieldType.object "java/lang/String"))) ∈ lw_all := lw_g (lw_at lw_m11 147 rfl) rfl
theorem q2620 : (Jvm.Cond.stringRef "BraidedFerry$Weighed" (13 : Nat) "foot") ∈ lw_tbl := lw_at lw_m11 148 rfl
theorem q2621 : (Jvm.Cond.stringRef "BraidedFerry$Weighed" (15 : Nat) "hoof") ∈ lw_tbl := lw_at lw_m11 149 rfl
theorem q2622 : (Jvm.Cond.stringRef "BraidedFerry$Weighed" (17 : Nat) "wheel") ∈ lw_tbl := lw_at lw_m11 150 rfl
theorem q3121 : (Jvm.Cond.static ({ cls := "BraidedFerry$Weighed", name := "kindOf", desc := "(Ljava/lang/String;)I" } : Jvm.MethodName)) ∈ lw_all := lw_g (lw_at lw_m13 169 rfl) rfl
theorem q3122 : (Jvm.Cond.code ({ cls := "BraidedFerry$Weighed", name := "kindOf", desc := "(Ljava/lang/String;)I" } : Jvm.MethodName) prog_26_method_5_code (3 : Nat) (Option.some Jvm.ClassFile.FieldType.int)) ∈ lw_all := lw_g (lw_at lw_m13 170 rfl) rfl
theorem q3123 : (Jvm.Cond.methodLink "BraidedFerry$Weighed" (19 : Nat) ({ cls := "java/lang/String", name := "hashCode", desc := "()I" } : Jvm.MethodName)) ∈ lw_all := lw_g (lw_at lw_m13 171 rfl) rfl
theorem q3124 : (Jvm.Cond.methodLink "BraidedFerry$Weighed" (24 : Nat) ({ cls := "java/lang/String", name := "equals", desc := "(Ljava/lang/Object;)Z" } : Jvm.MethodName)) ∈ lw_all := lw_g (lw_at lw_m13 172 rfl) rfl

/-! BraidedFerry$Flood -/
set_option maxRecDepth 100000
def RX11 : String := "BraidedFerry$Flood"
def TX11 : u_T := fun k => match k with
  | 0 => ("BraidedFerry$Flood", "begin", "I", true)
  | 1 => ("BraidedFerry$Flood", "rise", "I", true)
  | _ => ("BraidedFerry$Flood", "end", "I", true)
def tyX11 : Nat → FieldType := fun k => match k with
  | 0 => .int
  | 1 => .int
  | _ => .int
abbrev wsX110 : List Cond := u_ws RX11 TX11 3
theorem nmX11 : ∀ a, a < 3 → ∀ b, b < 3 → a ≠ b → (TX11 a).2.1 ≠ (TX11 b).2.1 := by decide +kernel
theorem tyX11_ok : ∀ k, k < 3 → parseFieldDescriptor (TX11 k).2.2.1 = some (tyX11 k) := by decide +kernel
abbrev cX11_riseIn : ByteArray := prog_11_method_2_code
def yX11_riseIn : MethodName := ⟨RX11, "riseIn", "(I)I"⟩
def dkwX11_riseIn_1 : List UInt8 := [3, 172]
abbrev dktX11_riseIn_1 : List UInt8 := dkwX11_riseIn_1 ++ []
def dkwX11_riseIn_0 : List UInt8 := [27, 42, 180, 0, 7, 42, 180, 0, 16, 4, 100, 184, 0, 19, 153, 0, 10, 42, 180, 0, 13, 167, 0, 4]
abbrev dktX11_riseIn_0 : List UInt8 := dkwX11_riseIn_0 ++ dktX11_riseIn_1
theorem dksX11_riseIn_0 : cX11_riseIn.data.toList.drop 0 = dktX11_riseIn_0 := by decide +kernel
theorem dksX11_riseIn_1 : cX11_riseIn.data.toList.drop 24 = dktX11_riseIn_1 := dk_seg dksX11_riseIn_0 24 rfl rfl
theorem dX11_riseIn_0 : decode cX11_riseIn 0 = .ok (.iload_n 1, 1) := dk_27 (dk_at dksX11_riseIn_0 0 rfl rfl)
theorem dX11_riseIn_1 : decode cX11_riseIn 1 = .ok (.aload_n 0, 1) := dk_42 (dk_at dksX11_riseIn_0 1 rfl rfl)
theorem dX11_riseIn_2 : decode cX11_riseIn 2 = .ok (.getfield 7, 3) := dk_180 0 7 (dk_at dksX11_riseIn_0 2 rfl rfl)
theorem dX11_riseIn_5 : decode cX11_riseIn 5 = .ok (.aload_n 0, 1) := dk_42 (dk_at dksX11_riseIn_0 5 rfl rfl)
theorem dX11_riseIn_6 : decode cX11_riseIn 6 = .ok (.getfield 16, 3) := dk_180 0 16 (dk_at dksX11_riseIn_0 6 rfl rfl)
theorem dX11_riseIn_9 : decode cX11_riseIn 9 = .ok (.iconst 1, 1) := dk_4 (dk_at dksX11_riseIn_0 9 rfl rfl)
theorem dX11_riseIn_10 : decode cX11_riseIn 10 = .ok (.isub, 1) := dk_100 (dk_at dksX11_riseIn_0 10 rfl rfl)
theorem dX11_riseIn_11 : decode cX11_riseIn 11 = .ok (.invokestatic 19, 3) := dk_184 0 19 (dk_at dksX11_riseIn_0 11 rfl rfl)
theorem dX11_riseIn_14 : decode cX11_riseIn 14 = .ok (.ifCond .eq 10, 3) := dk_153 0 10 (dk_at dksX11_riseIn_0 14 rfl rfl)
theorem dX11_riseIn_17 : decode cX11_riseIn 17 = .ok (.aload_n 0, 1) := dk_42 (dk_at dksX11_riseIn_0 17 rfl rfl)
theorem dX11_riseIn_18 : decode cX11_riseIn 18 = .ok (.getfield 13, 3) := dk_180 0 13 (dk_at dksX11_riseIn_0 18 rfl rfl)
theorem dX11_riseIn_21 : decode cX11_riseIn 21 = .ok (.goto 4, 3) := dk_167 0 4 (dk_at dksX11_riseIn_0 21 rfl rfl)
theorem dX11_riseIn_24 : decode cX11_riseIn 24 = .ok (.iconst 0, 1) := dk_3 (dk_at dksX11_riseIn_1 0 rfl rfl)
theorem dX11_riseIn_25 : decode cX11_riseIn 25 = .ok (.ireturn, 1) := dk_172 (dk_at dksX11_riseIn_1 1 rfl rfl)
abbrev cX11_init : ByteArray := prog_11_method_1_code
def yX11_init : MethodName := ⟨RX11, "<init>", "(III)V"⟩
def dkwX11_init_0 : List UInt8 := [42, 183, 0, 1, 42, 27, 181, 0, 7, 42, 28, 181, 0, 13, 42, 27, 29, 96, 181, 0, 16, 177]
abbrev dktX11_init_0 : List UInt8 := dkwX11_init_0 ++ []
theorem dksX11_init_0 : cX11_init.data.toList.drop 0 = dktX11_init_0 := by decide +kernel
theorem dX11_init_0 : decode cX11_init 0 = .ok (.aload_n 0, 1) := dk_42 (dk_at dksX11_init_0 0 rfl rfl)
theorem dX11_init_1 : decode cX11_init 1 = .ok (.invokespecial 1, 3) := dk_183 0 1 (dk_at dksX11_init_0 1 rfl rfl)
theorem dX11_init_4 : decode cX11_init 4 = .ok (.aload_n 0, 1) := dk_42 (dk_at dksX11_init_0 4 rfl rfl)
theorem dX11_init_5 : decode cX11_init 5 = .ok (.iload_n 1, 1) := dk_27 (dk_at dksX11_init_0 5 rfl rfl)
theorem dX11_init_6 : decode cX11_init 6 = .ok (.putfield 7, 3) := dk_181 0 7 (dk_at dksX11_init_0 6 rfl rfl)
theorem dX11_init_9 : decode cX11_init 9 = .ok (.aload_n 0, 1) := dk_42 (dk_at dksX11_init_0 9 rfl rfl)
theorem dX11_init_10 : decode cX11_init 10 = .ok (.iload_n 2, 1) := dk_28 (dk_at dksX11_init_0 10 rfl rfl)
theorem dX11_init_11 : decode cX11_init 11 = .ok (.putfield 13, 3) := dk_181 0 13 (dk_at dksX11_init_0 11 rfl rfl)
theorem dX11_init_14 : decode cX11_init 14 = .ok (.aload_n 0, 1) := dk_42 (dk_at dksX11_init_0 14 rfl rfl)
theorem dX11_init_15 : decode cX11_init 15 = .ok (.iload_n 1, 1) := dk_27 (dk_at dksX11_init_0 15 rfl rfl)
theorem dX11_init_16 : decode cX11_init 16 = .ok (.iload_n 3, 1) := dk_29 (dk_at dksX11_init_0 16 rfl rfl)
theorem dX11_init_17 : decode cX11_init 17 = .ok (.iadd, 1) := dk_96 (dk_at dksX11_init_0 17 rfl rfl)
theorem dX11_init_18 : decode cX11_init 18 = .ok (.putfield 16, 3) := dk_181 0 16 (dk_at dksX11_init_0 18 rfl rfl)
theorem dX11_init_21 : decode cX11_init 21 = .ok (.return_, 1) := dk_177 (dk_at dksX11_init_0 21 rfl rfl)
theorem q124 : (Jvm.Cond.initialized "BraidedFerry$Flood") ∈ lw_all := lw_g (lw_at lw_m1 52 rfl) rfl
theorem q603 : (Jvm.Cond.selects "BraidedFerry$Flood" ({ cls := "java/lang/Object", name := "getClass", desc := "()Ljava/lang/Class;" } : Jvm.MethodName) ({ cls := "java/lang/Object", name := "getClass", desc := "()Ljava/lang/Class;" } : Jvm.MethodName)) ∈ lw_all := lw_g (lw_at lw_m3 51 rfl) rfl
theorem q795 : (Jvm.Cond.selects "BraidedFerry$Flood" ({ cls := "java/lang/Object", name := "hashCode", desc := "()I" } : Jvm.MethodName) ({ cls := "java/lang/Object", name := "hashCode", desc := "()I" } : Jvm.MethodName)) ∈ lw_all := lw_g (lw_at lw_m4 3 rfl) rfl
theorem q1120 : (Jvm.Cond.selects "BraidedFerry$Flood" ({ cls := "java/lang/Object", name := "equals", desc := "(Ljava/lang/Object;)Z" } : Jvm.MethodName) ({ cls := "java/lang/Object", name := "equals", desc := "(Ljava/lang/Object;)Z" } : Jvm.MethodName)) ∈ lw_all := lw_g (lw_at lw_m5 88 rfl) rfl
theorem q1888 : (Jvm.Cond.instanceMethod ({ cls := "BraidedFerry$Flood", name := "riseIn", desc := "(I)I" } : Jvm.MethodName)) ∈ lw_all := lw_g (lw_at lw_m8 136 rfl) rfl
theorem q1889 : (Jvm.Cond.selects "BraidedFerry$Flood" ({ cls := "BraidedFerry$Flood", name := "riseIn", desc := "(I)I" } : Jvm.MethodName) ({ cls := "BraidedFerry$Flood", name := "riseIn", desc := "(I)I" } : Jvm.MethodName)) ∈ lw_all := lw_g (lw_at lw_m8 137 rfl) rfl
theorem q1890 : (Jvm.Cond.code ({ cls := "BraidedFerry$Flood", name := "riseIn", desc := "(I)I" } : Jvm.MethodName) prog_11_method_2_code (2 : Nat) (Option.some Jvm.ClassFile.FieldType.int)) ∈ lw_all := lw_g (lw_at lw_m8 138 rfl) rfl
theorem q1891 : (Jvm.Cond.methodLinkNest "BraidedFerry$Flood" (19 : Nat) ({ cls := "BraidedFerry", name := "inRange", desc := "(III)Z" } : Jvm.MethodName) "BraidedFerry") ∈ lw_tbl := lw_at lw_m8 139 rfl
theorem q2009 : (Jvm.Cond.instantiable "BraidedFerry$Flood" (3 : Nat)) ∈ lw_all := lw_g (lw_at lw_m9 17 rfl) rfl
theorem q2011 : (Jvm.Cond.instanceMethod ({ cls := "BraidedFerry$Flood", name := "<init>", desc := "(III)V" } : Jvm.MethodName)) ∈ lw_all := lw_g (lw_at lw_m9 19 rfl) rfl
theorem q2012 : (Jvm.Cond.code ({ cls := "BraidedFerry$Flood", name := "<init>", desc := "(III)V" } : Jvm.MethodName) prog_11_method_1_code (4 : Nat) (Option.none : Option Jvm.ClassFile.FieldType)) ∈ lw_all := lw_g (lw_at lw_m9 20 rfl) rfl
theorem q2013 : (Jvm.Cond.methodLink "BraidedFerry$Flood" (1 : Nat) ({ cls := "java/lang/Object", name := "<init>", desc := "()V" } : Jvm.MethodName)) ∈ lw_all := lw_g (lw_at lw_m9 21 rfl) rfl
theorem q2014 : (Jvm.Cond.fieldLink "BraidedFerry$Flood" (7 : Nat) "BraidedFerry$Flood" "begin" "I") ∈ lw_all := lw_g (lw_at lw_m9 22 rfl) rfl
theorem q2016 : (Jvm.Cond.fieldLink "BraidedFerry$Flood" (13 : Nat) "BraidedFerry$Flood" "rise" "I") ∈ lw_all := lw_g (lw_at lw_m9 24 rfl) rfl
theorem q2017 : (Jvm.Cond.fieldLink "BraidedFerry$Flood" (16 : Nat) "BraidedFerry$Flood" "end" "I") ∈ lw_all := lw_g (lw_at lw_m9 25 rfl) rfl
theorem q2019 : (Jvm.Cond.laysFinal "BraidedFerry$Flood" "BraidedFerry$Flood" "begin" "I") ∈ lw_all := lw_g (lw_at lw_m9 27 rfl) rfl
theorem q2020 : (Jvm.Cond.soleField "BraidedFerry$Flood" "begin") ∈ lw_all := lw_g (lw_at lw_m9 28 rfl) rfl
theorem q2021 : (Jvm.Cond.laysFinal "BraidedFerry$Flood" "BraidedFerry$Flood" "rise" "I") ∈ lw_all := lw_g (lw_at lw_m9 29 rfl) rfl
theorem q2022 : (Jvm.Cond.soleField "BraidedFerry$Flood" "rise") ∈ lw_all := lw_g (lw_at lw_m9 30 rfl) rfl
theorem q2023 : (Jvm.Cond.laysFinal "BraidedFerry$Flood" "BraidedFerry$Flood" "end" "I") ∈ lw_all := lw_g (lw_at lw_m9 31 rfl) rfl
theorem q2024 : (Jvm.Cond.soleField "BraidedFerry$Flood" "end") ∈ lw_all := lw_g (lw_at lw_m9 32 rfl) rfl
theorem q2025 : (Jvm.Cond.superclass "BraidedFerry$Flood" "java/lang/Object") ∈ lw_all := lw_g (lw_at lw_m9 33 rfl) rfl
theorem q2685 : (Jvm.Cond.selects "BraidedFerry$Flood" ({ cls := "java/lang/Object", name := "toString", desc := "()Ljava/lang/String;" } : Jvm.MethodName) ({ cls := "java/lang/Object", name := "toString", desc := "()Ljava/lang/String;" } : Jvm.MethodName)) ∈ lw_all := lw_g (lw_at lw_m11 213 rfl) rfl
theorem q3715 : (Jvm.Cond.castable "BraidedFerry$Flood" "java/lang/Object") ∈ lw_tbl := lw_at lw_m16 43 rfl
theorem in_X11 : ∀ w ∈ wsX110, w ∈ lw_all := lw_in wsX110 [2019, 2021, 2023] (by decide +kernel) (by decide +kernel)

/-! BraidedFerry$Paired -/
set_option maxRecDepth 100000
def RX12 : String := "BraidedFerry$Paired"
abbrev cX12_init : ByteArray := prog_16_method_1_code
def yX12_init : MethodName := ⟨RX12, "<init>", "(II)V"⟩
def dkwX12_init_0 : List UInt8 := [42, 183, 0, 1, 42, 27, 181, 0, 7, 42, 28, 181, 0, 13, 177]
abbrev dktX12_init_0 : List UInt8 := dkwX12_init_0 ++ []
theorem dksX12_init_0 : cX12_init.data.toList.drop 0 = dktX12_init_0 := by decide +kernel
theorem dX12_init_0 : decode cX12_init 0 = .ok (.aload_n 0, 1) := dk_42 (dk_at dksX12_init_0 0 rfl rfl)
theorem dX12_init_1 : decode cX12_init 1 = .ok (.invokespecial 1, 3) := dk_183 0 1 (dk_at dksX12_init_0 1 rfl rfl)
theorem dX12_init_4 : decode cX12_init 4 = .ok (.aload_n 0, 1) := dk_42 (dk_at dksX12_init_0 4 rfl rfl)
theorem dX12_init_5 : decode cX12_init 5 = .ok (.iload_n 1, 1) := dk_27 (dk_at dksX12_init_0 5 rfl rfl)
theorem dX12_init_6 : decode cX12_init 6 = .ok (.putfield 7, 3) := dk_181 0 7 (dk_at dksX12_init_0 6 rfl rfl)
theorem dX12_init_9 : decode cX12_init 9 = .ok (.aload_n 0, 1) := dk_42 (dk_at dksX12_init_0 9 rfl rfl)
theorem dX12_init_10 : decode cX12_init 10 = .ok (.iload_n 2, 1) := dk_28 (dk_at dksX12_init_0 10 rfl rfl)
theorem dX12_init_11 : decode cX12_init 11 = .ok (.putfield 13, 3) := dk_181 0 13 (dk_at dksX12_init_0 11 rfl rfl)
theorem dX12_init_14 : decode cX12_init 14 = .ok (.return_, 1) := dk_177 (dk_at dksX12_init_0 14 rfl rfl)
theorem q126 : (Jvm.Cond.initialized "BraidedFerry$Paired") ∈ lw_all := lw_g (lw_at lw_m1 54 rfl) rfl
theorem q2353 : (Jvm.Cond.instanceMethod ({ cls := "BraidedFerry$Paired", name := "<init>", desc := "(II)V" } : Jvm.MethodName)) ∈ lw_all := lw_g (lw_at lw_m10 121 rfl) rfl
theorem q2354 : (Jvm.Cond.code ({ cls := "BraidedFerry$Paired", name := "<init>", desc := "(II)V" } : Jvm.MethodName) prog_16_method_1_code (3 : Nat) (Option.none : Option Jvm.ClassFile.FieldType)) ∈ lw_all := lw_g (lw_at lw_m10 122 rfl) rfl
theorem q2355 : (Jvm.Cond.methodLink "BraidedFerry$Paired" (1 : Nat) ({ cls := "java/lang/Object", name := "<init>", desc := "()V" } : Jvm.MethodName)) ∈ lw_all := lw_g (lw_at lw_m10 123 rfl) rfl
theorem q2356 : (Jvm.Cond.fieldLink "BraidedFerry$Paired" (7 : Nat) "BraidedFerry$Paired" "one" "I") ∈ lw_all := lw_g (lw_at lw_m10 124 rfl) rfl
theorem q2371 : (Jvm.Cond.fieldLink "BraidedFerry$Paired" (13 : Nat) "BraidedFerry$Paired" "other" "I") ∈ lw_all := lw_g (lw_at lw_m10 139 rfl) rfl
theorem q2387 : (Jvm.Cond.soleField "BraidedFerry$Paired" "one") ∈ lw_all := lw_g (lw_at lw_m10 155 rfl) rfl
theorem q2389 : (Jvm.Cond.soleField "BraidedFerry$Paired" "other") ∈ lw_all := lw_g (lw_at lw_m10 157 rfl) rfl

/-! BraidedFerry$Splitting -/
set_option maxRecDepth 100000
def RX13 : String := "BraidedFerry$Splitting"
def TX13 : u_T := fun k => match k with
  | 0 => ("BraidedFerry$Paired", "one", "I", true)
  | _ => ("BraidedFerry$Paired", "other", "I", true)
def tyX13 : Nat → FieldType := fun k => match k with
  | 0 => .int
  | _ => .int
abbrev wsX130 : List Cond := u_ws RX13 TX13 2
theorem nmX13 : ∀ a, a < 2 → ∀ b, b < 2 → a ≠ b → (TX13 a).2.1 ≠ (TX13 b).2.1 := by decide +kernel
theorem tyX13_ok : ∀ k, k < 2 → parseFieldDescriptor (TX13 k).2.2.1 = some (tyX13 k) := by decide +kernel
abbrev cX13_done : ByteArray := prog_24_method_2_code
def yX13_done : MethodName := ⟨RX13, "done", "(LBraidedFerry$River;)I"⟩
def dkwX13_done_0 : List UInt8 := [43, 42, 180, 0, 7, 42, 180, 0, 13, 182, 0, 16, 172]
abbrev dktX13_done_0 : List UInt8 := dkwX13_done_0 ++ []
theorem dksX13_done_0 : cX13_done.data.toList.drop 0 = dktX13_done_0 := by decide +kernel
theorem dX13_done_0 : decode cX13_done 0 = .ok (.aload_n 1, 1) := dk_43 (dk_at dksX13_done_0 0 rfl rfl)
theorem dX13_done_1 : decode cX13_done 1 = .ok (.aload_n 0, 1) := dk_42 (dk_at dksX13_done_0 1 rfl rfl)
theorem dX13_done_2 : decode cX13_done 2 = .ok (.getfield 7, 3) := dk_180 0 7 (dk_at dksX13_done_0 2 rfl rfl)
theorem dX13_done_5 : decode cX13_done 5 = .ok (.aload_n 0, 1) := dk_42 (dk_at dksX13_done_0 5 rfl rfl)
theorem dX13_done_6 : decode cX13_done 6 = .ok (.getfield 13, 3) := dk_180 0 13 (dk_at dksX13_done_0 6 rfl rfl)
theorem dX13_done_9 : decode cX13_done 9 = .ok (.invokevirtual 16, 3) := dk_182 0 16 (dk_at dksX13_done_0 9 rfl rfl)
theorem dX13_done_12 : decode cX13_done 12 = .ok (.ireturn, 1) := dk_172 (dk_at dksX13_done_0 12 rfl rfl)
abbrev cX13_init : ByteArray := prog_24_method_1_code
def yX13_init : MethodName := ⟨RX13, "<init>", "(II)V"⟩
def dkwX13_init_0 : List UInt8 := [42, 27, 28, 183, 0, 1, 177]
abbrev dktX13_init_0 : List UInt8 := dkwX13_init_0 ++ []
theorem dksX13_init_0 : cX13_init.data.toList.drop 0 = dktX13_init_0 := by decide +kernel
theorem dX13_init_0 : decode cX13_init 0 = .ok (.aload_n 0, 1) := dk_42 (dk_at dksX13_init_0 0 rfl rfl)
theorem dX13_init_1 : decode cX13_init 1 = .ok (.iload_n 1, 1) := dk_27 (dk_at dksX13_init_0 1 rfl rfl)
theorem dX13_init_2 : decode cX13_init 2 = .ok (.iload_n 2, 1) := dk_28 (dk_at dksX13_init_0 2 rfl rfl)
theorem dX13_init_3 : decode cX13_init 3 = .ok (.invokespecial 1, 3) := dk_183 0 1 (dk_at dksX13_init_0 3 rfl rfl)
theorem dX13_init_6 : decode cX13_init 6 = .ok (.return_, 1) := dk_177 (dk_at dksX13_init_0 6 rfl rfl)
theorem q127 : (Jvm.Cond.initialized "BraidedFerry$Splitting") ∈ lw_all := lw_g (lw_at lw_m1 55 rfl) rfl
theorem q614 : (Jvm.Cond.selects "BraidedFerry$Splitting" ({ cls := "java/lang/Object", name := "getClass", desc := "()Ljava/lang/Class;" } : Jvm.MethodName) ({ cls := "java/lang/Object", name := "getClass", desc := "()Ljava/lang/Class;" } : Jvm.MethodName)) ∈ lw_all := lw_g (lw_at lw_m3 62 rfl) rfl
theorem q808 : (Jvm.Cond.selects "BraidedFerry$Splitting" ({ cls := "java/lang/Object", name := "hashCode", desc := "()I" } : Jvm.MethodName) ({ cls := "java/lang/Object", name := "hashCode", desc := "()I" } : Jvm.MethodName)) ∈ lw_all := lw_g (lw_at lw_m4 16 rfl) rfl
theorem q1134 : (Jvm.Cond.selects "BraidedFerry$Splitting" ({ cls := "java/lang/Object", name := "equals", desc := "(Ljava/lang/Object;)Z" } : Jvm.MethodName) ({ cls := "java/lang/Object", name := "equals", desc := "(Ljava/lang/Object;)Z" } : Jvm.MethodName)) ∈ lw_all := lw_g (lw_at lw_m5 102 rfl) rfl
theorem q2133 : (Jvm.Cond.castable "BraidedFerry$Splitting" "BraidedFerry$Deed") ∈ lw_tbl := lw_at lw_m9 141 rfl
theorem q2134 : (Jvm.Cond.selects "BraidedFerry$Splitting" ({ cls := "BraidedFerry$Deed", name := "done", desc := "(LBraidedFerry$River;)I" } : Jvm.MethodName) ({ cls := "BraidedFerry$Splitting", name := "done", desc := "(LBraidedFerry$River;)I" } : Jvm.MethodName)) ∈ lw_all := lw_g (lw_at lw_m9 142 rfl) rfl
theorem q2135 : (Jvm.Cond.unhidden "BraidedFerry$Splitting" "done" "(LBraidedFerry$River;)I") ∈ lw_tbl := lw_at lw_m9 143 rfl
theorem q2136 : (Jvm.Cond.instanceMethod ({ cls := "BraidedFerry$Splitting", name := "done", desc := "(LBraidedFerry$River;)I" } : Jvm.MethodName)) ∈ lw_all := lw_g (lw_at lw_m9 144 rfl) rfl
theorem q2137 : (Jvm.Cond.publicMethod ({ cls := "BraidedFerry$Splitting", name := "done", desc := "(LBraidedFerry$River;)I" } : Jvm.MethodName)) ∈ lw_tbl := lw_at lw_m9 145 rfl
theorem q2138 : (Jvm.Cond.code ({ cls := "BraidedFerry$Splitting", name := "done", desc := "(LBraidedFerry$River;)I" } : Jvm.MethodName) prog_24_method_2_code (2 : Nat) (Option.some Jvm.ClassFile.FieldType.int)) ∈ lw_all := lw_g (lw_at lw_m9 146 rfl) rfl
theorem q2139 : (Jvm.Cond.methodLink "BraidedFerry$Splitting" (16 : Nat) ({ cls := "BraidedFerry$River", name := "split", desc := "(II)I" } : Jvm.MethodName)) ∈ lw_all := lw_g (lw_at lw_m9 147 rfl) rfl
theorem q2348 : (Jvm.Cond.instantiable "BraidedFerry$Splitting" (2 : Nat)) ∈ lw_all := lw_g (lw_at lw_m10 116 rfl) rfl
theorem q2350 : (Jvm.Cond.instanceMethod ({ cls := "BraidedFerry$Splitting", name := "<init>", desc := "(II)V" } : Jvm.MethodName)) ∈ lw_all := lw_g (lw_at lw_m10 118 rfl) rfl
theorem q2351 : (Jvm.Cond.code ({ cls := "BraidedFerry$Splitting", name := "<init>", desc := "(II)V" } : Jvm.MethodName) prog_24_method_1_code (3 : Nat) (Option.none : Option Jvm.ClassFile.FieldType)) ∈ lw_all := lw_g (lw_at lw_m10 119 rfl) rfl
theorem q2352 : (Jvm.Cond.methodLink "BraidedFerry$Splitting" (1 : Nat) ({ cls := "BraidedFerry$Paired", name := "<init>", desc := "(II)V" } : Jvm.MethodName)) ∈ lw_all := lw_g (lw_at lw_m10 120 rfl) rfl
theorem q2365 : (Jvm.Cond.fieldLink "BraidedFerry$Splitting" (7 : Nat) "BraidedFerry$Splitting" "one" "I") ∈ lw_all := lw_g (lw_at lw_m10 133 rfl) rfl
theorem q2366 : (Jvm.Cond.sameField "BraidedFerry$Splitting" "BraidedFerry$Paired" "one" "I") ∈ lw_all := lw_g (lw_at lw_m10 134 rfl) rfl
theorem q2380 : (Jvm.Cond.fieldLink "BraidedFerry$Splitting" (13 : Nat) "BraidedFerry$Splitting" "other" "I") ∈ lw_all := lw_g (lw_at lw_m10 148 rfl) rfl
theorem q2381 : (Jvm.Cond.sameField "BraidedFerry$Splitting" "BraidedFerry$Paired" "other" "I") ∈ lw_all := lw_g (lw_at lw_m10 149 rfl) rfl
theorem q2386 : (Jvm.Cond.laysFinal "BraidedFerry$Splitting" "BraidedFerry$Paired" "one" "I") ∈ lw_all := lw_g (lw_at lw_m10 154 rfl) rfl
theorem q2388 : (Jvm.Cond.laysFinal "BraidedFerry$Splitting" "BraidedFerry$Paired" "other" "I") ∈ lw_all := lw_g (lw_at lw_m10 156 rfl) rfl
theorem q2390 : (Jvm.Cond.superclass "BraidedFerry$Splitting" "BraidedFerry$Paired") ∈ lw_all := lw_g (lw_at lw_m10 158 rfl) rfl
theorem q2696 : (Jvm.Cond.selects "BraidedFerry$Splitting" ({ cls := "java/lang/Object", name := "toString", desc := "()Ljava/lang/String;" } : Jvm.MethodName) ({ cls := "java/lang/Object", name := "toString", desc := "()Ljava/lang/String;" } : Jvm.MethodName)) ∈ lw_all := lw_g (lw_at lw_m11 224 rfl) rfl
theorem q3706 : (Jvm.Cond.castable "BraidedFerry$Splitting" "java/lang/Object") ∈ lw_tbl := lw_at lw_m16 34 rfl
theorem in_X13 : ∀ w ∈ wsX130, w ∈ lw_all := lw_in wsX130 [2386, 2388] (by decide +kernel) (by decide +kernel)

/-! BraidedFerry$Shifting -/
set_option maxRecDepth 100000
def RX14 : String := "BraidedFerry$Shifting"
def TX14 : u_T := fun k => match k with
  | 0 => ("BraidedFerry$Paired", "one", "I", true)
  | _ => ("BraidedFerry$Paired", "other", "I", true)
def tyX14 : Nat → FieldType := fun k => match k with
  | 0 => .int
  | _ => .int
abbrev wsX140 : List Cond := u_ws RX14 TX14 2
theorem nmX14 : ∀ a, a < 2 → ∀ b, b < 2 → a ≠ b → (TX14 a).2.1 ≠ (TX14 b).2.1 := by decide +kernel
theorem tyX14_ok : ∀ k, k < 2 → parseFieldDescriptor (TX14 k).2.2.1 = some (tyX14 k) := by decide +kernel
abbrev cX14_done : ByteArray := prog_23_method_2_code
def yX14_done : MethodName := ⟨RX14, "done", "(LBraidedFerry$River;)I"⟩
def dkwX14_done_0 : List UInt8 := [43, 42, 180, 0, 7, 42, 180, 0, 13, 182, 0, 16, 172]
abbrev dktX14_done_0 : List UInt8 := dkwX14_done_0 ++ []
theorem dksX14_done_0 : cX14_done.data.toList.drop 0 = dktX14_done_0 := by decide +kernel
theorem dX14_done_0 : decode cX14_done 0 = .ok (.aload_n 1, 1) := dk_43 (dk_at dksX14_done_0 0 rfl rfl)
theorem dX14_done_1 : decode cX14_done 1 = .ok (.aload_n 0, 1) := dk_42 (dk_at dksX14_done_0 1 rfl rfl)
theorem dX14_done_2 : decode cX14_done 2 = .ok (.getfield 7, 3) := dk_180 0 7 (dk_at dksX14_done_0 2 rfl rfl)
theorem dX14_done_5 : decode cX14_done 5 = .ok (.aload_n 0, 1) := dk_42 (dk_at dksX14_done_0 5 rfl rfl)
theorem dX14_done_6 : decode cX14_done 6 = .ok (.getfield 13, 3) := dk_180 0 13 (dk_at dksX14_done_0 6 rfl rfl)
theorem dX14_done_9 : decode cX14_done 9 = .ok (.invokevirtual 16, 3) := dk_182 0 16 (dk_at dksX14_done_0 9 rfl rfl)
theorem dX14_done_12 : decode cX14_done 12 = .ok (.ireturn, 1) := dk_172 (dk_at dksX14_done_0 12 rfl rfl)
abbrev cX14_init : ByteArray := prog_23_method_1_code
def yX14_init : MethodName := ⟨RX14, "<init>", "(II)V"⟩
def dkwX14_init_0 : List UInt8 := [42, 27, 28, 183, 0, 1, 177]
abbrev dktX14_init_0 : List UInt8 := dkwX14_init_0 ++ []
theorem dksX14_init_0 : cX14_init.data.toList.drop 0 = dktX14_init_0 := by decide +kernel
theorem dX14_init_0 : decode cX14_init 0 = .ok (.aload_n 0, 1) := dk_42 (dk_at dksX14_init_0 0 rfl rfl)
theorem dX14_init_1 : decode cX14_init 1 = .ok (.iload_n 1, 1) := dk_27 (dk_at dksX14_init_0 1 rfl rfl)
theorem dX14_init_2 : decode cX14_init 2 = .ok (.iload_n 2, 1) := dk_28 (dk_at dksX14_init_0 2 rfl rfl)
theorem dX14_init_3 : decode cX14_init 3 = .ok (.invokespecial 1, 3) := dk_183 0 1 (dk_at dksX14_init_0 3 rfl rfl)
theorem dX14_init_6 : decode cX14_init 6 = .ok (.return_, 1) := dk_177 (dk_at dksX14_init_0 6 rfl rfl)
theorem q128 : (Jvm.Cond.initialized "BraidedFerry$Shifting") ∈ lw_all := lw_g (lw_at lw_m1 56 rfl) rfl
theorem q613 : (Jvm.Cond.selects "BraidedFerry$Shifting" ({ cls := "java/lang/Object", name := "getClass", desc := "()Ljava/lang/Class;" } : Jvm.MethodName) ({ cls := "java/lang/Object", name := "getClass", desc := "()Ljava/lang/Class;" } : Jvm.MethodName)) ∈ lw_all := lw_g (lw_at lw_m3 61 rfl) rfl
theorem q807 : (Jvm.Cond.selects "BraidedFerry$Shifting" ({ cls := "java/lang/Object", name := "hashCode", desc := "()I" } : Jvm.MethodName) ({ cls := "java/lang/Object", name := "hashCode", desc := "()I" } : Jvm.MethodName)) ∈ lw_all := lw_g (lw_at lw_m4 15 rfl) rfl
theorem q1133 : (Jvm.Cond.selects "BraidedFerry$Shifting" ({ cls := "java/lang/Object", name := "equals", desc := "(Ljava/lang/Object;)Z" } : Jvm.MethodName) ({ cls := "java/lang/Object", name := "equals", desc := "(Ljava/lang/Object;)Z" } : Jvm.MethodName)) ∈ lw_all := lw_g (lw_at lw_m5 101 rfl) rfl
theorem q2092 : (Jvm.Cond.castable "BraidedFerry$Shifting" "BraidedFerry$Deed") ∈ lw_tbl := lw_at lw_m9 100 rfl
theorem q2093 : (Jvm.Cond.selects "BraidedFerry$Shifting" ({ cls := "BraidedFerry$Deed", name := "done", desc := "(LBraidedFerry$River;)I" } : Jvm.MethodName) ({ cls := "BraidedFerry$Shifting", name := "done", desc := "(LBraidedFerry$River;)I" } : Jvm.MethodName)) ∈ lw_all := lw_g (lw_at lw_m9 101 rfl) rfl
theorem q2094 : (Jvm.Cond.unhidden "BraidedFerry$Shifting" "done" "(LBraidedFerry$River;)I") ∈ lw_tbl := lw_at lw_m9 102 rfl
theorem q2095 : (Jvm.Cond.instanceMethod ({ cls := "BraidedFerry$Shifting", name := "done", desc := "(LBraidedFerry$River;)I" } : Jvm.MethodName)) ∈ lw_all := lw_g (lw_at lw_m9 103 rfl) rfl
theorem q2096 : (Jvm.Cond.publicMethod ({ cls := "BraidedFerry$Shifting", name := "done", desc := "(LBraidedFerry$River;)I" } : Jvm.MethodName)) ∈ lw_tbl := lw_at lw_m9 104 rfl
theorem q2097 : (Jvm.Cond.code ({ cls := "BraidedFerry$Shifting", name := "done", desc := "(LBraidedFerry$River;)I" } : Jvm.MethodName) prog_23_method_2_code (2 : Nat) (Option.some Jvm.ClassFile.FieldType.int)) ∈ lw_all := lw_g (lw_at lw_m9 105 rfl) rfl
theorem q2098 : (Jvm.Cond.methodLink "BraidedFerry$Shifting" (16 : Nat) ({ cls := "BraidedFerry$River", name := "shift", desc := "(II)I" } : Jvm.MethodName)) ∈ lw_all := lw_g (lw_at lw_m9 106 rfl) rfl
theorem q2363 : (Jvm.Cond.fieldLink "BraidedFerry$Shifting" (7 : Nat) "BraidedFerry$Shifting" "one" "I") ∈ lw_all := lw_g (lw_at lw_m10 131 rfl) rfl
theorem q2364 : (Jvm.Cond.sameField "BraidedFerry$Shifting" "BraidedFerry$Paired" "one" "I") ∈ lw_all := lw_g (lw_at lw_m10 132 rfl) rfl
theorem q2378 : (Jvm.Cond.fieldLink "BraidedFerry$Shifting" (13 : Nat) "BraidedFerry$Shifting" "other" "I") ∈ lw_all := lw_g (lw_at lw_m10 146 rfl) rfl
theorem q2379 : (Jvm.Cond.sameField "BraidedFerry$Shifting" "BraidedFerry$Paired" "other" "I") ∈ lw_all := lw_g (lw_at lw_m10 147 rfl) rfl
theorem q2399 : (Jvm.Cond.instantiable "BraidedFerry$Shifting" (2 : Nat)) ∈ lw_all := lw_g (lw_at lw_m10 167 rfl) rfl
theorem q2401 : (Jvm.Cond.instanceMethod ({ cls := "BraidedFerry$Shifting", name := "<init>", desc := "(II)V" } : Jvm.MethodName)) ∈ lw_all := lw_g (lw_at lw_m10 169 rfl) rfl
theorem q2402 : (Jvm.Cond.code ({ cls := "BraidedFerry$Shifting", name := "<init>", desc := "(II)V" } : Jvm.MethodName) prog_23_method_1_code (3 : Nat) (Option.none : Option Jvm.ClassFile.FieldType)) ∈ lw_all := lw_g (lw_at lw_m10 170 rfl) rfl
theorem q2403 : (Jvm.Cond.methodLink "BraidedFerry$Shifting" (1 : Nat) ({ cls := "BraidedFerry$Paired", name := "<init>", desc := "(II)V" } : Jvm.MethodName)) ∈ lw_all := lw_g (lw_at lw_m10 171 rfl) rfl
theorem q2404 : (Jvm.Cond.laysFinal "BraidedFerry$Shifting" "BraidedFerry$Paired" "one" "I") ∈ lw_all := lw_g (lw_at lw_m10 172 rfl) rfl
theorem q2405 : (Jvm.Cond.laysFinal "BraidedFerry$Shifting" "BraidedFerry$Paired" "other" "I") ∈ lw_all := lw_g (lw_at lw_m10 173 rfl) rfl
theorem q2406 : (Jvm.Cond.superclass "BraidedFerry$Shifting" "BraidedFerry$Paired") ∈ lw_all := lw_g (lw_at lw_m10 174 rfl) rfl
theorem q2695 : (Jvm.Cond.selects "BraidedFerry$Shifting" ({ cls := "java/lang/Object", name := "toString", desc := "()Ljava/lang/String;" } : Jvm.MethodName) ({ cls := "java/lang/Object", name := "toString", desc := "()Ljava/lang/String;" } : Jvm.MethodName)) ∈ lw_all := lw_g (lw_at lw_m11 223 rfl) rfl
theorem q3707 : (Jvm.Cond.castable "BraidedFerry$Shifting" "java/lang/Object") ∈ lw_tbl := lw_at lw_m16 35 rfl
theorem in_X14 : ∀ w ∈ wsX140, w ∈ lw_all := lw_in wsX140 [2404, 2405] (by decide +kernel) (by decide +kernel)

/-! BraidedFerry$Flooding -/
set_option maxRecDepth 100000
def RX15 : String := "BraidedFerry$Flooding"
def TX15 : u_T := fun k => match k with
  | 0 => ("BraidedFerry$Paired", "one", "I", true)
  | 1 => ("BraidedFerry$Paired", "other", "I", true)
  | _ => ("BraidedFerry$Flooding", "hours", "I", true)
def tyX15 : Nat → FieldType := fun k => match k with
  | 0 => .int
  | 1 => .int
  | _ => .int
abbrev wsX150 : List Cond := u_ws RX15 TX15 3
theorem nmX15 : ∀ a, a < 3 → ∀ b, b < 3 → a ≠ b → (TX15 a).2.1 ≠ (TX15 b).2.1 := by decide +kernel
theorem tyX15_ok : ∀ k, k < 3 → parseFieldDescriptor (TX15 k).2.2.1 = some (tyX15 k) := by decide +kernel
abbrev cX15_done : ByteArray := prog_12_method_2_code
def yX15_done : MethodName := ⟨RX15, "done", "(LBraidedFerry$River;)I"⟩
def dkwX15_done_0 : List UInt8 := [43, 42, 180, 0, 23, 42, 180, 0, 26, 42, 180, 0, 7, 182, 0, 29, 172]
abbrev dktX15_done_0 : List UInt8 := dkwX15_done_0 ++ []
theorem dksX15_done_0 : cX15_done.data.toList.drop 0 = dktX15_done_0 := by decide +kernel
theorem dX15_done_0 : decode cX15_done 0 = .ok (.aload_n 1, 1) := dk_43 (dk_at dksX15_done_0 0 rfl rfl)
theorem dX15_done_1 : decode cX15_done 1 = .ok (.aload_n 0, 1) := dk_42 (dk_at dksX15_done_0 1 rfl rfl)
theorem dX15_done_2 : decode cX15_done 2 = .ok (.getfield 23, 3) := dk_180 0 23 (dk_at dksX15_done_0 2 rfl rfl)
theorem dX15_done_5 : decode cX15_done 5 = .ok (.aload_n 0, 1) := dk_42 (dk_at dksX15_done_0 5 rfl rfl)
theorem dX15_done_6 : decode cX15_done 6 = .ok (.getfield 26, 3) := dk_180 0 26 (dk_at dksX15_done_0 6 rfl rfl)
theorem dX15_done_9 : decode cX15_done 9 = .ok (.aload_n 0, 1) := dk_42 (dk_at dksX15_done_0 9 rfl rfl)
theorem dX15_done_10 : decode cX15_done 10 = .ok (.getfield 7, 3) := dk_180 0 7 (dk_at dksX15_done_0 10 rfl rfl)
theorem dX15_done_13 : decode cX15_done 13 = .ok (.invokevirtual 29, 3) := dk_182 0 29 (dk_at dksX15_done_0 13 rfl rfl)
theorem dX15_done_16 : decode cX15_done 16 = .ok (.ireturn, 1) := dk_172 (dk_at dksX15_done_0 16 rfl rfl)
abbrev cX15_init : ByteArray := prog_12_method_1_code
def yX15_init : MethodName := ⟨RX15, "<init>", "(III)V"⟩
def dkwX15_init_2 : List UInt8 := [184, 0, 19, 177]
abbrev dktX15_init_2 : List UInt8 := dkwX15_init_2 ++ []
def dkwX15_init_1 : List UInt8 := [16, 9, 184, 0, 13, 153, 0, 17, 29, 4, 16, 48, 184, 0, 13, 153, 0, 7, 4, 167, 0, 4, 3]
abbrev dktX15_init_1 : List UInt8 := dkwX15_init_1 ++ dktX15_init_2
def dkwX15_init_0 : List UInt8 := [42, 27, 28, 183, 0, 1, 42, 29, 181, 0, 7, 27, 3, 16, 99, 184, 0, 13, 153, 0, 27, 28, 4]
abbrev dktX15_init_0 : List UInt8 := dkwX15_init_0 ++ dktX15_init_1
theorem dksX15_init_0 : cX15_init.data.toList.drop 0 = dktX15_init_0 := by decide +kernel
theorem dksX15_init_1 : cX15_init.data.toList.drop 23 = dktX15_init_1 := dk_seg dksX15_init_0 23 rfl rfl
theorem dksX15_init_2 : cX15_init.data.toList.drop 46 = dktX15_init_2 := dk_seg dksX15_init_1 23 rfl rfl
theorem dX15_init_0 : decode cX15_init 0 = .ok (.aload_n 0, 1) := dk_42 (dk_at dksX15_init_0 0 rfl rfl)
theorem dX15_init_1 : decode cX15_init 1 = .ok (.iload_n 1, 1) := dk_27 (dk_at dksX15_init_0 1 rfl rfl)
theorem dX15_init_2 : decode cX15_init 2 = .ok (.iload_n 2, 1) := dk_28 (dk_at dksX15_init_0 2 rfl rfl)
theorem dX15_init_3 : decode cX15_init 3 = .ok (.invokespecial 1, 3) := dk_183 0 1 (dk_at dksX15_init_0 3 rfl rfl)
theorem dX15_init_6 : decode cX15_init 6 = .ok (.aload_n 0, 1) := dk_42 (dk_at dksX15_init_0 6 rfl rfl)
theorem dX15_init_7 : decode cX15_init 7 = .ok (.iload_n 3, 1) := dk_29 (dk_at dksX15_init_0 7 rfl rfl)
theorem dX15_init_8 : decode cX15_init 8 = .ok (.putfield 7, 3) := dk_181 0 7 (dk_at dksX15_init_0 8 rfl rfl)
theorem dX15_init_11 : decode cX15_init 11 = .ok (.iload_n 1, 1) := dk_27 (dk_at dksX15_init_0 11 rfl rfl)
theorem dX15_init_12 : decode cX15_init 12 = .ok (.iconst 0, 1) := dk_3 (dk_at dksX15_init_0 12 rfl rfl)
theorem dX15_init_13 : decode cX15_init 13 = .ok (.bipush 99, 2) := dk_16 99 (dk_at dksX15_init_0 13 rfl rfl)
theorem dX15_init_15 : decode cX15_init 15 = .ok (.invokestatic 13, 3) := dk_184 0 13 (dk_at dksX15_init_0 15 rfl rfl)
theorem dX15_init_18 : decode cX15_init 18 = .ok (.ifCond .eq 27, 3) := dk_153 0 27 (dk_at dksX15_init_0 18 rfl rfl)
theorem dX15_init_21 : decode cX15_init 21 = .ok (.iload_n 2, 1) := dk_28 (dk_at dksX15_init_0 21 rfl rfl)
theorem dX15_init_22 : decode cX15_init 22 = .ok (.iconst 1, 1) := dk_4 (dk_at dksX15_init_0 22 rfl rfl)
theorem dX15_init_23 : decode cX15_init 23 = .ok (.bipush 9, 2) := dk_16 9 (dk_at dksX15_init_1 0 rfl rfl)
theorem dX15_init_25 : decode cX15_init 25 = .ok (.invokestatic 13, 3) := dk_184 0 13 (dk_at dksX15_init_1 2 rfl rfl)
theorem dX15_init_28 : decode cX15_init 28 = .ok (.ifCond .eq 17, 3) := dk_153 0 17 (dk_at dksX15_init_1 5 rfl rfl)
theorem dX15_init_31 : decode cX15_init 31 = .ok (.iload_n 3, 1) := dk_29 (dk_at dksX15_init_1 8 rfl rfl)
theorem dX15_init_32 : decode cX15_init 32 = .ok (.iconst 1, 1) := dk_4 (dk_at dksX15_init_1 9 rfl rfl)
theorem dX15_init_33 : decode cX15_init 33 = .ok (.bipush 48, 2) := dk_16 48 (dk_at dksX15_init_1 10 rfl rfl)
theorem dX15_init_35 : decode cX15_init 35 = .ok (.invokestatic 13, 3) := dk_184 0 13 (dk_at dksX15_init_1 12 rfl rfl)
theorem dX15_init_38 : decode cX15_init 38 = .ok (.ifCond .eq 7, 3) := dk_153 0 7 (dk_at dksX15_init_1 15 rfl rfl)
theorem dX15_init_41 : decode cX15_init 41 = .ok (.iconst 1, 1) := dk_4 (dk_at dksX15_init_1 18 rfl rfl)
theorem dX15_init_42 : decode cX15_init 42 = .ok (.goto 4, 3) := dk_167 0 4 (dk_at dksX15_init_1 19 rfl rfl)
theorem dX15_init_45 : decode cX15_init 45 = .ok (.iconst 0, 1) := dk_3 (dk_at dksX15_init_1 22 rfl rfl)
theorem dX15_init_46 : decode cX15_init 46 = .ok (.invokestatic 19, 3) := dk_184 0 19 (dk_at dksX15_init_2 0 rfl rfl)
theorem dX15_init_49 : decode cX15_init 49 = .ok (.return_, 1) := dk_177 (dk_at dksX15_init_2 3 rfl rfl)
theorem q129 : (Jvm.Cond.initialized "BraidedFerry$Flooding") ∈ lw_all := lw_g (lw_at lw_m1 57 rfl) rfl
theorem q604 : (Jvm.Cond.selects "BraidedFerry$Flooding" ({ cls := "java/lang/Object", name := "getClass", desc := "()Ljava/lang/Class;" } : Jvm.MethodName) ({ cls := "java/lang/Object", name := "getClass", desc := "()Ljava/lang/Class;" } : Jvm.MethodName)) ∈ lw_all := lw_g (lw_at lw_m3 52 rfl) rfl
theorem q796 : (Jvm.Cond.selects "BraidedFerry$Flooding" ({ cls := "java/lang/Object", name := "hashCode", desc := "()I" } : Jvm.MethodName) ({ cls := "java/lang/Object", name := "hashCode", desc := "()I" } : Jvm.MethodName)) ∈ lw_all := lw_g (lw_at lw_m4 4 rfl) rfl
theorem q1121 : (Jvm.Cond.selects "BraidedFerry$Flooding" ({ cls := "java/lang/Object", name := "equals", desc := "(Ljava/lang/Object;)Z" } : Jvm.MethodName) ({ cls := "java/lang/Object", name := "equals", desc := "(Ljava/lang/Object;)Z" } : Jvm.MethodName)) ∈ lw_all := lw_g (lw_at lw_m5 89 rfl) rfl
theorem q1999 : (Jvm.Cond.castable "BraidedFerry$Flooding" "BraidedFerry$Deed") ∈ lw_tbl := lw_at lw_m9 7 rfl
theorem q2000 : (Jvm.Cond.selects "BraidedFerry$Flooding" ({ cls := "BraidedFerry$Deed", name := "done", desc := "(LBraidedFerry$River;)I" } : Jvm.MethodName) ({ cls := "BraidedFerry$Flooding", name := "done", desc := "(LBraidedFerry$River;)I" } : Jvm.MethodName)) ∈ lw_all := lw_g (lw_at lw_m9 8 rfl) rfl
theorem q2001 : (Jvm.Cond.unhidden "BraidedFerry$Flooding" "done" "(LBraidedFerry$River;)I") ∈ lw_tbl := lw_at lw_m9 9 rfl
theorem q2002 : (Jvm.Cond.instanceMethod ({ cls := "BraidedFerry$Flooding", name := "done", desc := "(LBraidedFerry$River;)I" } : Jvm.MethodName)) ∈ lw_all := lw_g (lw_at lw_m9 10 rfl) rfl
theorem q2003 : (Jvm.Cond.publicMethod ({ cls := "BraidedFerry$Flooding", name := "done", desc := "(LBraidedFerry$River;)I" } : Jvm.MethodName)) ∈ lw_tbl := lw_at lw_m9 11 rfl
theorem q2004 : (Jvm.Cond.code ({ cls := "BraidedFerry$Flooding", name := "done", desc := "(LBraidedFerry$River;)I" } : Jvm.MethodName) prog_12_method_2_code (2 : Nat) (Option.some Jvm.ClassFile.FieldType.int)) ∈ lw_all := lw_g (lw_at lw_m9 12 rfl) rfl
theorem q2005 : (Jvm.Cond.methodLink "BraidedFerry$Flooding" (29 : Nat) ({ cls := "BraidedFerry$River", name := "addFlood", desc := "(III)I" } : Jvm.MethodName)) ∈ lw_all := lw_g (lw_at lw_m9 13 rfl) rfl
theorem q2359 : (Jvm.Cond.fieldLink "BraidedFerry$Flooding" (23 : Nat) "BraidedFerry$Flooding" "one" "I") ∈ lw_all := lw_g (lw_at lw_m10 127 rfl) rfl
theorem q2360 : (Jvm.Cond.sameField "BraidedFerry$Flooding" "BraidedFerry$Paired" "one" "I") ∈ lw_all := lw_g (lw_at lw_m10 128 rfl) rfl
theorem q2374 : (Jvm.Cond.fieldLink "BraidedFerry$Flooding" (26 : Nat) "BraidedFerry$Flooding" "other" "I") ∈ lw_all := lw_g (lw_at lw_m10 142 rfl) rfl
theorem q2375 : (Jvm.Cond.sameField "BraidedFerry$Flooding" "BraidedFerry$Paired" "other" "I") ∈ lw_all := lw_g (lw_at lw_m10 143 rfl) rfl
theorem q2431 : (Jvm.Cond.instantiable "BraidedFerry$Flooding" (3 : Nat)) ∈ lw_all := lw_g (lw_at lw_m10 199 rfl) rfl
theorem q2433 : (Jvm.Cond.instanceMethod ({ cls := "BraidedFerry$Flooding", name := "<init>", desc := "(III)V" } : Jvm.MethodName)) ∈ lw_all := lw_g (lw_at lw_m10 201 rfl) rfl
theorem q2434 : (Jvm.Cond.code ({ cls := "BraidedFerry$Flooding", name := "<init>", desc := "(III)V" } : Jvm.MethodName) prog_12_method_1_code (4 : Nat) (Option.none : Option Jvm.ClassFile.FieldType)) ∈ lw_all := lw_g (lw_at lw_m10 202 rfl) rfl
theorem q2435 : (Jvm.Cond.methodLink "BraidedFerry$Flooding" (1 : Nat) ({ cls := "BraidedFerry$Paired", name := "<init>", desc := "(II)V" } : Jvm.MethodName)) ∈ lw_all := lw_g (lw_at lw_m10 203 rfl) rfl
theorem q2436 : (Jvm.Cond.methodLinkNest "BraidedFerry$Flooding" (13 : Nat) ({ cls := "BraidedFerry", name := "inRange", desc := "(III)Z" } : Jvm.MethodName) "BraidedFerry") ∈ lw_tbl := lw_at lw_m10 204 rfl
theorem q2437 : (Jvm.Cond.methodLinkNest "BraidedFerry$Flooding" (19 : Nat) ({ cls := "BraidedFerry", name := "require", desc := "(Z)V" } : Jvm.MethodName) "BraidedFerry") ∈ lw_tbl := lw_at lw_m10 205 rfl
theorem q2438 : (Jvm.Cond.fieldLink "BraidedFerry$Flooding" (7 : Nat) "BraidedFerry$Flooding" "hours" "I") ∈ lw_all := lw_g (lw_at lw_m10 206 rfl) rfl
theorem q2439 : (Jvm.Cond.laysFinal "BraidedFerry$Flooding" "BraidedFerry$Flooding" "hours" "I") ∈ lw_all := lw_g (lw_at lw_m10 207 rfl) rfl
theorem q2440 : (Jvm.Cond.soleField "BraidedFerry$Flooding" "hours") ∈ lw_all := lw_g (lw_at lw_m10 208 rfl) rfl
theorem q2441 : (Jvm.Cond.laysFinal "BraidedFerry$Flooding" "BraidedFerry$Paired" "one" "I") ∈ lw_all := lw_g (lw_at lw_m10 209 rfl) rfl
theorem q2442 : (Jvm.Cond.laysFinal "BraidedFerry$Flooding" "BraidedFerry$Paired" "other" "I") ∈ lw_all := lw_g (lw_at lw_m10 210 rfl) rfl
theorem q2443 : (Jvm.Cond.superclass "BraidedFerry$Flooding" "BraidedFerry$Paired") ∈ lw_all := lw_g (lw_at lw_m10 211 rfl) rfl
theorem q2686 : (Jvm.Cond.selects "BraidedFerry$Flooding" ({ cls := "java/lang/Object", name := "toString", desc := "()Ljava/lang/String;" } : Jvm.MethodName) ({ cls := "java/lang/Object", name := "toString", desc := "()Ljava/lang/String;" } : Jvm.MethodName)) ∈ lw_all := lw_g (lw_at lw_m11 214 rfl) rfl
theorem q3709 : (Jvm.Cond.castable "BraidedFerry$Flooding" "java/lang/Object") ∈ lw_tbl := lw_at lw_m16 37 rfl
theorem in_X15 : ∀ w ∈ wsX150, w ∈ lw_all := lw_in wsX150 [2441, 2442, 2439] (by decide +kernel) (by decide +kernel)

/-! BraidedFerry$Anchoring -/
set_option maxRecDepth 100000
def RX16 : String := "BraidedFerry$Anchoring"
def TX16 : u_T := fun k => match k with
  | 0 => ("BraidedFerry$Paired", "one", "I", true)
  | _ => ("BraidedFerry$Paired", "other", "I", true)
def tyX16 : Nat → FieldType := fun k => match k with
  | 0 => .int
  | _ => .int
abbrev wsX160 : List Cond := u_ws RX16 TX16 2
theorem nmX16 : ∀ a, a < 2 → ∀ b, b < 2 → a ≠ b → (TX16 a).2.1 ≠ (TX16 b).2.1 := by decide +kernel
theorem tyX16_ok : ∀ k, k < 2 → parseFieldDescriptor (TX16 k).2.2.1 = some (tyX16 k) := by decide +kernel
abbrev cX16_done : ByteArray := prog_3_method_2_code
def yX16_done : MethodName := ⟨RX16, "done", "(LBraidedFerry$River;)I"⟩
def dkwX16_done_1 : List UInt8 := [180, 0, 9, 42, 180, 0, 21, 182, 0, 32, 172]
abbrev dktX16_done_1 : List UInt8 := dkwX16_done_1 ++ []
def dkwX16_done_0 : List UInt8 := [43, 42, 180, 0, 9, 182, 0, 15, 77, 42, 180, 0, 21, 4, 16, 9, 184, 0, 24, 184, 0, 28, 43, 42]
abbrev dktX16_done_0 : List UInt8 := dkwX16_done_0 ++ dktX16_done_1
theorem dksX16_done_0 : cX16_done.data.toList.drop 0 = dktX16_done_0 := by decide +kernel
theorem dksX16_done_1 : cX16_done.data.toList.drop 24 = dktX16_done_1 := dk_seg dksX16_done_0 24 rfl rfl
theorem dX16_done_0 : decode cX16_done 0 = .ok (.aload_n 1, 1) := dk_43 (dk_at dksX16_done_0 0 rfl rfl)
theorem dX16_done_1 : decode cX16_done 1 = .ok (.aload_n 0, 1) := dk_42 (dk_at dksX16_done_0 1 rfl rfl)
theorem dX16_done_2 : decode cX16_done 2 = .ok (.getfield 9, 3) := dk_180 0 9 (dk_at dksX16_done_0 2 rfl rfl)
theorem dX16_done_5 : decode cX16_done 5 = .ok (.invokevirtual 15, 3) := dk_182 0 15 (dk_at dksX16_done_0 5 rfl rfl)
theorem dX16_done_8 : decode cX16_done 8 = .ok (.astore_n 2, 1) := dk_77 (dk_at dksX16_done_0 8 rfl rfl)
theorem dX16_done_9 : decode cX16_done 9 = .ok (.aload_n 0, 1) := dk_42 (dk_at dksX16_done_0 9 rfl rfl)
theorem dX16_done_10 : decode cX16_done 10 = .ok (.getfield 21, 3) := dk_180 0 21 (dk_at dksX16_done_0 10 rfl rfl)
theorem dX16_done_13 : decode cX16_done 13 = .ok (.iconst 1, 1) := dk_4 (dk_at dksX16_done_0 13 rfl rfl)
theorem dX16_done_14 : decode cX16_done 14 = .ok (.bipush 9, 2) := dk_16 9 (dk_at dksX16_done_0 14 rfl rfl)
theorem dX16_done_16 : decode cX16_done 16 = .ok (.invokestatic 24, 3) := dk_184 0 24 (dk_at dksX16_done_0 16 rfl rfl)
theorem dX16_done_19 : decode cX16_done 19 = .ok (.invokestatic 28, 3) := dk_184 0 28 (dk_at dksX16_done_0 19 rfl rfl)
theorem dX16_done_22 : decode cX16_done 22 = .ok (.aload_n 1, 1) := dk_43 (dk_at dksX16_done_0 22 rfl rfl)
theorem dX16_done_23 : decode cX16_done 23 = .ok (.aload_n 0, 1) := dk_42 (dk_at dksX16_done_0 23 rfl rfl)
theorem dX16_done_24 : decode cX16_done 24 = .ok (.getfield 9, 3) := dk_180 0 9 (dk_at dksX16_done_1 0 rfl rfl)
theorem dX16_done_27 : decode cX16_done 27 = .ok (.aload_n 0, 1) := dk_42 (dk_at dksX16_done_1 3 rfl rfl)
theorem dX16_done_28 : decode cX16_done 28 = .ok (.getfield 21, 3) := dk_180 0 21 (dk_at dksX16_done_1 4 rfl rfl)
theorem dX16_done_31 : decode cX16_done 31 = .ok (.invokevirtual 32, 3) := dk_182 0 32 (dk_at dksX16_done_1 7 rfl rfl)
theorem dX16_done_34 : decode cX16_done 34 = .ok (.ireturn, 1) := dk_172 (dk_at dksX16_done_1 10 rfl rfl)
abbrev cX16_init : ByteArray := prog_3_method_1_code
def yX16_init : MethodName := ⟨RX16, "<init>", "(II)V"⟩
def dkwX16_init_0 : List UInt8 := [42, 27, 28, 183, 0, 3, 177]
abbrev dktX16_init_0 : List UInt8 := dkwX16_init_0 ++ []
theorem dksX16_init_0 : cX16_init.data.toList.drop 0 = dktX16_init_0 := by decide +kernel
theorem dX16_init_0 : decode cX16_init 0 = .ok (.aload_n 0, 1) := dk_42 (dk_at dksX16_init_0 0 rfl rfl)
theorem dX16_init_1 : decode cX16_init 1 = .ok (.iload_n 1, 1) := dk_27 (dk_at dksX16_init_0 1 rfl rfl)
theorem dX16_init_2 : decode cX16_init 2 = .ok (.iload_n 2, 1) := dk_28 (dk_at dksX16_init_0 2 rfl rfl)
theorem dX16_init_3 : decode cX16_init 3 = .ok (.invokespecial 3, 3) := dk_183 0 3 (dk_at dksX16_init_0 3 rfl rfl)
theorem dX16_init_6 : decode cX16_init 6 = .ok (.return_, 1) := dk_177 (dk_at dksX16_init_0 6 rfl rfl)
theorem q130 : (Jvm.Cond.initialized "BraidedFerry$Anchoring") ∈ lw_all := lw_g (lw_at lw_m1 58 rfl) rfl
theorem q596 : (Jvm.Cond.selects "BraidedFerry$Anchoring" ({ cls := "java/lang/Object", name := "getClass", desc := "()Ljava/lang/Class;" } : Jvm.MethodName) ({ cls := "java/lang/Object", name := "getClass", desc := "()Ljava/lang/Class;" } : Jvm.MethodName)) ∈ lw_all := lw_g (lw_at lw_m3 44 rfl) rfl
theorem q788 : (Jvm.Cond.selects "BraidedFerry$Anchoring" ({ cls := "java/lang/Object", name := "hashCode", desc := "()I" } : Jvm.MethodName) ({ cls := "java/lang/Object", name := "hashCode", desc := "()I" } : Jvm.MethodName)) ∈ lw_all := lw_g (lw_at lw_m3 236 rfl) rfl
theorem q1113 : (Jvm.Cond.selects "BraidedFerry$Anchoring" ({ cls := "java/lang/Object", name := "equals", desc := "(Ljava/lang/Object;)Z" } : Jvm.MethodName) ({ cls := "java/lang/Object", name := "equals", desc := "(Ljava/lang/Object;)Z" } : Jvm.MethodName)) ∈ lw_all := lw_g (lw_at lw_m5 81 rfl) rfl
theorem q1622 : (Jvm.Cond.castable "BraidedFerry$Anchoring" "BraidedFerry$Deed") ∈ lw_tbl := lw_at lw_m7 110 rfl
theorem q1623 : (Jvm.Cond.selects "BraidedFerry$Anchoring" ({ cls := "BraidedFerry$Deed", name := "done", desc := "(LBraidedFerry$River;)I" } : Jvm.MethodName) ({ cls := "BraidedFerry$Anchoring", name := "done", desc := "(LBraidedFerry$River;)I" } : Jvm.MethodName)) ∈ lw_all := lw_g (lw_at lw_m7 111 rfl) rfl
theorem q1624 : (Jvm.Cond.unhidden "BraidedFerry$Anchoring" "done" "(LBraidedFerry$River;)I") ∈ lw_tbl := lw_at lw_m7 112 rfl
theorem q1625 : (Jvm.Cond.instanceMethod ({ cls := "BraidedFerry$Anchoring", name := "done", desc := "(LBraidedFerry$River;)I" } : Jvm.MethodName)) ∈ lw_all := lw_g (lw_at lw_m7 113 rfl) rfl
theorem q1626 : (Jvm.Cond.publicMethod ({ cls := "BraidedFerry$Anchoring", name := "done", desc := "(LBraidedFerry$River;)I" } : Jvm.MethodName)) ∈ lw_tbl := lw_at lw_m7 114 rfl
theorem q1627 : (Jvm.Cond.code ({ cls := "BraidedFerry$Anchoring", name := "done", desc := "(LBraidedFerry$River;)I" } : Jvm.MethodName) prog_3_method_2_code (3 : Nat) (Option.some Jvm.ClassFile.FieldType.int)) ∈ lw_all := lw_g (lw_at lw_m7 115 rfl) rfl
theorem q1628 : (Jvm.Cond.methodLink "BraidedFerry$Anchoring" (15 : Nat) ({ cls := "BraidedFerry$River", name := "channel", desc := "(I)LBraidedFerry$Channel;" } : Jvm.MethodName)) ∈ lw_all := lw_g (lw_at lw_m7 116 rfl) rfl
theorem q1681 : (Jvm.Cond.methodLinkNest "BraidedFerry$Anchoring" (24 : Nat) ({ cls := "BraidedFerry", name := "inRange", desc := "(III)Z" } : Jvm.MethodName) "BraidedFerry") ∈ lw_tbl := lw_at lw_m7 169 rfl
theorem q1682 : (Jvm.Cond.methodLinkNest "BraidedFerry$Anchoring" (28 : Nat) ({ cls := "BraidedFerry", name := "require", desc := "(Z)V" } : Jvm.MethodName) "BraidedFerry") ∈ lw_tbl := lw_at lw_m7 170 rfl
theorem q1690 : (Jvm.Cond.methodLink "BraidedFerry$Anchoring" (32 : Nat) ({ cls := "BraidedFerry$River", name := "addAnchor", desc := "(II)I" } : Jvm.MethodName)) ∈ lw_all := lw_g (lw_at lw_m7 178 rfl) rfl
theorem q2357 : (Jvm.Cond.fieldLink "BraidedFerry$Anchoring" (9 : Nat) "BraidedFerry$Anchoring" "one" "I") ∈ lw_all := lw_g (lw_at lw_m10 125 rfl) rfl
theorem q2358 : (Jvm.Cond.sameField "BraidedFerry$Anchoring" "BraidedFerry$Paired" "one" "I") ∈ lw_all := lw_g (lw_at lw_m10 126 rfl) rfl
theorem q2382 : (Jvm.Cond.fieldLink "BraidedFerry$Anchoring" (21 : Nat) "BraidedFerry$Anchoring" "other" "I") ∈ lw_all := lw_g (lw_at lw_m10 150 rfl) rfl
theorem q2383 : (Jvm.Cond.sameField "BraidedFerry$Anchoring" "BraidedFerry$Paired" "other" "I") ∈ lw_all := lw_g (lw_at lw_m10 151 rfl) rfl
theorem q2459 : (Jvm.Cond.instantiable "BraidedFerry$Anchoring" (2 : Nat)) ∈ lw_all := lw_g (lw_at lw_m10 227 rfl) rfl
theorem q2461 : (Jvm.Cond.instanceMethod ({ cls := "BraidedFerry$Anchoring", name := "<init>", desc := "(II)V" } : Jvm.MethodName)) ∈ lw_all := lw_g (lw_at lw_m10 229 rfl) rfl
theorem q2462 : (Jvm.Cond.code ({ cls := "BraidedFerry$Anchoring", name := "<init>", desc := "(II)V" } : Jvm.MethodName) prog_3_method_1_code (3 : Nat) (Option.none : Option Jvm.ClassFile.FieldType)) ∈ lw_all := lw_g (lw_at lw_m10 230 rfl) rfl
theorem q2463 : (Jvm.Cond.methodLink "BraidedFerry$Anchoring" (3 : Nat) ({ cls := "BraidedFerry$Paired", name := "<init>", desc := "(II)V" } : Jvm.MethodName)) ∈ lw_all := lw_g (lw_at lw_m10 231 rfl) rfl
theorem q2464 : (Jvm.Cond.laysFinal "BraidedFerry$Anchoring" "BraidedFerry$Paired" "one" "I") ∈ lw_all := lw_g (lw_at lw_m10 232 rfl) rfl
theorem q2465 : (Jvm.Cond.laysFinal "BraidedFerry$Anchoring" "BraidedFerry$Paired" "other" "I") ∈ lw_all := lw_g (lw_at lw_m10 233 rfl) rfl
theorem q2466 : (Jvm.Cond.superclass "BraidedFerry$Anchoring" "BraidedFerry$Paired") ∈ lw_all := lw_g (lw_at lw_m10 234 rfl) rfl
theorem q2640 : (Jvm.Cond.selects "BraidedFerry$Anchoring" ({ cls := "java/lang/Object", name := "toString", desc := "()Ljava/lang/String;" } : Jvm.MethodName) ({ cls := "java/lang/Object", name := "toString", desc := "()Ljava/lang/String;" } : Jvm.MethodName)) ∈ lw_all := lw_g (lw_at lw_m11 168 rfl) rfl
theorem q3710 : (Jvm.Cond.castable "BraidedFerry$Anchoring" "java/lang/Object") ∈ lw_tbl := lw_at lw_m16 38 rfl
theorem in_X16 : ∀ w ∈ wsX160, w ∈ lw_all := lw_in wsX160 [2464, 2465] (by decide +kernel) (by decide +kernel)

/-! BraidedFerry$Numbered -/
set_option maxRecDepth 100000
def RX17 : String := "BraidedFerry$Numbered"
abbrev cX17_init : ByteArray := prog_15_method_1_code
def yX17_init : MethodName := ⟨RX17, "<init>", "(I)V"⟩
def dkwX17_init_0 : List UInt8 := [42, 183, 0, 1, 42, 27, 181, 0, 7, 177]
abbrev dktX17_init_0 : List UInt8 := dkwX17_init_0 ++ []
theorem dksX17_init_0 : cX17_init.data.toList.drop 0 = dktX17_init_0 := by decide +kernel
theorem dX17_init_0 : decode cX17_init 0 = .ok (.aload_n 0, 1) := dk_42 (dk_at dksX17_init_0 0 rfl rfl)
theorem dX17_init_1 : decode cX17_init 1 = .ok (.invokespecial 1, 3) := dk_183 0 1 (dk_at dksX17_init_0 1 rfl rfl)
theorem dX17_init_4 : decode cX17_init 4 = .ok (.aload_n 0, 1) := dk_42 (dk_at dksX17_init_0 4 rfl rfl)
theorem dX17_init_5 : decode cX17_init 5 = .ok (.iload_n 1, 1) := dk_27 (dk_at dksX17_init_0 5 rfl rfl)
theorem dX17_init_6 : decode cX17_init 6 = .ok (.putfield 7, 3) := dk_181 0 7 (dk_at dksX17_init_0 6 rfl rfl)
theorem dX17_init_9 : decode cX17_init 9 = .ok (.return_, 1) := dk_177 (dk_at dksX17_init_0 9 rfl rfl)
theorem q131 : (Jvm.Cond.initialized "BraidedFerry$Numbered") ∈ lw_all := lw_g (lw_at lw_m1 59 rfl) rfl
theorem q2480 : (Jvm.Cond.instanceMethod ({ cls := "BraidedFerry$Numbered", name := "<init>", desc := "(I)V" } : Jvm.MethodName)) ∈ lw_all := lw_g (lw_at lw_m11 8 rfl) rfl
theorem q2481 : (Jvm.Cond.code ({ cls := "BraidedFerry$Numbered", name := "<init>", desc := "(I)V" } : Jvm.MethodName) prog_15_method_1_code (2 : Nat) (Option.none : Option Jvm.ClassFile.FieldType)) ∈ lw_all := lw_g (lw_at lw_m11 9 rfl) rfl
theorem q2482 : (Jvm.Cond.methodLink "BraidedFerry$Numbered" (1 : Nat) ({ cls := "java/lang/Object", name := "<init>", desc := "()V" } : Jvm.MethodName)) ∈ lw_all := lw_g (lw_at lw_m11 10 rfl) rfl
theorem q2483 : (Jvm.Cond.fieldLink "BraidedFerry$Numbered" (7 : Nat) "BraidedFerry$Numbered" "number" "I") ∈ lw_all := lw_g (lw_at lw_m11 11 rfl) rfl
theorem q2491 : (Jvm.Cond.soleField "BraidedFerry$Numbered" "number") ∈ lw_all := lw_g (lw_at lw_m11 19 rfl) rfl

/-! BraidedFerry$Weighing -/
set_option maxRecDepth 100000
def RX18 : String := "BraidedFerry$Weighing"
def TX18 : u_T := fun k => match k with
  | _ => ("BraidedFerry$Numbered", "number", "I", true)
def tyX18 : Nat → FieldType := fun k => match k with
  | _ => .int
abbrev wsX180 : List Cond := u_ws RX18 TX18 1
theorem nmX18 : ∀ a, a < 1 → ∀ b, b < 1 → a ≠ b → (TX18 a).2.1 ≠ (TX18 b).2.1 := by decide +kernel
theorem tyX18_ok : ∀ k, k < 1 → parseFieldDescriptor (TX18 k).2.2.1 = some (tyX18 k) := by decide +kernel
abbrev cX18_done : ByteArray := prog_27_method_2_code
def yX18_done : MethodName := ⟨RX18, "done", "(LBraidedFerry$River;)I"⟩
def dkwX18_done_0 : List UInt8 := [43, 42, 180, 0, 7, 182, 0, 13, 172]
abbrev dktX18_done_0 : List UInt8 := dkwX18_done_0 ++ []
theorem dksX18_done_0 : cX18_done.data.toList.drop 0 = dktX18_done_0 := by decide +kernel
theorem dX18_done_0 : decode cX18_done 0 = .ok (.aload_n 1, 1) := dk_43 (dk_at dksX18_done_0 0 rfl rfl)
theorem dX18_done_1 : decode cX18_done 1 = .ok (.aload_n 0, 1) := dk_42 (dk_at dksX18_done_0 1 rfl rfl)
theorem dX18_done_2 : decode cX18_done 2 = .ok (.getfield 7, 3) := dk_180 0 7 (dk_at dksX18_done_0 2 rfl rfl)
theorem dX18_done_5 : decode cX18_done 5 = .ok (.invokevirtual 13, 3) := dk_182 0 13 (dk_at dksX18_done_0 5 rfl rfl)
theorem dX18_done_8 : decode cX18_done 8 = .ok (.ireturn, 1) := dk_172 (dk_at dksX18_done_0 8 rfl rfl)
abbrev cX18_init : ByteArray := prog_27_method_1_code
def yX18_init : MethodName := ⟨RX18, "<init>", "(I)V"⟩
def dkwX18_init_0 : List UInt8 := [42, 27, 183, 0, 1, 177]
abbrev dktX18_init_0 : List UInt8 := dkwX18_init_0 ++ []
theorem dksX18_init_0 : cX18_init.data.toList.drop 0 = dktX18_init_0 := by decide +kernel
theorem dX18_init_0 : decode cX18_init 0 = .ok (.aload_n 0, 1) := dk_42 (dk_at dksX18_init_0 0 rfl rfl)
theorem dX18_init_1 : decode cX18_init 1 = .ok (.iload_n 1, 1) := dk_27 (dk_at dksX18_init_0 1 rfl rfl)
theorem dX18_init_2 : decode cX18_init 2 = .ok (.invokespecial 1, 3) := dk_183 0 1 (dk_at dksX18_init_0 2 rfl rfl)
theorem dX18_init_5 : decode cX18_init 5 = .ok (.return_, 1) := dk_177 (dk_at dksX18_init_0 5 rfl rfl)
theorem q132 : (Jvm.Cond.initialized "BraidedFerry$Weighing") ∈ lw_all := lw_g (lw_at lw_m1 60 rfl) rfl
theorem q616 : (Jvm.Cond.selects "BraidedFerry$Weighing" ({ cls := "java/lang/Object", name := "getClass", desc := "()Ljava/lang/Class;" } : Jvm.MethodName) ({ cls := "java/lang/Object", name := "getClass", desc := "()Ljava/lang/Class;" } : Jvm.MethodName)) ∈ lw_all := lw_g (lw_at lw_m3 64 rfl) rfl
theorem q810 : (Jvm.Cond.selects "BraidedFerry$Weighing" ({ cls := "java/lang/Object", name := "hashCode", desc := "()I" } : Jvm.MethodName) ({ cls := "java/lang/Object", name := "hashCode", desc := "()I" } : Jvm.MethodName)) ∈ lw_all := lw_g (lw_at lw_m4 18 rfl) rfl
theorem q1136 : (Jvm.Cond.selects "BraidedFerry$Weighing" ({ cls := "java/lang/Object", name := "equals", desc := "(Ljava/lang/Object;)Z" } : Jvm.MethodName) ({ cls := "java/lang/Object", name := "equals", desc := "(Ljava/lang/Object;)Z" } : Jvm.MethodName)) ∈ lw_all := lw_g (lw_at lw_m5 104 rfl) rfl
theorem q2197 : (Jvm.Cond.castable "BraidedFerry$Weighing" "BraidedFerry$Deed") ∈ lw_tbl := lw_at lw_m9 205 rfl
theorem q2198 : (Jvm.Cond.selects "BraidedFerry$Weighing" ({ cls := "BraidedFerry$Deed", name := "done", desc := "(LBraidedFerry$River;)I" } : Jvm.MethodName) ({ cls := "BraidedFerry$Weighing", name := "done", desc := "(LBraidedFerry$River;)I" } : Jvm.MethodName)) ∈ lw_all := lw_g (lw_at lw_m9 206 rfl) rfl
theorem q2199 : (Jvm.Cond.unhidden "BraidedFerry$Weighing" "done" "(LBraidedFerry$River;)I") ∈ lw_tbl := lw_at lw_m9 207 rfl
theorem q2200 : (Jvm.Cond.instanceMethod ({ cls := "BraidedFerry$Weighing", name := "done", desc := "(LBraidedFerry$River;)I" } : Jvm.MethodName)) ∈ lw_all := lw_g (lw_at lw_m9 208 rfl) rfl
theorem q2201 : (Jvm.Cond.publicMethod ({ cls := "BraidedFerry$Weighing", name := "done", desc := "(LBraidedFerry$River;)I" } : Jvm.MethodName)) ∈ lw_tbl := lw_at lw_m9 209 rfl
theorem q2202 : (Jvm.Cond.code ({ cls := "BraidedFerry$Weighing", name := "done", desc := "(LBraidedFerry$River;)I" } : Jvm.MethodName) prog_27_method_2_code (2 : Nat) (Option.some Jvm.ClassFile.FieldType.int)) ∈ lw_all := lw_g (lw_at lw_m9 210 rfl) rfl
theorem q2203 : (Jvm.Cond.methodLink "BraidedFerry$Weighing" (13 : Nat) ({ cls := "BraidedFerry$River", name := "weigh", desc := "(I)I" } : Jvm.MethodName)) ∈ lw_all := lw_g (lw_at lw_m9 211 rfl) rfl
theorem q2475 : (Jvm.Cond.instantiable "BraidedFerry$Weighing" (1 : Nat)) ∈ lw_all := lw_g (lw_at lw_m11 3 rfl) rfl
theorem q2477 : (Jvm.Cond.instanceMethod ({ cls := "BraidedFerry$Weighing", name := "<init>", desc := "(I)V" } : Jvm.MethodName)) ∈ lw_all := lw_g (lw_at lw_m11 5 rfl) rfl
theorem q2478 : (Jvm.Cond.code ({ cls := "BraidedFerry$Weighing", name := "<init>", desc := "(I)V" } : Jvm.MethodName) prog_27_method_1_code (2 : Nat) (Option.none : Option Jvm.ClassFile.FieldType)) ∈ lw_all := lw_g (lw_at lw_m11 6 rfl) rfl
theorem q2479 : (Jvm.Cond.methodLink "BraidedFerry$Weighing" (1 : Nat) ({ cls := "BraidedFerry$Numbered", name := "<init>", desc := "(I)V" } : Jvm.MethodName)) ∈ lw_all := lw_g (lw_at lw_m11 7 rfl) rfl
theorem q2488 : (Jvm.Cond.fieldLink "BraidedFerry$Weighing" (7 : Nat) "BraidedFerry$Weighing" "number" "I") ∈ lw_all := lw_g (lw_at lw_m11 16 rfl) rfl
theorem q2489 : (Jvm.Cond.sameField "BraidedFerry$Weighing" "BraidedFerry$Numbered" "number" "I") ∈ lw_all := lw_g (lw_at lw_m11 17 rfl) rfl
theorem q2490 : (Jvm.Cond.laysFinal "BraidedFerry$Weighing" "BraidedFerry$Numbered" "number" "I") ∈ lw_all := lw_g (lw_at lw_m11 18 rfl) rfl
theorem q2492 : (Jvm.Cond.superclass "BraidedFerry$Weighing" "BraidedFerry$Numbered") ∈ lw_all := lw_g (lw_at lw_m11 20 rfl) rfl
theorem q2698 : (Jvm.Cond.selects "BraidedFerry$Weighing" ({ cls := "java/lang/Object", name := "toString", desc := "()Ljava/lang/String;" } : Jvm.MethodName) ({ cls := "java/lang/Object", name := "toString", desc := "()Ljava/lang/String;" } : Jvm.MethodName)) ∈ lw_all := lw_g (lw_at lw_m11 226 rfl) rfl
theorem q3711 : (Jvm.Cond.castable "BraidedFerry$Weighing" "java/lang/Object") ∈ lw_tbl := lw_at lw_m16 39 rfl
theorem in_X18 : ∀ w ∈ wsX180, w ∈ lw_all := lw_in wsX180 [2490] (by decide +kernel) (by decide +kernel)

/-! BraidedFerry$Coming -/
set_option maxRecDepth 100000
def RX19 : String := "BraidedFerry$Coming"
def TX19 : u_T := fun k => match k with
  | 0 => ("BraidedFerry$Paired", "one", "I", true)
  | 1 => ("BraidedFerry$Paired", "other", "I", true)
  | 2 => ("BraidedFerry$Coming", "kind", "I", true)
  | _ => ("BraidedFerry$Coming", "count", "I", true)
def tyX19 : Nat → FieldType := fun k => match k with
  | 0 => .int
  | 1 => .int
  | 2 => .int
  | _ => .int
abbrev wsX190 : List Cond := u_ws RX19 TX19 4
theorem nmX19 : ∀ a, a < 4 → ∀ b, b < 4 → a ≠ b → (TX19 a).2.1 ≠ (TX19 b).2.1 := by decide +kernel
theorem tyX19_ok : ∀ k, k < 4 → parseFieldDescriptor (TX19 k).2.2.1 = some (tyX19 k) := by decide +kernel
abbrev cX19_done : ByteArray := prog_6_method_2_code
def yX19_done : MethodName := ⟨RX19, "done", "(LBraidedFerry$River;)I"⟩
def dkwX19_done_3 : List UInt8 := [43, 44, 42, 180, 0, 15, 182, 0, 43, 172]
abbrev dktX19_done_3 : List UInt8 := dkwX19_done_3 ++ []
def dkwX19_done_2 : List UInt8 := [159, 0, 20, 42, 180, 0, 15, 4, 16, 99, 184, 0, 35, 153, 0, 7, 4, 167, 0, 4, 3, 184, 0, 39]
abbrev dktX19_done_2 : List UInt8 := dkwX19_done_2 ++ dktX19_done_3
def dkwX19_done_1 : List UInt8 := [183, 0, 32, 77, 42, 180, 0, 9, 3, 5, 184, 0, 35, 153, 0, 31, 42, 180, 0, 20, 42, 180, 0, 29]
abbrev dktX19_done_1 : List UInt8 := dkwX19_done_1 ++ dktX19_done_2
def dkwX19_done_0 : List UInt8 := [187, 0, 18, 89, 42, 180, 0, 9, 43, 42, 180, 0, 20, 182, 0, 23, 43, 42, 180, 0, 29, 182, 0, 23]
abbrev dktX19_done_0 : List UInt8 := dkwX19_done_0 ++ dktX19_done_1
theorem dksX19_done_0 : cX19_done.data.toList.drop 0 = dktX19_done_0 := by decide +kernel
theorem dksX19_done_1 : cX19_done.data.toList.drop 24 = dktX19_done_1 := dk_seg dksX19_done_0 24 rfl rfl
theorem dksX19_done_2 : cX19_done.data.toList.drop 48 = dktX19_done_2 := dk_seg dksX19_done_1 24 rfl rfl
theorem dksX19_done_3 : cX19_done.data.toList.drop 72 = dktX19_done_3 := dk_seg dksX19_done_2 24 rfl rfl
theorem dX19_done_0 : decode cX19_done 0 = .ok (.new 18, 3) := dk_187 0 18 (dk_at dksX19_done_0 0 rfl rfl)
theorem dX19_done_3 : decode cX19_done 3 = .ok (.dup, 1) := dk_89 (dk_at dksX19_done_0 3 rfl rfl)
theorem dX19_done_4 : decode cX19_done 4 = .ok (.aload_n 0, 1) := dk_42 (dk_at dksX19_done_0 4 rfl rfl)
theorem dX19_done_5 : decode cX19_done 5 = .ok (.getfield 9, 3) := dk_180 0 9 (dk_at dksX19_done_0 5 rfl rfl)
theorem dX19_done_8 : decode cX19_done 8 = .ok (.aload_n 1, 1) := dk_43 (dk_at dksX19_done_0 8 rfl rfl)
theorem dX19_done_9 : decode cX19_done 9 = .ok (.aload_n 0, 1) := dk_42 (dk_at dksX19_done_0 9 rfl rfl)
theorem dX19_done_10 : decode cX19_done 10 = .ok (.getfield 20, 3) := dk_180 0 20 (dk_at dksX19_done_0 10 rfl rfl)
theorem dX19_done_13 : decode cX19_done 13 = .ok (.invokevirtual 23, 3) := dk_182 0 23 (dk_at dksX19_done_0 13 rfl rfl)
theorem dX19_done_16 : decode cX19_done 16 = .ok (.aload_n 1, 1) := dk_43 (dk_at dksX19_done_0 16 rfl rfl)
theorem dX19_done_17 : decode cX19_done 17 = .ok (.aload_n 0, 1) := dk_42 (dk_at dksX19_done_0 17 rfl rfl)
theorem dX19_done_18 : decode cX19_done 18 = .ok (.getfield 29, 3) := dk_180 0 29 (dk_at dksX19_done_0 18 rfl rfl)
theorem dX19_done_21 : decode cX19_done 21 = .ok (.invokevirtual 23, 3) := dk_182 0 23 (dk_at dksX19_done_0 21 rfl rfl)
theorem dX19_done_24 : decode cX19_done 24 = .ok (.invokespecial 32, 3) := dk_183 0 32 (dk_at dksX19_done_1 0 rfl rfl)
theorem dX19_done_27 : decode cX19_done 27 = .ok (.astore_n 2, 1) := dk_77 (dk_at dksX19_done_1 3 rfl rfl)
theorem dX19_done_28 : decode cX19_done 28 = .ok (.aload_n 0, 1) := dk_42 (dk_at dksX19_done_1 4 rfl rfl)
theorem dX19_done_29 : decode cX19_done 29 = .ok (.getfield 9, 3) := dk_180 0 9 (dk_at dksX19_done_1 5 rfl rfl)
theorem dX19_done_32 : decode cX19_done 32 = .ok (.iconst 0, 1) := dk_3 (dk_at dksX19_done_1 8 rfl rfl)
theorem dX19_done_33 : decode cX19_done 33 = .ok (.iconst 2, 1) := dk_5 (dk_at dksX19_done_1 9 rfl rfl)
theorem dX19_done_34 : decode cX19_done 34 = .ok (.invokestatic 35, 3) := dk_184 0 35 (dk_at dksX19_done_1 10 rfl rfl)
theorem dX19_done_37 : decode cX19_done 37 = .ok (.ifCond .eq 31, 3) := dk_153 0 31 (dk_at dksX19_done_1 13 rfl rfl)
theorem dX19_done_40 : decode cX19_done 40 = .ok (.aload_n 0, 1) := dk_42 (dk_at dksX19_done_1 16 rfl rfl)
theorem dX19_done_41 : decode cX19_done 41 = .ok (.getfield 20, 3) := dk_180 0 20 (dk_at dksX19_done_1 17 rfl rfl)
theorem dX19_done_44 : decode cX19_done 44 = .ok (.aload_n 0, 1) := dk_42 (dk_at dksX19_done_1 20 rfl rfl)
theorem dX19_done_45 : decode cX19_done 45 = .ok (.getfield 29, 3) := dk_180 0 29 (dk_at dksX19_done_1 21 rfl rfl)
theorem dX19_done_48 : decode cX19_done 48 = .ok (.if_icmp .eq 20, 3) := dk_159 0 20 (dk_at dksX19_done_2 0 rfl rfl)
theorem dX19_done_51 : decode cX19_done 51 = .ok (.aload_n 0, 1) := dk_42 (dk_at dksX19_done_2 3 rfl rfl)
theorem dX19_done_52 : decode cX19_done 52 = .ok (.getfield 15, 3) := dk_180 0 15 (dk_at dksX19_done_2 4 rfl rfl)
theorem dX19_done_55 : decode cX19_done 55 = .ok (.iconst 1, 1) := dk_4 (dk_at dksX19_done_2 7 rfl rfl)
theorem dX19_done_56 : decode cX19_done 56 = .ok (.bipush 99, 2) := dk_16 99 (dk_at dksX19_done_2 8 rfl rfl)
theorem dX19_done_58 : decode cX19_done 58 = .ok (.invokestatic 35, 3) := dk_184 0 35 (dk_at dksX19_done_2 10 rfl rfl)
theorem dX19_done_61 : decode cX19_done 61 = .ok (.ifCond .eq 7, 3) := dk_153 0 7 (dk_at dksX19_done_2 13 rfl rfl)
theorem dX19_done_64 : decode cX19_done 64 = .ok (.iconst 1, 1) := dk_4 (dk_at dksX19_done_2 16 rfl rfl)
theorem dX19_done_65 : decode cX19_done 65 = .ok (.goto 4, 3) := dk_167 0 4 (dk_at dksX19_done_2 17 rfl rfl)
theorem dX19_done_68 : decode cX19_done 68 = .ok (.iconst 0, 1) := dk_3 (dk_at dksX19_done_2 20 rfl rfl)
theorem dX19_done_69 : decode cX19_done 69 = .ok (.invokestatic 39, 3) := dk_184 0 39 (dk_at dksX19_done_2 21 rfl rfl)
theorem dX19_done_72 : decode cX19_done 72 = .ok (.aload_n 1, 1) := dk_43 (dk_at dksX19_done_3 0 rfl rfl)
theorem dX19_done_73 : decode cX19_done 73 = .ok (.aload_n 2, 1) := dk_44 (dk_at dksX19_done_3 1 rfl rfl)
theorem dX19_done_74 : decode cX19_done 74 = .ok (.aload_n 0, 1) := dk_42 (dk_at dksX19_done_3 2 rfl rfl)
theorem dX19_done_75 : decode cX19_done 75 = .ok (.getfield 15, 3) := dk_180 0 15 (dk_at dksX19_done_3 3 rfl rfl)
theorem dX19_done_78 : decode cX19_done 78 = .ok (.invokevirtual 43, 3) := dk_182 0 43 (dk_at dksX19_done_3 6 rfl rfl)
theorem dX19_done_81 : decode cX19_done 81 = .ok (.ireturn, 1) := dk_172 (dk_at dksX19_done_3 9 rfl rfl)
abbrev cX19_init : ByteArray := prog_6_method_1_code
def yX19_init : MethodName := ⟨RX19, "<init>", "(IIII)V"⟩
def dkwX19_init_0 : List UInt8 := [42, 28, 29, 183, 0, 3, 42, 27, 181, 0, 9, 42, 21, 4, 181, 0, 15, 177]
abbrev dktX19_init_0 : List UInt8 := dkwX19_init_0 ++ []
theorem dksX19_init_0 : cX19_init.data.toList.drop 0 = dktX19_init_0 := by decide +kernel
theorem dX19_init_0 : decode cX19_init 0 = .ok (.aload_n 0, 1) := dk_42 (dk_at dksX19_init_0 0 rfl rfl)
theorem dX19_init_1 : decode cX19_init 1 = .ok (.iload_n 2, 1) := dk_28 (dk_at dksX19_init_0 1 rfl rfl)
theorem dX19_init_2 : decode cX19_init 2 = .ok (.iload_n 3, 1) := dk_29 (dk_at dksX19_init_0 2 rfl rfl)
theorem dX19_init_3 : decode cX19_init 3 = .ok (.invokespecial 3, 3) := dk_183 0 3 (dk_at dksX19_init_0 3 rfl rfl)
theorem dX19_init_6 : decode cX19_init 6 = .ok (.aload_n 0, 1) := dk_42 (dk_at dksX19_init_0 6 rfl rfl)
theorem dX19_init_7 : decode cX19_init 7 = .ok (.iload_n 1, 1) := dk_27 (dk_at dksX19_init_0 7 rfl rfl)
theorem dX19_init_8 : decode cX19_init 8 = .ok (.putfield 9, 3) := dk_181 0 9 (dk_at dksX19_init_0 8 rfl rfl)
theorem dX19_init_11 : decode cX19_init 11 = .ok (.aload_n 0, 1) := dk_42 (dk_at dksX19_init_0 11 rfl rfl)
theorem dX19_init_12 : decode cX19_init 12 = .ok (.iload 4, 2) := dk_21 4 (dk_at dksX19_init_0 12 rfl rfl)
theorem dX19_init_14 : decode cX19_init 14 = .ok (.putfield 15, 3) := dk_181 0 15 (dk_at dksX19_init_0 14 rfl rfl)
theorem dX19_init_17 : decode cX19_init 17 = .ok (.return_, 1) := dk_177 (dk_at dksX19_init_0 17 rfl rfl)
theorem q133 : (Jvm.Cond.initialized "BraidedFerry$Coming") ∈ lw_all := lw_g (lw_at lw_m1 61 rfl) rfl
theorem q599 : (Jvm.Cond.selects "BraidedFerry$Coming" ({ cls := "java/lang/Object", name := "getClass", desc := "()Ljava/lang/Class;" } : Jvm.MethodName) ({ cls := "java/lang/Object", name := "getClass", desc := "()Ljava/lang/Class;" } : Jvm.MethodName)) ∈ lw_all := lw_g (lw_at lw_m3 47 rfl) rfl
theorem q791 : (Jvm.Cond.selects "BraidedFerry$Coming" ({ cls := "java/lang/Object", name := "hashCode", desc := "()I" } : Jvm.MethodName) ({ cls := "java/lang/Object", name := "hashCode", desc := "()I" } : Jvm.MethodName)) ∈ lw_all := lw_g (lw_at lw_m3 239 rfl) rfl
theorem q1116 : (Jvm.Cond.selects "BraidedFerry$Coming" ({ cls := "java/lang/Object", name := "equals", desc := "(Ljava/lang/Object;)Z" } : Jvm.MethodName) ({ cls := "java/lang/Object", name := "equals", desc := "(Ljava/lang/Object;)Z" } : Jvm.MethodName)) ∈ lw_all := lw_g (lw_at lw_m5 84 rfl) rfl
theorem q1842 : (Jvm.Cond.castable "BraidedFerry$Coming" "BraidedFerry$Deed") ∈ lw_tbl := lw_at lw_m8 90 rfl
theorem q1843 : (Jvm.Cond.selects "BraidedFerry$Coming" ({ cls := "BraidedFerry$Deed", name := "done", desc := "(LBraidedFerry$River;)I" } : Jvm.MethodName) ({ cls := "BraidedFerry$Coming", name := "done", desc := "(LBraidedFerry$River;)I" } : Jvm.MethodName)) ∈ lw_all := lw_g (lw_at lw_m8 91 rfl) rfl
theorem q1844 : (Jvm.Cond.unhidden "BraidedFerry$Coming" "done" "(LBraidedFerry$River;)I") ∈ lw_tbl := lw_at lw_m8 92 rfl
theorem q1845 : (Jvm.Cond.instanceMethod ({ cls := "BraidedFerry$Coming", name := "done", desc := "(LBraidedFerry$River;)I" } : Jvm.MethodName)) ∈ lw_all := lw_g (lw_at lw_m8 93 rfl) rfl
theorem q1846 : (Jvm.Cond.publicMethod ({ cls := "BraidedFerry$Coming", name := "done", desc := "(LBraidedFerry$River;)I" } : Jvm.MethodName)) ∈ lw_tbl := lw_at lw_m8 94 rfl
theorem q1847 : (Jvm.Cond.code ({ cls := "BraidedFerry$Coming", name := "done", desc := "(LBraidedFerry$River;)I" } : Jvm.MethodName) prog_6_method_2_code (3 : Nat) (Option.some Jvm.ClassFile.FieldType.int)) ∈ lw_all := lw_g (lw_at lw_m8 95 rfl) rfl
theorem q1848 : (Jvm.Cond.classLink "BraidedFerry$Coming" (18 : Nat) "BraidedFerry$Group") ∈ lw_all := lw_g (lw_at lw_m8 96 rfl) rfl
theorem q1849 : (Jvm.Cond.methodLink "BraidedFerry$Coming" (23 : Nat) ({ cls := "BraidedFerry$River", name := "stop", desc := "(I)I" } : Jvm.MethodName)) ∈ lw_all := lw_g (lw_at lw_m8 97 rfl) rfl
theorem q1850 : (Jvm.Cond.methodLink "BraidedFerry$Coming" (32 : Nat) ({ cls := "BraidedFerry$Group", name := "<init>", desc := "(III)V" } : Jvm.MethodName)) ∈ lw_all := lw_g (lw_at lw_m8 98 rfl) rfl
theorem q1851 : (Jvm.Cond.methodLinkNest "BraidedFerry$Coming" (35 : Nat) ({ cls := "BraidedFerry", name := "inRange", desc := "(III)Z" } : Jvm.MethodName) "BraidedFerry") ∈ lw_tbl := lw_at lw_m8 99 rfl
theorem q1852 : (Jvm.Cond.methodLinkNest "BraidedFerry$Coming" (39 : Nat) ({ cls := "BraidedFerry", name := "require", desc := "(Z)V" } : Jvm.MethodName) "BraidedFerry") ∈ lw_tbl := lw_at lw_m8 100 rfl
theorem q1853 : (Jvm.Cond.methodLink "BraidedFerry$Coming" (43 : Nat) ({ cls := "BraidedFerry$River", name := "come", desc := "(LBraidedFerry$Group;I)I" } : Jvm.MethodName)) ∈ lw_all := lw_g (lw_at lw_m8 101 rfl) rfl
theorem q2369 : (Jvm.Cond.fieldLink "BraidedFerry$Coming" (20 : Nat) "BraidedFerry$Coming" "one" "I") ∈ lw_all := lw_g (lw_at lw_m10 137 rfl) rfl
theorem q2370 : (Jvm.Cond.sameField "BraidedFerry$Coming" "BraidedFerry$Paired" "one" "I") ∈ lw_all := lw_g (lw_at lw_m10 138 rfl) rfl
theorem q2384 : (Jvm.Cond.fieldLink "BraidedFerry$Coming" (29 : Nat) "BraidedFerry$Coming" "other" "I") ∈ lw_all := lw_g (lw_at lw_m10 152 rfl) rfl
theorem q2385 : (Jvm.Cond.sameField "BraidedFerry$Coming" "BraidedFerry$Paired" "other" "I") ∈ lw_all := lw_g (lw_at lw_m10 153 rfl) rfl
theorem q2538 : (Jvm.Cond.instantiable "BraidedFerry$Coming" (4 : Nat)) ∈ lw_all := lw_g (lw_at lw_m11 66 rfl) rfl
theorem q2540 : (Jvm.Cond.instanceMethod ({ cls := "BraidedFerry$Coming", name := "<init>", desc := "(IIII)V" } : Jvm.MethodName)) ∈ lw_all := lw_g (lw_at lw_m11 68 rfl) rfl
theorem q2541 : (Jvm.Cond.code ({ cls := "BraidedFerry$Coming", name := "<init>", desc := "(IIII)V" } : Jvm.MethodName) prog_6_method_1_code (5 : Nat) (Option.none : Option Jvm.ClassFile.FieldType)) ∈ lw_all := lw_g (lw_at lw_m11 69 rfl) rfl
theorem q2542 : (Jvm.Cond.methodLink "BraidedFerry$Coming" (3 : Nat) ({ cls := "BraidedFerry$Paired", name := "<init>", desc := "(II)V" } : Jvm.MethodName)) ∈ lw_all := lw_g (lw_at lw_m11 70 rfl) rfl
theorem q2543 : (Jvm.Cond.fieldLink "BraidedFerry$Coming" (9 : Nat) "BraidedFerry$Coming" "kind" "I") ∈ lw_all := lw_g (lw_at lw_m11 71 rfl) rfl
theorem q2544 : (Jvm.Cond.fieldLink "BraidedFerry$Coming" (15 : Nat) "BraidedFerry$Coming" "count" "I") ∈ lw_all := lw_g (lw_at lw_m11 72 rfl) rfl
theorem q2545 : (Jvm.Cond.laysFinal "BraidedFerry$Coming" "BraidedFerry$Coming" "kind" "I") ∈ lw_all := lw_g (lw_at lw_m11 73 rfl) rfl
theorem q2546 : (Jvm.Cond.soleField "BraidedFerry$Coming" "kind") ∈ lw_all := lw_g (lw_at lw_m11 74 rfl) rfl
theorem q2547 : (Jvm.Cond.laysFinal "BraidedFerry$Coming" "BraidedFerry$Coming" "count" "I") ∈ lw_all := lw_g (lw_at lw_m11 75 rfl) rfl
theorem q2548 : (Jvm.Cond.soleField "BraidedFerry$Coming" "count") ∈ lw_all := lw_g (lw_at lw_m11 76 rfl) rfl
theorem q2549 : (Jvm.Cond.laysFinal "BraidedFerry$Coming" "BraidedFerry$Paired" "one" "I") ∈ lw_all := lw_g (lw_at lw_m11 77 rfl) rfl
theorem q2550 : (Jvm.Cond.laysFinal "BraidedFerry$Coming" "BraidedFerry$Paired" "other" "I") ∈ lw_all := lw_g (lw_at lw_m11 78 rfl) rfl
theorem q2551 : (Jvm.Cond.superclass "BraidedFerry$Coming" "BraidedFerry$Paired") ∈ lw_all := lw_g (lw_at lw_m11 79 rfl) rfl
theorem q2643 : (Jvm.Cond.selects "BraidedFerry$Coming" ({ cls := "java/lang/Object", name := "toString", desc := "()Ljava/lang/String;" } : Jvm.MethodName) ({ cls := "java/lang/Object", name := "toString", desc := "()Ljava/lang/String;" } : Jvm.MethodName)) ∈ lw_all := lw_g (lw_at lw_m11 171 rfl) rfl
theorem q3713 : (Jvm.Cond.castable "BraidedFerry$Coming" "java/lang/Object") ∈ lw_tbl := lw_at lw_m16 41 rfl
theorem in_X19 : ∀ w ∈ wsX190, w ∈ lw_all := lw_in wsX190 [2549, 2550, 2545, 2547] (by decide +kernel) (by decide +kernel)

/-! BraidedFerry$Boarding -/
set_option maxRecDepth 100000
def RX20 : String := "BraidedFerry$Boarding"
def TX20 : u_T := fun k => match k with
  | 0 => ("BraidedFerry$Paired", "one", "I", true)
  | 1 => ("BraidedFerry$Paired", "other", "I", true)
  | 2 => ("BraidedFerry$Boarding", "count", "I", true)
  | _ => ("BraidedFerry$Boarding", "side", "I", true)
def tyX20 : Nat → FieldType := fun k => match k with
  | 0 => .int
  | 1 => .int
  | 2 => .int
  | _ => .int
abbrev wsX200 : List Cond := u_ws RX20 TX20 4
theorem nmX20 : ∀ a, a < 4 → ∀ b, b < 4 → a ≠ b → (TX20 a).2.1 ≠ (TX20 b).2.1 := by decide +kernel
theorem tyX20_ok : ∀ k, k < 4 → parseFieldDescriptor (TX20 k).2.2.1 = some (tyX20 k) := by decide +kernel
abbrev cX20_done : ByteArray := prog_4_method_2_code
def yX20_done : MethodName := ⟨RX20, "done", "(LBraidedFerry$River;)I"⟩
def dkwX20_done_3 : List UInt8 := [183, 0, 42, 42, 180, 0, 9, 42, 180, 0, 15, 4, 160, 0, 7, 4, 167, 0, 4, 3, 182, 0, 45, 172]
abbrev dktX20_done_3 : List UInt8 := dkwX20_done_3 ++ []
def dkwX20_done_2 : List UInt8 := [4, 167, 0, 4, 3, 184, 0, 34, 43, 187, 0, 38, 89, 42, 180, 0, 27, 43, 180, 0, 40, 28]
abbrev dktX20_done_2 : List UInt8 := dkwX20_done_2 ++ dktX20_done_3
def dkwX20_done_1 : List UInt8 := [180, 0, 9, 4, 16, 99, 184, 0, 30, 153, 0, 19, 42, 180, 0, 15, 3, 4, 184, 0, 30, 153, 0, 7]
abbrev dktX20_done_1 : List UInt8 := dkwX20_done_1 ++ dktX20_done_2
def dkwX20_done_0 : List UInt8 := [43, 42, 180, 0, 18, 182, 0, 21, 61, 42, 180, 0, 27, 3, 5, 184, 0, 30, 153, 0, 32, 42]
abbrev dktX20_done_0 : List UInt8 := dkwX20_done_0 ++ dktX20_done_1
theorem dksX20_done_0 : cX20_done.data.toList.drop 0 = dktX20_done_0 := by decide +kernel
theorem dksX20_done_1 : cX20_done.data.toList.drop 22 = dktX20_done_1 := dk_seg dksX20_done_0 22 rfl rfl
theorem dksX20_done_2 : cX20_done.data.toList.drop 46 = dktX20_done_2 := dk_seg dksX20_done_1 24 rfl rfl
theorem dksX20_done_3 : cX20_done.data.toList.drop 68 = dktX20_done_3 := dk_seg dksX20_done_2 22 rfl rfl
theorem dX20_done_0 : decode cX20_done 0 = .ok (.aload_n 1, 1) := dk_43 (dk_at dksX20_done_0 0 rfl rfl)
theorem dX20_done_1 : decode cX20_done 1 = .ok (.aload_n 0, 1) := dk_42 (dk_at dksX20_done_0 1 rfl rfl)
theorem dX20_done_2 : decode cX20_done 2 = .ok (.getfield 18, 3) := dk_180 0 18 (dk_at dksX20_done_0 2 rfl rfl)
theorem dX20_done_5 : decode cX20_done 5 = .ok (.invokevirtual 21, 3) := dk_182 0 21 (dk_at dksX20_done_0 5 rfl rfl)
theorem dX20_done_8 : decode cX20_done 8 = .ok (.istore_n 2, 1) := dk_61 (dk_at dksX20_done_0 8 rfl rfl)
theorem dX20_done_9 : decode cX20_done 9 = .ok (.aload_n 0, 1) := dk_42 (dk_at dksX20_done_0 9 rfl rfl)
theorem dX20_done_10 : decode cX20_done 10 = .ok (.getfield 27, 3) := dk_180 0 27 (dk_at dksX20_done_0 10 rfl rfl)
theorem dX20_done_13 : decode cX20_done 13 = .ok (.iconst 0, 1) := dk_3 (dk_at dksX20_done_0 13 rfl rfl)
theorem dX20_done_14 : decode cX20_done 14 = .ok (.iconst 2, 1) := dk_5 (dk_at dksX20_done_0 14 rfl rfl)
theorem dX20_done_15 : decode cX20_done 15 = .ok (.invokestatic 30, 3) := dk_184 0 30 (dk_at dksX20_done_0 15 rfl rfl)
theorem dX20_done_18 : decode cX20_done 18 = .ok (.ifCond .eq 32, 3) := dk_153 0 32 (dk_at dksX20_done_0 18 rfl rfl)
theorem dX20_done_21 : decode cX20_done 21 = .ok (.aload_n 0, 1) := dk_42 (dk_at dksX20_done_0 21 rfl rfl)
theorem dX20_done_22 : decode cX20_done 22 = .ok (.getfield 9, 3) := dk_180 0 9 (dk_at dksX20_done_1 0 rfl rfl)
theorem dX20_done_25 : decode cX20_done 25 = .ok (.iconst 1, 1) := dk_4 (dk_at dksX20_done_1 3 rfl rfl)
theorem dX20_done_26 : decode cX20_done 26 = .ok (.bipush 99, 2) := dk_16 99 (dk_at dksX20_done_1 4 rfl rfl)
theorem dX20_done_28 : decode cX20_done 28 = .ok (.invokestatic 30, 3) := dk_184 0 30 (dk_at dksX20_done_1 6 rfl rfl)
theorem dX20_done_31 : decode cX20_done 31 = .ok (.ifCond .eq 19, 3) := dk_153 0 19 (dk_at dksX20_done_1 9 rfl rfl)
theorem dX20_done_34 : decode cX20_done 34 = .ok (.aload_n 0, 1) := dk_42 (dk_at dksX20_done_1 12 rfl rfl)
theorem dX20_done_35 : decode cX20_done 35 = .ok (.getfield 15, 3) := dk_180 0 15 (dk_at dksX20_done_1 13 rfl rfl)
theorem dX20_done_38 : decode cX20_done 38 = .ok (.iconst 0, 1) := dk_3 (dk_at dksX20_done_1 16 rfl rfl)
theorem dX20_done_39 : decode cX20_done 39 = .ok (.iconst 1, 1) := dk_4 (dk_at dksX20_done_1 17 rfl rfl)
theorem dX20_done_40 : decode cX20_done 40 = .ok (.invokestatic 30, 3) := dk_184 0 30 (dk_at dksX20_done_1 18 rfl rfl)
theorem dX20_done_43 : decode cX20_done 43 = .ok (.ifCond .eq 7, 3) := dk_153 0 7 (dk_at dksX20_done_1 21 rfl rfl)
theorem dX20_done_46 : decode cX20_done 46 = .ok (.iconst 1, 1) := dk_4 (dk_at dksX20_done_2 0 rfl rfl)
theorem dX20_done_47 : decode cX20_done 47 = .ok (.goto 4, 3) := dk_167 0 4 (dk_at dksX20_done_2 1 rfl rfl)
theorem dX20_done_50 : decode cX20_done 50 = .ok (.iconst 0, 1) := dk_3 (dk_at dksX20_done_2 4 rfl rfl)
theorem dX20_done_51 : decode cX20_done 51 = .ok (.invokestatic 34, 3) := dk_184 0 34 (dk_at dksX20_done_2 5 rfl rfl)
theorem dX20_done_54 : decode cX20_done 54 = .ok (.aload_n 1, 1) := dk_43 (dk_at dksX20_done_2 8 rfl rfl)
theorem dX20_done_55 : decode cX20_done 55 = .ok (.new 38, 3) := dk_187 0 38 (dk_at dksX20_done_2 9 rfl rfl)
theorem dX20_done_58 : decode cX20_done 58 = .ok (.dup, 1) := dk_89 (dk_at dksX20_done_2 12 rfl rfl)
theorem dX20_done_59 : decode cX20_done 59 = .ok (.aload_n 0, 1) := dk_42 (dk_at dksX20_done_2 13 rfl rfl)
theorem dX20_done_60 : decode cX20_done 60 = .ok (.getfield 27, 3) := dk_180 0 27 (dk_at dksX20_done_2 14 rfl rfl)
theorem dX20_done_63 : decode cX20_done 63 = .ok (.aload_n 1, 1) := dk_43 (dk_at dksX20_done_2 17 rfl rfl)
theorem dX20_done_64 : decode cX20_done 64 = .ok (.getfield 40, 3) := dk_180 0 40 (dk_at dksX20_done_2 18 rfl rfl)
theorem dX20_done_67 : decode cX20_done 67 = .ok (.iload_n 2, 1) := dk_28 (dk_at dksX20_done_2 21 rfl rfl)
theorem dX20_done_68 : decode cX20_done 68 = .ok (.invokespecial 42, 3) := dk_183 0 42 (dk_at dksX20_done_3 0 rfl rfl)
theorem dX20_done_71 : decode cX20_done 71 = .ok (.aload_n 0, 1) := dk_42 (dk_at dksX20_done_3 3 rfl rfl)
theorem dX20_done_72 : decode cX20_done 72 = .ok (.getfield 9, 3) := dk_180 0 9 (dk_at dksX20_done_3 4 rfl rfl)
theorem dX20_done_75 : decode cX20_done 75 = .ok (.aload_n 0, 1) := dk_42 (dk_at dksX20_done_3 7 rfl rfl)
theorem dX20_done_76 : decode cX20_done 76 = .ok (.getfield 15, 3) := dk_180 0 15 (dk_at dksX20_done_3 8 rfl rfl)
theorem dX20_done_79 : decode cX20_done 79 = .ok (.iconst 1, 1) := dk_4 (dk_at dksX20_done_3 11 rfl rfl)
theorem dX20_done_80 : decode cX20_done 80 = .ok (.if_icmp .ne 7, 3) := dk_160 0 7 (dk_at dksX20_done_3 12 rfl rfl)
theorem dX20_done_83 : decode cX20_done 83 = .ok (.iconst 1, 1) := dk_4 (dk_at dksX20_done_3 15 rfl rfl)
theorem dX20_done_84 : decode cX20_done 84 = .ok (.goto 4, 3) := dk_167 0 4 (dk_at dksX20_done_3 16 rfl rfl)
theorem dX20_done_87 : decode cX20_done 87 = .ok (.iconst 0, 1) := dk_3 (dk_at dksX20_done_3 19 rfl rfl)
theorem dX20_done_88 : decode cX20_done 88 = .ok (.invokevirtual 45, 3) := dk_182 0 45 (dk_at dksX20_done_3 20 rfl rfl)
theorem dX20_done_91 : decode cX20_done 91 = .ok (.ireturn, 1) := dk_172 (dk_at dksX20_done_3 23 rfl rfl)
abbrev cX20_init : ByteArray := prog_4_method_1_code
def yX20_init : MethodName := ⟨RX20, "<init>", "(IIII)V"⟩
def dkwX20_init_0 : List UInt8 := [42, 27, 28, 183, 0, 3, 42, 29, 181, 0, 9, 42, 21, 4, 181, 0, 15, 177]
abbrev dktX20_init_0 : List UInt8 := dkwX20_init_0 ++ []
theorem dksX20_init_0 : cX20_init.data.toList.drop 0 = dktX20_init_0 := by decide +kernel
theorem dX20_init_0 : decode cX20_init 0 = .ok (.aload_n 0, 1) := dk_42 (dk_at dksX20_init_0 0 rfl rfl)
theorem dX20_init_1 : decode cX20_init 1 = .ok (.iload_n 1, 1) := dk_27 (dk_at dksX20_init_0 1 rfl rfl)
theorem dX20_init_2 : decode cX20_init 2 = .ok (.iload_n 2, 1) := dk_28 (dk_at dksX20_init_0 2 rfl rfl)
theorem dX20_init_3 : decode cX20_init 3 = .ok (.invokespecial 3, 3) := dk_183 0 3 (dk_at dksX20_init_0 3 rfl rfl)
theorem dX20_init_6 : decode cX20_init 6 = .ok (.aload_n 0, 1) := dk_42 (dk_at dksX20_init_0 6 rfl rfl)
theorem dX20_init_7 : decode cX20_init 7 = .ok (.iload_n 3, 1) := dk_29 (dk_at dksX20_init_0 7 rfl rfl)
theorem dX20_init_8 : decode cX20_init 8 = .ok (.putfield 9, 3) := dk_181 0 9 (dk_at dksX20_init_0 8 rfl rfl)
theorem dX20_init_11 : decode cX20_init 11 = .ok (.aload_n 0, 1) := dk_42 (dk_at dksX20_init_0 11 rfl rfl)
theorem dX20_init_12 : decode cX20_init 12 = .ok (.iload 4, 2) := dk_21 4 (dk_at dksX20_init_0 12 rfl rfl)
theorem dX20_init_14 : decode cX20_init 14 = .ok (.putfield 15, 3) := dk_181 0 15 (dk_at dksX20_init_0 14 rfl rfl)
theorem dX20_init_17 : decode cX20_init 17 = .ok (.return_, 1) := dk_177 (dk_at dksX20_init_0 17 rfl rfl)
theorem q134 : (Jvm.Cond.initialized "BraidedFerry$Boarding") ∈ lw_all := lw_g (lw_at lw_m1 62 rfl) rfl
theorem q268 : (Jvm.Cond.fieldLinkNest "BraidedFerry$Boarding" (40 : Nat) "BraidedFerry$River" "stop" "I" "BraidedFerry") ∈ lw_tbl := lw_at lw_m1 196 rfl
theorem q597 : (Jvm.Cond.selects "BraidedFerry$Boarding" ({ cls := "java/lang/Object", name := "getClass", desc := "()Ljava/lang/Class;" } : Jvm.MethodName) ({ cls := "java/lang/Object", name := "getClass", desc := "()Ljava/lang/Class;" } : Jvm.MethodName)) ∈ lw_all := lw_g (lw_at lw_m3 45 rfl) rfl
theorem q789 : (Jvm.Cond.selects "BraidedFerry$Boarding" ({ cls := "java/lang/Object", name := "hashCode", desc := "()I" } : Jvm.MethodName) ({ cls := "java/lang/Object", name := "hashCode", desc := "()I" } : Jvm.MethodName)) ∈ lw_all := lw_g (lw_at lw_m3 237 rfl) rfl
theorem q1114 : (Jvm.Cond.selects "BraidedFerry$Boarding" ({ cls := "java/lang/Object", name := "equals", desc := "(Ljava/lang/Object;)Z" } : Jvm.MethodName) ({ cls := "java/lang/Object", name := "equals", desc := "(Ljava/lang/Object;)Z" } : Jvm.MethodName)) ∈ lw_all := lw_g (lw_at lw_m5 82 rfl) rfl
theorem q1745 : (Jvm.Cond.castable "BraidedFerry$Boarding" "BraidedFerry$Deed") ∈ lw_tbl := lw_at lw_m7 233 rfl
theorem q1746 : (Jvm.Cond.selects "BraidedFerry$Boarding" ({ cls := "BraidedFerry$Deed", name := "done", desc := "(LBraidedFerry$River;)I" } : Jvm.MethodName) ({ cls := "BraidedFerry$Boarding", name := "done", desc := "(LBraidedFerry$River;)I" } : Jvm.MethodName)) ∈ lw_all := lw_g (lw_at lw_m7 234 rfl) rfl
theorem q1747 : (Jvm.Cond.unhidden "BraidedFerry$Boarding" "done" "(LBraidedFerry$River;)I") ∈ lw_tbl := lw_at lw_m7 235 rfl
theorem q1748 : (Jvm.Cond.instanceMethod ({ cls := "BraidedFerry$Boarding", name := "done", desc := "(LBraidedFerry$River;)I" } : Jvm.MethodName)) ∈ lw_all := lw_g (lw_at lw_m7 236 rfl) rfl
theorem q1749 : (Jvm.Cond.publicMethod ({ cls := "BraidedFerry$Boarding", name := "done", desc := "(LBraidedFerry$River;)I" } : Jvm.MethodName)) ∈ lw_tbl := lw_at lw_m7 237 rfl
theorem q1750 : (Jvm.Cond.code ({ cls := "BraidedFerry$Boarding", name := "done", desc := "(LBraidedFerry$River;)I" } : Jvm.MethodName) prog_4_method_2_code (3 : Nat) (Option.some Jvm.ClassFile.FieldType.int)) ∈ lw_all := lw_g (lw_at lw_m7 238 rfl) rfl
theorem q1751 : (Jvm.Cond.methodLink "BraidedFerry$Boarding" (21 : Nat) ({ cls := "BraidedFerry$River", name := "stop", desc := "(I)I" } : Jvm.MethodName)) ∈ lw_all := lw_g (lw_at lw_m7 239 rfl) rfl
theorem q1755 : (Jvm.Cond.methodLinkNest "BraidedFerry$Boarding" (30 : Nat) ({ cls := "BraidedFerry", name := "inRange", desc := "(III)Z" } : Jvm.MethodName) "BraidedFerry") ∈ lw_tbl := lw_at lw_m8 3 rfl
theorem q1756 : (Jvm.Cond.methodLinkNest "BraidedFerry$Boarding" (34 : Nat) ({ cls := "BraidedFerry", name := "require", desc := "(Z)V" } : Jvm.MethodName) "BraidedFerry") ∈ lw_tbl := lw_at lw_m8 4 rfl
theorem q1757 : (Jvm.Cond.classLink "BraidedFerry$Boarding" (38 : Nat) "BraidedFerry$Group") ∈ lw_all := lw_g (lw_at lw_m8 5 rfl) rfl
theorem q1759 : (Jvm.Cond.methodLink "BraidedFerry$Boarding" (42 : Nat) ({ cls := "BraidedFerry$Group", name := "<init>", desc := "(III)V" } : Jvm.MethodName)) ∈ lw_all := lw_g (lw_at lw_m8 7 rfl) rfl
theorem q1779 : (Jvm.Cond.methodLink "BraidedFerry$Boarding" (45 : Nat) ({ cls := "BraidedFerry$River", name := "board", desc := "(LBraidedFerry$Group;IZ)I" } : Jvm.MethodName)) ∈ lw_all := lw_g (lw_at lw_m8 27 rfl) rfl
theorem q2367 : (Jvm.Cond.fieldLink "BraidedFerry$Boarding" (27 : Nat) "BraidedFerry$Boarding" "one" "I") ∈ lw_all := lw_g (lw_at lw_m10 135 rfl) rfl
theorem q2368 : (Jvm.Cond.sameField "BraidedFerry$Boarding" "BraidedFerry$Paired" "one" "I") ∈ lw_all := lw_g (lw_at lw_m10 136 rfl) rfl
theorem q2372 : (Jvm.Cond.fieldLink "BraidedFerry$Boarding" (18 : Nat) "BraidedFerry$Boarding" "other" "I") ∈ lw_all := lw_g (lw_at lw_m10 140 rfl) rfl
theorem q2373 : (Jvm.Cond.sameField "BraidedFerry$Boarding" "BraidedFerry$Paired" "other" "I") ∈ lw_all := lw_g (lw_at lw_m10 141 rfl) rfl
theorem q2571 : (Jvm.Cond.instantiable "BraidedFerry$Boarding" (4 : Nat)) ∈ lw_all := lw_g (lw_at lw_m11 99 rfl) rfl
theorem q2573 : (Jvm.Cond.instanceMethod ({ cls := "BraidedFerry$Boarding", name := "<init>", desc := "(IIII)V" } : Jvm.MethodName)) ∈ lw_all := lw_g (lw_at lw_m11 101 rfl) rfl
theorem q2574 : (Jvm.Cond.code ({ cls := "BraidedFerry$Boarding", name := "<init>", desc := "(IIII)V" } : Jvm.MethodName) prog_4_method_1_code (5 : Nat) (Option.none : Option Jvm.ClassFile.FieldType)) ∈ lw_all := lw_g (lw_at lw_m11 102 rfl) rfl
theorem q2575 : (Jvm.Cond.methodLink "BraidedFerry$Boarding" (3 : Nat) ({ cls := "BraidedFerry$Paired", name := "<init>", desc := "(II)V" } : Jvm.MethodName)) ∈ lw_all := lw_g (lw_at lw_m11 103 rfl) rfl
theorem q2576 : (Jvm.Cond.fieldLink "BraidedFerry$Boarding" (9 : Nat) "BraidedFerry$Boarding" "count" "I") ∈ lw_all := lw_g (lw_at lw_m11 104 rfl) rfl
theorem q2577 : (Jvm.Cond.fieldLink "BraidedFerry$Boarding" (15 : Nat) "BraidedFerry$Boarding" "side" "I") ∈ lw_all := lw_g (lw_at lw_m11 105 rfl) rfl
theorem q2578 : (Jvm.Cond.laysFinal "BraidedFerry$Boarding" "BraidedFerry$Boarding" "count" "I") ∈ lw_all := lw_g (lw_at lw_m11 106 rfl) rfl
theorem q2579 : (Jvm.Cond.soleField "BraidedFerry$Boarding" "count") ∈ lw_all := lw_g (lw_at lw_m11 107 rfl) rfl
theorem q2580 : (Jvm.Cond.laysFinal "BraidedFerry$Boarding" "BraidedFerry$Boarding" "side" "I") ∈ lw_all := lw_g (lw_at lw_m11 108 rfl) rfl
theorem q2581 : (Jvm.Cond.soleField "BraidedFerry$Boarding" "side") ∈ lw_all := lw_g (lw_at lw_m11 109 rfl) rfl
theorem q2582 : (Jvm.Cond.laysFinal "BraidedFerry$Boarding" "BraidedFerry$Paired" "one" "I") ∈ lw_all := lw_g (lw_at lw_m11 110 rfl) rfl
theorem q2583 : (Jvm.Cond.laysFinal "BraidedFerry$Boarding" "BraidedFerry$Paired" "other" "I") ∈ lw_all := lw_g (lw_at lw_m11 111 rfl) rfl
theorem q2584 : (Jvm.Cond.superclass "BraidedFerry$Boarding" "BraidedFerry$Paired") ∈ lw_all := lw_g (lw_at lw_m11 112 rfl) rfl
theorem q2641 : (Jvm.Cond.selects "BraidedFerry$Boarding" ({ cls := "java/lang/Object", name := "toString", desc := "()Ljava/lang/String;" } : Jvm.MethodName) ({ cls := "java/lang/Object", name := "toString", desc := "()Ljava/lang/String;" } : Jvm.MethodName)) ∈ lw_all := lw_g (lw_at lw_m11 169 rfl) rfl
theorem q3716 : (Jvm.Cond.castable "BraidedFerry$Boarding" "java/lang/Object") ∈ lw_tbl := lw_at lw_m16 44 rfl
theorem in_X20 : ∀ w ∈ wsX200, w ∈ lw_all := lw_in wsX200 [2582, 2583, 2578, 2580] (by decide +kernel) (by decide +kernel)

/-! BraidedFerry$Landing -/
set_option maxRecDepth 100000
def RX21 : String := "BraidedFerry$Landing"
abbrev cX21_init : ByteArray := prog_14_method_1_code
def yX21_init : MethodName := ⟨RX21, "<init>", "()V"⟩
theorem dX21_init_0 : decode cX21_init 0 = .ok (.aload_n 0, 1) := by decide +kernel
theorem dX21_init_1 : decode cX21_init 1 = .ok (.invokespecial 1, 3) := by decide +kernel
theorem dX21_init_4 : decode cX21_init 4 = .ok (.return_, 1) := by decide +kernel
abbrev cX21_done : ByteArray := prog_14_method_2_code
def yX21_done : MethodName := ⟨RX21, "done", "(LBraidedFerry$River;)I"⟩
theorem dX21_done_0 : decode cX21_done 0 = .ok (.aload_n 1, 1) := by decide +kernel
theorem dX21_done_1 : decode cX21_done 1 = .ok (.invokevirtual 7, 3) := by decide +kernel
theorem dX21_done_4 : decode cX21_done 4 = .ok (.ireturn, 1) := by decide +kernel
theorem q135 : (Jvm.Cond.initialized "BraidedFerry$Landing") ∈ lw_all := lw_g (lw_at lw_m1 63 rfl) rfl
theorem q390 : (Jvm.Cond.instantiable "BraidedFerry$Landing" (0 : Nat)) ∈ lw_all := lw_g (lw_at lw_m2 78 rfl) rfl
theorem q392 : (Jvm.Cond.instanceMethod ({ cls := "BraidedFerry$Landing", name := "<init>", desc := "()V" } : Jvm.MethodName)) ∈ lw_all := lw_g (lw_at lw_m2 80 rfl) rfl
theorem q393 : (Jvm.Cond.code ({ cls := "BraidedFerry$Landing", name := "<init>", desc := "()V" } : Jvm.MethodName) prog_14_method_1_code (1 : Nat) (Option.none : Option Jvm.ClassFile.FieldType)) ∈ lw_all := lw_g (lw_at lw_m2 81 rfl) rfl
theorem q394 : (Jvm.Cond.methodLink "BraidedFerry$Landing" (1 : Nat) ({ cls := "java/lang/Object", name := "<init>", desc := "()V" } : Jvm.MethodName)) ∈ lw_all := lw_g (lw_at lw_m2 82 rfl) rfl
theorem q395 : (Jvm.Cond.superclass "BraidedFerry$Landing" "java/lang/Object") ∈ lw_all := lw_g (lw_at lw_m2 83 rfl) rfl
theorem q606 : (Jvm.Cond.selects "BraidedFerry$Landing" ({ cls := "java/lang/Object", name := "getClass", desc := "()Ljava/lang/Class;" } : Jvm.MethodName) ({ cls := "java/lang/Object", name := "getClass", desc := "()Ljava/lang/Class;" } : Jvm.MethodName)) ∈ lw_all := lw_g (lw_at lw_m3 54 rfl) rfl
theorem q800 : (Jvm.Cond.selects "BraidedFerry$Landing" ({ cls := "java/lang/Object", name := "hashCode", desc := "()I" } : Jvm.MethodName) ({ cls := "java/lang/Object", name := "hashCode", desc := "()I" } : Jvm.MethodName)) ∈ lw_all := lw_g (lw_at lw_m4 8 rfl) rfl
theorem q1126 : (Jvm.Cond.selects "BraidedFerry$Landing" ({ cls := "java/lang/Object", name := "equals", desc := "(Ljava/lang/Object;)Z" } : Jvm.MethodName) ({ cls := "java/lang/Object", name := "equals", desc := "(Ljava/lang/Object;)Z" } : Jvm.MethodName)) ∈ lw_all := lw_g (lw_at lw_m5 94 rfl) rfl
theorem q2026 : (Jvm.Cond.castable "BraidedFerry$Landing" "BraidedFerry$Deed") ∈ lw_tbl := lw_at lw_m9 34 rfl
theorem q2027 : (Jvm.Cond.selects "BraidedFerry$Landing" ({ cls := "BraidedFerry$Deed", name := "done", desc := "(LBraidedFerry$River;)I" } : Jvm.MethodName) ({ cls := "BraidedFerry$Landing", name := "done", desc := "(LBraidedFerry$River;)I" } : Jvm.MethodName)) ∈ lw_all := lw_g (lw_at lw_m9 35 rfl) rfl
theorem q2028 : (Jvm.Cond.unhidden "BraidedFerry$Landing" "done" "(LBraidedFerry$River;)I") ∈ lw_tbl := lw_at lw_m9 36 rfl
theorem q2029 : (Jvm.Cond.instanceMethod ({ cls := "BraidedFerry$Landing", name := "done", desc := "(LBraidedFerry$River;)I" } : Jvm.MethodName)) ∈ lw_all := lw_g (lw_at lw_m9 37 rfl) rfl
theorem q2030 : (Jvm.Cond.publicMethod ({ cls := "BraidedFerry$Landing", name := "done", desc := "(LBraidedFerry$River;)I" } : Jvm.MethodName)) ∈ lw_tbl := lw_at lw_m9 38 rfl
theorem q2031 : (Jvm.Cond.code ({ cls := "BraidedFerry$Landing", name := "done", desc := "(LBraidedFerry$River;)I" } : Jvm.MethodName) prog_14_method_2_code (2 : Nat) (Option.some Jvm.ClassFile.FieldType.int)) ∈ lw_all := lw_g (lw_at lw_m9 39 rfl) rfl
theorem q2032 : (Jvm.Cond.methodLink "BraidedFerry$Landing" (7 : Nat) ({ cls := "BraidedFerry$River", name := "land", desc := "()I" } : Jvm.MethodName)) ∈ lw_all := lw_g (lw_at lw_m9 40 rfl) rfl
theorem q2688 : (Jvm.Cond.selects "BraidedFerry$Landing" ({ cls := "java/lang/Object", name := "toString", desc := "()Ljava/lang/String;" } : Jvm.MethodName) ({ cls := "java/lang/Object", name := "toString", desc := "()Ljava/lang/String;" } : Jvm.MethodName)) ∈ lw_all := lw_g (lw_at lw_m11 216 rfl) rfl
theorem q3717 : (Jvm.Cond.castable "BraidedFerry$Landing" "java/lang/Object") ∈ lw_tbl := lw_at lw_m16 45 rfl

/-! BraidedFerry$Pricing -/
set_option maxRecDepth 100000
def RX22 : String := "BraidedFerry$Pricing"
def TX22 : u_T := fun k => match k with
  | 0 => ("BraidedFerry$Paired", "one", "I", true)
  | _ => ("BraidedFerry$Paired", "other", "I", true)
def tyX22 : Nat → FieldType := fun k => match k with
  | 0 => .int
  | _ => .int
abbrev wsX220 : List Cond := u_ws RX22 TX22 2
theorem nmX22 : ∀ a, a < 2 → ∀ b, b < 2 → a ≠ b → (TX22 a).2.1 ≠ (TX22 b).2.1 := by decide +kernel
theorem tyX22_ok : ∀ k, k < 2 → parseFieldDescriptor (TX22 k).2.2.1 = some (tyX22 k) := by decide +kernel
abbrev cX22_done : ByteArray := prog_19_method_2_code
def yX22_done : MethodName := ⟨RX22, "done", "(LBraidedFerry$River;)I"⟩
def dkwX22_done_0 : List UInt8 := [43, 42, 180, 0, 21, 42, 180, 0, 27, 182, 0, 30, 172]
abbrev dktX22_done_0 : List UInt8 := dkwX22_done_0 ++ []
theorem dksX22_done_0 : cX22_done.data.toList.drop 0 = dktX22_done_0 := by decide +kernel
theorem dX22_done_0 : decode cX22_done 0 = .ok (.aload_n 1, 1) := dk_43 (dk_at dksX22_done_0 0 rfl rfl)
theorem dX22_done_1 : decode cX22_done 1 = .ok (.aload_n 0, 1) := dk_42 (dk_at dksX22_done_0 1 rfl rfl)
theorem dX22_done_2 : decode cX22_done 2 = .ok (.getfield 21, 3) := dk_180 0 21 (dk_at dksX22_done_0 2 rfl rfl)
theorem dX22_done_5 : decode cX22_done 5 = .ok (.aload_n 0, 1) := dk_42 (dk_at dksX22_done_0 5 rfl rfl)
theorem dX22_done_6 : decode cX22_done 6 = .ok (.getfield 27, 3) := dk_180 0 27 (dk_at dksX22_done_0 6 rfl rfl)
theorem dX22_done_9 : decode cX22_done 9 = .ok (.invokevirtual 30, 3) := dk_182 0 30 (dk_at dksX22_done_0 9 rfl rfl)
theorem dX22_done_12 : decode cX22_done 12 = .ok (.ireturn, 1) := dk_172 (dk_at dksX22_done_0 12 rfl rfl)
abbrev cX22_init : ByteArray := prog_19_method_1_code
def yX22_init : MethodName := ⟨RX22, "<init>", "(II)V"⟩
def dkwX22_init_0 : List UInt8 := [42, 27, 184, 0, 3, 28, 183, 0, 7, 28, 3, 16, 99, 184, 0, 13, 184, 0, 17, 177]
abbrev dktX22_init_0 : List UInt8 := dkwX22_init_0 ++ []
theorem dksX22_init_0 : cX22_init.data.toList.drop 0 = dktX22_init_0 := by decide +kernel
theorem dX22_init_0 : decode cX22_init 0 = .ok (.aload_n 0, 1) := dk_42 (dk_at dksX22_init_0 0 rfl rfl)
theorem dX22_init_1 : decode cX22_init 1 = .ok (.iload_n 1, 1) := dk_27 (dk_at dksX22_init_0 1 rfl rfl)
theorem dX22_init_2 : decode cX22_init 2 = .ok (.invokestatic 3, 3) := dk_184 0 3 (dk_at dksX22_init_0 2 rfl rfl)
theorem dX22_init_5 : decode cX22_init 5 = .ok (.iload_n 2, 1) := dk_28 (dk_at dksX22_init_0 5 rfl rfl)
theorem dX22_init_6 : decode cX22_init 6 = .ok (.invokespecial 7, 3) := dk_183 0 7 (dk_at dksX22_init_0 6 rfl rfl)
theorem dX22_init_9 : decode cX22_init 9 = .ok (.iload_n 2, 1) := dk_28 (dk_at dksX22_init_0 9 rfl rfl)
theorem dX22_init_10 : decode cX22_init 10 = .ok (.iconst 0, 1) := dk_3 (dk_at dksX22_init_0 10 rfl rfl)
theorem dX22_init_11 : decode cX22_init 11 = .ok (.bipush 99, 2) := dk_16 99 (dk_at dksX22_init_0 11 rfl rfl)
theorem dX22_init_13 : decode cX22_init 13 = .ok (.invokestatic 13, 3) := dk_184 0 13 (dk_at dksX22_init_0 13 rfl rfl)
theorem dX22_init_16 : decode cX22_init 16 = .ok (.invokestatic 17, 3) := dk_184 0 17 (dk_at dksX22_init_0 16 rfl rfl)
theorem dX22_init_19 : decode cX22_init 19 = .ok (.return_, 1) := dk_177 (dk_at dksX22_init_0 19 rfl rfl)
theorem q136 : (Jvm.Cond.initialized "BraidedFerry$Pricing") ∈ lw_all := lw_g (lw_at lw_m1 64 rfl) rfl
theorem q609 : (Jvm.Cond.selects "BraidedFerry$Pricing" ({ cls := "java/lang/Object", name := "getClass", desc := "()Ljava/lang/Class;" } : Jvm.MethodName) ({ cls := "java/lang/Object", name := "getClass", desc := "()Ljava/lang/Class;" } : Jvm.MethodName)) ∈ lw_all := lw_g (lw_at lw_m3 57 rfl) rfl
theorem q803 : (Jvm.Cond.selects "BraidedFerry$Pricing" ({ cls := "java/lang/Object", name := "hashCode", desc := "()I" } : Jvm.MethodName) ({ cls := "java/lang/Object", name := "hashCode", desc := "()I" } : Jvm.MethodName)) ∈ lw_all := lw_g (lw_at lw_m4 11 rfl) rfl
theorem q1129 : (Jvm.Cond.selects "BraidedFerry$Pricing" ({ cls := "java/lang/Object", name := "equals", desc := "(Ljava/lang/Object;)Z" } : Jvm.MethodName) ({ cls := "java/lang/Object", name := "equals", desc := "(Ljava/lang/Object;)Z" } : Jvm.MethodName)) ∈ lw_all := lw_g (lw_at lw_m5 97 rfl) rfl
theorem q2072 : (Jvm.Cond.castable "BraidedFerry$Pricing" "BraidedFerry$Deed") ∈ lw_tbl := lw_at lw_m9 80 rfl
theorem q2073 : (Jvm.Cond.selects "BraidedFerry$Pricing" ({ cls := "BraidedFerry$Deed", name := "done", desc := "(LBraidedFerry$River;)I" } : Jvm.MethodName) ({ cls := "BraidedFerry$Pricing", name := "done", desc := "(LBraidedFerry$River;)I" } : Jvm.MethodName)) ∈ lw_all := lw_g (lw_at lw_m9 81 rfl) rfl
theorem q2074 : (Jvm.Cond.unhidden "BraidedFerry$Pricing" "done" "(LBraidedFerry$River;)I") ∈ lw_tbl := lw_at lw_m9 82 rfl
theorem q2075 : (Jvm.Cond.instanceMethod ({ cls := "BraidedFerry$Pricing", name := "done", desc := "(LBraidedFerry$River;)I" } : Jvm.MethodName)) ∈ lw_all := lw_g (lw_at lw_m9 83 rfl) rfl
theorem q2076 : (Jvm.Cond.publicMethod ({ cls := "BraidedFerry$Pricing", name := "done", desc := "(LBraidedFerry$River;)I" } : Jvm.MethodName)) ∈ lw_tbl := lw_at lw_m9 84 rfl
theorem q2077 : (Jvm.Cond.code ({ cls := "BraidedFerry$Pricing", name := "done", desc := "(LBraidedFerry$River;)I" } : Jvm.MethodName) prog_19_method_2_code (2 : Nat) (Option.some Jvm.ClassFile.FieldType.int)) ∈ lw_all := lw_g (lw_at lw_m9 85 rfl) rfl
theorem q2078 : (Jvm.Cond.methodLink "BraidedFerry$Pricing" (30 : Nat) ({ cls := "BraidedFerry$River", name := "setFare", desc := "(II)I" } : Jvm.MethodName)) ∈ lw_all := lw_g (lw_at lw_m9 86 rfl) rfl
theorem q2361 : (Jvm.Cond.fieldLink "BraidedFerry$Pricing" (21 : Nat) "BraidedFerry$Pricing" "one" "I") ∈ lw_all := lw_g (lw_at lw_m10 129 rfl) rfl
theorem q2362 : (Jvm.Cond.sameField "BraidedFerry$Pricing" "BraidedFerry$Paired" "one" "I") ∈ lw_all := lw_g (lw_at lw_m10 130 rfl) rfl
theorem q2376 : (Jvm.Cond.fieldLink "BraidedFerry$Pricing" (27 : Nat) "BraidedFerry$Pricing" "other" "I") ∈ lw_all := lw_g (lw_at lw_m10 144 rfl) rfl
theorem q2377 : (Jvm.Cond.sameField "BraidedFerry$Pricing" "BraidedFerry$Paired" "other" "I") ∈ lw_all := lw_g (lw_at lw_m10 145 rfl) rfl
theorem q2593 : (Jvm.Cond.instantiable "BraidedFerry$Pricing" (2 : Nat)) ∈ lw_all := lw_g (lw_at lw_m11 121 rfl) rfl
theorem q2595 : (Jvm.Cond.instanceMethod ({ cls := "BraidedFerry$Pricing", name := "<init>", desc := "(II)V" } : Jvm.MethodName)) ∈ lw_all := lw_g (lw_at lw_m11 123 rfl) rfl
theorem q2596 : (Jvm.Cond.code ({ cls := "BraidedFerry$Pricing", name := "<init>", desc := "(II)V" } : Jvm.MethodName) prog_19_method_1_code (3 : Nat) (Option.none : Option Jvm.ClassFile.FieldType)) ∈ lw_all := lw_g (lw_at lw_m11 124 rfl) rfl
theorem q2597 : (Jvm.Cond.methodLinkNest "BraidedFerry$Pricing" (3 : Nat) ({ cls := "BraidedFerry", name := "kindIn", desc := "(I)I" } : Jvm.MethodName) "BraidedFerry") ∈ lw_tbl := lw_at lw_m11 125 rfl
theorem q2600 : (Jvm.Cond.methodLink "BraidedFerry$Pricing" (7 : Nat) ({ cls := "BraidedFerry$Paired", name := "<init>", desc := "(II)V" } : Jvm.MethodName)) ∈ lw_all := lw_g (lw_at lw_m11 128 rfl) rfl
theorem q2601 : (Jvm.Cond.methodLinkNest "BraidedFerry$Pricing" (13 : Nat) ({ cls := "BraidedFerry", name := "inRange", desc := "(III)Z" } : Jvm.MethodName) "BraidedFerry") ∈ lw_tbl := lw_at lw_m11 129 rfl
theorem q2602 : (Jvm.Cond.methodLinkNest "BraidedFerry$Pricing" (17 : Nat) ({ cls := "BraidedFerry", name := "require", desc := "(Z)V" } : Jvm.MethodName) "BraidedFerry") ∈ lw_tbl := lw_at lw_m11 130 rfl
theorem q2603 : (Jvm.Cond.laysFinal "BraidedFerry$Pricing" "BraidedFerry$Paired" "one" "I") ∈ lw_all := lw_g (lw_at lw_m11 131 rfl) rfl
theorem q2604 : (Jvm.Cond.laysFinal "BraidedFerry$Pricing" "BraidedFerry$Paired" "other" "I") ∈ lw_all := lw_g (lw_at lw_m11 132 rfl) rfl
theorem q2605 : (Jvm.Cond.superclass "BraidedFerry$Pricing" "BraidedFerry$Paired") ∈ lw_all := lw_g (lw_at lw_m11 133 rfl) rfl
theorem q2691 : (Jvm.Cond.selects "BraidedFerry$Pricing" ({ cls := "java/lang/Object", name := "toString", desc := "()Ljava/lang/String;" } : Jvm.MethodName) ({ cls := "java/lang/Object", name := "toString", desc := "()Ljava/lang/String;" } : Jvm.MethodName)) ∈ lw_all := lw_g (lw_at lw_m11 219 rfl) rfl
theorem q3718 : (Jvm.Cond.castable "BraidedFerry$Pricing" "java/lang/Object") ∈ lw_tbl := lw_at lw_m16 46 rfl
theorem in_X22 : ∀ w ∈ wsX220, w ∈ lw_all := lw_in wsX220 [2603, 2604] (by decide +kernel) (by decide +kernel)

/-! BraidedFerry$Roping -/
set_option maxRecDepth 100000
def RX23 : String := "BraidedFerry$Roping"
def TX23 : u_T := fun k => match k with
  | _ => ("BraidedFerry$Numbered", "number", "I", true)
def tyX23 : Nat → FieldType := fun k => match k with
  | _ => .int
abbrev wsX230 : List Cond := u_ws RX23 TX23 1
theorem nmX23 : ∀ a, a < 1 → ∀ b, b < 1 → a ≠ b → (TX23 a).2.1 ≠ (TX23 b).2.1 := by decide +kernel
theorem tyX23_ok : ∀ k, k < 1 → parseFieldDescriptor (TX23 k).2.2.1 = some (tyX23 k) := by decide +kernel
abbrev cX23_done : ByteArray := prog_22_method_2_code
def yX23_done : MethodName := ⟨RX23, "done", "(LBraidedFerry$River;)I"⟩
def dkwX23_done_0 : List UInt8 := [43, 42, 180, 0, 17, 182, 0, 23, 172]
abbrev dktX23_done_0 : List UInt8 := dkwX23_done_0 ++ []
theorem dksX23_done_0 : cX23_done.data.toList.drop 0 = dktX23_done_0 := by decide +kernel
theorem dX23_done_0 : decode cX23_done 0 = .ok (.aload_n 1, 1) := dk_43 (dk_at dksX23_done_0 0 rfl rfl)
theorem dX23_done_1 : decode cX23_done 1 = .ok (.aload_n 0, 1) := dk_42 (dk_at dksX23_done_0 1 rfl rfl)
theorem dX23_done_2 : decode cX23_done 2 = .ok (.getfield 17, 3) := dk_180 0 17 (dk_at dksX23_done_0 2 rfl rfl)
theorem dX23_done_5 : decode cX23_done 5 = .ok (.invokevirtual 23, 3) := dk_182 0 23 (dk_at dksX23_done_0 5 rfl rfl)
theorem dX23_done_8 : decode cX23_done 8 = .ok (.ireturn, 1) := dk_172 (dk_at dksX23_done_0 8 rfl rfl)
abbrev cX23_init : ByteArray := prog_22_method_1_code
def yX23_init : MethodName := ⟨RX23, "<init>", "(I)V"⟩
def dkwX23_init_0 : List UInt8 := [42, 27, 183, 0, 3, 27, 16, 10, 17, 0, 200, 184, 0, 9, 184, 0, 13, 177]
abbrev dktX23_init_0 : List UInt8 := dkwX23_init_0 ++ []
theorem dksX23_init_0 : cX23_init.data.toList.drop 0 = dktX23_init_0 := by decide +kernel
theorem dX23_init_0 : decode cX23_init 0 = .ok (.aload_n 0, 1) := dk_42 (dk_at dksX23_init_0 0 rfl rfl)
theorem dX23_init_1 : decode cX23_init 1 = .ok (.iload_n 1, 1) := dk_27 (dk_at dksX23_init_0 1 rfl rfl)
theorem dX23_init_2 : decode cX23_init 2 = .ok (.invokespecial 3, 3) := dk_183 0 3 (dk_at dksX23_init_0 2 rfl rfl)
theorem dX23_init_5 : decode cX23_init 5 = .ok (.iload_n 1, 1) := dk_27 (dk_at dksX23_init_0 5 rfl rfl)
theorem dX23_init_6 : decode cX23_init 6 = .ok (.bipush 10, 2) := dk_16 10 (dk_at dksX23_init_0 6 rfl rfl)
theorem dX23_init_8 : decode cX23_init 8 = .ok (.sipush 200, 3) := dk_17 0 200 (dk_at dksX23_init_0 8 rfl rfl)
theorem dX23_init_11 : decode cX23_init 11 = .ok (.invokestatic 9, 3) := dk_184 0 9 (dk_at dksX23_init_0 11 rfl rfl)
theorem dX23_init_14 : decode cX23_init 14 = .ok (.invokestatic 13, 3) := dk_184 0 13 (dk_at dksX23_init_0 14 rfl rfl)
theorem dX23_init_17 : decode cX23_init 17 = .ok (.return_, 1) := dk_177 (dk_at dksX23_init_0 17 rfl rfl)
theorem q137 : (Jvm.Cond.initialized "BraidedFerry$Roping") ∈ lw_all := lw_g (lw_at lw_m1 65 rfl) rfl
theorem q612 : (Jvm.Cond.selects "BraidedFerry$Roping" ({ cls := "java/lang/Object", name := "getClass", desc := "()Ljava/lang/Class;" } : Jvm.MethodName) ({ cls := "java/lang/Object", name := "getClass", desc := "()Ljava/lang/Class;" } : Jvm.MethodName)) ∈ lw_all := lw_g (lw_at lw_m3 60 rfl) rfl
theorem q806 : (Jvm.Cond.selects "BraidedFerry$Roping" ({ cls := "java/lang/Object", name := "hashCode", desc := "()I" } : Jvm.MethodName) ({ cls := "java/lang/Object", name := "hashCode", desc := "()I" } : Jvm.MethodName)) ∈ lw_all := lw_g (lw_at lw_m4 14 rfl) rfl
theorem q1132 : (Jvm.Cond.selects "BraidedFerry$Roping" ({ cls := "java/lang/Object", name := "equals", desc := "(Ljava/lang/Object;)Z" } : Jvm.MethodName) ({ cls := "java/lang/Object", name := "equals", desc := "(Ljava/lang/Object;)Z" } : Jvm.MethodName)) ∈ lw_all := lw_g (lw_at lw_m5 100 rfl) rfl
theorem q2082 : (Jvm.Cond.castable "BraidedFerry$Roping" "BraidedFerry$Deed") ∈ lw_tbl := lw_at lw_m9 90 rfl
theorem q2083 : (Jvm.Cond.selects "BraidedFerry$Roping" ({ cls := "BraidedFerry$Deed", name := "done", desc := "(LBraidedFerry$River;)I" } : Jvm.MethodName) ({ cls := "BraidedFerry$Roping", name := "done", desc := "(LBraidedFerry$River;)I" } : Jvm.MethodName)) ∈ lw_all := lw_g (lw_at lw_m9 91 rfl) rfl
theorem q2084 : (Jvm.Cond.unhidden "BraidedFerry$Roping" "done" "(LBraidedFerry$River;)I") ∈ lw_tbl := lw_at lw_m9 92 rfl
theorem q2085 : (Jvm.Cond.instanceMethod ({ cls := "BraidedFerry$Roping", name := "done", desc := "(LBraidedFerry$River;)I" } : Jvm.MethodName)) ∈ lw_all := lw_g (lw_at lw_m9 93 rfl) rfl
theorem q2086 : (Jvm.Cond.publicMethod ({ cls := "BraidedFerry$Roping", name := "done", desc := "(LBraidedFerry$River;)I" } : Jvm.MethodName)) ∈ lw_tbl := lw_at lw_m9 94 rfl
theorem q2087 : (Jvm.Cond.code ({ cls := "BraidedFerry$Roping", name := "done", desc := "(LBraidedFerry$River;)I" } : Jvm.MethodName) prog_22_method_2_code (2 : Nat) (Option.some Jvm.ClassFile.FieldType.int)) ∈ lw_all := lw_g (lw_at lw_m9 95 rfl) rfl
theorem q2088 : (Jvm.Cond.methodLink "BraidedFerry$Roping" (23 : Nat) ({ cls := "BraidedFerry$River", name := "setRope", desc := "(I)I" } : Jvm.MethodName)) ∈ lw_all := lw_g (lw_at lw_m9 96 rfl) rfl
theorem q2486 : (Jvm.Cond.fieldLink "BraidedFerry$Roping" (17 : Nat) "BraidedFerry$Roping" "number" "I") ∈ lw_all := lw_g (lw_at lw_m11 14 rfl) rfl
theorem q2487 : (Jvm.Cond.sameField "BraidedFerry$Roping" "BraidedFerry$Numbered" "number" "I") ∈ lw_all := lw_g (lw_at lw_m11 15 rfl) rfl
theorem q2694 : (Jvm.Cond.selects "BraidedFerry$Roping" ({ cls := "java/lang/Object", name := "toString", desc := "()Ljava/lang/String;" } : Jvm.MethodName) ({ cls := "java/lang/Object", name := "toString", desc := "()Ljava/lang/String;" } : Jvm.MethodName)) ∈ lw_all := lw_g (lw_at lw_m11 222 rfl) rfl
theorem q2817 : (Jvm.Cond.instantiable "BraidedFerry$Roping" (1 : Nat)) ∈ lw_all := lw_g (lw_at lw_m12 105 rfl) rfl
theorem q2819 : (Jvm.Cond.instanceMethod ({ cls := "BraidedFerry$Roping", name := "<init>", desc := "(I)V" } : Jvm.MethodName)) ∈ lw_all := lw_g (lw_at lw_m12 107 rfl) rfl
theorem q2820 : (Jvm.Cond.code ({ cls := "BraidedFerry$Roping", name := "<init>", desc := "(I)V" } : Jvm.MethodName) prog_22_method_1_code (2 : Nat) (Option.none : Option Jvm.ClassFile.FieldType)) ∈ lw_all := lw_g (lw_at lw_m12 108 rfl) rfl
theorem q2821 : (Jvm.Cond.methodLink "BraidedFerry$Roping" (3 : Nat) ({ cls := "BraidedFerry$Numbered", name := "<init>", desc := "(I)V" } : Jvm.MethodName)) ∈ lw_all := lw_g (lw_at lw_m12 109 rfl) rfl
theorem q2822 : (Jvm.Cond.methodLinkNest "BraidedFerry$Roping" (9 : Nat) ({ cls := "BraidedFerry", name := "inRange", desc := "(III)Z" } : Jvm.MethodName) "BraidedFerry") ∈ lw_tbl := lw_at lw_m12 110 rfl
theorem q2823 : (Jvm.Cond.methodLinkNest "BraidedFerry$Roping" (13 : Nat) ({ cls := "BraidedFerry", name := "require", desc := "(Z)V" } : Jvm.MethodName) "BraidedFerry") ∈ lw_tbl := lw_at lw_m12 111 rfl
theorem q2824 : (Jvm.Cond.laysFinal "BraidedFerry$Roping" "BraidedFerry$Numbered" "number" "I") ∈ lw_all := lw_g (lw_at lw_m12 112 rfl) rfl
theorem q2825 : (Jvm.Cond.superclass "BraidedFerry$Roping" "BraidedFerry$Numbered") ∈ lw_all := lw_g (lw_at lw_m12 113 rfl) rfl
theorem q3719 : (Jvm.Cond.castable "BraidedFerry$Roping" "java/lang/Object") ∈ lw_tbl := lw_at lw_m16 47 rfl
theorem in_X23 : ∀ w ∈ wsX230, w ∈ lw_all := lw_in wsX230 [2824] (by decide +kernel) (by decide +kernel)

/-! BraidedFerry$Crossing -/
set_option maxRecDepth 100000
def RX24 : String := "BraidedFerry$Crossing"
def TX24 : u_T := fun k => match k with
  | _ => ("BraidedFerry$Crossing", "isForth", "Z", true)
def tyX24 : Nat → FieldType := fun k => match k with
  | _ => .boolean
abbrev wsX240 : List Cond := u_ws RX24 TX24 1
theorem nmX24 : ∀ a, a < 1 → ∀ b, b < 1 → a ≠ b → (TX24 a).2.1 ≠ (TX24 b).2.1 := by decide +kernel
theorem tyX24_ok : ∀ k, k < 1 → parseFieldDescriptor (TX24 k).2.2.1 = some (tyX24 k) := by decide +kernel
abbrev cX24_done : ByteArray := prog_7_method_2_code
def yX24_done : MethodName := ⟨RX24, "done", "(LBraidedFerry$River;)I"⟩
def dkwX24_done_0 : List UInt8 := [43, 42, 180, 0, 7, 182, 0, 13, 172]
abbrev dktX24_done_0 : List UInt8 := dkwX24_done_0 ++ []
theorem dksX24_done_0 : cX24_done.data.toList.drop 0 = dktX24_done_0 := by decide +kernel
theorem dX24_done_0 : decode cX24_done 0 = .ok (.aload_n 1, 1) := dk_43 (dk_at dksX24_done_0 0 rfl rfl)
theorem dX24_done_1 : decode cX24_done 1 = .ok (.aload_n 0, 1) := dk_42 (dk_at dksX24_done_0 1 rfl rfl)
theorem dX24_done_2 : decode cX24_done 2 = .ok (.getfield 7, 3) := dk_180 0 7 (dk_at dksX24_done_0 2 rfl rfl)
theorem dX24_done_5 : decode cX24_done 5 = .ok (.invokevirtual 13, 3) := dk_182 0 13 (dk_at dksX24_done_0 5 rfl rfl)
theorem dX24_done_8 : decode cX24_done 8 = .ok (.ireturn, 1) := dk_172 (dk_at dksX24_done_0 8 rfl rfl)
abbrev cX24_init : ByteArray := prog_7_method_1_code
def yX24_init : MethodName := ⟨RX24, "<init>", "(Z)V"⟩
def dkwX24_init_0 : List UInt8 := [42, 183, 0, 1, 42, 27, 181, 0, 7, 177]
abbrev dktX24_init_0 : List UInt8 := dkwX24_init_0 ++ []
theorem dksX24_init_0 : cX24_init.data.toList.drop 0 = dktX24_init_0 := by decide +kernel
theorem dX24_init_0 : decode cX24_init 0 = .ok (.aload_n 0, 1) := dk_42 (dk_at dksX24_init_0 0 rfl rfl)
theorem dX24_init_1 : decode cX24_init 1 = .ok (.invokespecial 1, 3) := dk_183 0 1 (dk_at dksX24_init_0 1 rfl rfl)
theorem dX24_init_4 : decode cX24_init 4 = .ok (.aload_n 0, 1) := dk_42 (dk_at dksX24_init_0 4 rfl rfl)
theorem dX24_init_5 : decode cX24_init 5 = .ok (.iload_n 1, 1) := dk_27 (dk_at dksX24_init_0 5 rfl rfl)
theorem dX24_init_6 : decode cX24_init 6 = .ok (.putfield 7, 3) := dk_181 0 7 (dk_at dksX24_init_0 6 rfl rfl)
theorem dX24_init_9 : decode cX24_init 9 = .ok (.return_, 1) := dk_177 (dk_at dksX24_init_0 9 rfl rfl)
theorem q138 : (Jvm.Cond.initialized "BraidedFerry$Crossing") ∈ lw_all := lw_g (lw_at lw_m1 66 rfl) rfl
theorem q600 : (Jvm.Cond.selects "BraidedFerry$Crossing" ({ cls := "java/lang/Object", name := "getClass", desc := "()Ljava/lang/Class;" } : Jvm.MethodName) ({ cls := "java/lang/Object", name := "getClass", desc := "()Ljava/lang/Class;" } : Jvm.MethodName)) ∈ lw_all := lw_g (lw_at lw_m3 48 rfl) rfl
theorem q792 : (Jvm.Cond.selects "BraidedFerry$Crossing" ({ cls := "java/lang/Object", name := "hashCode", desc := "()I" } : Jvm.MethodName) ({ cls := "java/lang/Object", name := "hashCode", desc := "()I" } : Jvm.MethodName)) ∈ lw_all := lw_g (lw_at lw_m4 0 rfl) rfl
theorem q1117 : (Jvm.Cond.selects "BraidedFerry$Crossing" ({ cls := "java/lang/Object", name := "equals", desc := "(Ljava/lang/Object;)Z" } : Jvm.MethodName) ({ cls := "java/lang/Object", name := "equals", desc := "(Ljava/lang/Object;)Z" } : Jvm.MethodName)) ∈ lw_all := lw_g (lw_at lw_m5 85 rfl) rfl
theorem q1858 : (Jvm.Cond.castable "BraidedFerry$Crossing" "BraidedFerry$Deed") ∈ lw_tbl := lw_at lw_m8 106 rfl
theorem q1859 : (Jvm.Cond.selects "BraidedFerry$Crossing" ({ cls := "BraidedFerry$Deed", name := "done", desc := "(LBraidedFerry$River;)I" } : Jvm.MethodName) ({ cls := "BraidedFerry$Crossing", name := "done", desc := "(LBraidedFerry$River;)I" } : Jvm.MethodName)) ∈ lw_all := lw_g (lw_at lw_m8 107 rfl) rfl
theorem q1860 : (Jvm.Cond.unhidden "BraidedFerry$Crossing" "done" "(LBraidedFerry$River;)I") ∈ lw_tbl := lw_at lw_m8 108 rfl
theorem q1861 : (Jvm.Cond.instanceMethod ({ cls := "BraidedFerry$Crossing", name := "done", desc := "(LBraidedFerry$River;)I" } : Jvm.MethodName)) ∈ lw_all := lw_g (lw_at lw_m8 109 rfl) rfl
theorem q1862 : (Jvm.Cond.publicMethod ({ cls := "BraidedFerry$Crossing", name := "done", desc := "(LBraidedFerry$River;)I" } : Jvm.MethodName)) ∈ lw_tbl := lw_at lw_m8 110 rfl
theorem q1863 : (Jvm.Cond.code ({ cls := "BraidedFerry$Crossing", name := "done", desc := "(LBraidedFerry$River;)I" } : Jvm.MethodName) prog_7_method_2_code (2 : Nat) (Option.some Jvm.ClassFile.FieldType.int)) ∈ lw_all := lw_g (lw_at lw_m8 111 rfl) rfl
theorem q1864 : (Jvm.Cond.methodLink "BraidedFerry$Crossing" (13 : Nat) ({ cls := "BraidedFerry$River", name := "cross", desc := "(Z)I" } : Jvm.MethodName)) ∈ lw_all := lw_g (lw_at lw_m8 112 rfl) rfl
theorem q2644 : (Jvm.Cond.selects "BraidedFerry$Crossing" ({ cls := "java/lang/Object", name := "toString", desc := "()Ljava/lang/String;" } : Jvm.MethodName) ({ cls := "java/lang/Object", name := "toString", desc := "()Ljava/lang/String;" } : Jvm.MethodName)) ∈ lw_all := lw_g (lw_at lw_m11 172 rfl) rfl
theorem q2834 : (Jvm.Cond.instantiable "BraidedFerry$Crossing" (1 : Nat)) ∈ lw_all := lw_g (lw_at lw_m12 122 rfl) rfl
theorem q2836 : (Jvm.Cond.instanceMethod ({ cls := "BraidedFerry$Crossing", name := "<init>", desc := "(Z)V" } : Jvm.MethodName)) ∈ lw_all := lw_g (lw_at lw_m12 124 rfl) rfl
theorem q2837 : (Jvm.Cond.code ({ cls := "BraidedFerry$Crossing", name := "<init>", desc := "(Z)V" } : Jvm.MethodName) prog_7_method_1_code (2 : Nat) (Option.none : Option Jvm.ClassFile.FieldType)) ∈ lw_all := lw_g (lw_at lw_m12 125 rfl) rfl
theorem q2838 : (Jvm.Cond.methodLink "BraidedFerry$Crossing" (1 : Nat) ({ cls := "java/lang/Object", name := "<init>", desc := "()V" } : Jvm.MethodName)) ∈ lw_all := lw_g (lw_at lw_m12 126 rfl) rfl
theorem q2839 : (Jvm.Cond.fieldLink "BraidedFerry$Crossing" (7 : Nat) "BraidedFerry$Crossing" "isForth" "Z") ∈ lw_all := lw_g (lw_at lw_m12 127 rfl) rfl
theorem q2840 : (Jvm.Cond.laysFinal "BraidedFerry$Crossing" "BraidedFerry$Crossing" "isForth" "Z") ∈ lw_all := lw_g (lw_at lw_m12 128 rfl) rfl
theorem q2841 : (Jvm.Cond.soleField "BraidedFerry$Crossing" "isForth") ∈ lw_all := lw_g (lw_at lw_m12 129 rfl) rfl
theorem q2842 : (Jvm.Cond.superclass "BraidedFerry$Crossing" "java/lang/Object") ∈ lw_all := lw_g (lw_at lw_m12 130 rfl) rfl
theorem q3720 : (Jvm.Cond.castable "BraidedFerry$Crossing" "java/lang/Object") ∈ lw_tbl := lw_at lw_m16 48 rfl
theorem in_X24 : ∀ w ∈ wsX240, w ∈ lw_all := lw_in wsX240 [2840] (by decide +kernel) (by decide +kernel)

/-! BraidedFerry$Passing -/
set_option maxRecDepth 100000
def RX25 : String := "BraidedFerry$Passing"
def TX25 : u_T := fun k => match k with
  | _ => ("BraidedFerry$Numbered", "number", "I", true)
def tyX25 : Nat → FieldType := fun k => match k with
  | _ => .int
abbrev wsX250 : List Cond := u_ws RX25 TX25 1
theorem nmX25 : ∀ a, a < 1 → ∀ b, b < 1 → a ≠ b → (TX25 a).2.1 ≠ (TX25 b).2.1 := by decide +kernel
theorem tyX25_ok : ∀ k, k < 1 → parseFieldDescriptor (TX25 k).2.2.1 = some (tyX25 k) := by decide +kernel
abbrev cX25_done : ByteArray := prog_18_method_2_code
def yX25_done : MethodName := ⟨RX25, "done", "(LBraidedFerry$River;)I"⟩
def dkwX25_done_0 : List UInt8 := [42, 180, 0, 7, 4, 16, 99, 184, 0, 13, 184, 0, 19, 43, 42, 180, 0, 7, 182, 0, 23, 172]
abbrev dktX25_done_0 : List UInt8 := dkwX25_done_0 ++ []
theorem dksX25_done_0 : cX25_done.data.toList.drop 0 = dktX25_done_0 := by decide +kernel
theorem dX25_done_0 : decode cX25_done 0 = .ok (.aload_n 0, 1) := dk_42 (dk_at dksX25_done_0 0 rfl rfl)
theorem dX25_done_1 : decode cX25_done 1 = .ok (.getfield 7, 3) := dk_180 0 7 (dk_at dksX25_done_0 1 rfl rfl)
theorem dX25_done_4 : decode cX25_done 4 = .ok (.iconst 1, 1) := dk_4 (dk_at dksX25_done_0 4 rfl rfl)
theorem dX25_done_5 : decode cX25_done 5 = .ok (.bipush 99, 2) := dk_16 99 (dk_at dksX25_done_0 5 rfl rfl)
theorem dX25_done_7 : decode cX25_done 7 = .ok (.invokestatic 13, 3) := dk_184 0 13 (dk_at dksX25_done_0 7 rfl rfl)
theorem dX25_done_10 : decode cX25_done 10 = .ok (.invokestatic 19, 3) := dk_184 0 19 (dk_at dksX25_done_0 10 rfl rfl)
theorem dX25_done_13 : decode cX25_done 13 = .ok (.aload_n 1, 1) := dk_43 (dk_at dksX25_done_0 13 rfl rfl)
theorem dX25_done_14 : decode cX25_done 14 = .ok (.aload_n 0, 1) := dk_42 (dk_at dksX25_done_0 14 rfl rfl)
theorem dX25_done_15 : decode cX25_done 15 = .ok (.getfield 7, 3) := dk_180 0 7 (dk_at dksX25_done_0 15 rfl rfl)
theorem dX25_done_18 : decode cX25_done 18 = .ok (.invokevirtual 23, 3) := dk_182 0 23 (dk_at dksX25_done_0 18 rfl rfl)
theorem dX25_done_21 : decode cX25_done 21 = .ok (.ireturn, 1) := dk_172 (dk_at dksX25_done_0 21 rfl rfl)
abbrev cX25_init : ByteArray := prog_18_method_1_code
def yX25_init : MethodName := ⟨RX25, "<init>", "(I)V"⟩
def dkwX25_init_0 : List UInt8 := [42, 27, 183, 0, 1, 177]
abbrev dktX25_init_0 : List UInt8 := dkwX25_init_0 ++ []
theorem dksX25_init_0 : cX25_init.data.toList.drop 0 = dktX25_init_0 := by decide +kernel
theorem dX25_init_0 : decode cX25_init 0 = .ok (.aload_n 0, 1) := dk_42 (dk_at dksX25_init_0 0 rfl rfl)
theorem dX25_init_1 : decode cX25_init 1 = .ok (.iload_n 1, 1) := dk_27 (dk_at dksX25_init_0 1 rfl rfl)
theorem dX25_init_2 : decode cX25_init 2 = .ok (.invokespecial 1, 3) := dk_183 0 1 (dk_at dksX25_init_0 2 rfl rfl)
theorem dX25_init_5 : decode cX25_init 5 = .ok (.return_, 1) := dk_177 (dk_at dksX25_init_0 5 rfl rfl)
theorem q139 : (Jvm.Cond.initialized "BraidedFerry$Passing") ∈ lw_all := lw_g (lw_at lw_m1 67 rfl) rfl
theorem q608 : (Jvm.Cond.selects "BraidedFerry$Passing" ({ cls := "java/lang/Object", name := "getClass", desc := "()Ljava/lang/Class;" } : Jvm.MethodName) ({ cls := "java/lang/Object", name := "getClass", desc := "()Ljava/lang/Class;" } : Jvm.MethodName)) ∈ lw_all := lw_g (lw_at lw_m3 56 rfl) rfl
theorem q802 : (Jvm.Cond.selects "BraidedFerry$Passing" ({ cls := "java/lang/Object", name := "hashCode", desc := "()I" } : Jvm.MethodName) ({ cls := "java/lang/Object", name := "hashCode", desc := "()I" } : Jvm.MethodName)) ∈ lw_all := lw_g (lw_at lw_m4 10 rfl) rfl
theorem q1128 : (Jvm.Cond.selects "BraidedFerry$Passing" ({ cls := "java/lang/Object", name := "equals", desc := "(Ljava/lang/Object;)Z" } : Jvm.MethodName) ({ cls := "java/lang/Object", name := "equals", desc := "(Ljava/lang/Object;)Z" } : Jvm.MethodName)) ∈ lw_all := lw_g (lw_at lw_m5 96 rfl) rfl
theorem q2056 : (Jvm.Cond.castable "BraidedFerry$Passing" "BraidedFerry$Deed") ∈ lw_tbl := lw_at lw_m9 64 rfl
theorem q2057 : (Jvm.Cond.selects "BraidedFerry$Passing" ({ cls := "BraidedFerry$Deed", name := "done", desc := "(LBraidedFerry$River;)I" } : Jvm.MethodName) ({ cls := "BraidedFerry$Passing", name := "done", desc := "(LBraidedFerry$River;)I" } : Jvm.MethodName)) ∈ lw_all := lw_g (lw_at lw_m9 65 rfl) rfl
theorem q2058 : (Jvm.Cond.unhidden "BraidedFerry$Passing" "done" "(LBraidedFerry$River;)I") ∈ lw_tbl := lw_at lw_m9 66 rfl
theorem q2059 : (Jvm.Cond.instanceMethod ({ cls := "BraidedFerry$Passing", name := "done", desc := "(LBraidedFerry$River;)I" } : Jvm.MethodName)) ∈ lw_all := lw_g (lw_at lw_m9 67 rfl) rfl
theorem q2060 : (Jvm.Cond.publicMethod ({ cls := "BraidedFerry$Passing", name := "done", desc := "(LBraidedFerry$River;)I" } : Jvm.MethodName)) ∈ lw_tbl := lw_at lw_m9 68 rfl
theorem q2061 : (Jvm.Cond.code ({ cls := "BraidedFerry$Passing", name := "done", desc := "(LBraidedFerry$River;)I" } : Jvm.MethodName) prog_18_method_2_code (2 : Nat) (Option.some Jvm.ClassFile.FieldType.int)) ∈ lw_all := lw_g (lw_at lw_m9 69 rfl) rfl
theorem q2062 : (Jvm.Cond.methodLinkNest "BraidedFerry$Passing" (13 : Nat) ({ cls := "BraidedFerry", name := "inRange", desc := "(III)Z" } : Jvm.MethodName) "BraidedFerry") ∈ lw_tbl := lw_at lw_m9 70 rfl
theorem q2063 : (Jvm.Cond.methodLinkNest "BraidedFerry$Passing" (19 : Nat) ({ cls := "BraidedFerry", name := "require", desc := "(Z)V" } : Jvm.MethodName) "BraidedFerry") ∈ lw_tbl := lw_at lw_m9 71 rfl
theorem q2064 : (Jvm.Cond.methodLink "BraidedFerry$Passing" (23 : Nat) ({ cls := "BraidedFerry$River", name := "pass", desc := "(I)I" } : Jvm.MethodName)) ∈ lw_all := lw_g (lw_at lw_m9 72 rfl) rfl
theorem q2484 : (Jvm.Cond.fieldLink "BraidedFerry$Passing" (7 : Nat) "BraidedFerry$Passing" "number" "I") ∈ lw_all := lw_g (lw_at lw_m11 12 rfl) rfl
theorem q2485 : (Jvm.Cond.sameField "BraidedFerry$Passing" "BraidedFerry$Numbered" "number" "I") ∈ lw_all := lw_g (lw_at lw_m11 13 rfl) rfl
theorem q2690 : (Jvm.Cond.selects "BraidedFerry$Passing" ({ cls := "java/lang/Object", name := "toString", desc := "()Ljava/lang/String;" } : Jvm.MethodName) ({ cls := "java/lang/Object", name := "toString", desc := "()Ljava/lang/String;" } : Jvm.MethodName)) ∈ lw_all := lw_g (lw_at lw_m11 218 rfl) rfl
theorem q2851 : (Jvm.Cond.instantiable "BraidedFerry$Passing" (1 : Nat)) ∈ lw_all := lw_g (lw_at lw_m12 139 rfl) rfl
theorem q2853 : (Jvm.Cond.instanceMethod ({ cls := "BraidedFerry$Passing", name := "<init>", desc := "(I)V" } : Jvm.MethodName)) ∈ lw_all := lw_g (lw_at lw_m12 141 rfl) rfl
theorem q2854 : (Jvm.Cond.code ({ cls := "BraidedFerry$Passing", name := "<init>", desc := "(I)V" } : Jvm.MethodName) prog_18_method_1_code (2 : Nat) (Option.none : Option Jvm.ClassFile.FieldType)) ∈ lw_all := lw_g (lw_at lw_m12 142 rfl) rfl
theorem q2855 : (Jvm.Cond.methodLink "BraidedFerry$Passing" (1 : Nat) ({ cls := "BraidedFerry$Numbered", name := "<init>", desc := "(I)V" } : Jvm.MethodName)) ∈ lw_all := lw_g (lw_at lw_m12 143 rfl) rfl
theorem q2856 : (Jvm.Cond.laysFinal "BraidedFerry$Passing" "BraidedFerry$Numbered" "number" "I") ∈ lw_all := lw_g (lw_at lw_m12 144 rfl) rfl
theorem q2857 : (Jvm.Cond.superclass "BraidedFerry$Passing" "BraidedFerry$Numbered") ∈ lw_all := lw_g (lw_at lw_m12 145 rfl) rfl
theorem q3721 : (Jvm.Cond.castable "BraidedFerry$Passing" "java/lang/Object") ∈ lw_tbl := lw_at lw_m16 49 rfl
theorem in_X25 : ∀ w ∈ wsX250, w ∈ lw_all := lw_in wsX250 [2856] (by decide +kernel) (by decide +kernel)

/-! BraidedFerry$Parser -/
set_option maxRecDepth 100000
def RX26 : String := "BraidedFerry$Parser"
def TX26 : u_T := fun k => match k with
  | 0 => ("BraidedFerry$Parser", "position", "I", false)
  | _ => ("BraidedFerry$Parser", "this$0", "LBraidedFerry;", true)
def tyX26 : Nat → FieldType := fun k => match k with
  | 0 => .int
  | _ => .object "BraidedFerry"
abbrev wsX260 : List Cond := u_ws RX26 TX26 2
theorem nmX26 : ∀ a, a < 2 → ∀ b, b < 2 → a ≠ b → (TX26 a).2.1 ≠ (TX26 b).2.1 := by decide +kernel
theorem tyX26_ok : ∀ k, k < 2 → parseFieldDescriptor (TX26 k).2.2.1 = some (tyX26 k) := by decide +kernel
abbrev cX26_init : ByteArray := prog_17_method_1_code
def yX26_init : MethodName := ⟨RX26, "<init>", "(LBraidedFerry;)V"⟩
def dkwX26_init_0 : List UInt8 := [42, 43, 181, 0, 1, 42, 183, 0, 7, 177]
abbrev dktX26_init_0 : List UInt8 := dkwX26_init_0 ++ []
theorem dksX26_init_0 : cX26_init.data.toList.drop 0 = dktX26_init_0 := by decide +kernel
theorem dX26_init_0 : decode cX26_init 0 = .ok (.aload_n 0, 1) := dk_42 (dk_at dksX26_init_0 0 rfl rfl)
theorem dX26_init_1 : decode cX26_init 1 = .ok (.aload_n 1, 1) := dk_43 (dk_at dksX26_init_0 1 rfl rfl)
theorem dX26_init_2 : decode cX26_init 2 = .ok (.putfield 1, 3) := dk_181 0 1 (dk_at dksX26_init_0 2 rfl rfl)
theorem dX26_init_5 : decode cX26_init 5 = .ok (.aload_n 0, 1) := dk_42 (dk_at dksX26_init_0 5 rfl rfl)
theorem dX26_init_6 : decode cX26_init 6 = .ok (.invokespecial 7, 3) := dk_183 0 7 (dk_at dksX26_init_0 6 rfl rfl)
theorem dX26_init_9 : decode cX26_init 9 = .ok (.return_, 1) := dk_177 (dk_at dksX26_init_0 9 rfl rfl)
abbrev cX26_text : ByteArray := prog_17_method_14_code
def yX26_text : MethodName := ⟨RX26, "text", "()Ljava/util/List;"⟩
def dkwX26_text_2 : List UInt8 := [182, 0, 169, 185, 0, 172, 2, 0, 87, 167, 255, 219, 43, 176]
abbrev dktX26_text_2 : List UInt8 := dkwX26_text_2 ++ []
def dkwX26_text_1 : List UInt8 := [180, 0, 1, 180, 0, 17, 182, 0, 23, 162, 0, 26, 42, 16, 59, 16, 59, 182, 0, 42, 61, 43, 42]
abbrev dktX26_text_1 : List UInt8 := dkwX26_text_1 ++ dktX26_text_2
def dkwX26_text_0 : List UInt8 := [187, 0, 166, 89, 183, 0, 168, 76, 43, 42, 182, 0, 169, 185, 0, 172, 2, 0, 87, 42, 180, 0, 13, 42]
abbrev dktX26_text_0 : List UInt8 := dkwX26_text_0 ++ dktX26_text_1
theorem dksX26_text_0 : cX26_text.data.toList.drop 0 = dktX26_text_0 := by decide +kernel
theorem dksX26_text_1 : cX26_text.data.toList.drop 24 = dktX26_text_1 := dk_seg dksX26_text_0 24 rfl rfl
theorem dksX26_text_2 : cX26_text.data.toList.drop 47 = dktX26_text_2 := dk_seg dksX26_text_1 23 rfl rfl
theorem dX26_text_0 : decode cX26_text 0 = .ok (.new 166, 3) := dk_187 0 166 (dk_at dksX26_text_0 0 rfl rfl)
theorem dX26_text_3 : decode cX26_text 3 = .ok (.dup, 1) := dk_89 (dk_at dksX26_text_0 3 rfl rfl)
theorem dX26_text_4 : decode cX26_text 4 = .ok (.invokespecial 168, 3) := dk_183 0 168 (dk_at dksX26_text_0 4 rfl rfl)
theorem dX26_text_7 : decode cX26_text 7 = .ok (.astore_n 1, 1) := dk_76 (dk_at dksX26_text_0 7 rfl rfl)
theorem dX26_text_8 : decode cX26_text 8 = .ok (.aload_n 1, 1) := dk_43 (dk_at dksX26_text_0 8 rfl rfl)
theorem dX26_text_9 : decode cX26_text 9 = .ok (.aload_n 0, 1) := dk_42 (dk_at dksX26_text_0 9 rfl rfl)
theorem dX26_text_10 : decode cX26_text 10 = .ok (.invokevirtual 169, 3) := dk_182 0 169 (dk_at dksX26_text_0 10 rfl rfl)
theorem dX26_text_13 : decode cX26_text 13 = .ok (.invokeinterface 172 2, 5) := by decide +kernel
theorem dX26_text_18 : decode cX26_text 18 = .ok (.pop, 1) := dk_87 (dk_at dksX26_text_0 18 rfl rfl)
theorem dX26_text_19 : decode cX26_text 19 = .ok (.aload_n 0, 1) := dk_42 (dk_at dksX26_text_0 19 rfl rfl)
theorem dX26_text_20 : decode cX26_text 20 = .ok (.getfield 13, 3) := dk_180 0 13 (dk_at dksX26_text_0 20 rfl rfl)
theorem dX26_text_23 : decode cX26_text 23 = .ok (.aload_n 0, 1) := dk_42 (dk_at dksX26_text_0 23 rfl rfl)
theorem dX26_text_24 : decode cX26_text 24 = .ok (.getfield 1, 3) := dk_180 0 1 (dk_at dksX26_text_1 0 rfl rfl)
theorem dX26_text_27 : decode cX26_text 27 = .ok (.getfield 17, 3) := dk_180 0 17 (dk_at dksX26_text_1 3 rfl rfl)
theorem dX26_text_30 : decode cX26_text 30 = .ok (.invokevirtual 23, 3) := dk_182 0 23 (dk_at dksX26_text_1 6 rfl rfl)
theorem dX26_text_33 : decode cX26_text 33 = .ok (.if_icmp .ge 26, 3) := dk_162 0 26 (dk_at dksX26_text_1 9 rfl rfl)
theorem dX26_text_36 : decode cX26_text 36 = .ok (.aload_n 0, 1) := dk_42 (dk_at dksX26_text_1 12 rfl rfl)
theorem dX26_text_37 : decode cX26_text 37 = .ok (.bipush 59, 2) := dk_16 59 (dk_at dksX26_text_1 13 rfl rfl)
theorem dX26_text_39 : decode cX26_text 39 = .ok (.bipush 59, 2) := dk_16 59 (dk_at dksX26_text_1 15 rfl rfl)
theorem dX26_text_41 : decode cX26_text 41 = .ok (.invokevirtual 42, 3) := dk_182 0 42 (dk_at dksX26_text_1 17 rfl rfl)
theorem dX26_text_44 : decode cX26_text 44 = .ok (.istore_n 2, 1) := dk_61 (dk_at dksX26_text_1 20 rfl rfl)
theorem dX26_text_45 : decode cX26_text 45 = .ok (.aload_n 1, 1) := dk_43 (dk_at dksX26_text_1 21 rfl rfl)
theorem dX26_text_46 : decode cX26_text 46 = .ok (.aload_n 0, 1) := dk_42 (dk_at dksX26_text_1 22 rfl rfl)
theorem dX26_text_47 : decode cX26_text 47 = .ok (.invokevirtual 169, 3) := dk_182 0 169 (dk_at dksX26_text_2 0 rfl rfl)
theorem dX26_text_50 : decode cX26_text 50 = .ok (.invokeinterface 172 2, 5) := by decide +kernel
theorem dX26_text_55 : decode cX26_text 55 = .ok (.pop, 1) := dk_87 (dk_at dksX26_text_2 8 rfl rfl)
theorem dX26_text_56 : decode cX26_text 56 = .ok (.goto (-37), 3) := dk_167 255 219 (dk_at dksX26_text_2 9 rfl rfl)
theorem dX26_text_59 : decode cX26_text 59 = .ok (.aload_n 1, 1) := dk_43 (dk_at dksX26_text_2 12 rfl rfl)
theorem dX26_text_60 : decode cX26_text 60 = .ok (.areturn, 1) := dk_176 (dk_at dksX26_text_2 13 rfl rfl)
abbrev cX26_command : ByteArray := prog_17_method_13_code
def yX26_command : MethodName := ⟨RX26, "command", "()LBraidedFerry$Deed;"⟩
def dkwX26_command_9 : List UInt8 := [183, 0, 165, 176]
abbrev dktX26_command_9 : List UInt8 := dkwX26_command_9 ++ []
def dkwX26_command_8 : List UInt8 := [176, 42, 182, 0, 154, 176, 42, 182, 0, 157, 176, 42, 182, 0, 160, 176, 187, 0, 163, 89, 42, 182, 0, 95]
abbrev dktX26_command_8 : List UInt8 := dkwX26_command_8 ++ dktX26_command_9
def dkwX26_command_7 : List UInt8 := [42, 182, 0, 144, 176, 187, 0, 148, 89, 42, 182, 0, 100, 183, 0, 150, 176, 187, 0, 151, 89, 183, 0, 153]
abbrev dktX26_command_7 : List UInt8 := dkwX26_command_7 ++ dktX26_command_8
def dkwX26_command_6 : List UInt8 := [170, 0, 0, 0, 0, 78, 0, 0, 0, 0, 0, 0, 0, 5, 0, 0, 0, 38, 0, 0, 0, 43, 0, 0, 0, 55, 0, 0, 0, 63, 0, 0, 0, 68, 0, 0, 0, 73]
abbrev dktX26_command_6 : List UInt8 := dkwX26_command_6 ++ dktX26_command_7
def dkwX26_command_5 : List UInt8 := [18, 142, 182, 0, 115, 153, 0, 5, 8, 61, 28]
abbrev dktX26_command_5 : List UInt8 := dkwX26_command_5 ++ dktX26_command_6
def dkwX26_command_4 : List UInt8 := [153, 0, 33, 6, 61, 167, 0, 28, 43, 18, 140, 182, 0, 115, 153, 0, 19, 7, 61, 167, 0, 14, 43]
abbrev dktX26_command_4 : List UInt8 := dkwX26_command_4 ++ dktX26_command_5
def dkwX26_command_3 : List UInt8 := [61, 167, 0, 56, 43, 18, 136, 182, 0, 115, 153, 0, 47, 5, 61, 167, 0, 42, 43, 18, 138, 182, 0, 115]
abbrev dktX26_command_3 : List UInt8 := dkwX26_command_3 ++ dktX26_command_4
def dkwX26_command_2 : List UInt8 := [43, 18, 132, 182, 0, 115, 153, 0, 75, 3, 61, 167, 0, 70, 43, 18, 134, 182, 0, 115, 153, 0, 61, 4]
abbrev dktX26_command_2 : List UInt8 := dkwX26_command_2 ++ dktX26_command_3
def dkwX26_command_1 : List UInt8 := [171, 0, 0, 0, 0, 0, 140, 0, 0, 0, 6, 171, 194, 194, 181, 0, 0, 0, 129, 0, 46, 175, 4, 0, 0, 0, 101, 0, 50, 145, 235, 0, 0, 0, 87, 0, 55, 145, 117, 0, 0, 0, 73, 5, 152, 238, 230, 0, 0, 0, 115, 5, 168, 152, 64, 0, 0, 0, 59]
abbrev dktX26_command_1 : List UInt8 := dkwX26_command_1 ++ dktX26_command_2
def dkwX26_command_0 : List UInt8 := [42, 18, 127, 182, 0, 82, 76, 2, 61, 43, 182, 0, 129]
abbrev dktX26_command_0 : List UInt8 := dkwX26_command_0 ++ dktX26_command_1
theorem dksX26_command_0 : cX26_command.data.toList.drop 0 = dktX26_command_0 := by decide +kernel
theorem dksX26_command_1 : cX26_command.data.toList.drop 13 = dktX26_command_1 := dk_seg dksX26_command_0 13 rfl rfl
theorem dksX26_command_2 : cX26_command.data.toList.drop 72 = dktX26_command_2 := dk_seg dksX26_command_1 59 rfl rfl
theorem dksX26_command_3 : cX26_command.data.toList.drop 96 = dktX26_command_3 := dk_seg dksX26_command_2 24 rfl rfl
theorem dksX26_command_4 : cX26_command.data.toList.drop 120 = dktX26_command_4 := dk_seg dksX26_command_3 24 rfl rfl
theorem dksX26_command_5 : cX26_command.data.toList.drop 143 = dktX26_command_5 := dk_seg dksX26_command_4 23 rfl rfl
theorem dksX26_command_6 : cX26_command.data.toList.drop 154 = dktX26_command_6 := dk_seg dksX26_command_5 11 rfl rfl
theorem dksX26_command_7 : cX26_command.data.toList.drop 192 = dktX26_command_7 := dk_seg dksX26_command_6 38 rfl rfl
theorem dksX26_command_8 : cX26_command.data.toList.drop 216 = dktX26_command_8 := dk_seg dksX26_command_7 24 rfl rfl
theorem dksX26_command_9 : cX26_command.data.toList.drop 240 = dktX26_command_9 := dk_seg dksX26_command_8 24 rfl rfl
theorem dX26_command_0 : decode cX26_command 0 = .ok (.aload_n 0, 1) := dk_42 (dk_at dksX26_command_0 0 rfl rfl)
theorem dX26_command_1 : decode cX26_command 1 = .ok (.ldc 127, 2) := dk_18 127 (dk_at dksX26_command_0 1 rfl rfl)
theorem dX26_command_3 : decode cX26_command 3 = .ok (.invokevirtual 82, 3) := dk_182 0 82 (dk_at dksX26_command_0 3 rfl rfl)
theorem dX26_command_6 : decode cX26_command 6 = .ok (.astore_n 1, 1) := dk_76 (dk_at dksX26_command_0 6 rfl rfl)
theorem dX26_command_7 : decode cX26_command 7 = .ok (.iconst (-1), 1) := dk_2 (dk_at dksX26_command_0 7 rfl rfl)
theorem dX26_command_8 : decode cX26_command 8 = .ok (.istore_n 2, 1) := dk_61 (dk_at dksX26_command_0 8 rfl rfl)
theorem dX26_command_9 : decode cX26_command 9 = .ok (.aload_n 1, 1) := dk_43 (dk_at dksX26_command_0 9 rfl rfl)
theorem dX26_command_10 : decode cX26_command 10 = .ok (.invokevirtual 129, 3) := dk_182 0 129 (dk_at dksX26_command_0 10 rfl rfl)
theorem dX26_command_13 : decode cX26_command 13 = .ok (.lookupswitch 140 #[(-1413299531, 129), (3059460, 101), (3314155, 87), (3641717, 73), (93908710, 115), (94935104, 59)], 59) := by decide +kernel
theorem dX26_command_72 : decode cX26_command 72 = .ok (.aload_n 1, 1) := dk_43 (dk_at dksX26_command_2 0 rfl rfl)
theorem dX26_command_73 : decode cX26_command 73 = .ok (.ldc 132, 2) := dk_18 132 (dk_at dksX26_command_2 1 rfl rfl)
theorem dX26_command_75 : decode cX26_command 75 = .ok (.invokevirtual 115, 3) := dk_182 0 115 (dk_at dksX26_command_2 3 rfl rfl)
theorem dX26_command_78 : decode cX26_command 78 = .ok (.ifCond .eq 75, 3) := dk_153 0 75 (dk_at dksX26_command_2 6 rfl rfl)
theorem dX26_command_81 : decode cX26_command 81 = .ok (.iconst 0, 1) := dk_3 (dk_at dksX26_command_2 9 rfl rfl)
theorem dX26_command_82 : decode cX26_command 82 = .ok (.istore_n 2, 1) := dk_61 (dk_at dksX26_command_2 10 rfl rfl)
theorem dX26_command_83 : decode cX26_command 83 = .ok (.goto 70, 3) := dk_167 0 70 (dk_at dksX26_command_2 11 rfl rfl)
theorem dX26_command_86 : decode cX26_command 86 = .ok (.aload_n 1, 1) := dk_43 (dk_at dksX26_command_2 14 rfl rfl)
theorem dX26_command_87 : decode cX26_command 87 = .ok (.ldc 134, 2) := dk_18 134 (dk_at dksX26_command_2 15 rfl rfl)
theorem dX26_command_89 : decode cX26_command 89 = .ok (.invokevirtual 115, 3) := dk_182 0 115 (dk_at dksX26_command_2 17 rfl rfl)
theorem dX26_command_92 : decode cX26_command 92 = .ok (.ifCond .eq 61, 3) := dk_153 0 61 (dk_at dksX26_command_2 20 rfl rfl)
theorem dX26_command_95 : decode cX26_command 95 = .ok (.iconst 1, 1) := dk_4 (dk_at dksX26_command_2 23 rfl rfl)
theorem dX26_command_96 : decode cX26_command 96 = .ok (.istore_n 2, 1) := dk_61 (dk_at dksX26_command_3 0 rfl rfl)
theorem dX26_command_97 : decode cX26_command 97 = .ok (.goto 56, 3) := dk_167 0 56 (dk_at dksX26_command_3 1 rfl rfl)
theorem dX26_command_100 : decode cX26_command 100 = .ok (.aload_n 1, 1) := dk_43 (dk_at dksX26_command_3 4 rfl rfl)
theorem dX26_command_101 : decode cX26_command 101 = .ok (.ldc 136, 2) := dk_18 136 (dk_at dksX26_command_3 5 rfl rfl)
theorem dX26_command_103 : decode cX26_command 103 = .ok (.invokevirtual 115, 3) := dk_182 0 115 (dk_at dksX26_command_3 7 rfl rfl)
theorem dX26_command_106 : decode cX26_command 106 = .ok (.ifCond .eq 47, 3) := dk_153 0 47 (dk_at dksX26_command_3 10 rfl rfl)
theorem dX26_command_109 : decode cX26_command 109 = .ok (.iconst 2, 1) := dk_5 (dk_at dksX26_command_3 13 rfl rfl)
theorem dX26_command_110 : decode cX26_command 110 = .ok (.istore_n 2, 1) := dk_61 (dk_at dksX26_command_3 14 rfl rfl)
theorem dX26_command_111 : decode cX26_command 111 = .ok (.goto 42, 3) := dk_167 0 42 (dk_at dksX26_command_3 15 rfl rfl)
theorem dX26_command_114 : decode cX26_command 114 = .ok (.aload_n 1, 1) := dk_43 (dk_at dksX26_command_3 18 rfl rfl)
theorem dX26_command_115 : decode cX26_command 115 = .ok (.ldc 138, 2) := dk_18 138 (dk_at dksX26_command_3 19 rfl rfl)
theorem dX26_command_117 : decode cX26_command 117 = .ok (.invokevirtual 115, 3) := dk_182 0 115 (dk_at dksX26_command_3 21 rfl rfl)
theorem dX26_command_120 : decode cX26_command 120 = .ok (.ifCond .eq 33, 3) := dk_153 0 33 (dk_at dksX26_command_4 0 rfl rfl)
theorem dX26_command_123 : decode cX26_command 123 = .ok (.iconst 3, 1) := dk_6 (dk_at dksX26_command_4 3 rfl rfl)
theorem dX26_command_124 : decode cX26_command 124 = .ok (.istore_n 2, 1) := dk_61 (dk_at dksX26_command_4 4 rfl rfl)
theorem dX26_command_125 : decode cX26_command 125 = .ok (.goto 28, 3) := dk_167 0 28 (dk_at dksX26_command_4 5 rfl rfl)
theorem dX26_command_128 : decode cX26_command 128 = .ok (.aload_n 1, 1) := dk_43 (dk_at dksX26_command_4 8 rfl rfl)
theorem dX26_command_129 : decode cX26_command 129 = .ok (.ldc 140, 2) := dk_18 140 (dk_at dksX26_command_4 9 rfl rfl)
theorem dX26_command_131 : decode cX26_command 131 = .ok (.invokevirtual 115, 3) := dk_182 0 115 (dk_at dksX26_command_4 11 rfl rfl)
theorem dX26_command_134 : decode cX26_command 134 = .ok (.ifCond .eq 19, 3) := dk_153 0 19 (dk_at dksX26_command_4 14 rfl rfl)
theorem dX26_command_137 : decode cX26_command 137 = .ok (.iconst 4, 1) := dk_7 (dk_at dksX26_command_4 17 rfl rfl)
theorem dX26_command_138 : decode cX26_command 138 = .ok (.istore_n 2, 1) := dk_61 (dk_at dksX26_command_4 18 rfl rfl)
theorem dX26_command_139 : decode cX26_command 139 = .ok (.goto 14, 3) := dk_167 0 14 (dk_at dksX26_command_4 19 rfl rfl)
theorem dX26_command_142 : decode cX26_command 142 = .ok (.aload_n 1, 1) := dk_43 (dk_at dksX26_command_4 22 rfl rfl)
theorem dX26_command_143 : decode cX26_command 143 = .ok (.ldc 142, 2) := dk_18 142 (dk_at dksX26_command_5 0 rfl rfl)
theorem dX26_command_145 : decode cX26_command 145 = .ok (.invokevirtual 115, 3) := dk_182 0 115 (dk_at dksX26_command_5 2 rfl rfl)
theorem dX26_command_148 : decode cX26_command 148 = .ok (.ifCond .eq 5, 3) := dk_153 0 5 (dk_at dksX26_command_5 5 rfl rfl)
theorem dX26_command_151 : decode cX26_command 151 = .ok (.iconst 5, 1) := dk_8 (dk_at dksX26_command_5 8 rfl rfl)
theorem dX26_command_152 : decode cX26_command 152 = .ok (.istore_n 2, 1) := dk_61 (dk_at dksX26_command_5 9 rfl rfl)
theorem dX26_command_153 : decode cX26_command 153 = .ok (.iload_n 2, 1) := dk_28 (dk_at dksX26_command_5 10 rfl rfl)
theorem dX26_command_154 : decode cX26_command 154 = .ok (.tableswitch 78 0 5 #[38, 43, 55, 63, 68, 73], 38) := by decide +kernel
theorem dX26_command_192 : decode cX26_command 192 = .ok (.aload_n 0, 1) := dk_42 (dk_at dksX26_command_7 0 rfl rfl)
theorem dX26_command_193 : decode cX26_command 193 = .ok (.invokevirtual 144, 3) := dk_182 0 144 (dk_at dksX26_command_7 1 rfl rfl)
theorem dX26_command_196 : decode cX26_command 196 = .ok (.areturn, 1) := dk_176 (dk_at dksX26_command_7 4 rfl rfl)
theorem dX26_command_197 : decode cX26_command 197 = .ok (.new 148, 3) := dk_187 0 148 (dk_at dksX26_command_7 5 rfl rfl)
theorem dX26_command_200 : decode cX26_command 200 = .ok (.dup, 1) := dk_89 (dk_at dksX26_command_7 8 rfl rfl)
theorem dX26_command_201 : decode cX26_command 201 = .ok (.aload_n 0, 1) := dk_42 (dk_at dksX26_command_7 9 rfl rfl)
theorem dX26_command_202 : decode cX26_command 202 = .ok (.invokevirtual 100, 3) := dk_182 0 100 (dk_at dksX26_command_7 10 rfl rfl)
theorem dX26_command_205 : decode cX26_command 205 = .ok (.invokespecial 150, 3) := dk_183 0 150 (dk_at dksX26_command_7 13 rfl rfl)
theorem dX26_command_208 : decode cX26_command 208 = .ok (.areturn, 1) := dk_176 (dk_at dksX26_command_7 16 rfl rfl)
theorem dX26_command_209 : decode cX26_command 209 = .ok (.new 151, 3) := dk_187 0 151 (dk_at dksX26_command_7 17 rfl rfl)
theorem dX26_command_212 : decode cX26_command 212 = .ok (.dup, 1) := dk_89 (dk_at dksX26_command_7 20 rfl rfl)
theorem dX26_command_213 : decode cX26_command 213 = .ok (.invokespecial 153, 3) := dk_183 0 153 (dk_at dksX26_command_7 21 rfl rfl)
theorem dX26_command_216 : decode cX26_command 216 = .ok (.areturn, 1) := dk_176 (dk_at dksX26_command_8 0 rfl rfl)
theorem dX26_command_217 : decode cX26_command 217 = .ok (.aload_n 0, 1) := dk_42 (dk_at dksX26_command_8 1 rfl rfl)
theorem dX26_command_218 : decode cX26_command 218 = .ok (.invokevirtual 154, 3) := dk_182 0 154 (dk_at dksX26_command_8 2 rfl rfl)
theorem dX26_command_221 : decode cX26_command 221 = .ok (.areturn, 1) := dk_176 (dk_at dksX26_command_8 5 rfl rfl)
theorem dX26_command_222 : decode cX26_command 222 = .ok (.aload_n 0, 1) := dk_42 (dk_at dksX26_command_8 6 rfl rfl)
theorem dX26_command_223 : decode cX26_command 223 = .ok (.invokevirtual 157, 3) := dk_182 0 157 (dk_at dksX26_command_8 7 rfl rfl)
theorem dX26_command_226 : decode cX26_command 226 = .ok (.areturn, 1) := dk_176 (dk_at dksX26_command_8 10 rfl rfl)
theorem dX26_command_227 : decode cX26_command 227 = .ok (.aload_n 0, 1) := dk_42 (dk_at dksX26_command_8 11 rfl rfl)
theorem dX26_command_228 : decode cX26_command 228 = .ok (.invokevirtual 160, 3) := dk_182 0 160 (dk_at dksX26_command_8 12 rfl rfl)
theorem dX26_command_231 : decode cX26_command 231 = .ok (.areturn, 1) := dk_176 (dk_at dksX26_command_8 15 rfl rfl)
theorem dX26_command_232 : decode cX26_command 232 = .ok (.new 163, 3) := dk_187 0 163 (dk_at dksX26_command_8 16 rfl rfl)
theorem dX26_command_235 : decode cX26_command 235 = .ok (.dup, 1) := dk_89 (dk_at dksX26_command_8 19 rfl rfl)
theorem dX26_command_236 : decode cX26_command 236 = .ok (.aload_n 0, 1) := dk_42 (dk_at dksX26_command_8 20 rfl rfl)
theorem dX26_command_237 : decode cX26_command 237 = .ok (.invokevirtual 95, 3) := dk_182 0 95 (dk_at dksX26_command_8 21 rfl rfl)
theorem dX26_command_240 : decode cX26_command 240 = .ok (.invokespecial 165, 3) := dk_183 0 165 (dk_at dksX26_command_9 0 rfl rfl)
theorem dX26_command_243 : decode cX26_command 243 = .ok (.areturn, 1) := dk_176 (dk_at dksX26_command_9 3 rfl rfl)
abbrev cX26_word : ByteArray := prog_17_method_7_code
def yX26_word : MethodName := ⟨RX26, "word", "(Ljava/lang/String;)Ljava/lang/String;"⟩
def dkwX26_word_10 : List UInt8 := [167, 255, 32]
abbrev dktX26_word_10 : List UInt8 := dkwX26_word_10 ++ []
def dkwX26_word_9 : List UInt8 := [187, 0, 37, 89, 42, 180, 0, 13, 183, 0, 39, 191, 42, 89, 180, 0, 13, 4, 96, 181, 0, 13]
abbrev dktX26_word_9 : List UInt8 := dkwX26_word_9 ++ dktX26_word_10
def dkwX26_word_8 : List UInt8 := [18, 61, 182, 0, 57, 25, 5, 182, 0, 57, 182, 0, 63, 182, 0, 73, 153, 0, 8, 21, 4, 154, 0, 15]
abbrev dktX26_word_8 : List UInt8 := dkwX26_word_8 ++ dktX26_word_9
def dkwX26_word_7 : List UInt8 := [167, 0, 5, 18, 61, 58, 5, 43, 25, 5, 182, 0, 67, 154, 0, 30, 43, 187, 0, 24, 89, 183, 0, 56]
abbrev dktX26_word_7 : List UInt8 := dkwX26_word_7 ++ dktX26_word_8
def dkwX26_word_6 : List UInt8 := [45, 182, 0, 57, 42, 180, 0, 1, 180, 0, 17, 42, 180, 0, 13, 182, 0, 29, 182, 0, 77, 182, 0, 63]
abbrev dktX26_word_6 : List UInt8 := dkwX26_word_6 ++ dktX26_word_7
def dkwX26_word_5 : List UInt8 := [16, 32, 159, 0, 7, 4, 167, 0, 4, 3, 54, 4, 21, 4, 153, 0, 37, 187, 0, 24, 89, 183, 0, 56]
abbrev dktX26_word_5 : List UInt8 := dkwX26_word_5 ++ dktX26_word_6
def dkwX26_word_4 : List UInt8 := [180, 0, 17, 182, 0, 23, 162, 0, 26, 42, 180, 0, 1, 180, 0, 17, 42, 180, 0, 13, 182, 0, 29]
abbrev dktX26_word_4 : List UInt8 := dkwX26_word_4 ++ dktX26_word_5
def dkwX26_word_3 : List UInt8 := [182, 0, 57, 182, 0, 63, 182, 0, 73, 153, 0, 5, 45, 176, 42, 180, 0, 13, 42, 180, 0, 1]
abbrev dktX26_word_3 : List UInt8 := dkwX26_word_3 ++ dktX26_word_4
def dkwX26_word_2 : List UInt8 := [154, 0, 34, 43, 187, 0, 24, 89, 183, 0, 56, 18, 61, 182, 0, 57, 45, 182, 0, 57, 18, 61]
abbrev dktX26_word_2 : List UInt8 := dkwX26_word_2 ++ dktX26_word_3
def dkwX26_word_1 : List UInt8 := [187, 0, 24, 89, 183, 0, 56, 45, 182, 0, 57, 18, 61, 182, 0, 57, 182, 0, 63, 182, 0, 67]
abbrev dktX26_word_1 : List UInt8 := dkwX26_word_1 ++ dktX26_word_2
def dkwX26_word_0 : List UInt8 := [42, 180, 0, 13, 61, 42, 180, 0, 1, 180, 0, 17, 28, 42, 180, 0, 13, 182, 0, 52, 78, 43]
abbrev dktX26_word_0 : List UInt8 := dkwX26_word_0 ++ dktX26_word_1
theorem dksX26_word_0 : cX26_word.data.toList.drop 0 = dktX26_word_0 := by decide +kernel
theorem dksX26_word_1 : cX26_word.data.toList.drop 22 = dktX26_word_1 := dk_seg dksX26_word_0 22 rfl rfl
theorem dksX26_word_2 : cX26_word.data.toList.drop 44 = dktX26_word_2 := dk_seg dksX26_word_1 22 rfl rfl
theorem dksX26_word_3 : cX26_word.data.toList.drop 66 = dktX26_word_3 := dk_seg dksX26_word_2 22 rfl rfl
theorem dksX26_word_4 : cX26_word.data.toList.drop 88 = dktX26_word_4 := dk_seg dksX26_word_3 22 rfl rfl
theorem dksX26_word_5 : cX26_word.data.toList.drop 111 = dktX26_word_5 := dk_seg dksX26_word_4 23 rfl rfl
theorem dksX26_word_6 : cX26_word.data.toList.drop 135 = dktX26_word_6 := dk_seg dksX26_word_5 24 rfl rfl
theorem dksX26_word_7 : cX26_word.data.toList.drop 159 = dktX26_word_7 := dk_seg dksX26_word_6 24 rfl rfl
theorem dksX26_word_8 : cX26_word.data.toList.drop 183 = dktX26_word_8 := dk_seg dksX26_word_7 24 rfl rfl
theorem dksX26_word_9 : cX26_word.data.toList.drop 207 = dktX26_word_9 := dk_seg dksX26_word_8 24 rfl rfl
theorem dksX26_word_10 : cX26_word.data.toList.drop 229 = dktX26_word_10 := dk_seg dksX26_word_9 22 rfl rfl
theorem dX26_word_0 : decode cX26_word 0 = .ok (.aload_n 0, 1) := dk_42 (dk_at dksX26_word_0 0 rfl rfl)
theorem dX26_word_1 : decode cX26_word 1 = .ok (.getfield 13, 3) := dk_180 0 13 (dk_at dksX26_word_0 1 rfl rfl)
theorem dX26_word_4 : decode cX26_word 4 = .ok (.istore_n 2, 1) := dk_61 (dk_at dksX26_word_0 4 rfl rfl)
theorem dX26_word_5 : decode cX26_word 5 = .ok (.aload_n 0, 1) := dk_42 (dk_at dksX26_word_0 5 rfl rfl)
theorem dX26_word_6 : decode cX26_word 6 = .ok (.getfield 1, 3) := dk_180 0 1 (dk_at dksX26_word_0 6 rfl rfl)
theorem dX26_word_9 : decode cX26_word 9 = .ok (.getfield 17, 3) := dk_180 0 17 (dk_at dksX26_word_0 9 rfl rfl)
theorem dX26_word_12 : decode cX26_word 12 = .ok (.iload_n 2, 1) := dk_28 (dk_at dksX26_word_0 12 rfl rfl)
theorem dX26_word_13 : decode cX26_word 13 = .ok (.aload_n 0, 1) := dk_42 (dk_at dksX26_word_0 13 rfl rfl)
theorem dX26_word_14 : decode cX26_word 14 = .ok (.getfield 13, 3) := dk_180 0 13 (dk_at dksX26_word_0 14 rfl rfl)
theorem dX26_word_17 : decode cX26_word 17 = .ok (.invokevirtual 52, 3) := dk_182 0 52 (dk_at dksX26_word_0 17 rfl rfl)
theorem dX26_word_20 : decode cX26_word 20 = .ok (.astore_n 3, 1) := dk_78 (dk_at dksX26_word_0 20 rfl rfl)
theorem dX26_word_21 : decode cX26_word 21 = .ok (.aload_n 1, 1) := dk_43 (dk_at dksX26_word_0 21 rfl rfl)
theorem dX26_word_22 : decode cX26_word 22 = .ok (.new 24, 3) := dk_187 0 24 (dk_at dksX26_word_1 0 rfl rfl)
theorem dX26_word_25 : decode cX26_word 25 = .ok (.dup, 1) := dk_89 (dk_at dksX26_word_1 3 rfl rfl)
theorem dX26_word_26 : decode cX26_word 26 = .ok (.invokespecial 56, 3) := dk_183 0 56 (dk_at dksX26_word_1 4 rfl rfl)
theorem dX26_word_29 : decode cX26_word 29 = .ok (.aload_n 3, 1) := dk_45 (dk_at dksX26_word_1 7 rfl rfl)
theorem dX26_word_30 : decode cX26_word 30 = .ok (.invokevirtual 57, 3) := dk_182 0 57 (dk_at dksX26_word_1 8 rfl rfl)
theorem dX26_word_33 : decode cX26_word 33 = .ok (.ldc 61, 2) := dk_18 61 (dk_at dksX26_word_1 11 rfl rfl)
theorem dX26_word_35 : decode cX26_word 35 = .ok (.invokevirtual 57, 3) := dk_182 0 57 (dk_at dksX26_word_1 13 rfl rfl)
theorem dX26_word_38 : decode cX26_word 38 = .ok (.invokevirtual 63, 3) := dk_182 0 63 (dk_at dksX26_word_1 16 rfl rfl)
theorem dX26_word_41 : decode cX26_word 41 = .ok (.invokevirtual 67, 3) := dk_182 0 67 (dk_at dksX26_word_1 19 rfl rfl)
theorem dX26_word_44 : decode cX26_word 44 = .ok (.ifCond .ne 34, 3) := dk_154 0 34 (dk_at dksX26_word_2 0 rfl rfl)
theorem dX26_word_47 : decode cX26_word 47 = .ok (.aload_n 1, 1) := dk_43 (dk_at dksX26_word_2 3 rfl rfl)
theorem dX26_word_48 : decode cX26_word 48 = .ok (.new 24, 3) := dk_187 0 24 (dk_at dksX26_word_2 4 rfl rfl)
theorem dX26_word_51 : decode cX26_word 51 = .ok (.dup, 1) := dk_89 (dk_at dksX26_word_2 7 rfl rfl)
theorem dX26_word_52 : decode cX26_word 52 = .ok (.invokespecial 56, 3) := dk_183 0 56 (dk_at dksX26_word_2 8 rfl rfl)
theorem dX26_word_55 : decode cX26_word 55 = .ok (.ldc 61, 2) := dk_18 61 (dk_at dksX26_word_2 11 rfl rfl)
theorem dX26_word_57 : decode cX26_word 57 = .ok (.invokevirtual 57, 3) := dk_182 0 57 (dk_at dksX26_word_2 13 rfl rfl)
theorem dX26_word_60 : decode cX26_word 60 = .ok (.aload_n 3, 1) := dk_45 (dk_at dksX26_word_2 16 rfl rfl)
theorem dX26_word_61 : decode cX26_word 61 = .ok (.invokevirtual 57, 3) := dk_182 0 57 (dk_at dksX26_word_2 17 rfl rfl)
theorem dX26_word_64 : decode cX26_word 64 = .ok (.ldc 61, 2) := dk_18 61 (dk_at dksX26_word_2 20 rfl rfl)
theorem dX26_word_66 : decode cX26_word 66 = .ok (.invokevirtual 57, 3) := dk_182 0 57 (dk_at dksX26_word_3 0 rfl rfl)
theorem dX26_word_69 : decode cX26_word 69 = .ok (.invokevirtual 63, 3) := dk_182 0 63 (dk_at dksX26_word_3 3 rfl rfl)
theorem dX26_word_72 : decode cX26_word 72 = .ok (.invokevirtual 73, 3) := dk_182 0 73 (dk_at dksX26_word_3 6 rfl rfl)
theorem dX26_word_75 : decode cX26_word 75 = .ok (.ifCond .eq 5, 3) := dk_153 0 5 (dk_at dksX26_word_3 9 rfl rfl)
theorem dX26_word_78 : decode cX26_word 78 = .ok (.aload_n 3, 1) := dk_45 (dk_at dksX26_word_3 12 rfl rfl)
theorem dX26_word_79 : decode cX26_word 79 = .ok (.areturn, 1) := dk_176 (dk_at dksX26_word_3 13 rfl rfl)
theorem dX26_word_80 : decode cX26_word 80 = .ok (.aload_n 0, 1) := dk_42 (dk_at dksX26_word_3 14 rfl rfl)
theorem dX26_word_81 : decode cX26_word 81 = .ok (.getfield 13, 3) := dk_180 0 13 (dk_at dksX26_word_3 15 rfl rfl)
theorem dX26_word_84 : decode cX26_word 84 = .ok (.aload_n 0, 1) := dk_42 (dk_at dksX26_word_3 18 rfl rfl)
theorem dX26_word_85 : decode cX26_word 85 = .ok (.getfield 1, 3) := dk_180 0 1 (dk_at dksX26_word_3 19 rfl rfl)
theorem dX26_word_88 : decode cX26_word 88 = .ok (.getfield 17, 3) := dk_180 0 17 (dk_at dksX26_word_4 0 rfl rfl)
theorem dX26_word_91 : decode cX26_word 91 = .ok (.invokevirtual 23, 3) := dk_182 0 23 (dk_at dksX26_word_4 3 rfl rfl)
theorem dX26_word_94 : decode cX26_word 94 = .ok (.if_icmp .ge 26, 3) := dk_162 0 26 (dk_at dksX26_word_4 6 rfl rfl)
theorem dX26_word_97 : decode cX26_word 97 = .ok (.aload_n 0, 1) := dk_42 (dk_at dksX26_word_4 9 rfl rfl)
theorem dX26_word_98 : decode cX26_word 98 = .ok (.getfield 1, 3) := dk_180 0 1 (dk_at dksX26_word_4 10 rfl rfl)
theorem dX26_word_101 : decode cX26_word 101 = .ok (.getfield 17, 3) := dk_180 0 17 (dk_at dksX26_word_4 13 rfl rfl)
theorem dX26_word_104 : decode cX26_word 104 = .ok (.aload_n 0, 1) := dk_42 (dk_at dksX26_word_4 16 rfl rfl)
theorem dX26_word_105 : decode cX26_word 105 = .ok (.getfield 13, 3) := dk_180 0 13 (dk_at dksX26_word_4 17 rfl rfl)
theorem dX26_word_108 : decode cX26_word 108 = .ok (.invokevirtual 29, 3) := dk_182 0 29 (dk_at dksX26_word_4 20 rfl rfl)
theorem dX26_word_111 : decode cX26_word 111 = .ok (.bipush 32, 2) := dk_16 32 (dk_at dksX26_word_5 0 rfl rfl)
theorem dX26_word_113 : decode cX26_word 113 = .ok (.if_icmp .eq 7, 3) := dk_159 0 7 (dk_at dksX26_word_5 2 rfl rfl)
theorem dX26_word_116 : decode cX26_word 116 = .ok (.iconst 1, 1) := dk_4 (dk_at dksX26_word_5 5 rfl rfl)
theorem dX26_word_117 : decode cX26_word 117 = .ok (.goto 4, 3) := dk_167 0 4 (dk_at dksX26_word_5 6 rfl rfl)
theorem dX26_word_120 : decode cX26_word 120 = .ok (.iconst 0, 1) := dk_3 (dk_at dksX26_word_5 9 rfl rfl)
theorem dX26_word_121 : decode cX26_word 121 = .ok (.istore 4, 2) := dk_54 4 (dk_at dksX26_word_5 10 rfl rfl)
theorem dX26_word_123 : decode cX26_word 123 = .ok (.iload 4, 2) := dk_21 4 (dk_at dksX26_word_5 12 rfl rfl)
theorem dX26_word_125 : decode cX26_word 125 = .ok (.ifCond .eq 37, 3) := dk_153 0 37 (dk_at dksX26_word_5 14 rfl rfl)
theorem dX26_word_128 : decode cX26_word 128 = .ok (.new 24, 3) := dk_187 0 24 (dk_at dksX26_word_5 17 rfl rfl)
theorem dX26_word_131 : decode cX26_word 131 = .ok (.dup, 1) := dk_89 (dk_at dksX26_word_5 20 rfl rfl)
theorem dX26_word_132 : decode cX26_word 132 = .ok (.invokespecial 56, 3) := dk_183 0 56 (dk_at dksX26_word_5 21 rfl rfl)
theorem dX26_word_135 : decode cX26_word 135 = .ok (.aload_n 3, 1) := dk_45 (dk_at dksX26_word_6 0 rfl rfl)
theorem dX26_word_136 : decode cX26_word 136 = .ok (.invokevirtual 57, 3) := dk_182 0 57 (dk_at dksX26_word_6 1 rfl rfl)
theorem dX26_word_139 : decode cX26_word 139 = .ok (.aload_n 0, 1) := dk_42 (dk_at dksX26_word_6 4 rfl rfl)
theorem dX26_word_140 : decode cX26_word 140 = .ok (.getfield 1, 3) := dk_180 0 1 (dk_at dksX26_word_6 5 rfl rfl)
theorem dX26_word_143 : decode cX26_word 143 = .ok (.getfield 17, 3) := dk_180 0 17 (dk_at dksX26_word_6 8 rfl rfl)
theorem dX26_word_146 : decode cX26_word 146 = .ok (.aload_n 0, 1) := dk_42 (dk_at dksX26_word_6 11 rfl rfl)
theorem dX26_word_147 : decode cX26_word 147 = .ok (.getfield 13, 3) := dk_180 0 13 (dk_at dksX26_word_6 12 rfl rfl)
theorem dX26_word_150 : decode cX26_word 150 = .ok (.invokevirtual 29, 3) := dk_182 0 29 (dk_at dksX26_word_6 15 rfl rfl)
theorem dX26_word_153 : decode cX26_word 153 = .ok (.invokevirtual 77, 3) := dk_182 0 77 (dk_at dksX26_word_6 18 rfl rfl)
theorem dX26_word_156 : decode cX26_word 156 = .ok (.invokevirtual 63, 3) := dk_182 0 63 (dk_at dksX26_word_6 21 rfl rfl)
theorem dX26_word_159 : decode cX26_word 159 = .ok (.goto 5, 3) := dk_167 0 5 (dk_at dksX26_word_7 0 rfl rfl)
theorem dX26_word_162 : decode cX26_word 162 = .ok (.ldc 61, 2) := dk_18 61 (dk_at dksX26_word_7 3 rfl rfl)
theorem dX26_word_164 : decode cX26_word 164 = .ok (.astore 5, 2) := dk_58 5 (dk_at dksX26_word_7 5 rfl rfl)
theorem dX26_word_166 : decode cX26_word 166 = .ok (.aload_n 1, 1) := dk_43 (dk_at dksX26_word_7 7 rfl rfl)
theorem dX26_word_167 : decode cX26_word 167 = .ok (.aload 5, 2) := dk_25 5 (dk_at dksX26_word_7 8 rfl rfl)
theorem dX26_word_169 : decode cX26_word 169 = .ok (.invokevirtual 67, 3) := dk_182 0 67 (dk_at dksX26_word_7 10 rfl rfl)
theorem dX26_word_172 : decode cX26_word 172 = .ok (.ifCond .ne 30, 3) := dk_154 0 30 (dk_at dksX26_word_7 13 rfl rfl)
theorem dX26_word_175 : decode cX26_word 175 = .ok (.aload_n 1, 1) := dk_43 (dk_at dksX26_word_7 16 rfl rfl)
theorem dX26_word_176 : decode cX26_word 176 = .ok (.new 24, 3) := dk_187 0 24 (dk_at dksX26_word_7 17 rfl rfl)
theorem dX26_word_179 : decode cX26_word 179 = .ok (.dup, 1) := dk_89 (dk_at dksX26_word_7 20 rfl rfl)
theorem dX26_word_180 : decode cX26_word 180 = .ok (.invokespecial 56, 3) := dk_183 0 56 (dk_at dksX26_word_7 21 rfl rfl)
theorem dX26_word_183 : decode cX26_word 183 = .ok (.ldc 61, 2) := dk_18 61 (dk_at dksX26_word_8 0 rfl rfl)
theorem dX26_word_185 : decode cX26_word 185 = .ok (.invokevirtual 57, 3) := dk_182 0 57 (dk_at dksX26_word_8 2 rfl rfl)
theorem dX26_word_188 : decode cX26_word 188 = .ok (.aload 5, 2) := dk_25 5 (dk_at dksX26_word_8 5 rfl rfl)
theorem dX26_word_190 : decode cX26_word 190 = .ok (.invokevirtual 57, 3) := dk_182 0 57 (dk_at dksX26_word_8 7 rfl rfl)
theorem dX26_word_193 : decode cX26_word 193 = .ok (.invokevirtual 63, 3) := dk_182 0 63 (dk_at dksX26_word_8 10 rfl rfl)
theorem dX26_word_196 : decode cX26_word 196 = .ok (.invokevirtual 73, 3) := dk_182 0 73 (dk_at dksX26_word_8 13 rfl rfl)
theorem dX26_word_199 : decode cX26_word 199 = .ok (.ifCond .eq 8, 3) := dk_153 0 8 (dk_at dksX26_word_8 16 rfl rfl)
theorem dX26_word_202 : decode cX26_word 202 = .ok (.iload 4, 2) := dk_21 4 (dk_at dksX26_word_8 19 rfl rfl)
theorem dX26_word_204 : decode cX26_word 204 = .ok (.ifCond .ne 15, 3) := dk_154 0 15 (dk_at dksX26_word_8 21 rfl rfl)
theorem dX26_word_207 : decode cX26_word 207 = .ok (.new 37, 3) := dk_187 0 37 (dk_at dksX26_word_9 0 rfl rfl)
theorem dX26_word_210 : decode cX26_word 210 = .ok (.dup, 1) := dk_89 (dk_at dksX26_word_9 3 rfl rfl)
theorem dX26_word_211 : decode cX26_word 211 = .ok (.aload_n 0, 1) := dk_42 (dk_at dksX26_word_9 4 rfl rfl)
theorem dX26_word_212 : decode cX26_word 212 = .ok (.getfield 13, 3) := dk_180 0 13 (dk_at dksX26_word_9 5 rfl rfl)
theorem dX26_word_215 : decode cX26_word 215 = .ok (.invokespecial 39, 3) := dk_183 0 39 (dk_at dksX26_word_9 8 rfl rfl)
theorem dX26_word_218 : decode cX26_word 218 = .ok (.athrow, 1) := dk_191 (dk_at dksX26_word_9 11 rfl rfl)
theorem dX26_word_219 : decode cX26_word 219 = .ok (.aload_n 0, 1) := dk_42 (dk_at dksX26_word_9 12 rfl rfl)
theorem dX26_word_220 : decode cX26_word 220 = .ok (.dup, 1) := dk_89 (dk_at dksX26_word_9 13 rfl rfl)
theorem dX26_word_221 : decode cX26_word 221 = .ok (.getfield 13, 3) := dk_180 0 13 (dk_at dksX26_word_9 14 rfl rfl)
theorem dX26_word_224 : decode cX26_word 224 = .ok (.iconst 1, 1) := dk_4 (dk_at dksX26_word_9 17 rfl rfl)
theorem dX26_word_225 : decode cX26_word 225 = .ok (.iadd, 1) := dk_96 (dk_at dksX26_word_9 18 rfl rfl)
theorem dX26_word_226 : decode cX26_word 226 = .ok (.putfield 13, 3) := dk_181 0 13 (dk_at dksX26_word_9 19 rfl rfl)
theorem dX26_word_229 : decode cX26_word 229 = .ok (.goto (-224), 3) := dk_167 255 32 (dk_at dksX26_word_10 0 rfl rfl)
abbrev cX26_crossing : ByteArray := prog_17_method_11_code
def yX26_crossing : MethodName := ⟨RX26, "crossing", "()LBraidedFerry$Deed;"⟩
def dkwX26_crossing_1 : List UInt8 := [183, 0, 119, 176]
abbrev dktX26_crossing_1 : List UInt8 := dkwX26_crossing_1 ++ []
def dkwX26_crossing_0 : List UInt8 := [42, 16, 32, 16, 32, 182, 0, 42, 60, 187, 0, 109, 89, 42, 18, 111, 182, 0, 82, 18, 113, 182, 0, 115]
abbrev dktX26_crossing_0 : List UInt8 := dkwX26_crossing_0 ++ dktX26_crossing_1
theorem dksX26_crossing_0 : cX26_crossing.data.toList.drop 0 = dktX26_crossing_0 := by decide +kernel
theorem dksX26_crossing_1 : cX26_crossing.data.toList.drop 24 = dktX26_crossing_1 := dk_seg dksX26_crossing_0 24 rfl rfl
theorem dX26_crossing_0 : decode cX26_crossing 0 = .ok (.aload_n 0, 1) := dk_42 (dk_at dksX26_crossing_0 0 rfl rfl)
theorem dX26_crossing_1 : decode cX26_crossing 1 = .ok (.bipush 32, 2) := dk_16 32 (dk_at dksX26_crossing_0 1 rfl rfl)
theorem dX26_crossing_3 : decode cX26_crossing 3 = .ok (.bipush 32, 2) := dk_16 32 (dk_at dksX26_crossing_0 3 rfl rfl)
theorem dX26_crossing_5 : decode cX26_crossing 5 = .ok (.invokevirtual 42, 3) := dk_182 0 42 (dk_at dksX26_crossing_0 5 rfl rfl)
theorem dX26_crossing_8 : decode cX26_crossing 8 = .ok (.istore_n 1, 1) := dk_60 (dk_at dksX26_crossing_0 8 rfl rfl)
theorem dX26_crossing_9 : decode cX26_crossing 9 = .ok (.new 109, 3) := dk_187 0 109 (dk_at dksX26_crossing_0 9 rfl rfl)
theorem dX26_crossing_12 : decode cX26_crossing 12 = .ok (.dup, 1) := dk_89 (dk_at dksX26_crossing_0 12 rfl rfl)
theorem dX26_crossing_13 : decode cX26_crossing 13 = .ok (.aload_n 0, 1) := dk_42 (dk_at dksX26_crossing_0 13 rfl rfl)
theorem dX26_crossing_14 : decode cX26_crossing 14 = .ok (.ldc 111, 2) := dk_18 111 (dk_at dksX26_crossing_0 14 rfl rfl)
theorem dX26_crossing_16 : decode cX26_crossing 16 = .ok (.invokevirtual 82, 3) := dk_182 0 82 (dk_at dksX26_crossing_0 16 rfl rfl)
theorem dX26_crossing_19 : decode cX26_crossing 19 = .ok (.ldc 113, 2) := dk_18 113 (dk_at dksX26_crossing_0 19 rfl rfl)
theorem dX26_crossing_21 : decode cX26_crossing 21 = .ok (.invokevirtual 115, 3) := dk_182 0 115 (dk_at dksX26_crossing_0 21 rfl rfl)
theorem dX26_crossing_24 : decode cX26_crossing 24 = .ok (.invokespecial 119, 3) := dk_183 0 119 (dk_at dksX26_crossing_1 0 rfl rfl)
theorem dX26_crossing_27 : decode cX26_crossing 27 = .ok (.areturn, 1) := dk_176 (dk_at dksX26_crossing_1 3 rfl rfl)
abbrev cX26_take : ByteArray := prog_17_method_2_code
def yX26_take : MethodName := ⟨RX26, "take", "(CC)C"⟩
def dkwX26_take_3 : List UInt8 := [180, 0, 13, 4, 100, 182, 0, 29, 172]
abbrev dktX26_take_3 : List UInt8 := dkwX26_take_3 ++ []
def dkwX26_take_2 : List UInt8 := [183, 0, 39, 191, 42, 89, 180, 0, 13, 4, 96, 181, 0, 13, 42, 180, 0, 1, 180, 0, 17, 42]
abbrev dktX26_take_2 : List UInt8 := dkwX26_take_2 ++ dktX26_take_3
def dkwX26_take_1 : List UInt8 := [42, 180, 0, 13, 182, 0, 29, 27, 28, 184, 0, 33, 154, 0, 15, 187, 0, 37, 89, 42, 180, 0, 13]
abbrev dktX26_take_1 : List UInt8 := dkwX26_take_1 ++ dktX26_take_2
def dkwX26_take_0 : List UInt8 := [42, 180, 0, 13, 42, 180, 0, 1, 180, 0, 17, 182, 0, 23, 159, 0, 25, 42, 180, 0, 1, 180, 0, 17]
abbrev dktX26_take_0 : List UInt8 := dkwX26_take_0 ++ dktX26_take_1
theorem dksX26_take_0 : cX26_take.data.toList.drop 0 = dktX26_take_0 := by decide +kernel
theorem dksX26_take_1 : cX26_take.data.toList.drop 24 = dktX26_take_1 := dk_seg dksX26_take_0 24 rfl rfl
theorem dksX26_take_2 : cX26_take.data.toList.drop 47 = dktX26_take_2 := dk_seg dksX26_take_1 23 rfl rfl
theorem dksX26_take_3 : cX26_take.data.toList.drop 69 = dktX26_take_3 := dk_seg dksX26_take_2 22 rfl rfl
theorem dX26_take_0 : decode cX26_take 0 = .ok (.aload_n 0, 1) := dk_42 (dk_at dksX26_take_0 0 rfl rfl)
theorem dX26_take_1 : decode cX26_take 1 = .ok (.getfield 13, 3) := dk_180 0 13 (dk_at dksX26_take_0 1 rfl rfl)
theorem dX26_take_4 : decode cX26_take 4 = .ok (.aload_n 0, 1) := dk_42 (dk_at dksX26_take_0 4 rfl rfl)
theorem dX26_take_5 : decode cX26_take 5 = .ok (.getfield 1, 3) := dk_180 0 1 (dk_at dksX26_take_0 5 rfl rfl)
theorem dX26_take_8 : decode cX26_take 8 = .ok (.getfield 17, 3) := dk_180 0 17 (dk_at dksX26_take_0 8 rfl rfl)
theorem dX26_take_11 : decode cX26_take 11 = .ok (.invokevirtual 23, 3) := dk_182 0 23 (dk_at dksX26_take_0 11 rfl rfl)
theorem dX26_take_14 : decode cX26_take 14 = .ok (.if_icmp .eq 25, 3) := dk_159 0 25 (dk_at dksX26_take_0 14 rfl rfl)
theorem dX26_take_17 : decode cX26_take 17 = .ok (.aload_n 0, 1) := dk_42 (dk_at dksX26_take_0 17 rfl rfl)
theorem dX26_take_18 : decode cX26_take 18 = .ok (.getfield 1, 3) := dk_180 0 1 (dk_at dksX26_take_0 18 rfl rfl)
theorem dX26_take_21 : decode cX26_take 21 = .ok (.getfield 17, 3) := dk_180 0 17 (dk_at dksX26_take_0 21 rfl rfl)
theorem dX26_take_24 : decode cX26_take 24 = .ok (.aload_n 0, 1) := dk_42 (dk_at dksX26_take_1 0 rfl rfl)
theorem dX26_take_25 : decode cX26_take 25 = .ok (.getfield 13, 3) := dk_180 0 13 (dk_at dksX26_take_1 1 rfl rfl)
theorem dX26_take_28 : decode cX26_take 28 = .ok (.invokevirtual 29, 3) := dk_182 0 29 (dk_at dksX26_take_1 4 rfl rfl)
theorem dX26_take_31 : decode cX26_take 31 = .ok (.iload_n 1, 1) := dk_27 (dk_at dksX26_take_1 7 rfl rfl)
theorem dX26_take_32 : decode cX26_take 32 = .ok (.iload_n 2, 1) := dk_28 (dk_at dksX26_take_1 8 rfl rfl)
theorem dX26_take_33 : decode cX26_take 33 = .ok (.invokestatic 33, 3) := dk_184 0 33 (dk_at dksX26_take_1 9 rfl rfl)
theorem dX26_take_36 : decode cX26_take 36 = .ok (.ifCond .ne 15, 3) := dk_154 0 15 (dk_at dksX26_take_1 12 rfl rfl)
theorem dX26_take_39 : decode cX26_take 39 = .ok (.new 37, 3) := dk_187 0 37 (dk_at dksX26_take_1 15 rfl rfl)
theorem dX26_take_42 : decode cX26_take 42 = .ok (.dup, 1) := dk_89 (dk_at dksX26_take_1 18 rfl rfl)
theorem dX26_take_43 : decode cX26_take 43 = .ok (.aload_n 0, 1) := dk_42 (dk_at dksX26_take_1 19 rfl rfl)
theorem dX26_take_44 : decode cX26_take 44 = .ok (.getfield 13, 3) := dk_180 0 13 (dk_at dksX26_take_1 20 rfl rfl)
theorem dX26_take_47 : decode cX26_take 47 = .ok (.invokespecial 39, 3) := dk_183 0 39 (dk_at dksX26_take_2 0 rfl rfl)
theorem dX26_take_50 : decode cX26_take 50 = .ok (.athrow, 1) := dk_191 (dk_at dksX26_take_2 3 rfl rfl)
theorem dX26_take_51 : decode cX26_take 51 = .ok (.aload_n 0, 1) := dk_42 (dk_at dksX26_take_2 4 rfl rfl)
theorem dX26_take_52 : decode cX26_take 52 = .ok (.dup, 1) := dk_89 (dk_at dksX26_take_2 5 rfl rfl)
theorem dX26_take_53 : decode cX26_take 53 = .ok (.getfield 13, 3) := dk_180 0 13 (dk_at dksX26_take_2 6 rfl rfl)
theorem dX26_take_56 : decode cX26_take 56 = .ok (.iconst 1, 1) := dk_4 (dk_at dksX26_take_2 9 rfl rfl)
theorem dX26_take_57 : decode cX26_take 57 = .ok (.iadd, 1) := dk_96 (dk_at dksX26_take_2 10 rfl rfl)
theorem dX26_take_58 : decode cX26_take 58 = .ok (.putfield 13, 3) := dk_181 0 13 (dk_at dksX26_take_2 11 rfl rfl)
theorem dX26_take_61 : decode cX26_take 61 = .ok (.aload_n 0, 1) := dk_42 (dk_at dksX26_take_2 14 rfl rfl)
theorem dX26_take_62 : decode cX26_take 62 = .ok (.getfield 1, 3) := dk_180 0 1 (dk_at dksX26_take_2 15 rfl rfl)
theorem dX26_take_65 : decode cX26_take 65 = .ok (.getfield 17, 3) := dk_180 0 17 (dk_at dksX26_take_2 18 rfl rfl)
theorem dX26_take_68 : decode cX26_take 68 = .ok (.aload_n 0, 1) := dk_42 (dk_at dksX26_take_2 21 rfl rfl)
theorem dX26_take_69 : decode cX26_take 69 = .ok (.getfield 13, 3) := dk_180 0 13 (dk_at dksX26_take_3 0 rfl rfl)
theorem dX26_take_72 : decode cX26_take 72 = .ok (.iconst 1, 1) := dk_4 (dk_at dksX26_take_3 3 rfl rfl)
theorem dX26_take_73 : decode cX26_take 73 = .ok (.isub, 1) := dk_100 (dk_at dksX26_take_3 4 rfl rfl)
theorem dX26_take_74 : decode cX26_take 74 = .ok (.invokevirtual 29, 3) := dk_182 0 29 (dk_at dksX26_take_3 5 rfl rfl)
theorem dX26_take_77 : decode cX26_take 77 = .ok (.ireturn, 1) := dk_172 (dk_at dksX26_take_3 8 rfl rfl)
abbrev cX26_numberBehind : ByteArray := prog_17_method_6_code
def yX26_numberBehind : MethodName := ⟨RX26, "numberBehind", "()I"⟩
def dkwX26_numberBehind_0 : List UInt8 := [42, 16, 32, 16, 32, 182, 0, 42, 60, 42, 182, 0, 49, 172]
abbrev dktX26_numberBehind_0 : List UInt8 := dkwX26_numberBehind_0 ++ []
theorem dksX26_numberBehind_0 : cX26_numberBehind.data.toList.drop 0 = dktX26_numberBehind_0 := by decide +kernel
theorem dX26_numberBehind_0 : decode cX26_numberBehind 0 = .ok (.aload_n 0, 1) := dk_42 (dk_at dksX26_numberBehind_0 0 rfl rfl)
theorem dX26_numberBehind_1 : decode cX26_numberBehind 1 = .ok (.bipush 32, 2) := dk_16 32 (dk_at dksX26_numberBehind_0 1 rfl rfl)
theorem dX26_numberBehind_3 : decode cX26_numberBehind 3 = .ok (.bipush 32, 2) := dk_16 32 (dk_at dksX26_numberBehind_0 3 rfl rfl)
theorem dX26_numberBehind_5 : decode cX26_numberBehind 5 = .ok (.invokevirtual 42, 3) := dk_182 0 42 (dk_at dksX26_numberBehind_0 5 rfl rfl)
theorem dX26_numberBehind_8 : decode cX26_numberBehind 8 = .ok (.istore_n 1, 1) := dk_60 (dk_at dksX26_numberBehind_0 8 rfl rfl)
theorem dX26_numberBehind_9 : decode cX26_numberBehind 9 = .ok (.aload_n 0, 1) := dk_42 (dk_at dksX26_numberBehind_0 9 rfl rfl)
theorem dX26_numberBehind_10 : decode cX26_numberBehind 10 = .ok (.invokevirtual 49, 3) := dk_182 0 49 (dk_at dksX26_numberBehind_0 10 rfl rfl)
theorem dX26_numberBehind_13 : decode cX26_numberBehind 13 = .ok (.ireturn, 1) := dk_172 (dk_at dksX26_numberBehind_0 13 rfl rfl)
abbrev cX26_number : ByteArray := prog_17_method_5_code
def yX26_number : MethodName := ⟨RX26, "number", "()I"⟩
def dkwX26_number_2 : List UInt8 := [184, 0, 33, 153, 0, 19, 16, 10, 27, 104, 42, 182, 0, 46, 96, 60, 132, 2, 1, 167, 255, 197, 27, 172]
abbrev dktX26_number_2 : List UInt8 := dkwX26_number_2 ++ []
def dkwX26_number_1 : List UInt8 := [182, 0, 23, 162, 0, 43, 42, 180, 0, 1, 180, 0, 17, 42, 180, 0, 13, 182, 0, 29, 16, 48, 16, 57]
abbrev dktX26_number_1 : List UInt8 := dkwX26_number_1 ++ dktX26_number_2
def dkwX26_number_0 : List UInt8 := [42, 182, 0, 46, 60, 4, 61, 28, 6, 162, 0, 60, 42, 180, 0, 13, 42, 180, 0, 1, 180, 0, 17]
abbrev dktX26_number_0 : List UInt8 := dkwX26_number_0 ++ dktX26_number_1
theorem dksX26_number_0 : cX26_number.data.toList.drop 0 = dktX26_number_0 := by decide +kernel
theorem dksX26_number_1 : cX26_number.data.toList.drop 23 = dktX26_number_1 := dk_seg dksX26_number_0 23 rfl rfl
theorem dksX26_number_2 : cX26_number.data.toList.drop 47 = dktX26_number_2 := dk_seg dksX26_number_1 24 rfl rfl
theorem dX26_number_0 : decode cX26_number 0 = .ok (.aload_n 0, 1) := dk_42 (dk_at dksX26_number_0 0 rfl rfl)
theorem dX26_number_1 : decode cX26_number 1 = .ok (.invokevirtual 46, 3) := dk_182 0 46 (dk_at dksX26_number_0 1 rfl rfl)
theorem dX26_number_4 : decode cX26_number 4 = .ok (.istore_n 1, 1) := dk_60 (dk_at dksX26_number_0 4 rfl rfl)
theorem dX26_number_5 : decode cX26_number 5 = .ok (.iconst 1, 1) := dk_4 (dk_at dksX26_number_0 5 rfl rfl)
theorem dX26_number_6 : decode cX26_number 6 = .ok (.istore_n 2, 1) := dk_61 (dk_at dksX26_number_0 6 rfl rfl)
theorem dX26_number_7 : decode cX26_number 7 = .ok (.iload_n 2, 1) := dk_28 (dk_at dksX26_number_0 7 rfl rfl)
theorem dX26_number_8 : decode cX26_number 8 = .ok (.iconst 3, 1) := dk_6 (dk_at dksX26_number_0 8 rfl rfl)
theorem dX26_number_9 : decode cX26_number 9 = .ok (.if_icmp .ge 60, 3) := dk_162 0 60 (dk_at dksX26_number_0 9 rfl rfl)
theorem dX26_number_12 : decode cX26_number 12 = .ok (.aload_n 0, 1) := dk_42 (dk_at dksX26_number_0 12 rfl rfl)
theorem dX26_number_13 : decode cX26_number 13 = .ok (.getfield 13, 3) := dk_180 0 13 (dk_at dksX26_number_0 13 rfl rfl)
theorem dX26_number_16 : decode cX26_number 16 = .ok (.aload_n 0, 1) := dk_42 (dk_at dksX26_number_0 16 rfl rfl)
theorem dX26_number_17 : decode cX26_number 17 = .ok (.getfield 1, 3) := dk_180 0 1 (dk_at dksX26_number_0 17 rfl rfl)
theorem dX26_number_20 : decode cX26_number 20 = .ok (.getfield 17, 3) := dk_180 0 17 (dk_at dksX26_number_0 20 rfl rfl)
theorem dX26_number_23 : decode cX26_number 23 = .ok (.invokevirtual 23, 3) := dk_182 0 23 (dk_at dksX26_number_1 0 rfl rfl)
theorem dX26_number_26 : decode cX26_number 26 = .ok (.if_icmp .ge 43, 3) := dk_162 0 43 (dk_at dksX26_number_1 3 rfl rfl)
theorem dX26_number_29 : decode cX26_number 29 = .ok (.aload_n 0, 1) := dk_42 (dk_at dksX26_number_1 6 rfl rfl)
theorem dX26_number_30 : decode cX26_number 30 = .ok (.getfield 1, 3) := dk_180 0 1 (dk_at dksX26_number_1 7 rfl rfl)
theorem dX26_number_33 : decode cX26_number 33 = .ok (.getfield 17, 3) := dk_180 0 17 (dk_at dksX26_number_1 10 rfl rfl)
theorem dX26_number_36 : decode cX26_number 36 = .ok (.aload_n 0, 1) := dk_42 (dk_at dksX26_number_1 13 rfl rfl)
theorem dX26_number_37 : decode cX26_number 37 = .ok (.getfield 13, 3) := dk_180 0 13 (dk_at dksX26_number_1 14 rfl rfl)
theorem dX26_number_40 : decode cX26_number 40 = .ok (.invokevirtual 29, 3) := dk_182 0 29 (dk_at dksX26_number_1 17 rfl rfl)
theorem dX26_number_43 : decode cX26_number 43 = .ok (.bipush 48, 2) := dk_16 48 (dk_at dksX26_number_1 20 rfl rfl)
theorem dX26_number_45 : decode cX26_number 45 = .ok (.bipush 57, 2) := dk_16 57 (dk_at dksX26_number_1 22 rfl rfl)
theorem dX26_number_47 : decode cX26_number 47 = .ok (.invokestatic 33, 3) := dk_184 0 33 (dk_at dksX26_number_2 0 rfl rfl)
theorem dX26_number_50 : decode cX26_number 50 = .ok (.ifCond .eq 19, 3) := dk_153 0 19 (dk_at dksX26_number_2 3 rfl rfl)
theorem dX26_number_53 : decode cX26_number 53 = .ok (.bipush 10, 2) := dk_16 10 (dk_at dksX26_number_2 6 rfl rfl)
theorem dX26_number_55 : decode cX26_number 55 = .ok (.iload_n 1, 1) := dk_27 (dk_at dksX26_number_2 8 rfl rfl)
theorem dX26_number_56 : decode cX26_number 56 = .ok (.imul, 1) := dk_104 (dk_at dksX26_number_2 9 rfl rfl)
theorem dX26_number_57 : decode cX26_number 57 = .ok (.aload_n 0, 1) := dk_42 (dk_at dksX26_number_2 10 rfl rfl)
theorem dX26_number_58 : decode cX26_number 58 = .ok (.invokevirtual 46, 3) := dk_182 0 46 (dk_at dksX26_number_2 11 rfl rfl)
theorem dX26_number_61 : decode cX26_number 61 = .ok (.iadd, 1) := dk_96 (dk_at dksX26_number_2 14 rfl rfl)
theorem dX26_number_62 : decode cX26_number 62 = .ok (.istore_n 1, 1) := dk_60 (dk_at dksX26_number_2 15 rfl rfl)
theorem dX26_number_63 : decode cX26_number 63 = .ok (.iinc 2 1, 3) := dk_132 2 1 (dk_at dksX26_number_2 16 rfl rfl)
theorem dX26_number_66 : decode cX26_number 66 = .ok (.goto (-59), 3) := dk_167 255 197 (dk_at dksX26_number_2 19 rfl rfl)
theorem dX26_number_69 : decode cX26_number 69 = .ok (.iload_n 1, 1) := dk_27 (dk_at dksX26_number_2 22 rfl rfl)
theorem dX26_number_70 : decode cX26_number 70 = .ok (.ireturn, 1) := dk_172 (dk_at dksX26_number_2 23 rfl rfl)
abbrev cX26_digit : ByteArray := prog_17_method_3_code
def yX26_digit : MethodName := ⟨RX26, "digit", "()I"⟩
def dkwX26_digit_0 : List UInt8 := [42, 16, 48, 16, 57, 182, 0, 42, 16, 48, 100, 172]
abbrev dktX26_digit_0 : List UInt8 := dkwX26_digit_0 ++ []
theorem dksX26_digit_0 : cX26_digit.data.toList.drop 0 = dktX26_digit_0 := by decide +kernel
theorem dX26_digit_0 : decode cX26_digit 0 = .ok (.aload_n 0, 1) := dk_42 (dk_at dksX26_digit_0 0 rfl rfl)
theorem dX26_digit_1 : decode cX26_digit 1 = .ok (.bipush 48, 2) := dk_16 48 (dk_at dksX26_digit_0 1 rfl rfl)
theorem dX26_digit_3 : decode cX26_digit 3 = .ok (.bipush 57, 2) := dk_16 57 (dk_at dksX26_digit_0 3 rfl rfl)
theorem dX26_digit_5 : decode cX26_digit 5 = .ok (.invokevirtual 42, 3) := dk_182 0 42 (dk_at dksX26_digit_0 5 rfl rfl)
theorem dX26_digit_8 : decode cX26_digit 8 = .ok (.bipush 48, 2) := dk_16 48 (dk_at dksX26_digit_0 8 rfl rfl)
theorem dX26_digit_10 : decode cX26_digit 10 = .ok (.isub, 1) := dk_100 (dk_at dksX26_digit_0 10 rfl rfl)
theorem dX26_digit_11 : decode cX26_digit 11 = .ok (.ireturn, 1) := dk_172 (dk_at dksX26_digit_0 11 rfl rfl)
abbrev cX26_coming : ByteArray := prog_17_method_9_code
def yX26_coming : MethodName := ⟨RX26, "coming", "()LBraidedFerry$Deed;"⟩
def dkwX26_coming_1 : List UInt8 := [182, 0, 100, 183, 0, 103, 176]
abbrev dktX26_coming_1 : List UInt8 := dkwX26_coming_1 ++ []
def dkwX26_coming_0 : List UInt8 := [42, 182, 0, 92, 60, 42, 182, 0, 95, 61, 42, 182, 0, 95, 62, 187, 0, 98, 89, 27, 28, 29, 42]
abbrev dktX26_coming_0 : List UInt8 := dkwX26_coming_0 ++ dktX26_coming_1
theorem dksX26_coming_0 : cX26_coming.data.toList.drop 0 = dktX26_coming_0 := by decide +kernel
theorem dksX26_coming_1 : cX26_coming.data.toList.drop 23 = dktX26_coming_1 := dk_seg dksX26_coming_0 23 rfl rfl
theorem dX26_coming_0 : decode cX26_coming 0 = .ok (.aload_n 0, 1) := dk_42 (dk_at dksX26_coming_0 0 rfl rfl)
theorem dX26_coming_1 : decode cX26_coming 1 = .ok (.invokevirtual 92, 3) := dk_182 0 92 (dk_at dksX26_coming_0 1 rfl rfl)
theorem dX26_coming_4 : decode cX26_coming 4 = .ok (.istore_n 1, 1) := dk_60 (dk_at dksX26_coming_0 4 rfl rfl)
theorem dX26_coming_5 : decode cX26_coming 5 = .ok (.aload_n 0, 1) := dk_42 (dk_at dksX26_coming_0 5 rfl rfl)
theorem dX26_coming_6 : decode cX26_coming 6 = .ok (.invokevirtual 95, 3) := dk_182 0 95 (dk_at dksX26_coming_0 6 rfl rfl)
theorem dX26_coming_9 : decode cX26_coming 9 = .ok (.istore_n 2, 1) := dk_61 (dk_at dksX26_coming_0 9 rfl rfl)
theorem dX26_coming_10 : decode cX26_coming 10 = .ok (.aload_n 0, 1) := dk_42 (dk_at dksX26_coming_0 10 rfl rfl)
theorem dX26_coming_11 : decode cX26_coming 11 = .ok (.invokevirtual 95, 3) := dk_182 0 95 (dk_at dksX26_coming_0 11 rfl rfl)
theorem dX26_coming_14 : decode cX26_coming 14 = .ok (.istore_n 3, 1) := dk_62 (dk_at dksX26_coming_0 14 rfl rfl)
theorem dX26_coming_15 : decode cX26_coming 15 = .ok (.new 98, 3) := dk_187 0 98 (dk_at dksX26_coming_0 15 rfl rfl)
theorem dX26_coming_18 : decode cX26_coming 18 = .ok (.dup, 1) := dk_89 (dk_at dksX26_coming_0 18 rfl rfl)
theorem dX26_coming_19 : decode cX26_coming 19 = .ok (.iload_n 1, 1) := dk_27 (dk_at dksX26_coming_0 19 rfl rfl)
theorem dX26_coming_20 : decode cX26_coming 20 = .ok (.iload_n 2, 1) := dk_28 (dk_at dksX26_coming_0 20 rfl rfl)
theorem dX26_coming_21 : decode cX26_coming 21 = .ok (.iload_n 3, 1) := dk_29 (dk_at dksX26_coming_0 21 rfl rfl)
theorem dX26_coming_22 : decode cX26_coming 22 = .ok (.aload_n 0, 1) := dk_42 (dk_at dksX26_coming_0 22 rfl rfl)
theorem dX26_coming_23 : decode cX26_coming 23 = .ok (.invokevirtual 100, 3) := dk_182 0 100 (dk_at dksX26_coming_1 0 rfl rfl)
theorem dX26_coming_26 : decode cX26_coming 26 = .ok (.invokespecial 103, 3) := dk_183 0 103 (dk_at dksX26_coming_1 3 rfl rfl)
theorem dX26_coming_29 : decode cX26_coming 29 = .ok (.areturn, 1) := dk_176 (dk_at dksX26_coming_1 6 rfl rfl)
abbrev cX26_kind : ByteArray := prog_17_method_8_code
def yX26_kind : MethodName := ⟨RX26, "kind", "()I"⟩
def dkwX26_kind_0 : List UInt8 := [42, 16, 32, 16, 32, 182, 0, 42, 60, 42, 18, 80, 182, 0, 82, 184, 0, 86, 172]
abbrev dktX26_kind_0 : List UInt8 := dkwX26_kind_0 ++ []
theorem dksX26_kind_0 : cX26_kind.data.toList.drop 0 = dktX26_kind_0 := by decide +kernel
theorem dX26_kind_0 : decode cX26_kind 0 = .ok (.aload_n 0, 1) := dk_42 (dk_at dksX26_kind_0 0 rfl rfl)
theorem dX26_kind_1 : decode cX26_kind 1 = .ok (.bipush 32, 2) := dk_16 32 (dk_at dksX26_kind_0 1 rfl rfl)
theorem dX26_kind_3 : decode cX26_kind 3 = .ok (.bipush 32, 2) := dk_16 32 (dk_at dksX26_kind_0 3 rfl rfl)
theorem dX26_kind_5 : decode cX26_kind 5 = .ok (.invokevirtual 42, 3) := dk_182 0 42 (dk_at dksX26_kind_0 5 rfl rfl)
theorem dX26_kind_8 : decode cX26_kind 8 = .ok (.istore_n 1, 1) := dk_60 (dk_at dksX26_kind_0 8 rfl rfl)
theorem dX26_kind_9 : decode cX26_kind 9 = .ok (.aload_n 0, 1) := dk_42 (dk_at dksX26_kind_0 9 rfl rfl)
theorem dX26_kind_10 : decode cX26_kind 10 = .ok (.ldc 80, 2) := dk_18 80 (dk_at dksX26_kind_0 10 rfl rfl)
theorem dX26_kind_12 : decode cX26_kind 12 = .ok (.invokevirtual 82, 3) := dk_182 0 82 (dk_at dksX26_kind_0 12 rfl rfl)
theorem dX26_kind_15 : decode cX26_kind 15 = .ok (.invokestatic 86, 3) := dk_184 0 86 (dk_at dksX26_kind_0 15 rfl rfl)
theorem dX26_kind_18 : decode cX26_kind 18 = .ok (.ireturn, 1) := dk_172 (dk_at dksX26_kind_0 18 rfl rfl)
abbrev cX26_digitBehind : ByteArray := prog_17_method_4_code
def yX26_digitBehind : MethodName := ⟨RX26, "digitBehind", "()I"⟩
def dkwX26_digitBehind_0 : List UInt8 := [42, 16, 32, 16, 32, 182, 0, 42, 60, 42, 182, 0, 46, 172]
abbrev dktX26_digitBehind_0 : List UInt8 := dkwX26_digitBehind_0 ++ []
theorem dksX26_digitBehind_0 : cX26_digitBehind.data.toList.drop 0 = dktX26_digitBehind_0 := by decide +kernel
theorem dX26_digitBehind_0 : decode cX26_digitBehind 0 = .ok (.aload_n 0, 1) := dk_42 (dk_at dksX26_digitBehind_0 0 rfl rfl)
theorem dX26_digitBehind_1 : decode cX26_digitBehind 1 = .ok (.bipush 32, 2) := dk_16 32 (dk_at dksX26_digitBehind_0 1 rfl rfl)
theorem dX26_digitBehind_3 : decode cX26_digitBehind 3 = .ok (.bipush 32, 2) := dk_16 32 (dk_at dksX26_digitBehind_0 3 rfl rfl)
theorem dX26_digitBehind_5 : decode cX26_digitBehind 5 = .ok (.invokevirtual 42, 3) := dk_182 0 42 (dk_at dksX26_digitBehind_0 5 rfl rfl)
theorem dX26_digitBehind_8 : decode cX26_digitBehind 8 = .ok (.istore_n 1, 1) := dk_60 (dk_at dksX26_digitBehind_0 8 rfl rfl)
theorem dX26_digitBehind_9 : decode cX26_digitBehind 9 = .ok (.aload_n 0, 1) := dk_42 (dk_at dksX26_digitBehind_0 9 rfl rfl)
theorem dX26_digitBehind_10 : decode cX26_digitBehind 10 = .ok (.invokevirtual 46, 3) := dk_182 0 46 (dk_at dksX26_digitBehind_0 10 rfl rfl)
theorem dX26_digitBehind_13 : decode cX26_digitBehind 13 = .ok (.ireturn, 1) := dk_172 (dk_at dksX26_digitBehind_0 13 rfl rfl)
abbrev cX26_boarding : ByteArray := prog_17_method_10_code
def yX26_boarding : MethodName := ⟨RX26, "boarding", "()LBraidedFerry$Deed;"⟩
def dkwX26_boarding_1 : List UInt8 := [182, 0, 95, 183, 0, 108, 176]
abbrev dktX26_boarding_1 : List UInt8 := dkwX26_boarding_1 ++ []
def dkwX26_boarding_0 : List UInt8 := [42, 182, 0, 92, 60, 42, 182, 0, 95, 61, 42, 182, 0, 100, 62, 187, 0, 106, 89, 27, 28, 29, 42]
abbrev dktX26_boarding_0 : List UInt8 := dkwX26_boarding_0 ++ dktX26_boarding_1
theorem dksX26_boarding_0 : cX26_boarding.data.toList.drop 0 = dktX26_boarding_0 := by decide +kernel
theorem dksX26_boarding_1 : cX26_boarding.data.toList.drop 23 = dktX26_boarding_1 := dk_seg dksX26_boarding_0 23 rfl rfl
theorem dX26_boarding_0 : decode cX26_boarding 0 = .ok (.aload_n 0, 1) := dk_42 (dk_at dksX26_boarding_0 0 rfl rfl)
theorem dX26_boarding_1 : decode cX26_boarding 1 = .ok (.invokevirtual 92, 3) := dk_182 0 92 (dk_at dksX26_boarding_0 1 rfl rfl)
theorem dX26_boarding_4 : decode cX26_boarding 4 = .ok (.istore_n 1, 1) := dk_60 (dk_at dksX26_boarding_0 4 rfl rfl)
theorem dX26_boarding_5 : decode cX26_boarding 5 = .ok (.aload_n 0, 1) := dk_42 (dk_at dksX26_boarding_0 5 rfl rfl)
theorem dX26_boarding_6 : decode cX26_boarding 6 = .ok (.invokevirtual 95, 3) := dk_182 0 95 (dk_at dksX26_boarding_0 6 rfl rfl)
theorem dX26_boarding_9 : decode cX26_boarding 9 = .ok (.istore_n 2, 1) := dk_61 (dk_at dksX26_boarding_0 9 rfl rfl)
theorem dX26_boarding_10 : decode cX26_boarding 10 = .ok (.aload_n 0, 1) := dk_42 (dk_at dksX26_boarding_0 10 rfl rfl)
theorem dX26_boarding_11 : decode cX26_boarding 11 = .ok (.invokevirtual 100, 3) := dk_182 0 100 (dk_at dksX26_boarding_0 11 rfl rfl)
theorem dX26_boarding_14 : decode cX26_boarding 14 = .ok (.istore_n 3, 1) := dk_62 (dk_at dksX26_boarding_0 14 rfl rfl)
theorem dX26_boarding_15 : decode cX26_boarding 15 = .ok (.new 106, 3) := dk_187 0 106 (dk_at dksX26_boarding_0 15 rfl rfl)
theorem dX26_boarding_18 : decode cX26_boarding 18 = .ok (.dup, 1) := dk_89 (dk_at dksX26_boarding_0 18 rfl rfl)
theorem dX26_boarding_19 : decode cX26_boarding 19 = .ok (.iload_n 1, 1) := dk_27 (dk_at dksX26_boarding_0 19 rfl rfl)
theorem dX26_boarding_20 : decode cX26_boarding 20 = .ok (.iload_n 2, 1) := dk_28 (dk_at dksX26_boarding_0 20 rfl rfl)
theorem dX26_boarding_21 : decode cX26_boarding 21 = .ok (.iload_n 3, 1) := dk_29 (dk_at dksX26_boarding_0 21 rfl rfl)
theorem dX26_boarding_22 : decode cX26_boarding 22 = .ok (.aload_n 0, 1) := dk_42 (dk_at dksX26_boarding_0 22 rfl rfl)
theorem dX26_boarding_23 : decode cX26_boarding 23 = .ok (.invokevirtual 95, 3) := dk_182 0 95 (dk_at dksX26_boarding_1 0 rfl rfl)
theorem dX26_boarding_26 : decode cX26_boarding 26 = .ok (.invokespecial 108, 3) := dk_183 0 108 (dk_at dksX26_boarding_1 3 rfl rfl)
theorem dX26_boarding_29 : decode cX26_boarding 29 = .ok (.areturn, 1) := dk_176 (dk_at dksX26_boarding_1 6 rfl rfl)
abbrev cX26_anchoring : ByteArray := prog_17_method_12_code
def yX26_anchoring : MethodName := ⟨RX26, "anchoring", "()LBraidedFerry$Deed;"⟩
def dkwX26_anchoring_0 : List UInt8 := [42, 182, 0, 95, 60, 187, 0, 122, 89, 27, 42, 182, 0, 95, 183, 0, 124, 176]
abbrev dktX26_anchoring_0 : List UInt8 := dkwX26_anchoring_0 ++ []
theorem dksX26_anchoring_0 : cX26_anchoring.data.toList.drop 0 = dktX26_anchoring_0 := by decide +kernel
theorem dX26_anchoring_0 : decode cX26_anchoring 0 = .ok (.aload_n 0, 1) := dk_42 (dk_at dksX26_anchoring_0 0 rfl rfl)
theorem dX26_anchoring_1 : decode cX26_anchoring 1 = .ok (.invokevirtual 95, 3) := dk_182 0 95 (dk_at dksX26_anchoring_0 1 rfl rfl)
theorem dX26_anchoring_4 : decode cX26_anchoring 4 = .ok (.istore_n 1, 1) := dk_60 (dk_at dksX26_anchoring_0 4 rfl rfl)
theorem dX26_anchoring_5 : decode cX26_anchoring 5 = .ok (.new 122, 3) := dk_187 0 122 (dk_at dksX26_anchoring_0 5 rfl rfl)
theorem dX26_anchoring_8 : decode cX26_anchoring 8 = .ok (.dup, 1) := dk_89 (dk_at dksX26_anchoring_0 8 rfl rfl)
theorem dX26_anchoring_9 : decode cX26_anchoring 9 = .ok (.iload_n 1, 1) := dk_27 (dk_at dksX26_anchoring_0 9 rfl rfl)
theorem dX26_anchoring_10 : decode cX26_anchoring 10 = .ok (.aload_n 0, 1) := dk_42 (dk_at dksX26_anchoring_0 10 rfl rfl)
theorem dX26_anchoring_11 : decode cX26_anchoring 11 = .ok (.invokevirtual 95, 3) := dk_182 0 95 (dk_at dksX26_anchoring_0 11 rfl rfl)
theorem dX26_anchoring_14 : decode cX26_anchoring 14 = .ok (.invokespecial 124, 3) := dk_183 0 124 (dk_at dksX26_anchoring_0 14 rfl rfl)
theorem dX26_anchoring_17 : decode cX26_anchoring 17 = .ok (.areturn, 1) := dk_176 (dk_at dksX26_anchoring_0 17 rfl rfl)
theorem q141 : (Jvm.Cond.initialized "BraidedFerry$Parser") ∈ lw_all := lw_g (lw_at lw_m1 69 rfl) rfl
theorem q361 : (Jvm.Cond.fieldLinkNest "BraidedFerry$Parser" (17 : Nat) "BraidedFerry" "input" "Ljava/lang/StringBuilder;" "BraidedFerry") ∈ lw_tbl := lw_at lw_m2 49 rfl
theorem q607 : (Jvm.Cond.selects "BraidedFerry$Parser" ({ cls := "java/lang/Object", name := "getClass", desc := "()Ljava/lang/Class;" } : Jvm.MethodName) ({ cls := "java/lang/Object", name := "getClass", desc := "()Ljava/lang/Class;" } : Jvm.MethodName)) ∈ lw_all := lw_g (lw_at lw_m3 55 rfl) rfl
theorem q801 : (Jvm.Cond.selects "BraidedFerry$Parser" ({ cls := "java/lang/Object", name := "hashCode", desc := "()I" } : Jvm.MethodName) ({ cls := "java/lang/Object", name := "hashCode", desc := "()I" } : Jvm.MethodName)) ∈ lw_all := lw_g (lw_at lw_m4 9 rfl) rfl
theorem q1127 : (Jvm.Cond.selects "BraidedFerry$Parser" ({ cls := "java/lang/Object", name := "equals", desc := "(Ljava/lang/Object;)Z" } : Jvm.MethodName) ({ cls := "java/lang/Object", name := "equals", desc := "(Ljava/lang/Object;)Z" } : Jvm.MethodName)) ∈ lw_all := lw_g (lw_at lw_m5 95 rfl) rfl
theorem q2689 : (Jvm.Cond.selects "BraidedFerry$Parser" ({ cls := "java/lang/Object", name := "toString", desc := "()Ljava/lang/String;" } : Jvm.MethodName) ({ cls := "java/lang/Object", name := "toString", desc := "()Ljava/lang/String;" } : Jvm.MethodName)) ∈ lw_all := lw_g (lw_at lw_m11 217 rfl) rfl
theorem q2946 : (Jvm.Cond.instantiable "BraidedFerry$Parser" (2 : Nat)) ∈ lw_all := lw_g (lw_at lw_m12 234 rfl) rfl
theorem q2948 : (Jvm.Cond.instanceMethod ({ cls := "BraidedFerry$Parser", name := "<init>", desc := "(LBraidedFerry;)V" } : Jvm.MethodName)) ∈ lw_all := lw_g (lw_at lw_m12 236 rfl) rfl
theorem q2949 : (Jvm.Cond.code ({ cls := "BraidedFerry$Parser", name := "<init>", desc := "(LBraidedFerry;)V" } : Jvm.MethodName) prog_17_method_1_code (2 : Nat) (Option.none : Option Jvm.ClassFile.FieldType)) ∈ lw_all := lw_g (lw_at lw_m12 237 rfl) rfl
theorem q2950 : (Jvm.Cond.methodLink "BraidedFerry$Parser" (7 : Nat) ({ cls := "java/lang/Object", name := "<init>", desc := "()V" } : Jvm.MethodName)) ∈ lw_all := lw_g (lw_at lw_m12 238 rfl) rfl
theorem q2951 : (Jvm.Cond.fieldLink "BraidedFerry$Parser" (13 : Nat) "BraidedFerry$Parser" "position" "I") ∈ lw_all := lw_g (lw_at lw_m12 239 rfl) rfl
theorem q2952 : (Jvm.Cond.fieldLink "BraidedFerry$Parser" (1 : Nat) "BraidedFerry$Parser" "this$0" "LBraidedFerry;") ∈ lw_all := lw_g (lw_at lw_m13 0 rfl) rfl
theorem q2953 : (Jvm.Cond.lays "BraidedFerry$Parser" "BraidedFerry$Parser" "position" "I") ∈ lw_all := lw_g (lw_at lw_m13 1 rfl) rfl
theorem q2954 : (Jvm.Cond.soleField "BraidedFerry$Parser" "position") ∈ lw_all := lw_g (lw_at lw_m13 2 rfl) rfl
theorem q2955 : (Jvm.Cond.laysFinal "BraidedFerry$Parser" "BraidedFerry$Parser" "this$0" "LBraidedFerry;") ∈ lw_all := lw_g (lw_at lw_m13 3 rfl) rfl
theorem q2956 : (Jvm.Cond.soleField "BraidedFerry$Parser" "this$0") ∈ lw_all := lw_g (lw_at lw_m13 4 rfl) rfl
theorem q2957 : (Jvm.Cond.superclass "BraidedFerry$Parser" "java/lang/Object") ∈ lw_all := lw_g (lw_at lw_m13 5 rfl) rfl
theorem q2959 : (Jvm.Cond.instanceMethod ({ cls := "BraidedFerry$Parser", name := "text", desc := "()Ljava/util/List;" } : Jvm.MethodName)) ∈ lw_all := lw_g (lw_at lw_m13 7 rfl) rfl
theorem q2960 : (Jvm.Cond.selects "BraidedFerry$Parser" ({ cls := "BraidedFerry$Parser", name := "text", desc := "()Ljava/util/List;" } : Jvm.MethodName) ({ cls := "BraidedFerry$Parser", name := "text", desc := "()Ljava/util/List;" } : Jvm.MethodName)) ∈ lw_all := lw_g (lw_at lw_m13 8 rfl) rfl
theorem q2961 : (Jvm.Cond.code ({ cls := "BraidedFerry$Parser", name := "text", desc := "()Ljava/util/List;" } : Jvm.MethodName) prog_17_method_14_code (3 : Nat) (Option.some (Jvm.ClassFile.FieldType.object "java/util/List"))) ∈ lw_all := lw_g (lw_at lw_m13 9 rfl) rfl
theorem q2962 : (Jvm.Cond.classLink "BraidedFerry$Parser" (166 : Nat) "java/util/ArrayList") ∈ lw_all := lw_g (lw_at lw_m13 10 rfl) rfl
theorem q2963 : (Jvm.Cond.methodLink "BraidedFerry$Parser" (168 : Nat) ({ cls := "java/util/ArrayList", name := "<init>", desc := "()V" } : Jvm.MethodName)) ∈ lw_all := lw_g (lw_at lw_m13 11 rfl) rfl
theorem q2964 : (Jvm.Cond.methodLink "BraidedFerry$Parser" (169 : Nat) ({ cls := "BraidedFerry$Parser", name := "command", desc := "()LBraidedFerry$Deed;" } : Jvm.MethodName)) ∈ lw_all := lw_g (lw_at lw_m13 12 rfl) rfl
theorem q2965 : (Jvm.Cond.privateMethod ({ cls := "BraidedFerry$Parser", name := "command", desc := "()LBraidedFerry$Deed;" } : Jvm.MethodName)) ∈ lw_tbl := lw_at lw_m13 13 rfl
theorem q2966 : (Jvm.Cond.instanceMethod ({ cls := "BraidedFerry$Parser", name := "command", desc := "()LBraidedFerry$Deed;" } : Jvm.MethodName)) ∈ lw_all := lw_g (lw_at lw_m13 14 rfl) rfl
theorem q2967 : (Jvm.Cond.code ({ cls := "BraidedFerry$Parser", name := "command", desc := "()LBraidedFerry$Deed;" } : Jvm.MethodName) prog_17_method_13_code (3 : Nat) (Option.some (Jvm.ClassFile.FieldType.object "BraidedFerry$Deed"))) ∈ lw_all := lw_g (lw_at lw_m13 15 rfl) rfl
theorem q2968 : (Jvm.Cond.stringRef "BraidedFerry$Parser" (127 : Nat) "cross wait land come board anchor weigh ") ∈ lw_tbl := lw_at lw_m13 16 rfl
theorem q2969 : (Jvm.Cond.methodLink "BraidedFerry$Parser" (82 : Nat) ({ cls := "BraidedFerry$Parser", name := "word", desc := "(Ljava/lang/String;)Ljava/lang/String;" } : Jvm.MethodName)) ∈ lw_all := lw_g (lw_at lw_m13 17 rfl) rfl
theorem q2970 : (Jvm.Cond.privateMethod ({ cls := "BraidedFerry$Parser", name := "word", desc := "(Ljava/lang/String;)Ljava/lang/String;" } : Jvm.MethodName)) ∈ lw_tbl := lw_at lw_m13 18 rfl
theorem q2971 : (Jvm.Cond.instanceMethod ({ cls := "BraidedFerry$Parser", name := "word", desc := "(Ljava/lang/String;)Ljava/lang/String;" } : Jvm.MethodName)) ∈ lw_all := lw_g (lw_at lw_m13 19 rfl) rfl
theorem q2972 : (Jvm.Cond.code ({ cls := "BraidedFerry$Parser", name := "word", desc := "(Ljava/lang/String;)Ljava/lang/String;" } : Jvm.MethodName) prog_17_method_7_code (6 : Nat) (Option.some (Jvm.ClassFile.FieldType.object "java/lang/String"))) ∈ lw_all := lw_g (lw_at lw_m13 20 rfl) rfl
theorem q2973 : (Jvm.Cond.methodLink "BraidedFerry$Parser" (52 : Nat) ({ cls := "java/lang/StringBuilder", name := "substring", desc := "(II)Ljava/lang/String;" } : Jvm.MethodName)) ∈ lw_all := lw_g (lw_at lw_m13 21 rfl) rfl
theorem q2998 : (Jvm.Cond.classLink "BraidedFerry$Parser" (24 : Nat) "java/lang/StringBuilder") ∈ lw_all := lw_g (lw_at lw_m13 46 rfl) rfl
theorem q2999 : (Jvm.Cond.methodLink "BraidedFerry$Parser" (56 : Nat) ({ cls := "java/lang/StringBuilder", name := "<init>", desc := "()V" } : Jvm.MethodName)) ∈ lw_all := lw_g (lw_at lw_m13 47 rfl) rfl
theorem q3000 : (Jvm.Cond.methodLink "BraidedFerry$Parser" (57 : Nat) ({ cls := "java/lang/StringBuilder", name := "append", desc := "(Ljava/lang/String;)Ljava/lang/StringBuilder;" } : Jvm.MethodName)) ∈ lw_all := lw_g (lw_at lw_m13 48 rfl) rfl
theorem q3001 : (Jvm.Cond.stringRef "BraidedFerry$Parser" (61 : Nat) " ") ∈ lw_tbl := lw_at lw_m13 49 rfl
theorem q3002 : (Jvm.Cond.methodLink "BraidedFerry$Parser" (63 : Nat) ({ cls := "java/lang/StringBuilder", name := "toString", desc := "()Ljava/lang/String;" } : Jvm.MethodName)) ∈ lw_all := lw_g (lw_at lw_m13 50 rfl) rfl
theorem q3003 : (Jvm.Cond.methodLink "BraidedFerry$Parser" (67 : Nat) ({ cls := "java/lang/String", name := "startsWith", desc := "(Ljava/lang/String;)Z" } : Jvm.MethodName)) ∈ lw_all := lw_g (lw_at lw_m13 51 rfl) rfl
theorem q3016 : (Jvm.Cond.methodLink "BraidedFerry$Parser" (73 : Nat) ({ cls := "java/lang/String", name := "contains", desc := "(Ljava/lang/CharSequence;)Z" } : Jvm.MethodName)) ∈ lw_all := lw_g (lw_at lw_m13 64 rfl) rfl
theorem q3052 : (Jvm.Cond.methodLink "BraidedFerry$Parser" (23 : Nat) ({ cls := "java/lang/StringBuilder", name := "length", desc := "()I" } : Jvm.MethodName)) ∈ lw_all := lw_g (lw_at lw_m13 100 rfl) rfl
theorem q3053 : (Jvm.Cond.methodLink "BraidedFerry$Parser" (29 : Nat) ({ cls := "java/lang/StringBuilder", name := "charAt", desc := "(I)C" } : Jvm.MethodName)) ∈ lw_all := lw_g (lw_at lw_m13 101 rfl) rfl
theorem q3054 : (Jvm.Cond.methodLink "BraidedFerry$Parser" (77 : Nat) ({ cls := "java/lang/StringBuilder", name := "append", desc := "(C)Ljava/lang/StringBuilder;" } : Jvm.MethodName)) ∈ lw_all := lw_g (lw_at lw_m13 102 rfl) rfl
theorem q3055 : (Jvm.Cond.classLink "BraidedFerry$Parser" (37 : Nat) "BraidedFerry$FaultException") ∈ lw_all := lw_g (lw_at lw_m13 103 rfl) rfl
theorem q3064 : (Jvm.Cond.methodLink "BraidedFerry$Parser" (39 : Nat) ({ cls := "BraidedFerry$FaultException", name := "<init>", desc := "(I)V" } : Jvm.MethodName)) ∈ lw_all := lw_g (lw_at lw_m13 112 rfl) rfl
theorem q3074 : (Jvm.Cond.methodLink "BraidedFerry$Parser" (129 : Nat) ({ cls := "java/lang/String", name := "hashCode", desc := "()I" } : Jvm.MethodName)) ∈ lw_all := lw_g (lw_at lw_m13 122 rfl) rfl
theorem q3075 : (Jvm.Cond.stringRef "BraidedFerry$Parser" (132 : Nat) "cross") ∈ lw_tbl := lw_at lw_m13 123 rfl
theorem q3076 : (Jvm.Cond.methodLink "BraidedFerry$Parser" (115 : Nat) ({ cls := "java/lang/String", name := "equals", desc := "(Ljava/lang/Object;)Z" } : Jvm.MethodName)) ∈ lw_all := lw_g (lw_at lw_m13 124 rfl) rfl
theorem q3077 : (Jvm.Cond.stringRef "BraidedFerry$Parser" (134 : Nat) "wait") ∈ lw_tbl := lw_at lw_m13 125 rfl
theorem q3078 : (Jvm.Cond.stringRef "BraidedFerry$Parser" (136 : Nat) "land") ∈ lw_tbl := lw_at lw_m13 126 rfl
theorem q3079 : (Jvm.Cond.stringRef "BraidedFerry$Parser" (138 : Nat) "come") ∈ lw_tbl := lw_at lw_m13 127 rfl
theorem q3080 : (Jvm.Cond.stringRef "BraidedFerry$Parser" (140 : Nat) "board") ∈ lw_tbl := lw_at lw_m13 128 rfl
theorem q3081 : (Jvm.Cond.stringRef "BraidedFerry$Parser" (142 : Nat) "anchor") ∈ lw_tbl := lw_at lw_m13 129 rfl
theorem q3082 : (Jvm.Cond.methodLink "BraidedFerry$Parser" (144 : Nat) ({ cls := "BraidedFerry$Parser", name := "crossing", desc := "()LBraidedFerry$Deed;" } : Jvm.MethodName)) ∈ lw_all := lw_g (lw_at lw_m13 130 rfl) rfl
theorem q3083 : (Jvm.Cond.privateMethod ({ cls := "BraidedFerry$Parser", name := "crossing", desc := "()LBraidedFerry$Deed;" } : Jvm.MethodName)) ∈ lw_tbl := lw_at lw_m13 131 rfl
theorem q3084 : (Jvm.Cond.instanceMethod ({ cls := "BraidedFerry$Parser", name := "crossing", desc := "()LBraidedFerry$Deed;" } : Jvm.MethodName)) ∈ lw_all := lw_g (lw_at lw_m13 132 rfl) rfl
theorem q3085 : (Jvm.Cond.code ({ cls := "BraidedFerry$Parser", name := "crossing", desc := "()LBraidedFerry$Deed;" } : Jvm.MethodName) prog_17_method_11_code (2 : Nat) (Option.some (Jvm.ClassFile.FieldType.object "BraidedFerry$Deed"))) ∈ lw_all := lw_g (lw_at lw_m13 133 rfl) rfl
theorem q3086 : (Jvm.Cond.methodLink "BraidedFerry$Parser" (42 : Nat) ({ cls := "BraidedFerry$Parser", name := "take", desc := "(CC)C" } : Jvm.MethodName)) ∈ lw_all := lw_g (lw_at lw_m13 134 rfl) rfl
theorem q3087 : (Jvm.Cond.privateMethod ({ cls := "BraidedFerry$Parser", name := "take", desc := "(CC)C" } : Jvm.MethodName)) ∈ lw_tbl := lw_at lw_m13 135 rfl
theorem q3088 : (Jvm.Cond.instanceMethod ({ cls := "BraidedFerry$Parser", name := "take", desc := "(CC)C" } : Jvm.MethodName)) ∈ lw_all := lw_g (lw_at lw_m13 136 rfl) rfl
theorem q3089 : (Jvm.Cond.code ({ cls := "BraidedFerry$Parser", name := "take", desc := "(CC)C" } : Jvm.MethodName) prog_17_method_2_code (3 : Nat) (Option.some Jvm.ClassFile.FieldType.char)) ∈ lw_all := lw_g (lw_at lw_m13 137 rfl) rfl
theorem q3090 : (Jvm.Cond.methodLinkNest "BraidedFerry$Parser" (33 : Nat) ({ cls := "BraidedFerry", name := "inRange", desc := "(III)Z" } : Jvm.MethodName) "BraidedFerry") ∈ lw_tbl := lw_at lw_m13 138 rfl
theorem q3091 : (Jvm.Cond.classLink "BraidedFerry$Parser" (109 : Nat) "BraidedFerry$Crossing") ∈ lw_all := lw_g (lw_at lw_m13 139 rfl) rfl
theorem q3092 : (Jvm.Cond.stringRef "BraidedFerry$Parser" (111 : Nat) "forth back ") ∈ lw_tbl := lw_at lw_m13 140 rfl
theorem q3093 : (Jvm.Cond.stringRef "BraidedFerry$Parser" (113 : Nat) "forth") ∈ lw_tbl := lw_at lw_m13 141 rfl
theorem q3094 : (Jvm.Cond.methodLink "BraidedFerry$Parser" (119 : Nat) ({ cls := "BraidedFerry$Crossing", name := "<init>", desc := "(Z)V" } : Jvm.MethodName)) ∈ lw_all := lw_g (lw_at lw_m13 142 rfl) rfl
theorem q3095 : (Jvm.Cond.classLink "BraidedFerry$Parser" (148 : Nat) "BraidedFerry$Passing") ∈ lw_all := lw_g (lw_at lw_m13 143 rfl) rfl
theorem q3096 : (Jvm.Cond.methodLink "BraidedFerry$Parser" (100 : Nat) ({ cls := "BraidedFerry$Parser", name := "numberBehind", desc := "()I" } : Jvm.MethodName)) ∈ lw_all := lw_g (lw_at lw_m13 144 rfl) rfl
theorem q3097 : (Jvm.Cond.privateMethod ({ cls := "BraidedFerry$Parser", name := "numberBehind", desc := "()I" } : Jvm.MethodName)) ∈ lw_tbl := lw_at lw_m13 145 rfl
theorem q3098 : (Jvm.Cond.instanceMethod ({ cls := "BraidedFerry$Parser", name := "numberBehind", desc := "()I" } : Jvm.MethodName)) ∈ lw_all := lw_g (lw_at lw_m13 146 rfl) rfl
theorem q3099 : (Jvm.Cond.code ({ cls := "BraidedFerry$Parser", name := "numberBehind", desc := "()I" } : Jvm.MethodName) prog_17_method_6_code (2 : Nat) (Option.some Jvm.ClassFile.FieldType.int)) ∈ lw_all := lw_g (lw_at lw_m13 147 rfl) rfl
theorem q3100 : (Jvm.Cond.methodLink "BraidedFerry$Parser" (49 : Nat) ({ cls := "BraidedFerry$Parser", name := "number", desc := "()I" } : Jvm.MethodName)) ∈ lw_all := lw_g (lw_at lw_m13 148 rfl) rfl
theorem q3101 : (Jvm.Cond.privateMethod ({ cls := "BraidedFerry$Parser", name := "number", desc := "()I" } : Jvm.MethodName)) ∈ lw_tbl := lw_at lw_m13 149 rfl
theorem q3102 : (Jvm.Cond.instanceMethod ({ cls := "BraidedFerry$Parser", name := "number", desc := "()I" } : Jvm.MethodName)) ∈ lw_all := lw_g (lw_at lw_m13 150 rfl) rfl
theorem q3103 : (Jvm.Cond.code ({ cls := "BraidedFerry$Parser", name := "number", desc := "()I" } : Jvm.MethodName) prog_17_method_5_code (3 : Nat) (Option.some Jvm.ClassFile.FieldType.int)) ∈ lw_all := lw_g (lw_at lw_m13 151 rfl) rfl
theorem q3104 : (Jvm.Cond.methodLink "BraidedFerry$Parser" (46 : Nat) ({ cls := "BraidedFerry$Parser", name := "digit", desc := "()I" } : Jvm.MethodName)) ∈ lw_all := lw_g (lw_at lw_m13 152 rfl) rfl
theorem q3105 : (Jvm.Cond.privateMethod ({ cls := "BraidedFerry$Parser", name := "digit", desc := "()I" } : Jvm.MethodName)) ∈ lw_tbl := lw_at lw_m13 153 rfl
theorem q3106 : (Jvm.Cond.instanceMethod ({ cls := "BraidedFerry$Parser", name := "digit", desc := "()I" } : Jvm.MethodName)) ∈ lw_all := lw_g (lw_at lw_m13 154 rfl) rfl
theorem q3107 : (Jvm.Cond.code ({ cls := "BraidedFerry$Parser", name := "digit", desc := "()I" } : Jvm.MethodName) prog_17_method_3_code (1 : Nat) (Option.some Jvm.ClassFile.FieldType.int)) ∈ lw_all := lw_g (lw_at lw_m13 155 rfl) rfl
theorem q3108 : (Jvm.Cond.methodLink "BraidedFerry$Parser" (150 : Nat) ({ cls := "BraidedFerry$Passing", name := "<init>", desc := "(I)V" } : Jvm.MethodName)) ∈ lw_all := lw_g (lw_at lw_m13 156 rfl) rfl
theorem q3109 : (Jvm.Cond.classLink "BraidedFerry$Parser" (151 : Nat) "BraidedFerry$Landing") ∈ lw_all := lw_g (lw_at lw_m13 157 rfl) rfl
theorem q3110 : (Jvm.Cond.methodLinkNest "BraidedFerry$Parser" (153 : Nat) ({ cls := "BraidedFerry$Landing", name := "<init>", desc := "()V" } : Jvm.MethodName) "BraidedFerry") ∈ lw_tbl := lw_at lw_m13 158 rfl
theorem q3111 : (Jvm.Cond.methodLink "BraidedFerry$Parser" (154 : Nat) ({ cls := "BraidedFerry$Parser", name := "coming", desc := "()LBraidedFerry$Deed;" } : Jvm.MethodName)) ∈ lw_all := lw_g (lw_at lw_m13 159 rfl) rfl
theorem q3112 : (Jvm.Cond.privateMethod ({ cls := "BraidedFerry$Parser", name := "coming", desc := "()LBraidedFerry$Deed;" } : Jvm.MethodName)) ∈ lw_tbl := lw_at lw_m13 160 rfl
theorem q3113 : (Jvm.Cond.instanceMethod ({ cls := "BraidedFerry$Parser", name := "coming", desc := "()LBraidedFerry$Deed;" } : Jvm.MethodName)) ∈ lw_all := lw_g (lw_at lw_m13 161 rfl) rfl
theorem q3114 : (Jvm.Cond.code ({ cls := "BraidedFerry$Parser", name := "coming", desc := "()LBraidedFerry$Deed;" } : Jvm.MethodName) prog_17_method_9_code (4 : Nat) (Option.some (Jvm.ClassFile.FieldType.object "BraidedFerry$Deed"))) ∈ lw_all := lw_g (lw_at lw_m13 162 rfl) rfl
theorem q3115 : (Jvm.Cond.methodLink "BraidedFerry$Parser" (92 : Nat) ({ cls := "BraidedFerry$Parser", name := "kind", desc := "()I" } : Jvm.MethodName)) ∈ lw_all := lw_g (lw_at lw_m13 163 rfl) rfl
theorem q3116 : (Jvm.Cond.privateMethod ({ cls := "BraidedFerry$Parser", name := "kind", desc := "()I" } : Jvm.MethodName)) ∈ lw_tbl := lw_at lw_m13 164 rfl
theorem q3117 : (Jvm.Cond.instanceMethod ({ cls := "BraidedFerry$Parser", name := "kind", desc := "()I" } : Jvm.MethodName)) ∈ lw_all := lw_g (lw_at lw_m13 165 rfl) rfl
theorem q3118 : (Jvm.Cond.code ({ cls := "BraidedFerry$Parser", name := "kind", desc := "()I" } : Jvm.MethodName) prog_17_method_8_code (2 : Nat) (Option.some Jvm.ClassFile.FieldType.int)) ∈ lw_all := lw_g (lw_at lw_m13 166 rfl) rfl
theorem q3119 : (Jvm.Cond.stringRef "BraidedFerry$Parser" (80 : Nat) "foot hoof wheel ") ∈ lw_tbl := lw_at lw_m13 167 rfl
theorem q3120 : (Jvm.Cond.methodLink "BraidedFerry$Parser" (86 : Nat) ({ cls := "BraidedFerry$Weighed", name := "kindOf", desc := "(Ljava/lang/String;)I" } : Jvm.MethodName)) ∈ lw_all := lw_g (lw_at lw_m13 168 rfl) rfl
theorem q3125 : (Jvm.Cond.methodLink "BraidedFerry$Parser" (95 : Nat) ({ cls := "BraidedFerry$Parser", name := "digitBehind", desc := "()I" } : Jvm.MethodName)) ∈ lw_all := lw_g (lw_at lw_m13 173 rfl) rfl
theorem q3126 : (Jvm.Cond.privateMethod ({ cls := "BraidedFerry$Parser", name := "digitBehind", desc := "()I" } : Jvm.MethodName)) ∈ lw_tbl := lw_at lw_m13 174 rfl
theorem q3127 : (Jvm.Cond.instanceMethod ({ cls := "BraidedFerry$Parser", name := "digitBehind", desc := "()I" } : Jvm.MethodName)) ∈ lw_all := lw_g (lw_at lw_m13 175 rfl) rfl
theorem q3128 : (Jvm.Cond.code ({ cls := "BraidedFerry$Parser", name := "digitBehind", desc := "()I" } : Jvm.MethodName) prog_17_method_4_code (2 : Nat) (Option.some Jvm.ClassFile.FieldType.int)) ∈ lw_all := lw_g (lw_at lw_m13 176 rfl) rfl
theorem q3129 : (Jvm.Cond.classLink "BraidedFerry$Parser" (98 : Nat) "BraidedFerry$Coming") ∈ lw_all := lw_g (lw_at lw_m13 177 rfl) rfl
theorem q3130 : (Jvm.Cond.methodLink "BraidedFerry$Parser" (103 : Nat) ({ cls := "BraidedFerry$Coming", name := "<init>", desc := "(IIII)V" } : Jvm.MethodName)) ∈ lw_all := lw_g (lw_at lw_m13 178 rfl) rfl
theorem q3131 : (Jvm.Cond.methodLink "BraidedFerry$Parser" (157 : Nat) ({ cls := "BraidedFerry$Parser", name := "boarding", desc := "()LBraidedFerry$Deed;" } : Jvm.MethodName)) ∈ lw_all := lw_g (lw_at lw_m13 179 rfl) rfl
theorem q3132 : (Jvm.Cond.privateMethod ({ cls := "BraidedFerry$Parser", name := "boarding", desc := "()LBraidedFerry$Deed;" } : Jvm.MethodName)) ∈ lw_tbl := lw_at lw_m13 180 rfl
theorem q3133 : (Jvm.Cond.instanceMethod ({ cls := "BraidedFerry$Parser", name := "boarding", desc := "()LBraidedFerry$Deed;" } : Jvm.MethodName)) ∈ lw_all := lw_g (lw_at lw_m13 181 rfl) rfl
theorem q3134 : (Jvm.Cond.code ({ cls := "BraidedFerry$Parser", name := "boarding", desc := "()LBraidedFerry$Deed;" } : Jvm.MethodName) prog_17_method_10_code (4 : Nat) (Option.some (Jvm.ClassFile.FieldType.object "BraidedFerry$Deed"))) ∈ lw_all := lw_g (lw_at lw_m13 182 rfl) rfl
theorem q3135 : (Jvm.Cond.classLink "BraidedFerry$Parser" (106 : Nat) "BraidedFerry$Boarding") ∈ lw_all := lw_g (lw_at lw_m13 183 rfl) rfl
theorem q3136 : (Jvm.Cond.methodLink "BraidedFerry$Parser" (108 : Nat) ({ cls := "BraidedFerry$Boarding", name := "<init>", desc := "(IIII)V" } : Jvm.MethodName)) ∈ lw_all := lw_g (lw_at lw_m13 184 rfl) rfl
theorem q3137 : (Jvm.Cond.methodLink "BraidedFerry$Parser" (160 : Nat) ({ cls := "BraidedFerry$Parser", name := "anchoring", desc := "()LBraidedFerry$Deed;" } : Jvm.MethodName)) ∈ lw_all := lw_g (lw_at lw_m13 185 rfl) rfl
theorem q3138 : (Jvm.Cond.privateMethod ({ cls := "BraidedFerry$Parser", name := "anchoring", desc := "()LBraidedFerry$Deed;" } : Jvm.MethodName)) ∈ lw_tbl := lw_at lw_m13 186 rfl
theorem q3139 : (Jvm.Cond.instanceMethod ({ cls := "BraidedFerry$Parser", name := "anchoring", desc := "()LBraidedFerry$Deed;" } : Jvm.MethodName)) ∈ lw_all := lw_g (lw_at lw_m13 187 rfl) rfl
theorem q3140 : (Jvm.Cond.code ({ cls := "BraidedFerry$Parser", name := "anchoring", desc := "()LBraidedFerry$Deed;" } : Jvm.MethodName) prog_17_method_12_code (2 : Nat) (Option.some (Jvm.ClassFile.FieldType.object "BraidedFerry$Deed"))) ∈ lw_all := lw_g (lw_at lw_m13 188 rfl) rfl
theorem q3141 : (Jvm.Cond.classLink "BraidedFerry$Parser" (122 : Nat) "BraidedFerry$Anchoring") ∈ lw_all := lw_g (lw_at lw_m13 189 rfl) rfl
theorem q3142 : (Jvm.Cond.methodLink "BraidedFerry$Parser" (124 : Nat) ({ cls := "BraidedFerry$Anchoring", name := "<init>", desc := "(II)V" } : Jvm.MethodName)) ∈ lw_all := lw_g (lw_at lw_m13 190 rfl) rfl
theorem q3143 : (Jvm.Cond.classLink "BraidedFerry$Parser" (163 : Nat) "BraidedFerry$Weighing") ∈ lw_all := lw_g (lw_at lw_m13 191 rfl) rfl
theorem q3144 : (Jvm.Cond.methodLink "BraidedFerry$Parser" (165 : Nat) ({ cls := "BraidedFerry$Weighing", name := "<init>", desc := "(I)V" } : Jvm.MethodName)) ∈ lw_all := lw_g (lw_at lw_m13 192 rfl) rfl
theorem q3145 : (Jvm.Cond.interfaceEntry "BraidedFerry$Parser" (172 : Nat)) ∈ lw_tbl := lw_at lw_m13 193 rfl
theorem q3146 : (Jvm.Cond.methodLink "BraidedFerry$Parser" (172 : Nat) ({ cls := "java/util/List", name := "add", desc := "(Ljava/lang/Object;)Z" } : Jvm.MethodName)) ∈ lw_all := lw_g (lw_at lw_m13 194 rfl) rfl
theorem q3723 : (Jvm.Cond.castable "BraidedFerry$Parser" "java/lang/Object") ∈ lw_tbl := lw_at lw_m16 51 rfl
theorem in_X26 : ∀ w ∈ wsX260, w ∈ lw_all := lw_in wsX260 [2953, 2955] (by decide +kernel) (by decide +kernel)

/-! BraidedFerry$FaultException -/
set_option maxRecDepth 100000
def RX27 : String := "BraidedFerry$FaultException"
def TX27 : u_T := fun k => match k with
  | 0 => ("java/lang/Throwable", "cause", "Ljava/lang/Throwable;", false)
  | 1 => ("java/lang/Throwable", "stackTrace", "[Ljava/lang/StackTraceElement;", false)
  | 2 => ("java/lang/Throwable", "suppressedExceptions", "Ljava/util/List;", false)
  | 3 => ("java/lang/Throwable", "detailMessage", "Ljava/lang/String;", false)
  | 4 => ("java/lang/Throwable", "backtrace", "Ljava/lang/Object;", false)
  | 5 => ("java/lang/Throwable", "depth", "I", false)
  | _ => ("BraidedFerry$FaultException", "position", "I", true)
def tyX27 : Nat → FieldType := fun k => match k with
  | 0 => .object "java/lang/Throwable"
  | 1 => .array (.object "java/lang/StackTraceElement")
  | 2 => .object "java/util/List"
  | 3 => .object "java/lang/String"
  | 4 => .object "java/lang/Object"
  | 5 => .int
  | _ => .int
abbrev wsX270 : List Cond := u_ws RX27 TX27 7
theorem nmX27 : ∀ a, a < 7 → ∀ b, b < 7 → a ≠ b → (TX27 a).2.1 ≠ (TX27 b).2.1 := by decide +kernel
theorem tyX27_ok : ∀ k, k < 7 → parseFieldDescriptor (TX27 k).2.2.1 = some (tyX27 k) := by decide +kernel
abbrev cX27_init : ByteArray := prog_10_method_1_code
def yX27_init : MethodName := ⟨RX27, "<init>", "(I)V"⟩
def dkwX27_init_0 : List UInt8 := [42, 1, 1, 3, 3, 183, 0, 1, 42, 27, 181, 0, 7, 177]
abbrev dktX27_init_0 : List UInt8 := dkwX27_init_0 ++ []
theorem dksX27_init_0 : cX27_init.data.toList.drop 0 = dktX27_init_0 := by decide +kernel
theorem dX27_init_0 : decode cX27_init 0 = .ok (.aload_n 0, 1) := dk_42 (dk_at dksX27_init_0 0 rfl rfl)
theorem dX27_init_1 : decode cX27_init 1 = .ok (.aconst_null, 1) := dk_1 (dk_at dksX27_init_0 1 rfl rfl)
theorem dX27_init_2 : decode cX27_init 2 = .ok (.aconst_null, 1) := dk_1 (dk_at dksX27_init_0 2 rfl rfl)
theorem dX27_init_3 : decode cX27_init 3 = .ok (.iconst 0, 1) := dk_3 (dk_at dksX27_init_0 3 rfl rfl)
theorem dX27_init_4 : decode cX27_init 4 = .ok (.iconst 0, 1) := dk_3 (dk_at dksX27_init_0 4 rfl rfl)
theorem dX27_init_5 : decode cX27_init 5 = .ok (.invokespecial 1, 3) := dk_183 0 1 (dk_at dksX27_init_0 5 rfl rfl)
theorem dX27_init_8 : decode cX27_init 8 = .ok (.aload_n 0, 1) := dk_42 (dk_at dksX27_init_0 8 rfl rfl)
theorem dX27_init_9 : decode cX27_init 9 = .ok (.iload_n 1, 1) := dk_27 (dk_at dksX27_init_0 9 rfl rfl)
theorem dX27_init_10 : decode cX27_init 10 = .ok (.putfield 7, 3) := dk_181 0 7 (dk_at dksX27_init_0 10 rfl rfl)
theorem dX27_init_13 : decode cX27_init 13 = .ok (.return_, 1) := dk_177 (dk_at dksX27_init_0 13 rfl rfl)
theorem q142 : (Jvm.Cond.initialized "BraidedFerry$FaultException") ∈ lw_all := lw_g (lw_at lw_m1 70 rfl) rfl
theorem q500 : (Jvm.Cond.selects "BraidedFerry$FaultException" ({ cls := "java/lang/Throwable", name := "fillInStackTrace", desc := "()Ljava/lang/Throwable;" } : Jvm.MethodName) ({ cls := "java/lang/Throwable", name := "fillInStackTrace", desc := "()Ljava/lang/Throwable;" } : Jvm.MethodName)) ∈ lw_all := lw_g (lw_at lw_m2 188 rfl) rfl
theorem q602 : (Jvm.Cond.selects "BraidedFerry$FaultException" ({ cls := "java/lang/Object", name := "getClass", desc := "()Ljava/lang/Class;" } : Jvm.MethodName) ({ cls := "java/lang/Object", name := "getClass", desc := "()Ljava/lang/Class;" } : Jvm.MethodName)) ∈ lw_all := lw_g (lw_at lw_m3 50 rfl) rfl
theorem q794 : (Jvm.Cond.selects "BraidedFerry$FaultException" ({ cls := "java/lang/Object", name := "hashCode", desc := "()I" } : Jvm.MethodName) ({ cls := "java/lang/Object", name := "hashCode", desc := "()I" } : Jvm.MethodName)) ∈ lw_all := lw_g (lw_at lw_m4 2 rfl) rfl
theorem q1119 : (Jvm.Cond.selects "BraidedFerry$FaultException" ({ cls := "java/lang/Object", name := "equals", desc := "(Ljava/lang/Object;)Z" } : Jvm.MethodName) ({ cls := "java/lang/Object", name := "equals", desc := "(Ljava/lang/Object;)Z" } : Jvm.MethodName)) ∈ lw_all := lw_g (lw_at lw_m5 87 rfl) rfl
theorem q2646 : (Jvm.Cond.selects "BraidedFerry$FaultException" ({ cls := "java/lang/Object", name := "toString", desc := "()Ljava/lang/String;" } : Jvm.MethodName) ({ cls := "java/lang/Throwable", name := "toString", desc := "()Ljava/lang/String;" } : Jvm.MethodName)) ∈ lw_all := lw_g (lw_at lw_m11 174 rfl) rfl
theorem q2653 : (Jvm.Cond.selects "BraidedFerry$FaultException" ({ cls := "java/lang/Throwable", name := "getLocalizedMessage", desc := "()Ljava/lang/String;" } : Jvm.MethodName) ({ cls := "java/lang/Throwable", name := "getLocalizedMessage", desc := "()Ljava/lang/String;" } : Jvm.MethodName)) ∈ lw_all := lw_g (lw_at lw_m11 181 rfl) rfl
theorem q2668 : (Jvm.Cond.selects "BraidedFerry$FaultException" ({ cls := "java/lang/Throwable", name := "getMessage", desc := "()Ljava/lang/String;" } : Jvm.MethodName) ({ cls := "java/lang/Throwable", name := "getMessage", desc := "()Ljava/lang/String;" } : Jvm.MethodName)) ∈ lw_all := lw_g (lw_at lw_m11 196 rfl) rfl
theorem q3056 : (Jvm.Cond.instantiable "BraidedFerry$FaultException" (7 : Nat)) ∈ lw_all := lw_g (lw_at lw_m13 104 rfl) rfl
theorem q3057 : (Jvm.Cond.castable "BraidedFerry$FaultException" "BraidedFerry$FaultException") ∈ lw_tbl := lw_at lw_m13 105 rfl
theorem q3058 : (Jvm.Cond.selects "BraidedFerry$FaultException" ({ cls := "java/lang/Throwable", name := "fillInStackTrace", desc := "(I)Ljava/lang/Throwable;" } : Jvm.MethodName) ({ cls := "java/lang/Throwable", name := "fillInStackTrace", desc := "(I)Ljava/lang/Throwable;" } : Jvm.MethodName)) ∈ lw_all := lw_g (lw_at lw_m13 106 rfl) rfl
theorem q3059 : (Jvm.Cond.lays "BraidedFerry$FaultException" "java/lang/Throwable" "cause" "Ljava/lang/Throwable;") ∈ lw_all := lw_g (lw_at lw_m13 107 rfl) rfl
theorem q3060 : (Jvm.Cond.lays "BraidedFerry$FaultException" "java/lang/Throwable" "stackTrace" "[Ljava/lang/StackTraceElement;") ∈ lw_all := lw_g (lw_at lw_m13 108 rfl) rfl
theorem q3061 : (Jvm.Cond.lays "BraidedFerry$FaultException" "java/lang/Throwable" "suppressedExceptions" "Ljava/util/List;") ∈ lw_all := lw_g (lw_at lw_m13 109 rfl) rfl
theorem q3062 : (Jvm.Cond.lays "BraidedFerry$FaultException" "java/lang/Throwable" "detailMessage" "Ljava/lang/String;") ∈ lw_all := lw_g (lw_at lw_m13 110 rfl) rfl
theorem q3063 : (Jvm.Cond.lays "BraidedFerry$FaultException" "java/lang/Throwable" "backtrace" "Ljava/lang/Object;") ∈ lw_all := lw_g (lw_at lw_m13 111 rfl) rfl
theorem q3065 : (Jvm.Cond.instanceMethod ({ cls := "BraidedFerry$FaultException", name := "<init>", desc := "(I)V" } : Jvm.MethodName)) ∈ lw_all := lw_g (lw_at lw_m13 113 rfl) rfl
theorem q3066 : (Jvm.Cond.code ({ cls := "BraidedFerry$FaultException", name := "<init>", desc := "(I)V" } : Jvm.MethodName) prog_10_method_1_code (2 : Nat) (Option.none : Option Jvm.ClassFile.FieldType)) ∈ lw_all := lw_g (lw_at lw_m13 114 rfl) rfl
theorem q3067 : (Jvm.Cond.methodLink "BraidedFerry$FaultException" (1 : Nat) ({ cls := "java/lang/Exception", name := "<init>", desc := "(Ljava/lang/String;Ljava/lang/Throwable;ZZ)V" } : Jvm.MethodName)) ∈ lw_all := lw_g (lw_at lw_m13 115 rfl) rfl
theorem q3068 : (Jvm.Cond.fieldLink "BraidedFerry$FaultException" (7 : Nat) "BraidedFerry$FaultException" "position" "I") ∈ lw_all := lw_g (lw_at lw_m13 116 rfl) rfl
theorem q3070 : (Jvm.Cond.laysFinal "BraidedFerry$FaultException" "BraidedFerry$FaultException" "position" "I") ∈ lw_all := lw_g (lw_at lw_m13 118 rfl) rfl
theorem q3071 : (Jvm.Cond.soleField "BraidedFerry$FaultException" "position") ∈ lw_all := lw_g (lw_at lw_m13 119 rfl) rfl
theorem q3072 : (Jvm.Cond.lays "BraidedFerry$FaultException" "java/lang/Throwable" "depth" "I") ∈ lw_all := lw_g (lw_at lw_m13 120 rfl) rfl
theorem q3073 : (Jvm.Cond.superclass "BraidedFerry$FaultException" "java/lang/Exception") ∈ lw_all := lw_g (lw_at lw_m13 121 rfl) rfl
theorem q3724 : (Jvm.Cond.castable "BraidedFerry$FaultException" "java/lang/Object") ∈ lw_tbl := lw_at lw_m16 52 rfl
theorem in_X27 : ∀ w ∈ wsX270, w ∈ lw_all := lw_in wsX270 [3059, 3060, 3061, 3062, 3063, 3072, 3070] (by decide +kernel) (by decide +kernel)

