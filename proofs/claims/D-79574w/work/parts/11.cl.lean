/-! the list of all classes with fields, and each one's place in it -/
set_option maxRecDepth 100000
def CL : List vw_C := [(RX1, TX1, 8), (RX2, TX2, 13), (RX3, TX3, 1), (RX4, TX4, 21), (RX5, TX5, 1), (RX6, TX6, 3), (RX7, TX7, 8), (RX8, TX8, 3), (RX9, TX9, 3), (RX11, TX11, 3), (RX13, TX13, 2), (RX14, TX14, 2), (RX15, TX15, 3), (RX16, TX16, 2), (RX18, TX18, 1), (RX19, TX19, 4), (RX20, TX20, 4), (RX22, TX22, 2), (RX23, TX23, 1), (RX24, TX24, 1), (RX25, TX25, 1), (RX26, TX26, 2), (RX27, TX27, 7), (RJ2, TJ2, 3), (RJ5, TJ5, 12), (RJ6, TJ6, 3), (RJ8, TJ8, 4), (RJ9, TJ9, 4), (RJ11, TJ11, 5), (RJ14, TJ14, 0), (RJ15, TJ15, 4), (RJ16, TJ16, 0), (RJ21, TJ21, 2), (RJ23, TJ23, 5), (RJ25, TJ25, 1), (RJ31, TJ31, 6), (RJ33, TJ33, 0), (RJ35, TJ35, 0), (RJ36, TJ36, 0), (RJ39, TJ39, 0), (RX21, TX3, 0)]
abbrev ciX1 : Nat := 0
theorem cl_X1 : CL[ciX1]? = some (RX1, TX1, 8) := rfl
abbrev ciX2 : Nat := 1
theorem cl_X2 : CL[ciX2]? = some (RX2, TX2, 13) := rfl
abbrev ciX3 : Nat := 2
theorem cl_X3 : CL[ciX3]? = some (RX3, TX3, 1) := rfl
abbrev ciX4 : Nat := 3
theorem cl_X4 : CL[ciX4]? = some (RX4, TX4, 21) := rfl
abbrev ciX5 : Nat := 4
theorem cl_X5 : CL[ciX5]? = some (RX5, TX5, 1) := rfl
abbrev ciX6 : Nat := 5
theorem cl_X6 : CL[ciX6]? = some (RX6, TX6, 3) := rfl
abbrev ciX7 : Nat := 6
theorem cl_X7 : CL[ciX7]? = some (RX7, TX7, 8) := rfl
abbrev ciX8 : Nat := 7
theorem cl_X8 : CL[ciX8]? = some (RX8, TX8, 3) := rfl
abbrev ciX9 : Nat := 8
theorem cl_X9 : CL[ciX9]? = some (RX9, TX9, 3) := rfl
abbrev ciX11 : Nat := 9
theorem cl_X11 : CL[ciX11]? = some (RX11, TX11, 3) := rfl
abbrev ciX13 : Nat := 10
theorem cl_X13 : CL[ciX13]? = some (RX13, TX13, 2) := rfl
abbrev ciX14 : Nat := 11
theorem cl_X14 : CL[ciX14]? = some (RX14, TX14, 2) := rfl
abbrev ciX15 : Nat := 12
theorem cl_X15 : CL[ciX15]? = some (RX15, TX15, 3) := rfl
abbrev ciX16 : Nat := 13
theorem cl_X16 : CL[ciX16]? = some (RX16, TX16, 2) := rfl
abbrev ciX18 : Nat := 14
theorem cl_X18 : CL[ciX18]? = some (RX18, TX18, 1) := rfl
abbrev ciX19 : Nat := 15
theorem cl_X19 : CL[ciX19]? = some (RX19, TX19, 4) := rfl
abbrev ciX20 : Nat := 16
theorem cl_X20 : CL[ciX20]? = some (RX20, TX20, 4) := rfl
abbrev ciX22 : Nat := 17
theorem cl_X22 : CL[ciX22]? = some (RX22, TX22, 2) := rfl
abbrev ciX23 : Nat := 18
theorem cl_X23 : CL[ciX23]? = some (RX23, TX23, 1) := rfl
abbrev ciX24 : Nat := 19
theorem cl_X24 : CL[ciX24]? = some (RX24, TX24, 1) := rfl
abbrev ciX25 : Nat := 20
theorem cl_X25 : CL[ciX25]? = some (RX25, TX25, 1) := rfl
abbrev ciX26 : Nat := 21
theorem cl_X26 : CL[ciX26]? = some (RX26, TX26, 2) := rfl
abbrev ciX27 : Nat := 22
theorem cl_X27 : CL[ciX27]? = some (RX27, TX27, 7) := rfl
abbrev ciJ2 : Nat := 23
theorem cl_J2 : CL[ciJ2]? = some (RJ2, TJ2, 3) := rfl
abbrev ciJ5 : Nat := 24
theorem cl_J5 : CL[ciJ5]? = some (RJ5, TJ5, 12) := rfl
abbrev ciJ6 : Nat := 25
theorem cl_J6 : CL[ciJ6]? = some (RJ6, TJ6, 3) := rfl
abbrev ciJ8 : Nat := 26
theorem cl_J8 : CL[ciJ8]? = some (RJ8, TJ8, 4) := rfl
abbrev ciJ9 : Nat := 27
theorem cl_J9 : CL[ciJ9]? = some (RJ9, TJ9, 4) := rfl
abbrev ciJ11 : Nat := 28
theorem cl_J11 : CL[ciJ11]? = some (RJ11, TJ11, 5) := rfl
abbrev ciJ14 : Nat := 29
theorem cl_J14 : CL[ciJ14]? = some (RJ14, TJ14, 0) := rfl
abbrev ciJ15 : Nat := 30
theorem cl_J15 : CL[ciJ15]? = some (RJ15, TJ15, 4) := rfl
abbrev ciJ16 : Nat := 31
theorem cl_J16 : CL[ciJ16]? = some (RJ16, TJ16, 0) := rfl
abbrev ciJ21 : Nat := 32
theorem cl_J21 : CL[ciJ21]? = some (RJ21, TJ21, 2) := rfl
abbrev ciJ23 : Nat := 33
theorem cl_J23 : CL[ciJ23]? = some (RJ23, TJ23, 5) := rfl
abbrev ciJ25 : Nat := 34
theorem cl_J25 : CL[ciJ25]? = some (RJ25, TJ25, 1) := rfl
abbrev ciJ31 : Nat := 35
theorem cl_J31 : CL[ciJ31]? = some (RJ31, TJ31, 6) := rfl
abbrev ciJ33 : Nat := 36
theorem cl_J33 : CL[ciJ33]? = some (RJ33, TJ33, 0) := rfl
abbrev ciJ35 : Nat := 37
theorem cl_J35 : CL[ciJ35]? = some (RJ35, TJ35, 0) := rfl
abbrev ciJ36 : Nat := 38
theorem cl_J36 : CL[ciJ36]? = some (RJ36, TJ36, 0) := rfl
abbrev ciJ39 : Nat := 39
theorem cl_J39 : CL[ciJ39]? = some (RJ39, TJ39, 0) := rfl
abbrev ciX21 : Nat := 40
theorem cl_X21 : CL[ciX21]? = some (RX21, TX3, 0) := rfl
abbrev TX21 : u_T := TX3
abbrev tyX21 : Nat → FieldType := tyX3
theorem in_X21 : ∀ w ∈ u_ws RX21 TX21 0, w ∈ lw_all := fun w h => (nomatch h)
theorem tyX21_ok : ∀ k, k < 0 → parseFieldDescriptor (TX21 k).2.2.1 = some (tyX21 k) := fun k h => absurd h (Nat.not_lt_zero k)
theorem nmX21 : ∀ a, a < 0 → ∀ b, b < 0 → a ≠ b → (TX21 a).2.1 ≠ (TX21 b).2.1 := fun a h => absurd h (Nat.not_lt_zero a)
