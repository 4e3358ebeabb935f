/-! the river changed at one cell -/
theorem RvO.x_r_a0 {dE : Nat} {I : AI} {S : AL} {r : Nat} {R : Rv} {A : RA} (h : RvO dE I S r R A) : r ≠ A.a0 := ne_val h.h h.h0 ne_rk
theorem RvO.x_r_a1 {dE : Nat} {I : AI} {S : AL} {r : Nat} {R : Rv} {A : RA} (h : RvO dE I S r R A) : r ≠ A.a1 := ne_val h.h h.h1 ne_rk
theorem RvO.x_r_a2 {dE : Nat} {I : AI} {S : AL} {r : Nat} {R : Rv} {A : RA} (h : RvO dE I S r R A) : r ≠ A.a2 := ne_val h.h h.h2 ne_rk
theorem RvO.x_r_a3 {dE : Nat} {I : AI} {S : AL} {r : Nat} {R : Rv} {A : RA} (h : RvO dE I S r R A) : r ≠ A.a3 := ne_val h.h h.h3 ne_rk
theorem RvO.x_r_a4 {dE : Nat} {I : AI} {S : AL} {r : Nat} {R : Rv} {A : RA} (h : RvO dE I S r R A) : r ≠ A.a4 := ne_val h.h h.h4 ne_rk
theorem RvO.x_r_a5 {dE : Nat} {I : AI} {S : AL} {r : Nat} {R : Rv} {A : RA} (h : RvO dE I S r R A) : r ≠ A.a5 := ne_val h.h h.h5 ne_rk
theorem RvO.x_r_a6 {dE : Nat} {I : AI} {S : AL} {r : Nat} {R : Rv} {A : RA} (h : RvO dE I S r R A) : r ≠ A.a6 := ne_val h.h h.h6 (fun e => by cases e)
theorem RvO.x_a0_a1 {dE : Nat} {I : AI} {S : AL} {r : Nat} {R : Rv} {A : RA} (h : RvO dE I S r R A) : A.a0 ≠ A.a1 := h.n01
theorem RvO.x_a0_a2 {dE : Nat} {I : AI} {S : AL} {r : Nat} {R : Rv} {A : RA} (h : RvO dE I S r R A) : A.a0 ≠ A.a2 := h.n02
theorem RvO.x_a0_a3 {dE : Nat} {I : AI} {S : AL} {r : Nat} {R : Rv} {A : RA} (h : RvO dE I S r R A) : A.a0 ≠ A.a3 := ne_val h.h0 h.h3 (ne_kind (by decide))
theorem RvO.x_a0_a4 {dE : Nat} {I : AI} {S : AL} {r : Nat} {R : Rv} {A : RA} (h : RvO dE I S r R A) : A.a0 ≠ A.a4 := ne_val h.h0 h.h4 (ne_kind (by decide))
theorem RvO.x_a0_a5 {dE : Nat} {I : AI} {S : AL} {r : Nat} {R : Rv} {A : RA} (h : RvO dE I S r R A) : A.a0 ≠ A.a5 := ne_val h.h0 h.h5 (ne_kind (by decide))
theorem RvO.x_a0_a6 {dE : Nat} {I : AI} {S : AL} {r : Nat} {R : Rv} {A : RA} (h : RvO dE I S r R A) : A.a0 ≠ A.a6 := ne_val h.h0 h.h6 ne_kr
theorem RvO.x_a1_a2 {dE : Nat} {I : AI} {S : AL} {r : Nat} {R : Rv} {A : RA} (h : RvO dE I S r R A) : A.a1 ≠ A.a2 := h.n12
theorem RvO.x_a1_a3 {dE : Nat} {I : AI} {S : AL} {r : Nat} {R : Rv} {A : RA} (h : RvO dE I S r R A) : A.a1 ≠ A.a3 := ne_val h.h1 h.h3 (ne_kind (by decide))
theorem RvO.x_a1_a4 {dE : Nat} {I : AI} {S : AL} {r : Nat} {R : Rv} {A : RA} (h : RvO dE I S r R A) : A.a1 ≠ A.a4 := ne_val h.h1 h.h4 (ne_kind (by decide))
theorem RvO.x_a1_a5 {dE : Nat} {I : AI} {S : AL} {r : Nat} {R : Rv} {A : RA} (h : RvO dE I S r R A) : A.a1 ≠ A.a5 := ne_val h.h1 h.h5 (ne_kind (by decide))
theorem RvO.x_a1_a6 {dE : Nat} {I : AI} {S : AL} {r : Nat} {R : Rv} {A : RA} (h : RvO dE I S r R A) : A.a1 ≠ A.a6 := ne_val h.h1 h.h6 ne_kr
theorem RvO.x_a2_a3 {dE : Nat} {I : AI} {S : AL} {r : Nat} {R : Rv} {A : RA} (h : RvO dE I S r R A) : A.a2 ≠ A.a3 := ne_val h.h2 h.h3 (ne_kind (by decide))
theorem RvO.x_a2_a4 {dE : Nat} {I : AI} {S : AL} {r : Nat} {R : Rv} {A : RA} (h : RvO dE I S r R A) : A.a2 ≠ A.a4 := ne_val h.h2 h.h4 (ne_kind (by decide))
theorem RvO.x_a2_a5 {dE : Nat} {I : AI} {S : AL} {r : Nat} {R : Rv} {A : RA} (h : RvO dE I S r R A) : A.a2 ≠ A.a5 := ne_val h.h2 h.h5 (ne_kind (by decide))
theorem RvO.x_a2_a6 {dE : Nat} {I : AI} {S : AL} {r : Nat} {R : Rv} {A : RA} (h : RvO dE I S r R A) : A.a2 ≠ A.a6 := ne_val h.h2 h.h6 ne_kr
theorem RvO.x_a3_a4 {dE : Nat} {I : AI} {S : AL} {r : Nat} {R : Rv} {A : RA} (h : RvO dE I S r R A) : A.a3 ≠ A.a4 := h.n34
theorem RvO.x_a3_a5 {dE : Nat} {I : AI} {S : AL} {r : Nat} {R : Rv} {A : RA} (h : RvO dE I S r R A) : A.a3 ≠ A.a5 := h.n35
theorem RvO.x_a3_a6 {dE : Nat} {I : AI} {S : AL} {r : Nat} {R : Rv} {A : RA} (h : RvO dE I S r R A) : A.a3 ≠ A.a6 := ne_val h.h3 h.h6 ne_kr
theorem RvO.x_a4_a5 {dE : Nat} {I : AI} {S : AL} {r : Nat} {R : Rv} {A : RA} (h : RvO dE I S r R A) : A.a4 ≠ A.a5 := h.n45
theorem RvO.x_a4_a6 {dE : Nat} {I : AI} {S : AL} {r : Nat} {R : Rv} {A : RA} (h : RvO dE I S r R A) : A.a4 ≠ A.a6 := ne_val h.h4 h.h6 ne_kr
theorem RvO.x_a5_a6 {dE : Nat} {I : AI} {S : AL} {r : Nat} {R : Rv} {A : RA} (h : RvO dE I S r R A) : A.a5 ≠ A.a6 := ne_val h.h5 h.h6 ne_kr
theorem RvO.sInts {dE : Nat} {I : AI} {S : AL} {r : Nat} {R : Rv} {A : RA} (h : RvO dE I S r R A) (hr st rp ld pd cr : Int32) : RvO dE I (up1 S r (some (obC ciX2 [.ref A.a0, .ref A.a1, .ref A.a2, .ref A.a3, .ref A.a4, .ref A.a5, .ref A.a6, .int hr, .int st, .int rp, .int ld, .int pd, .int cr]))) r ((((((R.wHr hr).wSt st).wRp rp).wLd ld).wPd pd).wCr cr) (A) := ⟨up1_s, (up1_n (h.x_r_a0.symm)).trans h.h0, (up1_n (h.x_r_a1.symm)).trans h.h1, (up1_n (h.x_r_a2.symm)).trans h.h2, (up1_n (h.x_r_a3.symm)).trans h.h3, (up1_n (h.x_r_a4.symm)).trans h.h4, (up1_n (h.x_r_a5.symm)).trans h.h5, (up1_n (h.x_r_a6.symm)).trans h.h6, h.g0, h.g1, h.g2, h.e0, h.e1, h.e2, h.n01, h.n02, h.n12, h.n34, h.n35, h.n45⟩
theorem RvO.sCh {dE : Nat} {I : AI} {S : AL} {r : Nat} {R : Rv} {A : RA} (h : RvO dE I S r R A) {m : Int32} {xs : List Nat} {cs : List T3} (he : Els I ciX6 xs cs) : RvO dE I (up1 S A.a0 (some (liC dE m xs))) r (R.wCh cs) ((A.wM0 m).wXs xs) := ⟨(up1_n (h.x_r_a0)).trans h.h, up1_s, (up1_n (h.x_a0_a1.symm)).trans h.h1, (up1_n (h.x_a0_a2.symm)).trans h.h2, (up1_n (h.x_a0_a3.symm)).trans h.h3, (up1_n (h.x_a0_a4.symm)).trans h.h4, (up1_n (h.x_a0_a5.symm)).trans h.h5, (up1_n (h.x_a0_a6.symm)).trans h.h6, h.g0, h.g1, h.g2, he, h.e1, h.e2, h.n01, h.n02, h.n12, h.n34, h.n35, h.n45⟩
theorem RvO.sFl {dE : Nat} {I : AI} {S : AL} {r : Nat} {R : Rv} {A : RA} (h : RvO dE I S r R A) {m : Int32} {xs : List Nat} {cs : List T3} (he : Els I ciX11 xs cs) : RvO dE I (up1 S A.a1 (some (liC dE m xs))) r (R.wFl cs) ((A.wM1 m).wYs xs) := ⟨(up1_n (h.x_r_a1)).trans h.h, (up1_n (h.x_a0_a1)).trans h.h0, up1_s, (up1_n (h.x_a1_a2.symm)).trans h.h2, (up1_n (h.x_a1_a3.symm)).trans h.h3, (up1_n (h.x_a1_a4.symm)).trans h.h4, (up1_n (h.x_a1_a5.symm)).trans h.h5, (up1_n (h.x_a1_a6.symm)).trans h.h6, h.g0, h.g1, h.g2, h.e0, he, h.e2, h.n01, h.n02, h.n12, h.n34, h.n35, h.n45⟩
theorem RvO.sAn {dE : Nat} {I : AI} {S : AL} {r : Nat} {R : Rv} {A : RA} (h : RvO dE I S r R A) {m : Int32} {xs : List Nat} {cs : List T3} (he : Els I ciX8 xs cs) : RvO dE I (up1 S A.a2 (some (liC dE m xs))) r (R.wAn cs) ((A.wM2 m).wZs xs) := ⟨(up1_n (h.x_r_a2)).trans h.h, (up1_n (h.x_a0_a2)).trans h.h0, (up1_n (h.x_a1_a2)).trans h.h1, up1_s, (up1_n (h.x_a2_a3.symm)).trans h.h3, (up1_n (h.x_a2_a4.symm)).trans h.h4, (up1_n (h.x_a2_a5.symm)).trans h.h5, (up1_n (h.x_a2_a6.symm)).trans h.h6, h.g0, h.g1, h.g2, h.e0, h.e1, he, h.n01, h.n02, h.n12, h.n34, h.n35, h.n45⟩
theorem RvO.sWa {dE : Nat} {I : AI} {S : AL} {r : Nat} {R : Rv} {A : RA} (h : RvO dE I S r R A) (t : Tal) : RvO dE I (up1 S A.a3 (some (taC t))) r (R.wWa t) (A) := ⟨(up1_n (h.x_r_a3)).trans h.h, (up1_n (h.x_a0_a3)).trans h.h0, (up1_n (h.x_a1_a3)).trans h.h1, (up1_n (h.x_a2_a3)).trans h.h2, up1_s, (up1_n (h.x_a3_a4.symm)).trans h.h4, (up1_n (h.x_a3_a5.symm)).trans h.h5, (up1_n (h.x_a3_a6.symm)).trans h.h6, h.g0, h.g1, h.g2, h.e0, h.e1, h.e2, h.n01, h.n02, h.n12, h.n34, h.n35, h.n45⟩
theorem RvO.sFo {dE : Nat} {I : AI} {S : AL} {r : Nat} {R : Rv} {A : RA} (h : RvO dE I S r R A) (t : Tal) : RvO dE I (up1 S A.a4 (some (taC t))) r (R.wFo t) (A) := ⟨(up1_n (h.x_r_a4)).trans h.h, (up1_n (h.x_a0_a4)).trans h.h0, (up1_n (h.x_a1_a4)).trans h.h1, (up1_n (h.x_a2_a4)).trans h.h2, (up1_n (h.x_a3_a4)).trans h.h3, up1_s, (up1_n (h.x_a4_a5.symm)).trans h.h5, (up1_n (h.x_a4_a6.symm)).trans h.h6, h.g0, h.g1, h.g2, h.e0, h.e1, h.e2, h.n01, h.n02, h.n12, h.n34, h.n35, h.n45⟩
theorem RvO.sAf {dE : Nat} {I : AI} {S : AL} {r : Nat} {R : Rv} {A : RA} (h : RvO dE I S r R A) (t : Tal) : RvO dE I (up1 S A.a5 (some (taC t))) r (R.wAf t) (A) := ⟨(up1_n (h.x_r_a5)).trans h.h, (up1_n (h.x_a0_a5)).trans h.h0, (up1_n (h.x_a1_a5)).trans h.h1, (up1_n (h.x_a2_a5)).trans h.h2, (up1_n (h.x_a3_a5)).trans h.h3, (up1_n (h.x_a4_a5)).trans h.h4, up1_s, (up1_n (h.x_a5_a6.symm)).trans h.h6, h.g0, h.g1, h.g2, h.e0, h.e1, h.e2, h.n01, h.n02, h.n12, h.n34, h.n35, h.n45⟩
theorem RvO.sFa {dE : Nat} {I : AI} {S : AL} {r : Nat} {R : Rv} {A : RA} (h : RvO dE I S r R A) {g : Nat → Int32} (v0 v1 v2 : Int32) (e0 : g 0 = v0) (e1 : g 1 = v1) (e2 : g 2 = v2) : RvO dE I (up1 S A.a6 (some (.inl (arI 3 g)))) r (((R.wF0 v0).wF1 v1).wF2 v2) (A.wG g) := ⟨(up1_n (h.x_r_a6)).trans h.h, (up1_n (h.x_a0_a6)).trans h.h0, (up1_n (h.x_a1_a6)).trans h.h1, (up1_n (h.x_a2_a6)).trans h.h2, (up1_n (h.x_a3_a6)).trans h.h3, (up1_n (h.x_a4_a6)).trans h.h4, (up1_n (h.x_a5_a6)).trans h.h5, up1_s, e0, e1, e2, h.e0, h.e1, h.e2, h.n01, h.n02, h.n12, h.n34, h.n35, h.n45⟩
theorem RvO.f_r {L : AL} {dE : Nat} {I : AI} {r : Nat} {R : Rv} {A : RA} (h : RvO dE I L r R A) (c : Option Cel) : Far L (RN r A) (RN r A) (up1 L r c) := Far.rf.up (by simp [RN]) c
theorem RvO.f_a0 {L : AL} {dE : Nat} {I : AI} {r : Nat} {R : Rv} {A : RA} (h : RvO dE I L r R A) (c : Option Cel) : Far L (RN r A) (RN r A) (up1 L A.a0 c) := Far.rf.up (by simp [RN]) c
theorem RvO.f_a1 {L : AL} {dE : Nat} {I : AI} {r : Nat} {R : Rv} {A : RA} (h : RvO dE I L r R A) (c : Option Cel) : Far L (RN r A) (RN r A) (up1 L A.a1 c) := Far.rf.up (by simp [RN]) c
theorem RvO.f_a2 {L : AL} {dE : Nat} {I : AI} {r : Nat} {R : Rv} {A : RA} (h : RvO dE I L r R A) (c : Option Cel) : Far L (RN r A) (RN r A) (up1 L A.a2 c) := Far.rf.up (by simp [RN]) c
theorem RvO.f_a3 {L : AL} {dE : Nat} {I : AI} {r : Nat} {R : Rv} {A : RA} (h : RvO dE I L r R A) (c : Option Cel) : Far L (RN r A) (RN r A) (up1 L A.a3 c) := Far.rf.up (by simp [RN]) c
theorem RvO.f_a4 {L : AL} {dE : Nat} {I : AI} {r : Nat} {R : Rv} {A : RA} (h : RvO dE I L r R A) (c : Option Cel) : Far L (RN r A) (RN r A) (up1 L A.a4 c) := Far.rf.up (by simp [RN]) c
theorem RvO.f_a5 {L : AL} {dE : Nat} {I : AI} {r : Nat} {R : Rv} {A : RA} (h : RvO dE I L r R A) (c : Option Cel) : Far L (RN r A) (RN r A) (up1 L A.a5 c) := Far.rf.up (by simp [RN]) c
theorem RvO.f_a6 {L : AL} {dE : Nat} {I : AI} {r : Nat} {R : Rv} {A : RA} (h : RvO dE I L r R A) (c : Option Cel) : Far L (RN r A) (RN r A) (up1 L A.a6 c) := Far.rf.up (by simp [RN]) c
theorem fp_X2_41_X2 {nm : String} : LkP RX2 nm 41 ciX2 9 (tyX2 9) := ⟨RX2, TX2, 13, tyX2, _, cls_X2, by decide, rfl, Or.inl rfl, Or.inl ⟨rfl, q271⟩⟩
set_option maxHeartbeats 4000000 in
set_option maxRecDepth 100000 in
theorem sp_X2_setRope {l : Launch} {s0 : State} {D : va_G} {I : AI} {L : AL} {dE r : Nat} {R : Rv} {A : RA} (hΓ : Gam l s0 D) (h : RvO dE I L r R A) {n : Int32} : Spc l s0 D yX2_setRope 1 [.ref r, .int n] I L 0 0 (fun q I' L' => q = some (.int R.rp) ∧ ∃ A', RvO dE I' L' r (R.wRp n) A' ∧ Far L (RN r A) (RN r A') L') noX := by
  refine Spc.of hΓ cX2_setRope 3 (some FieldType.int) q2091 (by decide +kernel) (by decide) (Nat.le_of_ble_eq_true rfl) (fun G GX hG => ?_)
  refine hG.aload_n dX2_setRope_0 rfl ?_
  refine hG.get dX2_setRope_1 fg_X2_41_X2 (Or.inl h.h) rfl ?_
  refine hG.istore_n dX2_setRope_4 (by decide) ?_
  refine hG.aload_n dX2_setRope_5 rfl ?_
  refine hG.iload_n dX2_setRope_6 rfl ?_
  refine hG.put dX2_setRope_7 fp_X2_41_X2 h.h rfl rfl (Nat.le_of_ble_eq_true rfl) ?_
  refine hG.iload_n dX2_setRope_10 rfl ?_
  refine hG.iret dX2_setRope_11 rfl ?_ (by omega) (by omega) trivial
  exact ⟨rfl, A, h.sInts R.hr R.st n R.ld R.pd R.cr, h.f_r _⟩
