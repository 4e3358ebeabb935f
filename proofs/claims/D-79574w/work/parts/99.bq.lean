/-! the ferry: fares and weights told as quotients -/
abbrev meaV (R : Rv) : UInt64 := FP.ddiv (FP.i2d R.pd) (FP.i2d R.ld)
abbrev forV (R : Rv) : UInt32 := FP.fdiv (FP.i2f (tsum true R.fo)) (FP.i2f (ldR R))
theorem for_num {N : Nat} {R : Rv} (h : Wf N R) (hN : N ≤ 400) (h0 : ldR R ≠ 0) : vf_n32 (forV R) ∧ vf_n64 (FP.f2d (forV R)) := by
  have e0 := ld_int h (by omega)
  have l1 := h.ln
  have e1 := tsum_int h.fo.ps (by omega)
  have b1 := isum_bd h.fo.ps
  have b2 := isum_bd h.af.ps
  have q2 := i_le.mp h.ld.2
  rw [tlt60] at q2
  refine fdiv_num (by omega) (by omega) ?_ (by omega)
  have : (ldR R).toInt ≠ 0 := fun e => h0 (Int32.toInt_inj.mp (by rw [e, tlt0]))
  omega
set_option maxHeartbeats 4000000 in
set_option maxRecDepth 100000 in
theorem sp_X1_meanFare {l : Launch} {s0 : State} {D : va_G} {I : AI} {L : AL} {dE ca : Nat} {ad : Nat → Nat} (hΓ : Gam l s0 D) (hZ : Std s0 D dE ca ad) {x N : Nat} {F : Fy} {A : FA} (hF : FeO dE I L x F A) (hW : WfF N F) (hN : N ≤ 22) : Spc l s0 D yX1_meanFare 8 [.ref x] I L 1 6 (fun q _ L' => F.rv.ld ≠ 0 ∧ q = some (.double (meaV F.rv)) ∧ L = L') (fun E _ _ L' => L = L' ∧ E = RJ39 ∧ F.rv.ld = 0) := by
  refine Spc.of hΓ cX1_meanFare 1 (some FieldType.double) q2893 (by decide +kernel) (by decide) (Nat.le_of_ble_eq_true rfl) (fun G GX hG => ?_)
  obtain ⟨hx, hr, hpq, hpa, hip, hln, hsv, hnd⟩ := id hF
  by_cases h0 : F.rv.ld = 0
  · refine hG.opR hr (fun B M g hf => ?_)
    have hxM := (hf x _ hx (ne_val hx hr (fun e => by cases e))).2
    refine hG.aload_n dX1_meanFare_0 rfl ?_
    refine hG.get dX1_meanFare_1 fg_X1_78_X1 (Or.inl hxM) rfl ?_
    refine hG.get dX1_meanFare_4 fg_X1_373_X2 (Or.inl g.h) rfl ?_
    refine hG.if_ne (tgt := 18) dX1_meanFare_7 rfl (fun c_7 => absurd h0 c_7) (fun c_7 => ?_)
    refine hG.clRs L hr g hf ?_
    refine hG.newE dX1_meanFare_10 dX1_meanFare_13 dX1_meanFare_14 le_J39 cl_J39 (by decide) (by decide) (by omega) (by omega) (fun q9 hLq9 hIq9 => ?_)
    refine hG.fr up1_s ?_
    rw [up1_up1, up_nn hLq9]
    refine hG.athrow dX1_meanFare_17 (Rcv.imm frI_s cl_J39) ?_
    exact hG.out (by simp) ⟨rfl, rfl, h0⟩ (by omega) (by omega) trivial
  · refine hG.opR hr (fun B M g hf => ?_)
    have hxM := (hf x _ hx (ne_val hx hr (fun e => by cases e))).2
    refine hG.aload_n dX1_meanFare_0 rfl ?_
    refine hG.get dX1_meanFare_1 fg_X1_78_X1 (Or.inl hxM) rfl ?_
    refine hG.get dX1_meanFare_4 fg_X1_373_X2 (Or.inl g.h) rfl ?_
    refine hG.if_ne (tgt := 18) dX1_meanFare_7 rfl (fun c_7 => ?_) (fun c_7 => absurd c_7 h0)
    refine hG.aload_n dX1_meanFare_18 rfl ?_
    refine hG.get dX1_meanFare_19 fg_X1_78_X1 (Or.inl hxM) rfl ?_
    refine hG.get dX1_meanFare_22 fg_X1_376_X2 (Or.inl g.h) rfl ?_
    refine hG.i2d dX1_meanFare_25 ?_
    refine hG.aload_n dX1_meanFare_26 rfl ?_
    refine hG.get dX1_meanFare_27 fg_X1_78_X1 (Or.inl hxM) rfl ?_
    refine hG.get dX1_meanFare_30 fg_X1_373_X2 (Or.inl g.h) rfl ?_
    refine hG.i2d dX1_meanFare_33 ?_
    refine hG.ddiv dX1_meanFare_34 (ddiv_num h0) ?_
    refine hG.clRs L hr g hf ?_
    refine hG.dret dX1_meanFare_35 rfl ?_ (by omega) (by omega) trivial
    exact ⟨h0, rfl, rfl⟩
theorem kv_X1_387 : LkV RX1 387 yX2_load 0 := ⟨q2906, q1785, q1786, q74, by decide +kernel, by decide +kernel, by decide +kernel⟩
set_option maxHeartbeats 4000000 in
set_option maxRecDepth 100000 in
theorem sp_X1_fore {l : Launch} {s0 : State} {D : va_G} {I : AI} {L : AL} {dE ca : Nat} {ad : Nat → Nat} (hΓ : Gam l s0 D) (hZ : Std s0 D dE ca ad) {x N : Nat} {F : Fy} {A : FA} (hF : FeO dE I L x F A) (hW : WfF N F) (hN : N ≤ 22) : Spc l s0 D yX1_fore 10 [.ref x] I L 11 36 (fun q _ L' => ldR F.rv ≠ 0 ∧ q = some (.float (forV F.rv)) ∧ L = L') (fun E _ _ L' => L = L' ∧ E = RJ39 ∧ ldR F.rv = 0) := by
  refine Spc.of hΓ cX1_fore 1 (some FieldType.float) q2905 (by decide +kernel) (by decide) (Nat.le_of_ble_eq_true rfl) (fun G GX hG => ?_)
  obtain ⟨hx, hr, hpq, hpa, hip, hln, hsv, hnd⟩ := id hF
  by_cases h0 : ldR F.rv = 0
  · refine hG.opR hr (fun B M g hf => ?_)
    have hxM := (hf x _ hx (ne_val hx hr (fun e => by cases e))).2
    refine hG.aload_n dX1_fore_0 rfl ?_
    refine hG.get dX1_fore_1 fg_X1_78_X1 (Or.inl hxM) rfl ?_
    refine hG.callV dX1_fore_4 kv_X1_387 (Rcv.raw g.h cl_X2) (sp_X2_load hΓ hZ g) rfl rfl (Nat.le_of_ble_eq_true rfl) (by decide) (by omega) (by omega) (fun r4 I4 L4 hI4 h4 => ?_) (fun _ _ _ _ _ h => h.elim)
    obtain ⟨rfl, rfl⟩ := h4
    have g := g.mono hI4 (fun _ _ _ h => h)
    refine hG.if_ne (tgt := 18) dX1_fore_7 rfl (fun c_7 => absurd h0 c_7) (fun c_7 => ?_)
    refine hG.clRs L hr g hf ?_
    refine hG.newE dX1_fore_10 dX1_fore_13 dX1_fore_14 le_J39 cl_J39 (by decide) (by decide) (by omega) (by omega) (fun q9 hLq9 hIq9 => ?_)
    refine hG.fr up1_s ?_
    rw [up1_up1, up_nn hLq9]
    refine hG.athrow dX1_fore_17 (Rcv.imm frI_s cl_J39) ?_
    exact hG.out (by simp) ⟨rfl, rfl, h0⟩ (by omega) (by omega) trivial
  · refine hG.opR hr (fun B M g hf => ?_)
    have hxM := (hf x _ hx (ne_val hx hr (fun e => by cases e))).2
    refine hG.aload_n dX1_fore_0 rfl ?_
    refine hG.get dX1_fore_1 fg_X1_78_X1 (Or.inl hxM) rfl ?_
    refine hG.callV dX1_fore_4 kv_X1_387 (Rcv.raw g.h cl_X2) (sp_X2_load hΓ hZ g) rfl rfl (Nat.le_of_ble_eq_true rfl) (by decide) (by omega) (by omega) (fun r4 I4 L4 hI4 h4 => ?_) (fun _ _ _ _ _ h => h.elim)
    obtain ⟨rfl, rfl⟩ := h4
    have g := g.mono hI4 (fun _ _ _ h => h)
    refine hG.if_ne (tgt := 18) dX1_fore_7 rfl (fun c_7 => ?_) (fun c_7 => absurd c_7 h0)
    refine hG.aload_n dX1_fore_18 rfl ?_
    refine hG.get dX1_fore_19 fg_X1_78_X1 (Or.inl hxM) rfl ?_
    refine hG.get dX1_fore_22 fg_X1_256_X2 (Or.inl g.h) rfl ?_
    refine hG.callV dX1_fore_25 kv_X1_372 (Rcv.ta g.h4) (sp_X3_weight hΓ hZ g.h4) rfl rfl (Nat.le_of_ble_eq_true rfl) (by decide) (by omega) (by omega) (fun r25 I25 L25 hI25 h25 => ?_) (fun _ _ _ _ _ h => h.elim)
    obtain ⟨rfl, rfl⟩ := h25
    have g := g.mono hI25 (fun _ _ _ h => h)
    refine hG.i2f dX1_fore_28 ?_
    refine hG.aload_n dX1_fore_29 rfl ?_
    refine hG.get dX1_fore_30 fg_X1_78_X1 (Or.inl hxM) rfl ?_
    refine hG.callV dX1_fore_33 kv_X1_387 (Rcv.raw g.h cl_X2) (sp_X2_load hΓ hZ g) rfl rfl (Nat.le_of_ble_eq_true rfl) (by decide) (by omega) (by omega) (fun r33 I33 L33 hI33 h33 => ?_) (fun _ _ _ _ _ h => h.elim)
    obtain ⟨rfl, rfl⟩ := h33
    have g := g.mono hI33 (fun _ _ _ h => h)
    refine hG.i2f dX1_fore_36 ?_
    refine hG.fdiv dX1_fore_37 (for_num hW.1 (by omega) h0).1 ?_
    refine hG.clRs L hr g hf ?_
    refine hG.fret dX1_fore_38 rfl ?_ (by omega) (by omega) trivial
    exact ⟨h0, rfl, rfl⟩
