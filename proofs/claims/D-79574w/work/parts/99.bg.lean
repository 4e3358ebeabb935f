/-! the ferry: groups, numbers, the busiest stop, fares -/
theorem and63 (r : UInt64) : (r &&& 0x7fffffffffffffff).toNat = r.toNat % 2 ^ 63 := by
  rw [UInt64.toNat_and]
  exact Nat.and_two_pow_sub_one_eq_mod r.toNat 63
theorem vf64_of {r : UInt64} (h : r.toNat % 2 ^ 63 ≤ 2047 * 2 ^ 52) : vf_n64 r := by
  show r &&& 0x7fffffffffffffff ≤ 0x7ff0000000000000
  rw [UInt64.le_iff_toNat_le, and63]
  exact h
theorem and31 (r : UInt32) : (r &&& 0x7fffffff).toNat = r.toNat % 2 ^ 31 := by
  rw [UInt32.toNat_and]
  exact Nat.and_two_pow_sub_one_eq_mod r.toNat 31
theorem vf32_of {r : UInt32} (h : r.toNat % 2 ^ 31 ≤ 255 * 2 ^ 23) : vf_n32 r := by
  show r &&& 0x7fffffff ≤ 0x7f800000
  rw [UInt32.le_iff_toNat_le, and31]
  exact h
def isB (R : Rv) (s o : Int32) : Bool := decide (0 < wsum s R.wa - wsum o R.wa) || (decide (wsum s R.wa - wsum o R.wa = 0) && decide (absI (s - R.st) < absI (o - R.st)))
def busC (R : Rv) : Nat → Nat
  | 0 => 0
  | k + 1 => if isB R (nI (k + 1)) (nI (busC R k)) = true then k + 1 else busC R k
theorem busC_le (R : Rv) : ∀ k, busC R k ≤ k
  | 0 => Nat.le_refl _
  | k + 1 => by
    unfold busC
    split
    · exact Nat.le_refl _
    · exact Nat.le_succ_of_le (busC_le R k)
def busG (R : Rv) : Int32 × Int32 := if 0 < tsum false R.wa then (0, nI (busC R R.ch.length)) else (1, 0)
theorem kv_X1_322 : LkV RX1 322 yX2_waitingAt 1 := ⟨q2804, q2805, q2806, q74, by decide +kernel, by decide +kernel, by decide +kernel⟩
theorem fg_X1_325_X2 : LkG RX1 325 ciX2 8 := ⟨RX2, TX2, 13, tyX2, _, cls_X2, by decide, Or.inl rfl, Or.inr ⟨_, q270⟩⟩
set_option maxHeartbeats 4000000 in
set_option maxRecDepth 100000 in
theorem sp_X1_isBusier {l : Launch} {s0 : State} {D : va_G} {I : AI} {L : AL} {dE ca : Nat} {ad : Nat → Nat} (hΓ : Gam l s0 D) (hZ : Std s0 D dE ca ad) {x N : Nat} {F : Fy} {A : FA} (hF : FeO dE I L x F A) (hW : WfF N F) (hN : N ≤ 22) {s t : Int32} : Spc l s0 D yX1_isBusier 9 [.ref x, .int s, .int t] I L 4 14 (fun q I' L' => q = some (.int (b2i (isB F.rv s t))) ∧ L = L') noX := by
  refine Spc.of hΓ cX1_isBusier 4 (some FieldType.boolean) q2803 (by decide +kernel) (by decide) (Nat.le_of_ble_eq_true rfl) (fun G GX hG => ?_)
  obtain ⟨hx, hr, hpq, hpa, hip, hln, hsv, hnd⟩ := id hF
  refine hG.opR hr (fun B M g hf => ?_)
  have hxM := (hf x _ hx (ne_val hx hr (fun e => by cases e))).2
  refine hG.aload_n dX1_isBusier_0 rfl ?_
  refine hG.get dX1_isBusier_1 fg_X1_78_X1 (Or.inl hxM) rfl ?_
  refine hG.iload_n dX1_isBusier_4 rfl ?_
  refine hG.callV dX1_isBusier_5 kv_X1_322 (Rcv.raw g.h cl_X2) (sp_X2_waitingAt hΓ hZ g.h g.h3) rfl rfl (Nat.le_of_ble_eq_true rfl) (by decide) (by omega) (by omega) (fun r5 I5 L5 hI5 h5 => ?_) (fun _ _ _ _ _ h => h.elim)
  obtain ⟨rfl, rfl⟩ := h5
  have g := g.mono hI5 (fun _ _ _ h => h)
  refine hG.aload_n dX1_isBusier_8 rfl ?_
  refine hG.get dX1_isBusier_9 fg_X1_78_X1 (Or.inl hxM) rfl ?_
  refine hG.iload_n dX1_isBusier_12 rfl ?_
  refine hG.callV dX1_isBusier_13 kv_X1_322 (Rcv.raw g.h cl_X2) (sp_X2_waitingAt hΓ hZ g.h g.h3) rfl rfl (Nat.le_of_ble_eq_true rfl) (by decide) (by omega) (by omega) (fun r13 I13 L13 hI13 h13 => ?_) (fun _ _ _ _ _ h => h.elim)
  obtain ⟨rfl, rfl⟩ := h13
  have g := g.mono hI13 (fun _ _ _ h => h)
  refine hG.isub dX1_isBusier_16 ?_
  refine hG.istore_n dX1_isBusier_17 (by decide) ?_
  refine hG.iload_n dX1_isBusier_18 rfl ?_
  refine hG.if_gt (tgt := 53) dX1_isBusier_19 rfl (fun c_19 => ?_) (fun c_19 => ?_)
  · refine hG.iconst (v := 1) dX1_isBusier_53 rfl ?_
    refine hG.goto (tgt := 58) dX1_isBusier_54 rfl ?_
    refine hG.clRs L hr g hf ?_
    refine hG.zret dX1_isBusier_58 rfl rfl ?_ (by omega) (by omega) trivial
    refine ⟨?_, rfl⟩
    first
    | (rw [show isB F.rv s t = true from by unfold isB; rw [decide_eq_true c_19]; rfl]; rfl)
    | (rw [show isB F.rv s t = true from by unfold isB; rw [decide_eq_true c_23, decide_eq_true (Int32.not_le.mp c_50), Bool.and_true, Bool.or_true]]; rfl)
    | (rw [show isB F.rv s t = false from by unfold isB; rw [decide_eq_false c_19, decide_eq_false c_23]; rfl]; rfl)
    | (rw [show isB F.rv s t = false from by unfold isB; rw [decide_eq_false c_19, decide_eq_false (Int32.not_lt.mpr c_50), Bool.and_false]; rfl]; rfl)
  · refine hG.iload_n dX1_isBusier_22 rfl ?_
    refine hG.if_ne (tgt := 57) dX1_isBusier_23 rfl (fun c_23 => ?_) (fun c_23 => ?_)
    · refine hG.iconst (v := 0) dX1_isBusier_57 rfl ?_
      refine hG.clRs L hr g hf ?_
      refine hG.zret dX1_isBusier_58 rfl rfl ?_ (by omega) (by omega) trivial
      refine ⟨?_, rfl⟩
      first
      | (rw [show isB F.rv s t = true from by unfold isB; rw [decide_eq_true c_19]; rfl]; rfl)
      | (rw [show isB F.rv s t = true from by unfold isB; rw [decide_eq_true c_23, decide_eq_true (Int32.not_le.mp c_50), Bool.and_true, Bool.or_true]]; rfl)
      | (rw [show isB F.rv s t = false from by unfold isB; rw [decide_eq_false c_19, decide_eq_false c_23]; rfl]; rfl)
      | (rw [show isB F.rv s t = false from by unfold isB; rw [decide_eq_false c_19, decide_eq_false (Int32.not_lt.mpr c_50), Bool.and_false]; rfl]; rfl)
    · refine hG.iload_n dX1_isBusier_26 rfl ?_
      refine hG.aload_n dX1_isBusier_27 rfl ?_
      refine hG.get dX1_isBusier_28 fg_X1_78_X1 (Or.inl hxM) rfl ?_
      refine hG.get dX1_isBusier_31 fg_X1_325_X2 (Or.inl g.h) rfl ?_
      refine hG.isub dX1_isBusier_34 ?_
      refine hG.mabs dX1_isBusier_35 q2808 (Nat.le_of_ble_eq_true rfl) (by decide) ?_
      refine hG.iload_n dX1_isBusier_38 rfl ?_
      refine hG.aload_n dX1_isBusier_39 rfl ?_
      refine hG.get dX1_isBusier_40 fg_X1_78_X1 (Or.inl hxM) rfl ?_
      refine hG.get dX1_isBusier_43 fg_X1_325_X2 (Or.inl g.h) rfl ?_
      refine hG.isub dX1_isBusier_46 ?_
      refine hG.mabs dX1_isBusier_47 q2808 (Nat.le_of_ble_eq_true rfl) (by decide) ?_
      refine hG.icmp_ge (tgt := 57) dX1_isBusier_50 rfl (fun c_50 => ?_) (fun c_50 => ?_)
      · refine hG.iconst (v := 0) dX1_isBusier_57 rfl ?_
        refine hG.clRs L hr g hf ?_
        refine hG.zret dX1_isBusier_58 rfl rfl ?_ (by omega) (by omega) trivial
        refine ⟨?_, rfl⟩
        first
        | (rw [show isB F.rv s t = true from by unfold isB; rw [decide_eq_true c_19]; rfl]; rfl)
        | (rw [show isB F.rv s t = true from by unfold isB; rw [decide_eq_true c_23, decide_eq_true (Int32.not_le.mp c_50), Bool.and_true, Bool.or_true]]; rfl)
        | (rw [show isB F.rv s t = false from by unfold isB; rw [decide_eq_false c_19, decide_eq_false c_23]; rfl]; rfl)
        | (rw [show isB F.rv s t = false from by unfold isB; rw [decide_eq_false c_19, decide_eq_false (Int32.not_lt.mpr c_50), Bool.and_false]; rfl]; rfl)
      · refine hG.iconst (v := 1) dX1_isBusier_53 rfl ?_
        refine hG.goto (tgt := 58) dX1_isBusier_54 rfl ?_
        refine hG.clRs L hr g hf ?_
        refine hG.zret dX1_isBusier_58 rfl rfl ?_ (by omega) (by omega) trivial
        refine ⟨?_, rfl⟩
        first
        | (rw [show isB F.rv s t = true from by unfold isB; rw [decide_eq_true c_19]; rfl]; rfl)
        | (rw [show isB F.rv s t = true from by unfold isB; rw [decide_eq_true c_23, decide_eq_true (Int32.not_le.mp c_50), Bool.and_true, Bool.or_true]]; rfl)
        | (rw [show isB F.rv s t = false from by unfold isB; rw [decide_eq_false c_19, decide_eq_false c_23]; rfl]; rfl)
        | (rw [show isB F.rv s t = false from by unfold isB; rw [decide_eq_false c_19, decide_eq_false (Int32.not_lt.mpr c_50), Bool.and_false]; rfl]; rfl)
theorem kv_X1_345 : LkV RX1 345 yX1_isBusier 2 := ⟨q2800, q2802, qs19, q73, by decide +kernel, by decide +kernel, by decide +kernel⟩
theorem fg_X1_246_X2 : LkG RX1 246 ciX2 3 := ⟨RX2, TX2, 13, tyX2, _, cls_X2, by decide, Or.inl rfl, Or.inr ⟨_, q260⟩⟩
theorem kv_X1_332 : LkV RX1 332 yX3_all 0 := ⟨q2791, q2792, q2793, q78, by decide +kernel, by decide +kernel, by decide +kernel⟩
set_option maxHeartbeats 4000000 in
set_option maxRecDepth 100000 in
theorem sp_X1_busiest {l : Launch} {s0 : State} {D : va_G} {I : AI} {L : AL} {dE ca : Nat} {ad : Nat → Nat} (hΓ : Gam l s0 D) (hZ : Std s0 D dE ca ad) {x N : Nat} {F : Fy} {A : FA} (hF : FeO dE I L x F A) (hW : WfF N F) (hN : N ≤ 22) : Spc l s0 D yX1_busiest 10 [.ref x] I L 30 110 (pQ (busG F.rv) L) (xE1 RJ16 ((busG F.rv).1) L) := by
  refine Spc.of hΓ cX1_busiest 3 (some FieldType.int) q2790 (by decide +kernel) (by decide) (Nat.le_of_ble_eq_true rfl) (fun G GX hG => ?_)
  obtain ⟨hx, hr, hpq, hpa, hip, hln, hsv, hnd⟩ := id hF
  have h6 := hW.1.ch6
  by_cases hall : 0 < tsum false F.rv.wa
  · refine hG.aload_n dX1_busiest_0 rfl ?_
    refine hG.get dX1_busiest_1 fg_X1_78_X1 (Or.inl hx) rfl ?_
    refine hG.opR hr (fun B M g hf => ?_)
    refine hG.get dX1_busiest_4 fg_X1_246_X2 (Or.inl g.h) rfl ?_
    refine hG.callV dX1_busiest_7 kv_X1_332 (Rcv.ta g.h3) (sp_X3_all hΓ hZ g.h3) rfl rfl (Nat.le_of_ble_eq_true rfl) (by decide) (by omega) (by omega) (fun r7 I7 L7 hI7 h7 => ?_) (fun _ _ _ _ _ h => h.elim)
    obtain ⟨rfl, rfl⟩ := h7
    refine hG.clRs L hr (g.mono hI7 (fun _ _ _ h => h)) hf ?_
    refine hG.if_le (tgt := 17) dX1_busiest_10 rfl (fun c_10 => absurd c_10 (Int32.not_le.mpr hall)) (fun c_10 => ?_)
    refine hG.iconst (v := 1) dX1_busiest_13 rfl ?_
    refine hG.goto (tgt := 18) dX1_busiest_14 rfl ?_
    refine hG.callS dX1_busiest_18 ks_X1_335 (sp_X1_requireElement (b := true) hΓ) rfl rfl (Nat.le_of_ble_eq_true rfl) (by decide) (by omega) (by omega) (fun r18 I18 L18 hI18 h18 => ?_) (fun E q I' L' hI ⟨x1, x2, x3⟩ => absurd x2 (by decide))
    obtain ⟨rfl, -, rfl, rfl⟩ := h18
    refine hG.iconst (v := 0) dX1_busiest_21 rfl ?_
    refine hG.istore_n dX1_busiest_22 (by decide) ?_
    refine hG.iconst (v := 1) dX1_busiest_23 rfl ?_
    refine hG.istore_n dX1_busiest_24 (by decide) ?_
    have loop : ∀ (w i : Nat) (I1 : AI), i + w = F.rv.ch.length → ile I I1 → 0 ≤ i → G 25 [(0, .ref x), (1, .int (nI (busC F.rv i))), (2, .int (nI (i + 1)))] [] I1 L (3 + 4 * i) (13 + 14 * i) := by
      intro w
      induction w with
      | zero =>
        intro i I1 hiw hI9 _
        refine hG.iload_n dX1_busiest_25 rfl ?_
        refine hG.aload_n dX1_busiest_26 rfl ?_
        refine hG.get dX1_busiest_27 fg_X1_78_X1 (Or.inl hx) rfl ?_
        refine hG.opR hr (fun B M g hf => ?_)
        refine hG.get dX1_busiest_30 fg_X1_338_X2 (Or.inl g.h) rfl ?_
        refine hG.callF dX1_busiest_33 kf_X1_342_J2 (Rcv.li g.h0) cl_J2 (sp_J2_size hΓ g.h0) rfl rfl (Nat.le_of_ble_eq_true rfl) (by decide) (by omega) (by omega) (fun r33 I33 L33 hI33 h33 => ?_) (fun _ _ _ _ _ h => h.elim)
        obtain ⟨rfl, rfl, rfl⟩ := h33
        rw [show B.xs.length = F.rv.ch.length from g.e0.len]
        refine hG.clRs L hr g hf ?_
        refine hG.icmp_gt (tgt := 62) dX1_busiest_38 rfl (fun c_38 => ?_) (fun c_38 => absurd (nI_lt (a := F.rv.ch.length) (b := i + 1) (by omega) (by omega)) c_38)
        refine hG.iload_n dX1_busiest_62 rfl ?_
        refine hG.iret dX1_busiest_63 rfl ?_ (by omega) (by omega) trivial
        rw [show i = F.rv.ch.length by omega]
        have hv : busG F.rv = (0, nI (busC F.rv F.rv.ch.length)) := if_pos hall
        exact ⟨by rw [hv], by rw [hv], rfl⟩
      | succ w ih =>
        intro i I1 hiw hI9 _
        refine hG.iload_n dX1_busiest_25 rfl ?_
        refine hG.aload_n dX1_busiest_26 rfl ?_
        refine hG.get dX1_busiest_27 fg_X1_78_X1 (Or.inl hx) rfl ?_
        refine hG.opR hr (fun B M g hf => ?_)
        refine hG.get dX1_busiest_30 fg_X1_338_X2 (Or.inl g.h) rfl ?_
        refine hG.callF dX1_busiest_33 kf_X1_342_J2 (Rcv.li g.h0) cl_J2 (sp_J2_size hΓ g.h0) rfl rfl (Nat.le_of_ble_eq_true rfl) (by decide) (by omega) (by omega) (fun r33 I33 L33 hI33 h33 => ?_) (fun _ _ _ _ _ h => h.elim)
        obtain ⟨rfl, rfl, rfl⟩ := h33
        rw [show B.xs.length = F.rv.ch.length from g.e0.len]
        refine hG.clRs L hr g hf ?_
        refine hG.icmp_gt (tgt := 62) dX1_busiest_38 rfl (fun c_38 => absurd c_38 (nI_nlt (a := F.rv.ch.length) (b := i + 1) (by omega) (by omega))) (fun c_38 => ?_)
        refine hG.aload_n dX1_busiest_41 rfl ?_
        refine hG.iload_n dX1_busiest_42 rfl ?_
        refine hG.iload_n dX1_busiest_43 rfl ?_
        refine hG.callV dX1_busiest_44 kv_X1_345 (Rcv.raw hx cl_X1) (sp_X1_isBusier hΓ hZ (hF.mono hI9 (fun _ _ h => h)) hW hN) rfl rfl (Nat.le_of_ble_eq_true rfl) (by decide) (by omega) (by omega) (fun r44 I44 L44 hI44 h44 => ?_) (fun _ _ _ _ _ h => h.elim)
        obtain ⟨rfl, rfl⟩ := h44
        refine hG.if_eq (tgt := 54) dX1_busiest_47 rfl (fun c_47 => ?_) (fun c_47 => ?_)
        · refine hG.iload_n dX1_busiest_54 rfl ?_
          refine hG.istore_n dX1_busiest_55 (by decide) ?_
          refine hG.iinc dX1_busiest_56 rfl (by decide) ?_
          refine hG.goto (tgt := 25) dX1_busiest_59 rfl ?_
          refine hG.lsb [(0, .ref x), (1, .int (nI (busC F.rv (i + 1)))), (2, .int (nI (i + 1 + 1)))] ⟨rfl, ?_, ?_, trivial⟩ (ih (i + 1) _ (by omega) (ile_tr hI9 hI44) (by omega))
          · first
            | (rw [show busC F.rv (i + 1) = i + 1 from if_pos (b2i_1 c_47)]; rfl)
            | (rw [show busC F.rv (i + 1) = busC F.rv i from if_neg (fun e => bFT (b2i_0 c_47) e)]; rfl)
          · show some (Value.int (nI (i + 1) + Int32.ofInt 1)) = _
            rw [show nI (i + 1) + Int32.ofInt 1 = nI (i + 1 + 1) from nI_add _ 1]
        · refine hG.iload_n dX1_busiest_50 rfl ?_
          refine hG.goto (tgt := 55) dX1_busiest_51 rfl ?_
          refine hG.istore_n dX1_busiest_55 (by decide) ?_
          refine hG.iinc dX1_busiest_56 rfl (by decide) ?_
          refine hG.goto (tgt := 25) dX1_busiest_59 rfl ?_
          refine hG.lsb [(0, .ref x), (1, .int (nI (busC F.rv (i + 1)))), (2, .int (nI (i + 1 + 1)))] ⟨rfl, ?_, ?_, trivial⟩ (ih (i + 1) _ (by omega) (ile_tr hI9 hI44) (by omega))
          · first
            | (rw [show busC F.rv (i + 1) = i + 1 from if_pos (b2i_1 c_47)]; rfl)
            | (rw [show busC F.rv (i + 1) = busC F.rv i from if_neg (fun e => bFT (b2i_0 c_47) e)]; rfl)
          · show some (Value.int (nI (i + 1) + Int32.ofInt 1)) = _
            rw [show nI (i + 1) + Int32.ofInt 1 = nI (i + 1 + 1) from nI_add _ 1]
    exact hG.lsb [(0, .ref x), (1, .int (nI (busC F.rv 0))), (2, .int (nI (0 + 1)))] ⟨rfl, rfl, rfl, trivial⟩ (hG.wid (k' := 3 + 4 * 0) (n' := 13 + 14 * 0) (by omega) (by omega) (loop F.rv.ch.length 0 _ (by omega) hI7 (Nat.le_refl _)))
  · refine hG.aload_n dX1_busiest_0 rfl ?_
    refine hG.get dX1_busiest_1 fg_X1_78_X1 (Or.inl hx) rfl ?_
    refine hG.opR hr (fun B M g hf => ?_)
    refine hG.get dX1_busiest_4 fg_X1_246_X2 (Or.inl g.h) rfl ?_
    refine hG.callV dX1_busiest_7 kv_X1_332 (Rcv.ta g.h3) (sp_X3_all hΓ hZ g.h3) rfl rfl (Nat.le_of_ble_eq_true rfl) (by decide) (by omega) (by omega) (fun r7 I7 L7 hI7 h7 => ?_) (fun _ _ _ _ _ h => h.elim)
    obtain ⟨rfl, rfl⟩ := h7
    refine hG.clRs L hr (g.mono hI7 (fun _ _ _ h => h)) hf ?_
    refine hG.if_le (tgt := 17) dX1_busiest_10 rfl (fun c_10 => ?_) (fun c_10 => absurd (Int32.not_lt.mp hall) c_10)
    refine hG.iconst (v := 0) dX1_busiest_17 rfl ?_
    refine hG.callS dX1_busiest_18 ks_X1_335 (sp_X1_requireElement (b := false) hΓ) rfl rfl (Nat.le_of_ble_eq_true rfl) (by decide) (by omega) (by omega) (fun r18 I18 L18 hI18 h18 => ?_) (fun E q I' L' hI ⟨x1, x2, x3⟩ => hG.out (by simp) ⟨x3, by rw [show busG F.rv = (1, 0) from if_neg hall], x1⟩ (by omega) (by omega) trivial)
    exact absurd h18.2.1 (by decide)
theorem kv_X1_356 : LkV RX1 356 yX2_check 1 := ⟨q2294, q1869, q1870, q74, by decide +kernel, by decide +kernel, by decide +kernel⟩
set_option maxHeartbeats 4000000 in
set_option maxRecDepth 100000 in
theorem sp_X1_why {l : Launch} {s0 : State} {D : va_G} {I : AI} {L : AL} {dE ca : Nat} {ad : Nat → Nat} (hΓ : Gam l s0 D) (hZ : Std s0 D dE ca ad) {x N : Nat} {F : Fy} {A : FA} (hF : FeO dE I L x F A) (hW : WfF N F) (hN : N ≤ 22) {w d9 : Bool} : SpcW l s0 D yX1_why 11 [.ref x, .int (b2i w), .int (b2i d9)] I L 12 70 (fun q I' L' => q = some (.int (whyV F w d9)) ∧ L = L') noX := by
  refine SpcW.of hΓ cX1_why 4 (some FieldType.int) [(0, 9, 10, 16)] q2293 (by decide +kernel) (by decide) (Nat.le_of_ble_eq_true rfl) (fun G GX hG => ?_)
  obtain ⟨hx, hr, hpq, hpa, hip, hln, hsv, hnd⟩ := id hF
  rcases d9 with _ | _
  · refine hG.opR hr (fun B M g hf => ?_)
    have hxM := (hf x _ hx (ne_val hx hr (fun e => by cases e))).2
    have kx5 : ∀ (E : String) (q : Nat) (I' : AI) (L' : AL), ile I I' → (∃ p : Int32 × Int32, chk F.rv w = some p ∧ E = RX7 ∧ M = L' ∧ I' q (rfE p.1 p.2)) → GX 5 (lv_args 0 [.ref x, .int (b2i w), .int (b2i false)]) [] E q I' L' (0 + 12) (0 + 70) := by
      intro E q I' L' hI ⟨p, e1, e2, e3, e4⟩
      subst e2
      subst e3
      refine hG.clRXs L hr (g.mono hI (fun _ _ _ h => h)) hf ?_
      refine hG.catch_ [] { startPc := 0, endPc := 9, handlerPc := 10, catchType := 16 } [] rfl (fun z hz => (nomatch hz)) rfl (by decide) q400 q1698 ?_
      refine hG.astore_n dX1_why_10 (by decide) ?_
      refine hG.iload_n dX1_why_11 rfl ?_
      refine hG.if_eq (tgt := 22) dX1_why_12 rfl (fun c_12 => ?_) (fun c_12 => absurd rfl c_12)
      refine hG.aload_n dX1_why_22 rfl ?_
      refine hG.get dX1_why_23 fg_X1_143_X7 (Or.inr e4) rfl ?_
      refine hG.iret dX1_why_26 rfl ?_ (by omega) (by omega) trivial
      exact ⟨by unfold whyV; rw [e1], rfl⟩
    refine hG.aload_n dX1_why_0 rfl ?_
    refine hG.get dX1_why_1 fg_X1_78_X1 (Or.inl hxM) rfl ?_
    refine hG.iload_n dX1_why_4 rfl ?_
    refine hG.callV dX1_why_5 kv_X1_356 (Rcv.raw g.h cl_X2) (sp_X2_check hΓ hZ g) rfl rfl (Nat.le_of_ble_eq_true rfl) (by decide) (by omega) (by omega) (fun r5 I5 L5 hI5 h5 => ?_) kx5
    obtain ⟨rfl, hck, rfl⟩ := h5
    refine hG.iconst (v := 0) dX1_why_8 rfl ?_
    refine hG.clRs L hr (g.mono hI5 (fun _ _ _ h => h)) hf ?_
    refine hG.iret dX1_why_9 rfl ?_ (by omega) (by omega) trivial
    exact ⟨by unfold whyV; rw [hck], rfl⟩
  · refine hG.opR hr (fun B M g hf => ?_)
    have hxM := (hf x _ hx (ne_val hx hr (fun e => by cases e))).2
    have kx5 : ∀ (E : String) (q : Nat) (I' : AI) (L' : AL), ile I I' → (∃ p : Int32 × Int32, chk F.rv w = some p ∧ E = RX7 ∧ M = L' ∧ I' q (rfE p.1 p.2)) → GX 5 (lv_args 0 [.ref x, .int (b2i w), .int (b2i true)]) [] E q I' L' (0 + 12) (0 + 70) := by
      intro E q I' L' hI ⟨p, e1, e2, e3, e4⟩
      subst e2
      subst e3
      refine hG.clRXs L hr (g.mono hI (fun _ _ _ h => h)) hf ?_
      refine hG.catch_ [] { startPc := 0, endPc := 9, handlerPc := 10, catchType := 16 } [] rfl (fun z hz => (nomatch hz)) rfl (by decide) q400 q1698 ?_
      refine hG.astore_n dX1_why_10 (by decide) ?_
      refine hG.iload_n dX1_why_11 rfl ?_
      refine hG.if_eq (tgt := 22) dX1_why_12 rfl (fun c_12 => absurd c_12 (by decide)) (fun c_12 => ?_)
      refine hG.aload_n dX1_why_15 rfl ?_
      refine hG.get dX1_why_16 fg_X1_144_X7 (Or.inr e4) rfl ?_
      refine hG.goto (tgt := 26) dX1_why_19 rfl ?_
      refine hG.iret dX1_why_26 rfl ?_ (by omega) (by omega) trivial
      exact ⟨by unfold whyV; rw [e1], rfl⟩
    refine hG.aload_n dX1_why_0 rfl ?_
    refine hG.get dX1_why_1 fg_X1_78_X1 (Or.inl hxM) rfl ?_
    refine hG.iload_n dX1_why_4 rfl ?_
    refine hG.callV dX1_why_5 kv_X1_356 (Rcv.raw g.h cl_X2) (sp_X2_check hΓ hZ g) rfl rfl (Nat.le_of_ble_eq_true rfl) (by decide) (by omega) (by omega) (fun r5 I5 L5 hI5 h5 => ?_) kx5
    obtain ⟨rfl, hck, rfl⟩ := h5
    refine hG.iconst (v := 0) dX1_why_8 rfl ?_
    refine hG.clRs L hr (g.mono hI5 (fun _ _ _ h => h)) hf ?_
    refine hG.iret dX1_why_9 rfl ?_ (by omega) (by omega) trivial
    exact ⟨by unfold whyV; rw [hck], rfl⟩
