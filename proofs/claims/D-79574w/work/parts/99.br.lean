/-! quotients of the model -/
def pMd (N : Nat) (I : AI) (L : AL) (m : Nat) (A : MA) (F : Fy) : Option Value → AI → AL → Prop := fun q I' L' => I = I' ∧ ∃ (V : MV) (w : UInt64), L' = mdL L m A V ∧ q = some (.double w) ∧ Mr N F V ∧ ((F.rv.ld = 0 ∧ V.th = 1) ∨ (F.rv.ld ≠ 0 ∧ V.th = 0 ∧ w = meaV F.rv))
def pMf (N : Nat) (I : AI) (L : AL) (m : Nat) (A : MA) (F : Fy) : Option Value → AI → AL → Prop := fun q I' L' => I = I' ∧ ∃ (V : MV) (w : UInt32), L' = mdL L m A V ∧ q = some (.float w) ∧ Mr N F V ∧ ((ldR F.rv = 0 ∧ V.th = 1) ∨ (ldR F.rv ≠ 0 ∧ V.th = 0 ∧ w = forV F.rv))
set_option maxHeartbeats 4000000 in
set_option maxRecDepth 100000 in
theorem sp_X4_meanFare {l : Launch} {s0 : State} {D : va_G} {I : AI} {L : AL} {m : Nat} {A : MA} {V : MV} {N : Nat} {F : Fy} (hΓ : Gam l s0 D) (hA : MOk m A) (hM : Mr N F V) (hW : WfF N F) : Spc l s0 D yX4_meanFare 9 [.ref m] I (mdL L m A V) 0 0 (pMd N I L m A F) noX := by
  refine Spc.of hΓ cX4_meanFare 1 (some FieldType.double) q3587 (by decide +kernel) (by decide) (Nat.le_of_ble_eq_true rfl) (fun G GX hG => ?_)
  by_cases h0 : F.rv.ld = 0
  · refine hG.aload_n dX4_meanFare_0 rfl ?_
    refine hG.iconst (v := 0) dX4_meanFare_1 rfl ?_
    refine hG.put dX4_meanFare_2 fp_X4_58_X4 mdL_m rfl rfl (Nat.le_of_ble_eq_true rfl) ?_
    refine hG.mp_th ?_
    have hM1 : Mr N F (V.wTh 0) := hM.eqv ⟨rfl, rfl, rfl, rfl, rfl⟩ mv_nw_wTh mv_kp_wTh mv_un_wTh mv_le_wTh mv_tx_wTh mv_ld_wTh mv_ln_wTh (mv_fa_wTh.trans hM.efa) (mv_re_wTh.trans hM.ere) (mv_de_wTh.trans hM.ede) mv_is_wTh mv_sv_wTh
    have hth : (V.wTh 0).th = 0 := mv_th_wTh
    generalize V.wTh 0 = V1 at hM1 hth ⊢
    refine hG.aload_n dX4_meanFare_5 rfl ?_
    refine hG.get dX4_meanFare_6 fg_X4_21_X4 (Or.inl mdL_m) rfl ?_
    refine hG.bipush (v := 6) dX4_meanFare_9 rfl ?_
    refine hG.nld hA (6) dX4_meanFare_11 rfl (by omega) (v := F.rv.ld) (hM1.1.k6) ?_
    refine hG.if_ne (tgt := 24) dX4_meanFare_12 rfl (fun c_12 => absurd h0 c_12) (fun c_12 => ?_)
    refine hG.aload_n dX4_meanFare_15 rfl ?_
    refine hG.iconst (v := 1) dX4_meanFare_16 rfl ?_
    refine hG.callV dX4_meanFare_17 kv_X4_77 (Rcv.raw mdL_m cl_X4) (sp_X4_raises hΓ) rfl rfl (Nat.le_of_ble_eq_true rfl) (by decide) (by omega) (by omega) (fun r17 I17 L17 hI17 h17 => ?_) (fun _ _ _ _ _ h => h.elim)
    obtain ⟨rfl, rfl, rfl⟩ := h17
    refine hG.i2d dX4_meanFare_20 ?_
    refine hG.goto (tgt := 41) dX4_meanFare_21 rfl ?_
    refine hG.dret dX4_meanFare_41 rfl ?_ (by omega) (by omega) trivial
    exact ⟨rfl, _, _, rfl, rfl, hM1.eqv ⟨rfl, rfl, rfl, rfl, rfl⟩ mv_nw_wTh mv_kp_wTh mv_un_wTh mv_le_wTh mv_tx_wTh mv_ld_wTh mv_ln_wTh (mv_fa_wTh.trans hM1.efa) (mv_re_wTh.trans hM1.ere) (mv_de_wTh.trans hM1.ede) mv_is_wTh mv_sv_wTh, Or.inl ⟨h0, mv_th_wTh⟩⟩
  · refine hG.aload_n dX4_meanFare_0 rfl ?_
    refine hG.iconst (v := 0) dX4_meanFare_1 rfl ?_
    refine hG.put dX4_meanFare_2 fp_X4_58_X4 mdL_m rfl rfl (Nat.le_of_ble_eq_true rfl) ?_
    refine hG.mp_th ?_
    have hM1 : Mr N F (V.wTh 0) := hM.eqv ⟨rfl, rfl, rfl, rfl, rfl⟩ mv_nw_wTh mv_kp_wTh mv_un_wTh mv_le_wTh mv_tx_wTh mv_ld_wTh mv_ln_wTh (mv_fa_wTh.trans hM.efa) (mv_re_wTh.trans hM.ere) (mv_de_wTh.trans hM.ede) mv_is_wTh mv_sv_wTh
    have hth : (V.wTh 0).th = 0 := mv_th_wTh
    generalize V.wTh 0 = V1 at hM1 hth ⊢
    refine hG.aload_n dX4_meanFare_5 rfl ?_
    refine hG.get dX4_meanFare_6 fg_X4_21_X4 (Or.inl mdL_m) rfl ?_
    refine hG.bipush (v := 6) dX4_meanFare_9 rfl ?_
    refine hG.nld hA (6) dX4_meanFare_11 rfl (by omega) (v := F.rv.ld) (hM1.1.k6) ?_
    refine hG.if_ne (tgt := 24) dX4_meanFare_12 rfl (fun c_12 => ?_) (fun c_12 => absurd c_12 h0)
    refine hG.aload_n dX4_meanFare_24 rfl ?_
    refine hG.get dX4_meanFare_25 fg_X4_21_X4 (Or.inl mdL_m) rfl ?_
    refine hG.bipush (v := 7) dX4_meanFare_28 rfl ?_
    refine hG.nld hA (7) dX4_meanFare_30 rfl (by omega) (v := F.rv.pd) (hM1.1.k7) ?_
    refine hG.i2d dX4_meanFare_31 ?_
    refine hG.aload_n dX4_meanFare_32 rfl ?_
    refine hG.get dX4_meanFare_33 fg_X4_21_X4 (Or.inl mdL_m) rfl ?_
    refine hG.bipush (v := 6) dX4_meanFare_36 rfl ?_
    refine hG.nld hA (6) dX4_meanFare_38 rfl (by omega) (v := F.rv.ld) (hM1.1.k6) ?_
    refine hG.i2d dX4_meanFare_39 ?_
    refine hG.ddiv dX4_meanFare_40 (ddiv_num h0) ?_
    refine hG.dret dX4_meanFare_41 rfl ?_ (by omega) (by omega) trivial
    exact ⟨rfl, _, _, rfl, rfl, hM1, Or.inr ⟨h0, hth, rfl⟩⟩
set_option maxHeartbeats 4000000 in
set_option maxRecDepth 100000 in
theorem sp_X4_fore {l : Launch} {s0 : State} {D : va_G} {I : AI} {L : AL} {m : Nat} {A : MA} {V : MV} {N : Nat} {F : Fy} (hΓ : Gam l s0 D) (hA : MOk m A) (hM : Mr N F V) (hW : WfF N F) (hN : N ≤ 400) : Spc l s0 D yX4_fore 9 [.ref m] I (mdL L m A V) 0 0 (pMf N I L m A F) noX := by
  refine Spc.of hΓ cX4_fore 1 (some FieldType.float) q3591 (by decide +kernel) (by decide) (Nat.le_of_ble_eq_true rfl) (fun G GX hG => ?_)
  by_cases h0 : ldR F.rv = 0
  · refine hG.aload_n dX4_fore_0 rfl ?_
    refine hG.iconst (v := 0) dX4_fore_1 rfl ?_
    refine hG.put dX4_fore_2 fp_X4_58_X4 mdL_m rfl rfl (Nat.le_of_ble_eq_true rfl) ?_
    refine hG.mp_th ?_
    have hM1 : Mr N F (V.wTh 0) := hM.eqv ⟨rfl, rfl, rfl, rfl, rfl⟩ mv_nw_wTh mv_kp_wTh mv_un_wTh mv_le_wTh mv_tx_wTh mv_ld_wTh mv_ln_wTh (mv_fa_wTh.trans hM.efa) (mv_re_wTh.trans hM.ere) (mv_de_wTh.trans hM.ede) mv_is_wTh mv_sv_wTh
    have hth : (V.wTh 0).th = 0 := mv_th_wTh
    generalize V.wTh 0 = V1 at hM1 hth ⊢
    refine hG.aload_n dX4_fore_5 rfl ?_
    refine hG.callV dX4_fore_6 kv_X4_142 (Rcv.raw mdL_m cl_X4) (sp_X4_aboard (N := N) (R := F.rv) (V := V1) hΓ hA hM1.1 hW.1) rfl rfl (Nat.le_of_ble_eq_true rfl) (by decide) (by omega) (by omega) (fun r6 I6 L6 hI6 h6 => ?_) (fun _ _ _ _ _ h => h.elim)
    obtain ⟨rfl, rfl, rfl⟩ := h6
    refine hG.if_ne (tgt := 21) dX4_fore_9 rfl (fun c_9 => absurd h0 c_9) (fun c_9 => ?_)
    refine hG.aload_n dX4_fore_12 rfl ?_
    refine hG.iconst (v := 1) dX4_fore_13 rfl ?_
    refine hG.callV dX4_fore_14 kv_X4_77 (Rcv.raw mdL_m cl_X4) (sp_X4_raises hΓ) rfl rfl (Nat.le_of_ble_eq_true rfl) (by decide) (by omega) (by omega) (fun r14 I14 L14 hI14 h14 => ?_) (fun _ _ _ _ _ h => h.elim)
    obtain ⟨rfl, rfl, rfl⟩ := h14
    refine hG.i2f dX4_fore_17 ?_
    refine hG.goto (tgt := 35) dX4_fore_18 rfl ?_
    refine hG.fret dX4_fore_35 rfl ?_ (by omega) (by omega) trivial
    exact ⟨rfl, _, _, rfl, rfl, hM1.eqv ⟨rfl, rfl, rfl, rfl, rfl⟩ mv_nw_wTh mv_kp_wTh mv_un_wTh mv_le_wTh mv_tx_wTh mv_ld_wTh mv_ln_wTh (mv_fa_wTh.trans hM1.efa) (mv_re_wTh.trans hM1.ere) (mv_de_wTh.trans hM1.ede) mv_is_wTh mv_sv_wTh, Or.inl ⟨h0, mv_th_wTh⟩⟩
  · refine hG.aload_n dX4_fore_0 rfl ?_
    refine hG.iconst (v := 0) dX4_fore_1 rfl ?_
    refine hG.put dX4_fore_2 fp_X4_58_X4 mdL_m rfl rfl (Nat.le_of_ble_eq_true rfl) ?_
    refine hG.mp_th ?_
    have hM1 : Mr N F (V.wTh 0) := hM.eqv ⟨rfl, rfl, rfl, rfl, rfl⟩ mv_nw_wTh mv_kp_wTh mv_un_wTh mv_le_wTh mv_tx_wTh mv_ld_wTh mv_ln_wTh (mv_fa_wTh.trans hM.efa) (mv_re_wTh.trans hM.ere) (mv_de_wTh.trans hM.ede) mv_is_wTh mv_sv_wTh
    have hth : (V.wTh 0).th = 0 := mv_th_wTh
    generalize V.wTh 0 = V1 at hM1 hth ⊢
    refine hG.aload_n dX4_fore_5 rfl ?_
    refine hG.callV dX4_fore_6 kv_X4_142 (Rcv.raw mdL_m cl_X4) (sp_X4_aboard (N := N) (R := F.rv) (V := V1) hΓ hA hM1.1 hW.1) rfl rfl (Nat.le_of_ble_eq_true rfl) (by decide) (by omega) (by omega) (fun r6 I6 L6 hI6 h6 => ?_) (fun _ _ _ _ _ h => h.elim)
    obtain ⟨rfl, rfl, rfl⟩ := h6
    refine hG.if_ne (tgt := 21) dX4_fore_9 rfl (fun c_9 => ?_) (fun c_9 => absurd c_9 h0)
    refine hG.aload_n dX4_fore_21 rfl ?_
    refine hG.sipush (v := 358) dX4_fore_22 rfl ?_
    refine hG.callV dX4_fore_25 kv_X4_139 (Rcv.raw mdL_m cl_X4) (sp_X4_weightOf (row := 358) (t := F.rv.fo) (V := V1) hΓ hA (by decide) (fun c hc => hM1.1.fo hc) hW.1.fo) rfl rfl (Nat.le_of_ble_eq_true rfl) (by decide) (by omega) (by omega) (fun r25 I25 L25 hI25 h25 => ?_) (fun _ _ _ _ _ h => h.elim)
    obtain ⟨rfl, rfl, rfl⟩ := h25
    refine hG.i2f dX4_fore_28 ?_
    refine hG.aload_n dX4_fore_29 rfl ?_
    refine hG.callV dX4_fore_30 kv_X4_142 (Rcv.raw mdL_m cl_X4) (sp_X4_aboard (N := N) (R := F.rv) (V := V1) hΓ hA hM1.1 hW.1) rfl rfl (Nat.le_of_ble_eq_true rfl) (by decide) (by omega) (by omega) (fun r30 I30 L30 hI30 h30 => ?_) (fun _ _ _ _ _ h => h.elim)
    obtain ⟨rfl, rfl, rfl⟩ := h30
    refine hG.i2f dX4_fore_33 ?_
    refine hG.fdiv dX4_fore_34 (for_num hW.1 hN h0).1 ?_
    refine hG.fret dX4_fore_35 rfl ?_ (by omega) (by omega) trivial
    exact ⟨rfl, _, _, rfl, rfl, hM1, Or.inr ⟨h0, hth, rfl⟩⟩
