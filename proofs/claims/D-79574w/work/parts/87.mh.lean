/-! faults, refusals, snapshots, undo of the model -/
theorem fg_X4_54_X4 : LkG RX4 54 ciX4 16 := ⟨RX4, TX4, 21, tyX4, _, cls_X4, by decide, Or.inl rfl, Or.inl q3286⟩
set_option maxHeartbeats 4000000 in
set_option maxRecDepth 100000 in
theorem sp_X4_faultPosition {l : Launch} {s0 : State} {D : va_G} {I : AI} {L : AL} {m : Nat} {A : MA} {V : MV} {N : Nat} {F : Fy} (hΓ : Gam l s0 D) (hA : MOk m A) (hM : Mr N F V) (hW : WfF N F)  : Spc l s0 D yX4_faultPosition 9 [.ref m] I (mdL L m A V) 0 0 (pMq N I L m A (F) (if F.fa < 0 then 1 else 0) (F.fa)) noX := by
  refine Spc.of hΓ cX4_faultPosition 1 (some FieldType.int) q3636 (by decide +kernel) (by decide) (Nat.le_of_ble_eq_true rfl) (fun G GX hG => ?_)
  by_cases hf : F.fa < 0
  · refine hG.aload_n dX4_faultPosition_0 rfl ?_
    refine hG.iconst (v := 0) dX4_faultPosition_1 rfl ?_
    refine hG.put dX4_faultPosition_2 fp_X4_58_X4 mdL_m rfl rfl (Nat.le_of_ble_eq_true rfl) ?_
    refine hG.mp_th ?_
    have hM1 : Mr N F (V.wTh 0) := hM.eqv ⟨rfl, rfl, rfl, rfl, rfl⟩ mv_nw_wTh mv_kp_wTh mv_un_wTh mv_le_wTh mv_tx_wTh mv_ld_wTh mv_ln_wTh (mv_fa_wTh.trans hM.efa) (mv_re_wTh.trans hM.ere) (mv_de_wTh.trans hM.ede) mv_is_wTh mv_sv_wTh
    have hth : (V.wTh 0).th = 0 := mv_th_wTh
    generalize V.wTh 0 = V1 at hM1 hth ⊢
    refine hG.aload_n dX4_faultPosition_5 rfl ?_
    refine hG.get dX4_faultPosition_6 fg_X4_54_X4 (Or.inl mdL_m) rfl ?_
    rw [hM1.efa]
    refine hG.if_ge (tgt := 20) dX4_faultPosition_9 rfl (fun c_9 => absurd c_9 (lt_not.mp hf)) (fun c_9 => ?_)
    refine hG.aload_n dX4_faultPosition_12 rfl ?_
    refine hG.iconst (v := 1) dX4_faultPosition_13 rfl ?_
    refine hG.callV dX4_faultPosition_14 kv_X4_77 (Rcv.raw mdL_m cl_X4) (sp_X4_raises hΓ) rfl rfl (Nat.le_of_ble_eq_true rfl) (by decide) (by omega) (by omega) (fun r14 I14 L14 hI14 h14 => ?_) (fun _ _ _ _ _ h => h.elim)
    obtain ⟨rfl, rfl, rfl⟩ := h14
    refine hG.goto (tgt := 24) dX4_faultPosition_17 rfl ?_
    refine hG.iret dX4_faultPosition_24 rfl ?_ (by omega) (by omega) trivial
    rw [if_pos hf]
    exact pMq.mk (hM1.eqv ⟨rfl, rfl, rfl, rfl, rfl⟩ mv_nw_wTh mv_kp_wTh mv_un_wTh mv_le_wTh mv_tx_wTh mv_ld_wTh mv_ln_wTh (mv_fa_wTh.trans hM1.efa) (mv_re_wTh.trans hM1.ere) (mv_de_wTh.trans hM1.ede) mv_is_wTh mv_sv_wTh) mv_th_wTh (fun e => absurd (show (1 : Int32) = 0 from e) (by decide))
  · refine hG.aload_n dX4_faultPosition_0 rfl ?_
    refine hG.iconst (v := 0) dX4_faultPosition_1 rfl ?_
    refine hG.put dX4_faultPosition_2 fp_X4_58_X4 mdL_m rfl rfl (Nat.le_of_ble_eq_true rfl) ?_
    refine hG.mp_th ?_
    have hM1 : Mr N F (V.wTh 0) := hM.eqv ⟨rfl, rfl, rfl, rfl, rfl⟩ mv_nw_wTh mv_kp_wTh mv_un_wTh mv_le_wTh mv_tx_wTh mv_ld_wTh mv_ln_wTh (mv_fa_wTh.trans hM.efa) (mv_re_wTh.trans hM.ere) (mv_de_wTh.trans hM.ede) mv_is_wTh mv_sv_wTh
    have hth : (V.wTh 0).th = 0 := mv_th_wTh
    generalize V.wTh 0 = V1 at hM1 hth ⊢
    refine hG.aload_n dX4_faultPosition_5 rfl ?_
    refine hG.get dX4_faultPosition_6 fg_X4_54_X4 (Or.inl mdL_m) rfl ?_
    rw [hM1.efa]
    refine hG.if_ge (tgt := 20) dX4_faultPosition_9 rfl (fun c_9 => ?_) (fun c_9 => absurd (Int32.not_lt.mp hf) c_9)
    refine hG.aload_n dX4_faultPosition_20 rfl ?_
    refine hG.get dX4_faultPosition_21 fg_X4_54_X4 (Or.inl mdL_m) rfl ?_
    rw [hM1.efa]
    refine hG.iret dX4_faultPosition_24 rfl ?_ (by omega) (by omega) trivial
    rw [if_neg hf]
    exact pMq.mk hM1 hth (fun _ => rfl)
theorem fg_X4_67_X4 : LkG RX4 67 ciX4 17 := ⟨RX4, TX4, 21, tyX4, _, cls_X4, by decide, Or.inl rfl, Or.inl q3287⟩
theorem fg_X4_70_X4 : LkG RX4 70 ciX4 18 := ⟨RX4, TX4, 21, tyX4, _, cls_X4, by decide, Or.inl rfl, Or.inl q3288⟩
set_option maxHeartbeats 4000000 in
set_option maxRecDepth 100000 in
theorem sp_X4_refusal {l : Launch} {s0 : State} {D : va_G} {I : AI} {L : AL} {m : Nat} {A : MA} {V : MV} {N : Nat} {F : Fy} (hΓ : Gam l s0 D) (hA : MOk m A) (hM : Mr N F V) (hW : WfF N F) {w : Bool} : Spc l s0 D yX4_refusal 9 [.ref m, .int (b2i w)] I (mdL L m A V) 0 0 (pMq N I L m A (F) (if F.re = 0 then 1 else 0) (match w with | true => F.re | false => F.de)) noX := by
  refine Spc.of hΓ cX4_refusal 2 (some FieldType.int) q3640 (by decide +kernel) (by decide) (Nat.le_of_ble_eq_true rfl) (fun G GX hG => ?_)
  by_cases hf : F.re = 0
  · refine hG.aload_n dX4_refusal_0 rfl ?_
    refine hG.iconst (v := 0) dX4_refusal_1 rfl ?_
    refine hG.put dX4_refusal_2 fp_X4_58_X4 mdL_m rfl rfl (Nat.le_of_ble_eq_true rfl) ?_
    refine hG.mp_th ?_
    have hM1 : Mr N F (V.wTh 0) := hM.eqv ⟨rfl, rfl, rfl, rfl, rfl⟩ mv_nw_wTh mv_kp_wTh mv_un_wTh mv_le_wTh mv_tx_wTh mv_ld_wTh mv_ln_wTh (mv_fa_wTh.trans hM.efa) (mv_re_wTh.trans hM.ere) (mv_de_wTh.trans hM.ede) mv_is_wTh mv_sv_wTh
    have hth : (V.wTh 0).th = 0 := mv_th_wTh
    generalize V.wTh 0 = V1 at hM1 hth ⊢
    refine hG.aload_n dX4_refusal_5 rfl ?_
    refine hG.get dX4_refusal_6 fg_X4_67_X4 (Or.inl mdL_m) rfl ?_
    rw [hM1.ere]
    refine hG.if_ne (tgt := 18) dX4_refusal_9 rfl (fun c_9 => absurd hf c_9) (fun c_9 => ?_)
    refine hG.aload_n dX4_refusal_12 rfl ?_
    refine hG.iconst (v := 1) dX4_refusal_13 rfl ?_
    refine hG.callV dX4_refusal_14 kv_X4_77 (Rcv.raw mdL_m cl_X4) (sp_X4_raises hΓ) rfl rfl (Nat.le_of_ble_eq_true rfl) (by decide) (by omega) (by omega) (fun r14 I14 L14 hI14 h14 => ?_) (fun _ _ _ _ _ h => h.elim)
    obtain ⟨rfl, rfl, rfl⟩ := h14
    refine hG.iret dX4_refusal_17 rfl ?_ (by omega) (by omega) trivial
    rw [if_pos hf]
    exact pMq.mk (hM1.eqv ⟨rfl, rfl, rfl, rfl, rfl⟩ mv_nw_wTh mv_kp_wTh mv_un_wTh mv_le_wTh mv_tx_wTh mv_ld_wTh mv_ln_wTh (mv_fa_wTh.trans hM1.efa) (mv_re_wTh.trans hM1.ere) (mv_de_wTh.trans hM1.ede) mv_is_wTh mv_sv_wTh) mv_th_wTh (fun e => absurd (show (1 : Int32) = 0 from e) (by decide))
  · rcases w with _ | _
    · refine hG.aload_n dX4_refusal_0 rfl ?_
      refine hG.iconst (v := 0) dX4_refusal_1 rfl ?_
      refine hG.put dX4_refusal_2 fp_X4_58_X4 mdL_m rfl rfl (Nat.le_of_ble_eq_true rfl) ?_
      refine hG.mp_th ?_
      have hM1 : Mr N F (V.wTh 0) := hM.eqv ⟨rfl, rfl, rfl, rfl, rfl⟩ mv_nw_wTh mv_kp_wTh mv_un_wTh mv_le_wTh mv_tx_wTh mv_ld_wTh mv_ln_wTh (mv_fa_wTh.trans hM.efa) (mv_re_wTh.trans hM.ere) (mv_de_wTh.trans hM.ede) mv_is_wTh mv_sv_wTh
      have hth : (V.wTh 0).th = 0 := mv_th_wTh
      generalize V.wTh 0 = V1 at hM1 hth ⊢
      refine hG.aload_n dX4_refusal_5 rfl ?_
      refine hG.get dX4_refusal_6 fg_X4_67_X4 (Or.inl mdL_m) rfl ?_
      rw [hM1.ere]
      refine hG.if_ne (tgt := 18) dX4_refusal_9 rfl (fun c_9 => ?_) (fun c_9 => absurd c_9 hf)
      refine hG.iload_n dX4_refusal_18 rfl ?_
      refine hG.if_eq (tgt := 29) dX4_refusal_19 rfl (fun c_19 => ?_) (fun c_19 => absurd rfl c_19)
      refine hG.aload_n dX4_refusal_29 rfl ?_
      refine hG.get dX4_refusal_30 fg_X4_70_X4 (Or.inl mdL_m) rfl ?_
      rw [hM1.ede]
      refine hG.iret dX4_refusal_33 rfl ?_ (by omega) (by omega) trivial
      rw [if_neg hf]
      exact pMq.mk hM1 hth (fun _ => rfl)
    · refine hG.aload_n dX4_refusal_0 rfl ?_
      refine hG.iconst (v := 0) dX4_refusal_1 rfl ?_
      refine hG.put dX4_refusal_2 fp_X4_58_X4 mdL_m rfl rfl (Nat.le_of_ble_eq_true rfl) ?_
      refine hG.mp_th ?_
      have hM1 : Mr N F (V.wTh 0) := hM.eqv ⟨rfl, rfl, rfl, rfl, rfl⟩ mv_nw_wTh mv_kp_wTh mv_un_wTh mv_le_wTh mv_tx_wTh mv_ld_wTh mv_ln_wTh (mv_fa_wTh.trans hM.efa) (mv_re_wTh.trans hM.ere) (mv_de_wTh.trans hM.ede) mv_is_wTh mv_sv_wTh
      have hth : (V.wTh 0).th = 0 := mv_th_wTh
      generalize V.wTh 0 = V1 at hM1 hth ⊢
      refine hG.aload_n dX4_refusal_5 rfl ?_
      refine hG.get dX4_refusal_6 fg_X4_67_X4 (Or.inl mdL_m) rfl ?_
      rw [hM1.ere]
      refine hG.if_ne (tgt := 18) dX4_refusal_9 rfl (fun c_9 => ?_) (fun c_9 => absurd c_9 hf)
      refine hG.iload_n dX4_refusal_18 rfl ?_
      refine hG.if_eq (tgt := 29) dX4_refusal_19 rfl (fun c_19 => absurd c_19 (by decide)) (fun c_19 => ?_)
      refine hG.aload_n dX4_refusal_22 rfl ?_
      refine hG.get dX4_refusal_23 fg_X4_67_X4 (Or.inl mdL_m) rfl ?_
      rw [hM1.ere]
      refine hG.goto (tgt := 33) dX4_refusal_26 rfl ?_
      refine hG.iret dX4_refusal_33 rfl ?_ (by omega) (by omega) trivial
      rw [if_neg hf]
      exact pMq.mk hM1 hth (fun _ => rfl)
theorem fg_X4_31_X4 : LkG RX4 31 ciX4 5 := ⟨RX4, TX4, 21, tyX4, _, cls_X4, by decide, Or.inl rfl, Or.inl q3275⟩
theorem fp_X4_271_X4 {nm : String} : LkP RX4 nm 271 ciX4 6 (tyX4 6) := ⟨RX4, TX4, 21, tyX4, _, cls_X4, by decide, rfl, Or.inl rfl, Or.inl ⟨rfl, q3276⟩⟩
set_option maxHeartbeats 4000000 in
set_option maxRecDepth 100000 in
theorem sp_X4_saveSnapshot {l : Launch} {s0 : State} {D : va_G} {I : AI} {L : AL} {m : Nat} {A : MA} {V : MV} {N : Nat} {F : Fy} (hΓ : Gam l s0 D) (hA : MOk m A) (hM : Mr N F V) (hW : WfF N F)  : Spc l s0 D yX4_saveSnapshot 9 [.ref m] I (mdL L m A V) 0 0 (pMq N I L m A (F.wSv (some F.rv)) (0) (nI F.rv.ch.length)) noX := by
  refine Spc.of hΓ cX4_saveSnapshot 2 (some FieldType.int) q3648 (by decide +kernel) (by decide) (Nat.le_of_ble_eq_true rfl) (fun G GX hG => ?_)
  refine hG.aload_n dX4_saveSnapshot_0 rfl ?_
  refine hG.iconst (v := 0) dX4_saveSnapshot_1 rfl ?_
  refine hG.put dX4_saveSnapshot_2 fp_X4_58_X4 mdL_m rfl rfl (Nat.le_of_ble_eq_true rfl) ?_
  refine hG.mp_th ?_
  have hM1 : Mr N F (V.wTh 0) := hM.eqv ⟨rfl, rfl, rfl, rfl, rfl⟩ mv_nw_wTh mv_kp_wTh mv_un_wTh mv_le_wTh mv_tx_wTh mv_ld_wTh mv_ln_wTh (mv_fa_wTh.trans hM.efa) (mv_re_wTh.trans hM.ere) (mv_de_wTh.trans hM.ede) mv_is_wTh mv_sv_wTh
  have hth : (V.wTh 0).th = 0 := mv_th_wTh
  generalize V.wTh 0 = V1 at hM1 hth ⊢
  refine hG.aload_n dX4_saveSnapshot_5 rfl ?_
  refine hG.iconst (v := 1) dX4_saveSnapshot_6 rfl ?_
  refine hG.put dX4_saveSnapshot_7 fp_X4_271_X4 mdL_m rfl rfl (Nat.le_of_ble_eq_true rfl) ?_
  refine hG.mp_is ?_
  refine hG.iconst (v := 0) dX4_saveSnapshot_10 rfl ?_
  refine hG.istore_n dX4_saveSnapshot_11 (by decide) ?_
  have loop : ∀ (w i : Nat) (t : Nat → Int32), i + w = 652 → (∀ k, k < i → t k = V1.nw k) → G 12 [(0, .ref m), (1, .int (nI i))] [] I (mdL L m A ((V1.wIs 1).wSv t)) 0 0 := by
    intro w
    induction w with
    | zero =>
      intro i t hiw ht
      have hie : i = 652 := by omega
      subst hie
      refine hG.iload_n dX4_saveSnapshot_12 rfl ?_
      refine hG.sipush (v := 652) dX4_saveSnapshot_13 rfl ?_
      refine hG.icmp_ge (tgt := 37) dX4_saveSnapshot_16 rfl (fun c_16 => ?_) (fun c_16 => absurd (by decide) c_16)
      refine hG.aload_n dX4_saveSnapshot_37 rfl ?_
      refine hG.get dX4_saveSnapshot_38 fg_X4_21_X4 (Or.inl mdL_m) rfl ?_
      refine hG.iconst (v := 0) dX4_saveSnapshot_41 rfl ?_
      refine hG.nld hA 0 dX4_saveSnapshot_42 rfl (by decide) (v := nI F.rv.ch.length) (by rw [show ((V1.wIs 1).wSv t).nw = V1.nw from (mv_nw_wSv.trans mv_nw_wIs)]; exact hM1.1.k0) ?_
      refine hG.iret dX4_saveSnapshot_43 rfl ?_ (by omega) (by omega) trivial
      refine pMq.mk (F := F.wSv (some F.rv)) ?_ ((mv_th_wSv.trans (mv_th_wIs.trans hth))) (fun _ => rfl)
      have h2 := hM1
      unfold Mr
      rw [show ((V1.wIs 1).wSv t).nw = V1.nw from (mv_nw_wSv.trans mv_nw_wIs), show ((V1.wIs 1).wSv t).kp = V1.kp from (mv_kp_wSv.trans mv_kp_wIs), show ((V1.wIs 1).wSv t).un = V1.un from (mv_un_wSv.trans mv_un_wIs), show ((V1.wIs 1).wSv t).le = V1.le from (mv_le_wSv.trans mv_le_wIs), show ((V1.wIs 1).wSv t).tx = V1.tx from (mv_tx_wSv.trans mv_tx_wIs), show ((V1.wIs 1).wSv t).ld = V1.ld from (mv_ld_wSv.trans mv_ld_wIs), show ((V1.wIs 1).wSv t).ln = V1.ln from (mv_ln_wSv.trans mv_ln_wIs), show ((V1.wIs 1).wSv t).fa = V1.fa from (mv_fa_wSv.trans mv_fa_wIs), show ((V1.wIs 1).wSv t).re = V1.re from (mv_re_wSv.trans mv_re_wIs), show ((V1.wIs 1).wSv t).de = V1.de from (mv_de_wSv.trans mv_de_wIs), show ((V1.wIs 1).wSv t).is = 1 from (mv_is_wSv.trans mv_is_wIs), show ((V1.wIs 1).wSv t).sv = t from mv_sv_wSv]
      exact ⟨h2.1, h2.2.1, h2.2.2.1, h2.2.2.2.1, h2.2.2.2.2.1, h2.2.2.2.2.2.1, h2.2.2.2.2.2.2.1, h2.efa, h2.ere, h2.ede, Or.inr ⟨F.rv, rfl, rfl, h2.1.cg hW.1 ht⟩⟩
    | succ w ih =>
      intro i t hiw ht
      refine hG.iload_n dX4_saveSnapshot_12 rfl ?_
      refine hG.sipush (v := 652) dX4_saveSnapshot_13 rfl ?_
      refine hG.icmp_ge (tgt := 37) dX4_saveSnapshot_16 rfl (fun c_16 => absurd c_16 (nI_ge (a := i) (b := 652) (by omega) (by decide))) (fun c_16 => ?_)
      refine hG.aload_n dX4_saveSnapshot_19 rfl ?_
      refine hG.get dX4_saveSnapshot_20 fg_X4_31_X4 (Or.inl mdL_m) rfl ?_
      refine hG.iload_n dX4_saveSnapshot_23 rfl ?_
      refine hG.aload_n dX4_saveSnapshot_24 rfl ?_
      refine hG.get dX4_saveSnapshot_25 fg_X4_21_X4 (Or.inl mdL_m) rfl ?_
      refine hG.iload_n dX4_saveSnapshot_28 rfl ?_
      refine hG.nld hA i dX4_saveSnapshot_29 rfl (by omega) (v := V1.nw i) (by rw [show ((V1.wIs 1).wSv t).nw = V1.nw from (mv_nw_wSv.trans mv_nw_wIs)]) ?_
      refine hG.st_sv hA i dX4_saveSnapshot_30 rfl (by omega) ?_
      refine hG.iinc dX4_saveSnapshot_31 rfl (by decide) ?_
      refine hG.goto (tgt := 12) dX4_saveSnapshot_34 rfl ?_
      refine hG.lsb [(0, .ref m), (1, .int (nI i + Int32.ofInt 1))] ⟨rfl, rfl, trivial⟩ ?_
      rw [show nI i + Int32.ofInt 1 = nI (i + 1) from nI_add i 1]
      refine ih (i + 1) (va_up t i (V1.nw i)) (by omega) (fun k hk => ?_)
      by_cases e : k = i
      · rw [va_eq e, e]
      · rw [va_ne e]; exact ht k (by omega)
  have hb : (V1.wIs 1) = ((V1.wIs 1).wSv V1.sv) := rfl
  rw [hb]
  exact hG.lsb [(0, .ref m), (1, .int (nI 0))] ⟨rfl, rfl, trivial⟩ (loop 652 0 V1.sv (by omega) (fun k hk => absurd hk (Nat.not_lt_zero k)))
def rstF (F : Fy) : Fy × Int32 × Int32 := match F.sv with
  | none => (F, 1, 0)
  | some S => ((F.wRv S).wPa [], 0, nI S.ch.length)
def undF (F : Fy) : Fy × Int32 × Int32 := match F.pa with
  | [] => (F, 1, 0)
  | P :: ps => ((F.wRv P).wPa ps, 0, nI ps.length)
theorem rst_n {F : Fy} (h : F.sv = none) : rstF F = (F, 1, 0) := by unfold rstF; rw [h]
theorem rst_s {F : Fy} {S : Rv} (h : F.sv = some S) : rstF F = ((F.wRv S).wPa [], 0, nI S.ch.length) := by unfold rstF; rw [h]
theorem und_n {F : Fy} (h : F.pa = []) : undF F = (F, 1, 0) := by unfold undF; rw [h]
theorem und_c {F : Fy} {P : Rv} {ps : List Rv} (h : F.pa = P :: ps) : undF F = ((F.wRv P).wPa ps, 0, nI ps.length) := by unfold undF; rw [h]
theorem fg_X4_271_X4 : LkG RX4 271 ciX4 6 := ⟨RX4, TX4, 21, tyX4, _, cls_X4, by decide, Or.inl rfl, Or.inl q3276⟩
set_option maxHeartbeats 4000000 in
set_option maxRecDepth 100000 in
theorem sp_X4_restoreSnapshot {l : Launch} {s0 : State} {D : va_G} {I : AI} {L : AL} {m : Nat} {A : MA} {V : MV} {N : Nat} {F : Fy} (hΓ : Gam l s0 D) (hA : MOk m A) (hM : Mr N F V) (hW : WfF N F)  : Spc l s0 D yX4_restoreSnapshot 9 [.ref m] I (mdL L m A V) 0 0 (pMq N I L m A ((rstF F).1) ((rstF F).2.1) ((rstF F).2.2)) noX := by
  refine Spc.of hΓ cX4_restoreSnapshot 2 (some FieldType.int) q3652 (by decide +kernel) (by decide) (Nat.le_of_ble_eq_true rfl) (fun G GX hG => ?_)
  cases hsv : F.sv with
  | none =>
    rw [rst_n hsv] at hG
    refine hG.aload_n dX4_restoreSnapshot_0 rfl ?_
    refine hG.iconst (v := 0) dX4_restoreSnapshot_1 rfl ?_
    refine hG.put dX4_restoreSnapshot_2 fp_X4_58_X4 mdL_m rfl rfl (Nat.le_of_ble_eq_true rfl) ?_
    refine hG.mp_th ?_
    have hM1 : Mr N F (V.wTh 0) := hM.eqv ⟨rfl, rfl, rfl, rfl, rfl⟩ mv_nw_wTh mv_kp_wTh mv_un_wTh mv_le_wTh mv_tx_wTh mv_ld_wTh mv_ln_wTh (mv_fa_wTh.trans hM.efa) (mv_re_wTh.trans hM.ere) (mv_de_wTh.trans hM.ede) mv_is_wTh mv_sv_wTh
    have hth : (V.wTh 0).th = 0 := mv_th_wTh
    generalize V.wTh 0 = V1 at hM1 hth ⊢
    have his : V1.is = 0 := hM1.esv.elim (fun h => h.2) (fun ⟨S, h, _, _⟩ => by rw [hsv] at h; cases h)
    refine hG.aload_n dX4_restoreSnapshot_5 rfl ?_
    refine hG.get dX4_restoreSnapshot_6 fg_X4_271_X4 (Or.inl mdL_m) rfl ?_
    rw [his]
    refine hG.if_ne (tgt := 18) dX4_restoreSnapshot_9 rfl (fun c_9 => absurd (by decide) c_9) (fun c_9 => ?_)
    refine hG.aload_n dX4_restoreSnapshot_12 rfl ?_
    refine hG.iconst (v := 1) dX4_restoreSnapshot_13 rfl ?_
    refine hG.callV dX4_restoreSnapshot_14 kv_X4_77 (Rcv.raw mdL_m cl_X4) (sp_X4_raises hΓ) rfl rfl (Nat.le_of_ble_eq_true rfl) (by decide) (by omega) (by omega) (fun r14 I14 L14 hI14 h14 => ?_) (fun _ _ _ _ _ h => h.elim)
    obtain ⟨rfl, rfl, rfl⟩ := h14
    refine hG.iret dX4_restoreSnapshot_17 rfl ?_ (by omega) (by omega) trivial
    exact pMq.mk (hM1.eqv ⟨rfl, rfl, rfl, rfl, rfl⟩ mv_nw_wTh mv_kp_wTh mv_un_wTh mv_le_wTh mv_tx_wTh mv_ld_wTh mv_ln_wTh (mv_fa_wTh.trans hM1.efa) (mv_re_wTh.trans hM1.ere) (mv_de_wTh.trans hM1.ede) mv_is_wTh mv_sv_wTh) mv_th_wTh (fun e => absurd (show (1 : Int32) = 0 from e) (by decide))
  | some S =>
    rw [rst_s hsv] at hG
    refine hG.aload_n dX4_restoreSnapshot_0 rfl ?_
    refine hG.iconst (v := 0) dX4_restoreSnapshot_1 rfl ?_
    refine hG.put dX4_restoreSnapshot_2 fp_X4_58_X4 mdL_m rfl rfl (Nat.le_of_ble_eq_true rfl) ?_
    refine hG.mp_th ?_
    have hM1 : Mr N F (V.wTh 0) := hM.eqv ⟨rfl, rfl, rfl, rfl, rfl⟩ mv_nw_wTh mv_kp_wTh mv_un_wTh mv_le_wTh mv_tx_wTh mv_ld_wTh mv_ln_wTh (mv_fa_wTh.trans hM.efa) (mv_re_wTh.trans hM.ere) (mv_de_wTh.trans hM.ede) mv_is_wTh mv_sv_wTh
    have hth : (V.wTh 0).th = 0 := mv_th_wTh
    generalize V.wTh 0 = V1 at hM1 hth ⊢
    have his : V1.is = 1 ∧ Rep N S V1.sv := hM1.esv.elim (fun h => by rw [hsv] at h; cases h.1) (fun ⟨S2, h, h1, h2⟩ => by rw [hsv] at h; cases h; exact ⟨h1, h2⟩)
    have hS := his.2
    refine hG.aload_n dX4_restoreSnapshot_5 rfl ?_
    refine hG.get dX4_restoreSnapshot_6 fg_X4_271_X4 (Or.inl mdL_m) rfl ?_
    rw [his.1]
    refine hG.if_ne (tgt := 18) dX4_restoreSnapshot_9 rfl (fun c_9 => ?_) (fun c_9 => absurd c_9 (by decide))
    refine hG.iconst (v := 0) dX4_restoreSnapshot_18 rfl ?_
    refine hG.istore_n dX4_restoreSnapshot_19 (by decide) ?_
    have loop : ∀ (w i : Nat) (t : Nat → Int32), i + w = 652 → (∀ k, k < i → t k = V1.sv k) → G 20 [(0, .ref m), (1, .int (nI i))] [] I (mdL L m A (V1.wNw t)) 0 0 := by
      intro w
      induction w with
      | zero =>
        intro i t hiw ht
        have hie : i = 652 := by omega
        subst hie
        refine hG.iload_n dX4_restoreSnapshot_20 rfl ?_
        refine hG.sipush (v := 652) dX4_restoreSnapshot_21 rfl ?_
        refine hG.icmp_ge (tgt := 45) dX4_restoreSnapshot_24 rfl (fun c_24 => ?_) (fun c_24 => absurd (by decide) c_24)
        refine hG.aload_n dX4_restoreSnapshot_45 rfl ?_
        refine hG.iconst (v := 0) dX4_restoreSnapshot_46 rfl ?_
        refine hG.put dX4_restoreSnapshot_47 fp_X4_61_X4 mdL_m rfl rfl (Nat.le_of_ble_eq_true rfl) ?_
        refine hG.mp_un ?_
        refine hG.aload_n dX4_restoreSnapshot_50 rfl ?_
        refine hG.get dX4_restoreSnapshot_51 fg_X4_21_X4 (Or.inl mdL_m) rfl ?_
        refine hG.iconst (v := 0) dX4_restoreSnapshot_54 rfl ?_
        refine hG.nld hA 0 dX4_restoreSnapshot_55 rfl (by decide) (v := nI S.ch.length) (by rw [show ((V1.wNw t).wUn 0).nw = t from (mv_nw_wUn.trans mv_nw_wNw), ht 0 (by decide)]; exact hS.k0) ?_
        refine hG.iret dX4_restoreSnapshot_56 rfl ?_ (by omega) (by omega) trivial
        refine pMq.mk (F := (F.wRv S).wPa []) ?_ ((mv_th_wUn.trans (mv_th_wNw.trans hth))) (fun _ => rfl)
        have h2 := hM1
        unfold Mr
        rw [show ((V1.wNw t).wUn 0).nw = t from (mv_nw_wUn.trans mv_nw_wNw), show ((V1.wNw t).wUn 0).kp = V1.kp from (mv_kp_wUn.trans mv_kp_wNw), show ((V1.wNw t).wUn 0).un = 0 from mv_un_wUn, show ((V1.wNw t).wUn 0).le = V1.le from (mv_le_wUn.trans mv_le_wNw), show ((V1.wNw t).wUn 0).tx = V1.tx from (mv_tx_wUn.trans mv_tx_wNw), show ((V1.wNw t).wUn 0).ld = V1.ld from (mv_ld_wUn.trans mv_ld_wNw), show ((V1.wNw t).wUn 0).ln = V1.ln from (mv_ln_wUn.trans mv_ln_wNw), show ((V1.wNw t).wUn 0).fa = V1.fa from (mv_fa_wUn.trans mv_fa_wNw), show ((V1.wNw t).wUn 0).re = V1.re from (mv_re_wUn.trans mv_re_wNw), show ((V1.wNw t).wUn 0).de = V1.de from (mv_de_wUn.trans mv_de_wNw), show ((V1.wNw t).wUn 0).is = V1.is from (mv_is_wUn.trans mv_is_wNw), show ((V1.wNw t).wUn 0).sv = V1.sv from (mv_sv_wUn.trans mv_sv_wNw)]
        exact ⟨hS.cg (hW.2.2.2 S hsv) ht, fun i P hP => absurd (show ([] : List Rv)[i]? = some P from hP) (by simp), rfl, h2.2.2.2.1, h2.2.2.2.2.1, h2.2.2.2.2.2.1, h2.2.2.2.2.2.2.1, h2.efa, h2.ere, h2.ede, h2.esv⟩
      | succ w ih =>
        intro i t hiw ht
        refine hG.iload_n dX4_restoreSnapshot_20 rfl ?_
        refine hG.sipush (v := 652) dX4_restoreSnapshot_21 rfl ?_
        refine hG.icmp_ge (tgt := 45) dX4_restoreSnapshot_24 rfl (fun c_24 => absurd c_24 (nI_ge (a := i) (b := 652) (by omega) (by decide))) (fun c_24 => ?_)
        refine hG.aload_n dX4_restoreSnapshot_27 rfl ?_
        refine hG.get dX4_restoreSnapshot_28 fg_X4_21_X4 (Or.inl mdL_m) rfl ?_
        refine hG.iload_n dX4_restoreSnapshot_31 rfl ?_
        refine hG.aload_n dX4_restoreSnapshot_32 rfl ?_
        refine hG.get dX4_restoreSnapshot_33 fg_X4_31_X4 (Or.inl mdL_m) rfl ?_
        refine hG.iload_n dX4_restoreSnapshot_36 rfl ?_
        refine hG.ld_sv hA i dX4_restoreSnapshot_37 rfl (by omega) (v := V1.sv i) rfl ?_
        refine hG.nst hA i dX4_restoreSnapshot_38 rfl (by omega) ?_
        refine hG.iinc dX4_restoreSnapshot_39 rfl (by decide) ?_
        refine hG.goto (tgt := 20) dX4_restoreSnapshot_42 rfl ?_
        refine hG.lsb [(0, .ref m), (1, .int (nI i + Int32.ofInt 1))] ⟨rfl, rfl, trivial⟩ ?_
        rw [show nI i + Int32.ofInt 1 = nI (i + 1) from nI_add i 1]
        refine ih (i + 1) (va_up t i (V1.sv i)) (by omega) (fun k hk => ?_)
        by_cases e : k = i
        · rw [va_eq e, e]
        · rw [va_ne e]; exact ht k (by omega)
    have hb : V1 = V1.wNw V1.nw := rfl
    rw [hb]
    exact hG.lsb [(0, .ref m), (1, .int (nI 0))] ⟨rfl, rfl, trivial⟩ (loop 652 0 V1.nw (by omega) (fun k hk => absurd hk (Nat.not_lt_zero k)))
set_option maxHeartbeats 4000000 in
set_option maxRecDepth 100000 in
theorem sp_X4_undo {l : Launch} {s0 : State} {D : va_G} {I : AI} {L : AL} {m : Nat} {A : MA} {V : MV} {N : Nat} {F : Fy} (hΓ : Gam l s0 D) (hA : MOk m A) (hM : Mr N F V) (hW : WfF N F)  : Spc l s0 D yX4_undo 9 [.ref m] I (mdL L m A V) 0 0 (pMq N I L m A ((undF F).1) ((undF F).2.1) ((undF F).2.2)) noX := by
  refine Spc.of hΓ cX4_undo 2 (some FieldType.int) q3644 (by decide +kernel) (by decide) (Nat.le_of_ble_eq_true rfl) (fun G GX hG => ?_)
  cases hpa : F.pa with
  | nil =>
    rw [und_n hpa] at hG
    refine hG.aload_n dX4_undo_0 rfl ?_
    refine hG.iconst (v := 0) dX4_undo_1 rfl ?_
    refine hG.put dX4_undo_2 fp_X4_58_X4 mdL_m rfl rfl (Nat.le_of_ble_eq_true rfl) ?_
    refine hG.mp_th ?_
    have hM1 : Mr N F (V.wTh 0) := hM.eqv ⟨rfl, rfl, rfl, rfl, rfl⟩ mv_nw_wTh mv_kp_wTh mv_un_wTh mv_le_wTh mv_tx_wTh mv_ld_wTh mv_ln_wTh (mv_fa_wTh.trans hM.efa) (mv_re_wTh.trans hM.ere) (mv_de_wTh.trans hM.ede) mv_is_wTh mv_sv_wTh
    have hth : (V.wTh 0).th = 0 := mv_th_wTh
    generalize V.wTh 0 = V1 at hM1 hth ⊢
    have hun : V1.un = 0 := hM1.2.2.1.trans (by rw [hpa]; rfl)
    refine hG.aload_n dX4_undo_5 rfl ?_
    refine hG.get dX4_undo_6 fg_X4_61_X4 (Or.inl mdL_m) rfl ?_
    rw [hun]
    refine hG.if_ne (tgt := 18) dX4_undo_9 rfl (fun c_9 => absurd (by decide) c_9) (fun c_9 => ?_)
    refine hG.aload_n dX4_undo_12 rfl ?_
    refine hG.iconst (v := 1) dX4_undo_13 rfl ?_
    refine hG.callV dX4_undo_14 kv_X4_77 (Rcv.raw mdL_m cl_X4) (sp_X4_raises hΓ) rfl rfl (Nat.le_of_ble_eq_true rfl) (by decide) (by omega) (by omega) (fun r14 I14 L14 hI14 h14 => ?_) (fun _ _ _ _ _ h => h.elim)
    obtain ⟨rfl, rfl, rfl⟩ := h14
    refine hG.iret dX4_undo_17 rfl ?_ (by omega) (by omega) trivial
    exact pMq.mk (hM1.eqv ⟨rfl, rfl, rfl, rfl, rfl⟩ mv_nw_wTh mv_kp_wTh mv_un_wTh mv_le_wTh mv_tx_wTh mv_ld_wTh mv_ln_wTh (mv_fa_wTh.trans hM1.efa) (mv_re_wTh.trans hM1.ere) (mv_de_wTh.trans hM1.ede) mv_is_wTh mv_sv_wTh) mv_th_wTh (fun e => absurd (show (1 : Int32) = 0 from e) (by decide))
  | cons P ps =>
    rw [und_c hpa] at hG
    refine hG.aload_n dX4_undo_0 rfl ?_
    refine hG.iconst (v := 0) dX4_undo_1 rfl ?_
    refine hG.put dX4_undo_2 fp_X4_58_X4 mdL_m rfl rfl (Nat.le_of_ble_eq_true rfl) ?_
    refine hG.mp_th ?_
    have hM1 : Mr N F (V.wTh 0) := hM.eqv ⟨rfl, rfl, rfl, rfl, rfl⟩ mv_nw_wTh mv_kp_wTh mv_un_wTh mv_le_wTh mv_tx_wTh mv_ld_wTh mv_ln_wTh (mv_fa_wTh.trans hM.efa) (mv_re_wTh.trans hM.ere) (mv_de_wTh.trans hM.ede) mv_is_wTh mv_sv_wTh
    have hth : (V.wTh 0).th = 0 := mv_th_wTh
    generalize V.wTh 0 = V1 at hM1 hth ⊢
    have hlen : ps.length < 8 := by have := hW.2.2.1; rw [hpa] at this; simp at this; omega
    have hun : V1.un = nI (ps.length + 1) := hM1.2.2.1.trans (by rw [hpa]; rfl)
    refine hG.aload_n dX4_undo_5 rfl ?_
    refine hG.get dX4_undo_6 fg_X4_61_X4 (Or.inl mdL_m) rfl ?_
    rw [hun]
    refine hG.if_ne (tgt := 18) dX4_undo_9 rfl (fun c_9 => ?_) (fun c_9 => absurd c_9 (nI_ne0 (by omega) (by omega)))
    refine hG.aload_n dX4_undo_18 rfl ?_
    refine hG.dup dX4_undo_19 rfl ?_
    refine hG.get dX4_undo_20 fg_X4_61_X4 (Or.inl mdL_m) rfl ?_
    rw [hun]
    refine hG.iconst (v := 1) dX4_undo_23 rfl ?_
    refine hG.isub dX4_undo_24 ?_
    rw [nI_pred]
    refine hG.put dX4_undo_25 fp_X4_61_X4 mdL_m rfl rfl (Nat.le_of_ble_eq_true rfl) ?_
    refine hG.mp_un ?_
    refine hG.iconst (v := 0) dX4_undo_28 rfl ?_
    refine hG.istore_n dX4_undo_29 (by decide) ?_
    have loop : ∀ (w i : Nat) (t : Nat → Int32), i + w = 652 → (∀ k, k < i → t k = V1.kp (652 * ps.length + k)) → G 30 [(0, .ref m), (1, .int (nI i))] [] I (mdL L m A ((V1.wUn (nI ps.length)).wNw t)) 0 0 := by
      intro w
      induction w with
      | zero =>
        intro i t hiw ht
        have hie : i = 652 := by omega
        subst hie
        refine hG.iload_n dX4_undo_30 rfl ?_
        refine hG.sipush (v := 652) dX4_undo_31 rfl ?_
        refine hG.icmp_ge (tgt := 64) dX4_undo_34 rfl (fun c_34 => ?_) (fun c_34 => absurd (by decide) c_34)
        refine hG.aload_n dX4_undo_64 rfl ?_
        refine hG.get dX4_undo_65 fg_X4_61_X4 (Or.inl mdL_m) rfl ?_
        refine hG.iret dX4_undo_68 rfl ?_ (by omega) (by omega) trivial
        refine pMq.mk (F := (F.wRv P).wPa ps) ?_ ((mv_th_wNw.trans (mv_th_wUn.trans hth))) (fun _ => rfl)
        have h2 := hM1
        have hK := h2.2.1
        rw [hpa] at hK
        have hw2 := hW.2.1
        rw [hpa] at hw2
        unfold Mr
        rw [show ((V1.wUn (nI ps.length)).wNw t).nw = t from mv_nw_wNw, show ((V1.wUn (nI ps.length)).wNw t).kp = V1.kp from (mv_kp_wNw.trans mv_kp_wUn), show ((V1.wUn (nI ps.length)).wNw t).un = nI ps.length from (mv_un_wNw.trans mv_un_wUn), show ((V1.wUn (nI ps.length)).wNw t).le = V1.le from (mv_le_wNw.trans mv_le_wUn), show ((V1.wUn (nI ps.length)).wNw t).tx = V1.tx from (mv_tx_wNw.trans mv_tx_wUn), show ((V1.wUn (nI ps.length)).wNw t).ld = V1.ld from (mv_ld_wNw.trans mv_ld_wUn), show ((V1.wUn (nI ps.length)).wNw t).ln = V1.ln from (mv_ln_wNw.trans mv_ln_wUn), show ((V1.wUn (nI ps.length)).wNw t).fa = V1.fa from (mv_fa_wNw.trans mv_fa_wUn), show ((V1.wUn (nI ps.length)).wNw t).re = V1.re from (mv_re_wNw.trans mv_re_wUn), show ((V1.wUn (nI ps.length)).wNw t).de = V1.de from (mv_de_wNw.trans mv_de_wUn), show ((V1.wUn (nI ps.length)).wNw t).is = V1.is from (mv_is_wNw.trans mv_is_wUn), show ((V1.wUn (nI ps.length)).wNw t).sv = V1.sv from (mv_sv_wNw.trans mv_sv_wUn)]
        refine ⟨(hK ps.length P (by rw [List.reverse_cons, List.getElem?_append_right (by simp), List.length_reverse, Nat.sub_self]; rfl)).cg (hw2 P (by simp)) ht, fun i Q hQ => hK i Q ?_, rfl, h2.2.2.2.1, h2.2.2.2.2.1, h2.2.2.2.2.2.1, h2.2.2.2.2.2.2.1, h2.efa, h2.ere, h2.ede, h2.esv⟩
        rw [List.reverse_cons, List.getElem?_append_left (List.getElem?_eq_some_iff.mp hQ).1]
        exact hQ
      | succ w ih =>
        intro i t hiw ht
        refine hG.iload_n dX4_undo_30 rfl ?_
        refine hG.sipush (v := 652) dX4_undo_31 rfl ?_
        refine hG.icmp_ge (tgt := 64) dX4_undo_34 rfl (fun c_34 => absurd c_34 (nI_ge (a := i) (b := 652) (by omega) (by decide))) (fun c_34 => ?_)
        refine hG.aload_n dX4_undo_37 rfl ?_
        refine hG.get dX4_undo_38 fg_X4_21_X4 (Or.inl mdL_m) rfl ?_
        refine hG.iload_n dX4_undo_41 rfl ?_
        refine hG.aload_n dX4_undo_42 rfl ?_
        refine hG.get dX4_undo_43 fg_X4_28_X4 (Or.inl mdL_m) rfl ?_
        refine hG.sipush (v := 652) dX4_undo_46 rfl ?_
        refine hG.aload_n dX4_undo_49 rfl ?_
        refine hG.get dX4_undo_50 fg_X4_61_X4 (Or.inl mdL_m) rfl ?_
        refine hG.imul dX4_undo_53 ?_
        rw [show (652 : Int32) * nI ps.length = nI (652 * ps.length) from pk_mul 652 _]
        refine hG.iload_n dX4_undo_54 rfl ?_
        refine hG.iadd dX4_undo_55 ?_
        rw [ix1]
        refine hG.ld_kp hA (652 * ps.length + i) dX4_undo_56 rfl (by omega) (v := V1.kp (652 * ps.length + i)) (by rw [show ((V1.wUn (nI ps.length)).wNw t).kp = V1.kp from (mv_kp_wNw.trans mv_kp_wUn)]) ?_
        refine hG.nst hA i dX4_undo_57 rfl (by omega) ?_
        refine hG.iinc dX4_undo_58 rfl (by decide) ?_
        refine hG.goto (tgt := 30) dX4_undo_61 rfl ?_
        refine hG.lsb [(0, .ref m), (1, .int (nI i + Int32.ofInt 1))] ⟨rfl, rfl, trivial⟩ ?_
        rw [show nI i + Int32.ofInt 1 = nI (i + 1) from nI_add i 1]
        refine ih (i + 1) (va_up t i (V1.kp (652 * ps.length + i))) (by omega) (fun k hk => ?_)
        by_cases e : k = i
        · rw [va_eq e, e]
        · rw [va_ne e]; exact ht k (by omega)
    have hb : V1.wUn (nI ps.length) = ((V1.wUn (nI ps.length)).wNw V1.nw) := rfl
    rw [hb]
    exact hG.lsb [(0, .ref m), (1, .int (nI 0))] ⟨rfl, rfl, trivial⟩ (loop 652 0 V1.nw (by omega) (fun k hk => absurd hk (Nat.not_lt_zero k)))
