/-! the model's other calls -/
theorem kv_X4_175 : LkV RX4 175 yX4_lands 0 := ⟨q3505, q3507, qs57, q87, by decide +kernel, by decide +kernel, by decide +kernel⟩
set_option maxHeartbeats 4000000 in
set_option maxRecDepth 100000 in
theorem sp_X4_land {l : Launch} {s0 : State} {D : va_G} {I : AI} {L : AL} {m : Nat} {A : MA} {V : MV} {N : Nat} {F : Fy} (hΓ : Gam l s0 D) (hA : MOk m A) (hM : Mr N F V) (hW : WfF N F)  : Spc l s0 D yX4_land 9 [.ref m] I (mdL L m A V) 0 0 (pMo N I L m A F (fun b => match b with | true => 2 | false => 1) 1 (lndO F.rv)) noX := by
  refine Spc.of hΓ cX4_land 1 (some FieldType.int) q3504 (by decide +kernel) (by decide) (Nat.le_of_ble_eq_true rfl) (fun G GX hG => ?_)
  rcases ho : lndO F.rv with vR | b | p
  · obtain ⟨v, R2⟩ := vR
    refine hG.aload_n dX4_land_0 rfl ?_
    refine hG.callV dX4_land_1 kv_X4_84 (Rcv.raw mdL_m cl_X4) (sp_X4_tries hΓ hA) rfl rfl (Nat.le_of_ble_eq_true rfl) (by decide) (by omega) (by omega) (fun r1 I1 L1 hI1 h1 => ?_) (fun _ _ _ _ _ h => h.elim)
    obtain ⟨rfl, rfl, t, ht, rfl⟩ := h1
    have hT : Rep N F.rv t := hM.1.cg hW.1 ht
    have hM1 : Mr N F ((V.wTh 0).wTr t) := hM.eqv ⟨rfl, rfl, rfl, rfl, rfl⟩ (mv_nw_wTr.trans mv_nw_wTh) (mv_kp_wTr.trans mv_kp_wTh) (mv_un_wTr.trans mv_un_wTh) (mv_le_wTr.trans mv_le_wTh) (mv_tx_wTr.trans mv_tx_wTh) (mv_ld_wTr.trans mv_ld_wTh) (mv_ln_wTr.trans mv_ln_wTh) (mv_fa_wTr.trans (mv_fa_wTh.trans hM.efa)) (mv_re_wTr.trans (mv_re_wTh.trans hM.ere)) (mv_de_wTr.trans (mv_de_wTh.trans hM.ede)) (mv_is_wTr.trans mv_is_wTh) (mv_sv_wTr.trans mv_sv_wTh)
    have hth : ((V.wTh 0).wTr t).th = 0 := mv_th_wTr.trans mv_th_wTh
    have htr : ((V.wTh 0).wTr t).tr = t := mv_tr_wTr
    generalize (V.wTh 0).wTr t = V1 at hM1 hth htr ⊢
    refine hG.aload_n dX4_land_4 rfl ?_
    refine hG.aload_n dX4_land_5 rfl ?_
    refine hG.callV dX4_land_6 kv_X4_175 (Rcv.raw mdL_m cl_X4) (sp_X4_lands (N := N) (R := F.rv) (V := V1) hΓ hA hM1.1 hW.1) rfl rfl (Nat.le_of_ble_eq_true rfl) (by decide) (by omega) (by omega) (fun r6 I6 L6 hI6 h6 => ?_) (fun _ _ _ _ _ h => h.elim)
    obtain ⟨rfl, n, a9, r9, d9, rfl, hp⟩ := h6
    rw [ho] at hp
    obtain ⟨rfl, hRn, rfl, rfl, rfl⟩ := hp
    refine hG.iconst (v := 1) dX4_land_9 rfl ?_
    refine hG.callV dX4_land_10 kv_X4_91 (Rcv.raw mdL_m cl_X4) (sp_X4_ends0 (N := N) (past := F.pa) (P0 := F.rv) (V := wX V1 n _ _ _) hΓ hA (by rw [wX_f.1]; exact hM1.2.1) (by rw [wX_f.2.1]; exact hM1.2.2.1) hW.2.2.1 hW.2.1 (by rw [wX_f.2.2, htr]; exact hT) hW.1) rfl rfl (Nat.le_of_ble_eq_true rfl) (by decide) (by omega) (by omega) (fun r10 I10 L10 hI10 h10 => ?_) (fun _ _ _ _ _ h => h.elim)
    obtain ⟨rfl, rfl, kp, hkp, rfl⟩ := h10
    refine hG.iret dX4_land_13 rfl ?_ (by omega) (by omega) trivial
    exact pMo.d ho (Mr.don1 hM1 hRn (hkp.mono (Nat.le_succ N))) (wX_th.trans hth)
  · rcases b with _ | _
    · refine hG.aload_n dX4_land_0 rfl ?_
      refine hG.callV dX4_land_1 kv_X4_84 (Rcv.raw mdL_m cl_X4) (sp_X4_tries hΓ hA) rfl rfl (Nat.le_of_ble_eq_true rfl) (by decide) (by omega) (by omega) (fun r1 I1 L1 hI1 h1 => ?_) (fun _ _ _ _ _ h => h.elim)
      obtain ⟨rfl, rfl, t, ht, rfl⟩ := h1
      have hT : Rep N F.rv t := hM.1.cg hW.1 ht
      have hM1 : Mr N F ((V.wTh 0).wTr t) := hM.eqv ⟨rfl, rfl, rfl, rfl, rfl⟩ (mv_nw_wTr.trans mv_nw_wTh) (mv_kp_wTr.trans mv_kp_wTh) (mv_un_wTr.trans mv_un_wTh) (mv_le_wTr.trans mv_le_wTh) (mv_tx_wTr.trans mv_tx_wTh) (mv_ld_wTr.trans mv_ld_wTh) (mv_ln_wTr.trans mv_ln_wTh) (mv_fa_wTr.trans (mv_fa_wTh.trans hM.efa)) (mv_re_wTr.trans (mv_re_wTh.trans hM.ere)) (mv_de_wTr.trans (mv_de_wTh.trans hM.ede)) (mv_is_wTr.trans mv_is_wTh) (mv_sv_wTr.trans mv_sv_wTh)
      have hth : ((V.wTh 0).wTr t).th = 0 := mv_th_wTr.trans mv_th_wTh
      have htr : ((V.wTh 0).wTr t).tr = t := mv_tr_wTr
      generalize (V.wTh 0).wTr t = V1 at hM1 hth htr ⊢
      refine hG.aload_n dX4_land_4 rfl ?_
      refine hG.aload_n dX4_land_5 rfl ?_
      refine hG.callV dX4_land_6 kv_X4_175 (Rcv.raw mdL_m cl_X4) (sp_X4_lands (N := N) (R := F.rv) (V := V1) hΓ hA hM1.1 hW.1) rfl rfl (Nat.le_of_ble_eq_true rfl) (by decide) (by omega) (by omega) (fun r6 I6 L6 hI6 h6 => ?_) (fun _ _ _ _ _ h => h.elim)
      obtain ⟨rfl, n, a9, r9, d9, rfl, hp⟩ := h6
      rw [ho] at hp
      obtain ⟨rfl, rfl, rfl, rfl⟩ := hp
      refine hG.iconst (v := 1) dX4_land_9 rfl ?_
      refine hG.callV dX4_land_10 kv_X4_91 (Rcv.raw mdL_m cl_X4) (sp_X4_endsN hΓ (v := -1) (by decide) rfl) rfl rfl (Nat.le_of_ble_eq_true rfl) (by decide) (by omega) (by omega) (fun r10 I10 L10 hI10 h10 => ?_) (fun _ _ _ _ _ h => h.elim)
      obtain ⟨rfl, rfl, rfl⟩ := h10
      refine hG.iret dX4_land_13 rfl ?_ (by omega) (by omega) trivial
      exact pMo.e2 ho (Mr.err1 hM1 false) (mv_th_wTh.trans (by decide))
    · refine hG.aload_n dX4_land_0 rfl ?_
      refine hG.callV dX4_land_1 kv_X4_84 (Rcv.raw mdL_m cl_X4) (sp_X4_tries hΓ hA) rfl rfl (Nat.le_of_ble_eq_true rfl) (by decide) (by omega) (by omega) (fun r1 I1 L1 hI1 h1 => ?_) (fun _ _ _ _ _ h => h.elim)
      obtain ⟨rfl, rfl, t, ht, rfl⟩ := h1
      have hT : Rep N F.rv t := hM.1.cg hW.1 ht
      have hM1 : Mr N F ((V.wTh 0).wTr t) := hM.eqv ⟨rfl, rfl, rfl, rfl, rfl⟩ (mv_nw_wTr.trans mv_nw_wTh) (mv_kp_wTr.trans mv_kp_wTh) (mv_un_wTr.trans mv_un_wTh) (mv_le_wTr.trans mv_le_wTh) (mv_tx_wTr.trans mv_tx_wTh) (mv_ld_wTr.trans mv_ld_wTh) (mv_ln_wTr.trans mv_ln_wTh) (mv_fa_wTr.trans (mv_fa_wTh.trans hM.efa)) (mv_re_wTr.trans (mv_re_wTh.trans hM.ere)) (mv_de_wTr.trans (mv_de_wTh.trans hM.ede)) (mv_is_wTr.trans mv_is_wTh) (mv_sv_wTr.trans mv_sv_wTh)
      have hth : ((V.wTh 0).wTr t).th = 0 := mv_th_wTr.trans mv_th_wTh
      have htr : ((V.wTh 0).wTr t).tr = t := mv_tr_wTr
      generalize (V.wTh 0).wTr t = V1 at hM1 hth htr ⊢
      refine hG.aload_n dX4_land_4 rfl ?_
      refine hG.aload_n dX4_land_5 rfl ?_
      refine hG.callV dX4_land_6 kv_X4_175 (Rcv.raw mdL_m cl_X4) (sp_X4_lands (N := N) (R := F.rv) (V := V1) hΓ hA hM1.1 hW.1) rfl rfl (Nat.le_of_ble_eq_true rfl) (by decide) (by omega) (by omega) (fun r6 I6 L6 hI6 h6 => ?_) (fun _ _ _ _ _ h => h.elim)
      obtain ⟨rfl, n, a9, r9, d9, rfl, hp⟩ := h6
      rw [ho] at hp
      obtain ⟨rfl, rfl, rfl, rfl⟩ := hp
      refine hG.iconst (v := 1) dX4_land_9 rfl ?_
      refine hG.callV dX4_land_10 kv_X4_91 (Rcv.raw mdL_m cl_X4) (sp_X4_endsN hΓ (v := -2) (by decide) rfl) rfl rfl (Nat.le_of_ble_eq_true rfl) (by decide) (by omega) (by omega) (fun r10 I10 L10 hI10 h10 => ?_) (fun _ _ _ _ _ h => h.elim)
      obtain ⟨rfl, rfl, rfl⟩ := h10
      refine hG.iret dX4_land_13 rfl ?_ (by omega) (by omega) trivial
      exact pMo.e2 ho (Mr.err1 hM1 true) (mv_th_wTh.trans (by decide))
  · refine hG.aload_n dX4_land_0 rfl ?_
    refine hG.callV dX4_land_1 kv_X4_84 (Rcv.raw mdL_m cl_X4) (sp_X4_tries hΓ hA) rfl rfl (Nat.le_of_ble_eq_true rfl) (by decide) (by omega) (by omega) (fun r1 I1 L1 hI1 h1 => ?_) (fun _ _ _ _ _ h => h.elim)
    obtain ⟨rfl, rfl, t, ht, rfl⟩ := h1
    have hT : Rep N F.rv t := hM.1.cg hW.1 ht
    have hM1 : Mr N F ((V.wTh 0).wTr t) := hM.eqv ⟨rfl, rfl, rfl, rfl, rfl⟩ (mv_nw_wTr.trans mv_nw_wTh) (mv_kp_wTr.trans mv_kp_wTh) (mv_un_wTr.trans mv_un_wTh) (mv_le_wTr.trans mv_le_wTh) (mv_tx_wTr.trans mv_tx_wTh) (mv_ld_wTr.trans mv_ld_wTh) (mv_ln_wTr.trans mv_ln_wTh) (mv_fa_wTr.trans (mv_fa_wTh.trans hM.efa)) (mv_re_wTr.trans (mv_re_wTh.trans hM.ere)) (mv_de_wTr.trans (mv_de_wTh.trans hM.ede)) (mv_is_wTr.trans mv_is_wTh) (mv_sv_wTr.trans mv_sv_wTh)
    have hth : ((V.wTh 0).wTr t).th = 0 := mv_th_wTr.trans mv_th_wTh
    have htr : ((V.wTh 0).wTr t).tr = t := mv_tr_wTr
    generalize (V.wTh 0).wTr t = V1 at hM1 hth htr ⊢
    refine hG.aload_n dX4_land_4 rfl ?_
    refine hG.aload_n dX4_land_5 rfl ?_
    refine hG.callV dX4_land_6 kv_X4_175 (Rcv.raw mdL_m cl_X4) (sp_X4_lands (N := N) (R := F.rv) (V := V1) hΓ hA hM1.1 hW.1) rfl rfl (Nat.le_of_ble_eq_true rfl) (by decide) (by omega) (by omega) (fun r6 I6 L6 hI6 h6 => ?_) (fun _ _ _ _ _ h => h.elim)
    obtain ⟨rfl, n, a9, r9, d9, rfl, hp⟩ := h6
    rw [ho] at hp
    obtain ⟨rfl, hpos, rfl, rfl, rfl⟩ := hp
    refine hG.iconst (v := 1) dX4_land_9 rfl ?_
    refine hG.callV dX4_land_10 kv_X4_91 (Rcv.raw mdL_m cl_X4) (sp_X4_endsN (c := 1) hΓ (fun e => by rw [e] at hpos; exact absurd hpos (by decide)) (if_neg (fun q => absurd (Int32.lt_trans hpos q) (by decide))).symm) rfl rfl (Nat.le_of_ble_eq_true rfl) (by decide) (by omega) (by omega) (fun r10 I10 L10 hI10 h10 => ?_) (fun _ _ _ _ _ h => h.elim)
    obtain ⟨rfl, rfl, rfl⟩ := h10
    refine hG.iret dX4_land_13 rfl ?_ (by omega) (by omega) trivial
    exact pMo.r2 ho (Mr.ref1 hM1 p) mv_th_wTh
def pMq (N : Nat) (I : AI) (L : AL) (m : Nat) (A : MA) (F : Fy) (c v : Int32) : Option Value → AI → AL → Prop := fun q I' L' => I = I' ∧ ∃ (V : MV) (w : Int32), L' = mdL L m A V ∧ q = some (.int w) ∧ Mr N F V ∧ V.th = c ∧ (c = 0 → w = v)
theorem pMq.mk {N : Nat} {I : AI} {L : AL} {m : Nat} {A : MA} {F : Fy} {c v w : Int32} {V : MV} (hM : Mr N F V) (ht : V.th = c) (hv : c = 0 → w = v) : pMq N I L m A F c v (some (.int w)) I (mdL L m A V) := ⟨rfl, V, w, rfl, rfl, hM, ht, hv⟩
abbrev whyV (F : Fy) (w d : Bool) : Int32 := match chk F.rv w with
  | none => 0
  | some p => match d with
    | true => p.2
    | false => p.1
set_option maxHeartbeats 4000000 in
set_option maxRecDepth 100000 in
theorem sp_X4_why_2 {l : Launch} {s0 : State} {D : va_G} {I : AI} {L : AL} {m : Nat} {A : MA} {V : MV} {N : Nat} {F : Fy} (hΓ : Gam l s0 D) (hA : MOk m A) (hM : Mr N F V) (hW : WfF N F) {w d9 : Bool} : Spc l s0 D yX4_why_2 9 [.ref m, .int (b2i w), .int (b2i d9)] I (mdL L m A V) 0 0 (pMq N I L m A (F) (0) (whyV F w d9)) noX := by
  refine Spc.of hΓ cX4_why_2 4 (some FieldType.int) q3567 (by decide +kernel) (by decide) (Nat.le_of_ble_eq_true rfl) (fun G GX hG => ?_)
  rcases w with _ | _ <;> rcases d9 with _ | _
  · cases hck : chk F.rv false with
    | none =>
      refine hG.aload_n dX4_why_2_0 rfl ?_
      refine hG.iconst (v := 0) dX4_why_2_1 rfl ?_
      refine hG.put dX4_why_2_2 fp_X4_58_X4 mdL_m rfl rfl (Nat.le_of_ble_eq_true rfl) ?_
      refine hG.mp_th ?_
      have hM1 : Mr N F (V.wTh 0) := hM.eqv ⟨rfl, rfl, rfl, rfl, rfl⟩ mv_nw_wTh mv_kp_wTh mv_un_wTh mv_le_wTh mv_tx_wTh mv_ld_wTh mv_ln_wTh (mv_fa_wTh.trans hM.efa) (mv_re_wTh.trans hM.ere) (mv_de_wTh.trans hM.ede) mv_is_wTh mv_sv_wTh
      have hth : (V.wTh 0).th = 0 := mv_th_wTh
      generalize V.wTh 0 = V1 at hM1 hth ⊢
      refine hG.aload_n dX4_why_2_5 rfl ?_
      refine hG.iload_n dX4_why_2_6 rfl ?_
      refine hG.callV dX4_why_2_7 kv_X4_207 (Rcv.raw mdL_m cl_X4) (sp_X4_bars (N := N) (R := F.rv) (V := V1) (w := false) hΓ hA hM1.1 hW.1) rfl rfl (Nat.le_of_ble_eq_true rfl) (by decide) (by omega) (by omega) (fun r7 I7 L7 hI7 h7 => ?_) (fun _ _ _ _ _ h => h.elim)
      rw [hck] at h7
      obtain ⟨rfl, _, rfl, rfl, rfl⟩ := h7
      refine hG.istore_n dX4_why_2_10 (by decide) ?_
      refine hG.iload_n dX4_why_2_11 rfl ?_
      refine hG.if_eq (tgt := 22) dX4_why_2_12 rfl (fun c_12 => ?_) (fun c_12 => absurd rfl c_12)
      refine hG.iload_n dX4_why_2_22 rfl ?_
      refine hG.iret dX4_why_2_23 rfl ?_ (by omega) (by omega) trivial
      have hv : whyV F false false = 0 := by unfold whyV; rw [hck]
      exact pMq.mk (hM1.eqv ⟨rfl, rfl, rfl, rfl, rfl⟩ mv_nw_wAn mv_kp_wAn mv_un_wAn mv_le_wAn mv_tx_wAn mv_ld_wAn mv_ln_wAn (mv_fa_wAn.trans hM1.efa) (mv_re_wAn.trans hM1.ere) (mv_de_wAn.trans hM1.ede) mv_is_wAn mv_sv_wAn) ((mv_th_wAn.trans hth)) (fun _ => hv.symm)
    | some p =>
      refine hG.aload_n dX4_why_2_0 rfl ?_
      refine hG.iconst (v := 0) dX4_why_2_1 rfl ?_
      refine hG.put dX4_why_2_2 fp_X4_58_X4 mdL_m rfl rfl (Nat.le_of_ble_eq_true rfl) ?_
      refine hG.mp_th ?_
      have hM1 : Mr N F (V.wTh 0) := hM.eqv ⟨rfl, rfl, rfl, rfl, rfl⟩ mv_nw_wTh mv_kp_wTh mv_un_wTh mv_le_wTh mv_tx_wTh mv_ld_wTh mv_ln_wTh (mv_fa_wTh.trans hM.efa) (mv_re_wTh.trans hM.ere) (mv_de_wTh.trans hM.ede) mv_is_wTh mv_sv_wTh
      have hth : (V.wTh 0).th = 0 := mv_th_wTh
      generalize V.wTh 0 = V1 at hM1 hth ⊢
      refine hG.aload_n dX4_why_2_5 rfl ?_
      refine hG.iload_n dX4_why_2_6 rfl ?_
      refine hG.callV dX4_why_2_7 kv_X4_207 (Rcv.raw mdL_m cl_X4) (sp_X4_bars (N := N) (R := F.rv) (V := V1) (w := false) hΓ hA hM1.1 hW.1) rfl rfl (Nat.le_of_ble_eq_true rfl) (by decide) (by omega) (by omega) (fun r7 I7 L7 hI7 h7 => ?_) (fun _ _ _ _ _ h => h.elim)
      rw [hck] at h7
      obtain ⟨rfl, _, rfl, rfl, rfl⟩ := h7
      refine hG.istore_n dX4_why_2_10 (by decide) ?_
      refine hG.iload_n dX4_why_2_11 rfl ?_
      refine hG.if_eq (tgt := 22) dX4_why_2_12 rfl (fun c_12 => ?_) (fun c_12 => absurd rfl c_12)
      refine hG.iload_n dX4_why_2_22 rfl ?_
      refine hG.iret dX4_why_2_23 rfl ?_ (by omega) (by omega) trivial
      have hv : whyV F false false = p.1 := by unfold whyV; rw [hck]
      exact pMq.mk (hM1.eqv ⟨rfl, rfl, rfl, rfl, rfl⟩ mv_nw_wAn mv_kp_wAn mv_un_wAn mv_le_wAn mv_tx_wAn mv_ld_wAn mv_ln_wAn (mv_fa_wAn.trans hM1.efa) (mv_re_wAn.trans hM1.ere) (mv_de_wAn.trans hM1.ede) mv_is_wAn mv_sv_wAn) ((mv_th_wAn.trans hth)) (fun _ => hv.symm)
  · cases hck : chk F.rv false with
    | none =>
      refine hG.aload_n dX4_why_2_0 rfl ?_
      refine hG.iconst (v := 0) dX4_why_2_1 rfl ?_
      refine hG.put dX4_why_2_2 fp_X4_58_X4 mdL_m rfl rfl (Nat.le_of_ble_eq_true rfl) ?_
      refine hG.mp_th ?_
      have hM1 : Mr N F (V.wTh 0) := hM.eqv ⟨rfl, rfl, rfl, rfl, rfl⟩ mv_nw_wTh mv_kp_wTh mv_un_wTh mv_le_wTh mv_tx_wTh mv_ld_wTh mv_ln_wTh (mv_fa_wTh.trans hM.efa) (mv_re_wTh.trans hM.ere) (mv_de_wTh.trans hM.ede) mv_is_wTh mv_sv_wTh
      have hth : (V.wTh 0).th = 0 := mv_th_wTh
      generalize V.wTh 0 = V1 at hM1 hth ⊢
      refine hG.aload_n dX4_why_2_5 rfl ?_
      refine hG.iload_n dX4_why_2_6 rfl ?_
      refine hG.callV dX4_why_2_7 kv_X4_207 (Rcv.raw mdL_m cl_X4) (sp_X4_bars (N := N) (R := F.rv) (V := V1) (w := false) hΓ hA hM1.1 hW.1) rfl rfl (Nat.le_of_ble_eq_true rfl) (by decide) (by omega) (by omega) (fun r7 I7 L7 hI7 h7 => ?_) (fun _ _ _ _ _ h => h.elim)
      rw [hck] at h7
      obtain ⟨rfl, _, rfl, rfl, rfl⟩ := h7
      refine hG.istore_n dX4_why_2_10 (by decide) ?_
      refine hG.iload_n dX4_why_2_11 rfl ?_
      refine hG.if_eq (tgt := 22) dX4_why_2_12 rfl (fun c_12 => absurd c_12 (by decide)) (fun c_12 => ?_)
      refine hG.aload_n dX4_why_2_15 rfl ?_
      refine hG.get dX4_why_2_16 fg_X4_64_X4 (Or.inl mdL_m) rfl ?_
      refine hG.goto (tgt := 23) dX4_why_2_19 rfl ?_
      refine hG.iret dX4_why_2_23 rfl ?_ (by omega) (by omega) trivial
      have hv : whyV F false true = 0 := by unfold whyV; rw [hck]
      exact pMq.mk (hM1.eqv ⟨rfl, rfl, rfl, rfl, rfl⟩ mv_nw_wAn mv_kp_wAn mv_un_wAn mv_le_wAn mv_tx_wAn mv_ld_wAn mv_ln_wAn (mv_fa_wAn.trans hM1.efa) (mv_re_wAn.trans hM1.ere) (mv_de_wAn.trans hM1.ede) mv_is_wAn mv_sv_wAn) ((mv_th_wAn.trans hth)) (fun _ => hv.symm)
    | some p =>
      refine hG.aload_n dX4_why_2_0 rfl ?_
      refine hG.iconst (v := 0) dX4_why_2_1 rfl ?_
      refine hG.put dX4_why_2_2 fp_X4_58_X4 mdL_m rfl rfl (Nat.le_of_ble_eq_true rfl) ?_
      refine hG.mp_th ?_
      have hM1 : Mr N F (V.wTh 0) := hM.eqv ⟨rfl, rfl, rfl, rfl, rfl⟩ mv_nw_wTh mv_kp_wTh mv_un_wTh mv_le_wTh mv_tx_wTh mv_ld_wTh mv_ln_wTh (mv_fa_wTh.trans hM.efa) (mv_re_wTh.trans hM.ere) (mv_de_wTh.trans hM.ede) mv_is_wTh mv_sv_wTh
      have hth : (V.wTh 0).th = 0 := mv_th_wTh
      generalize V.wTh 0 = V1 at hM1 hth ⊢
      refine hG.aload_n dX4_why_2_5 rfl ?_
      refine hG.iload_n dX4_why_2_6 rfl ?_
      refine hG.callV dX4_why_2_7 kv_X4_207 (Rcv.raw mdL_m cl_X4) (sp_X4_bars (N := N) (R := F.rv) (V := V1) (w := false) hΓ hA hM1.1 hW.1) rfl rfl (Nat.le_of_ble_eq_true rfl) (by decide) (by omega) (by omega) (fun r7 I7 L7 hI7 h7 => ?_) (fun _ _ _ _ _ h => h.elim)
      rw [hck] at h7
      obtain ⟨rfl, _, rfl, rfl, rfl⟩ := h7
      refine hG.istore_n dX4_why_2_10 (by decide) ?_
      refine hG.iload_n dX4_why_2_11 rfl ?_
      refine hG.if_eq (tgt := 22) dX4_why_2_12 rfl (fun c_12 => absurd c_12 (by decide)) (fun c_12 => ?_)
      refine hG.aload_n dX4_why_2_15 rfl ?_
      refine hG.get dX4_why_2_16 fg_X4_64_X4 (Or.inl mdL_m) rfl ?_
      refine hG.goto (tgt := 23) dX4_why_2_19 rfl ?_
      refine hG.iret dX4_why_2_23 rfl ?_ (by omega) (by omega) trivial
      have hv : whyV F false true = p.2 := by unfold whyV; rw [hck]
      exact pMq.mk (hM1.eqv ⟨rfl, rfl, rfl, rfl, rfl⟩ mv_nw_wAn mv_kp_wAn mv_un_wAn mv_le_wAn mv_tx_wAn mv_ld_wAn mv_ln_wAn (mv_fa_wAn.trans hM1.efa) (mv_re_wAn.trans hM1.ere) (mv_de_wAn.trans hM1.ede) mv_is_wAn mv_sv_wAn) ((mv_th_wAn.trans hth)) (fun _ => hv.symm)
  · cases hck : chk F.rv true with
    | none =>
      refine hG.aload_n dX4_why_2_0 rfl ?_
      refine hG.iconst (v := 0) dX4_why_2_1 rfl ?_
      refine hG.put dX4_why_2_2 fp_X4_58_X4 mdL_m rfl rfl (Nat.le_of_ble_eq_true rfl) ?_
      refine hG.mp_th ?_
      have hM1 : Mr N F (V.wTh 0) := hM.eqv ⟨rfl, rfl, rfl, rfl, rfl⟩ mv_nw_wTh mv_kp_wTh mv_un_wTh mv_le_wTh mv_tx_wTh mv_ld_wTh mv_ln_wTh (mv_fa_wTh.trans hM.efa) (mv_re_wTh.trans hM.ere) (mv_de_wTh.trans hM.ede) mv_is_wTh mv_sv_wTh
      have hth : (V.wTh 0).th = 0 := mv_th_wTh
      generalize V.wTh 0 = V1 at hM1 hth ⊢
      refine hG.aload_n dX4_why_2_5 rfl ?_
      refine hG.iload_n dX4_why_2_6 rfl ?_
      refine hG.callV dX4_why_2_7 kv_X4_207 (Rcv.raw mdL_m cl_X4) (sp_X4_bars (N := N) (R := F.rv) (V := V1) (w := true) hΓ hA hM1.1 hW.1) rfl rfl (Nat.le_of_ble_eq_true rfl) (by decide) (by omega) (by omega) (fun r7 I7 L7 hI7 h7 => ?_) (fun _ _ _ _ _ h => h.elim)
      rw [hck] at h7
      obtain ⟨rfl, _, rfl, rfl, rfl⟩ := h7
      refine hG.istore_n dX4_why_2_10 (by decide) ?_
      refine hG.iload_n dX4_why_2_11 rfl ?_
      refine hG.if_eq (tgt := 22) dX4_why_2_12 rfl (fun c_12 => ?_) (fun c_12 => absurd rfl c_12)
      refine hG.iload_n dX4_why_2_22 rfl ?_
      refine hG.iret dX4_why_2_23 rfl ?_ (by omega) (by omega) trivial
      have hv : whyV F true false = 0 := by unfold whyV; rw [hck]
      exact pMq.mk (hM1.eqv ⟨rfl, rfl, rfl, rfl, rfl⟩ mv_nw_wAn mv_kp_wAn mv_un_wAn mv_le_wAn mv_tx_wAn mv_ld_wAn mv_ln_wAn (mv_fa_wAn.trans hM1.efa) (mv_re_wAn.trans hM1.ere) (mv_de_wAn.trans hM1.ede) mv_is_wAn mv_sv_wAn) ((mv_th_wAn.trans hth)) (fun _ => hv.symm)
    | some p =>
      refine hG.aload_n dX4_why_2_0 rfl ?_
      refine hG.iconst (v := 0) dX4_why_2_1 rfl ?_
      refine hG.put dX4_why_2_2 fp_X4_58_X4 mdL_m rfl rfl (Nat.le_of_ble_eq_true rfl) ?_
      refine hG.mp_th ?_
      have hM1 : Mr N F (V.wTh 0) := hM.eqv ⟨rfl, rfl, rfl, rfl, rfl⟩ mv_nw_wTh mv_kp_wTh mv_un_wTh mv_le_wTh mv_tx_wTh mv_ld_wTh mv_ln_wTh (mv_fa_wTh.trans hM.efa) (mv_re_wTh.trans hM.ere) (mv_de_wTh.trans hM.ede) mv_is_wTh mv_sv_wTh
      have hth : (V.wTh 0).th = 0 := mv_th_wTh
      generalize V.wTh 0 = V1 at hM1 hth ⊢
      refine hG.aload_n dX4_why_2_5 rfl ?_
      refine hG.iload_n dX4_why_2_6 rfl ?_
      refine hG.callV dX4_why_2_7 kv_X4_207 (Rcv.raw mdL_m cl_X4) (sp_X4_bars (N := N) (R := F.rv) (V := V1) (w := true) hΓ hA hM1.1 hW.1) rfl rfl (Nat.le_of_ble_eq_true rfl) (by decide) (by omega) (by omega) (fun r7 I7 L7 hI7 h7 => ?_) (fun _ _ _ _ _ h => h.elim)
      rw [hck] at h7
      obtain ⟨rfl, _, rfl, rfl, rfl⟩ := h7
      refine hG.istore_n dX4_why_2_10 (by decide) ?_
      refine hG.iload_n dX4_why_2_11 rfl ?_
      refine hG.if_eq (tgt := 22) dX4_why_2_12 rfl (fun c_12 => ?_) (fun c_12 => absurd rfl c_12)
      refine hG.iload_n dX4_why_2_22 rfl ?_
      refine hG.iret dX4_why_2_23 rfl ?_ (by omega) (by omega) trivial
      have hv : whyV F true false = p.1 := by unfold whyV; rw [hck]
      exact pMq.mk (hM1.eqv ⟨rfl, rfl, rfl, rfl, rfl⟩ mv_nw_wAn mv_kp_wAn mv_un_wAn mv_le_wAn mv_tx_wAn mv_ld_wAn mv_ln_wAn (mv_fa_wAn.trans hM1.efa) (mv_re_wAn.trans hM1.ere) (mv_de_wAn.trans hM1.ede) mv_is_wAn mv_sv_wAn) ((mv_th_wAn.trans hth)) (fun _ => hv.symm)
  · cases hck : chk F.rv true with
    | none =>
      refine hG.aload_n dX4_why_2_0 rfl ?_
      refine hG.iconst (v := 0) dX4_why_2_1 rfl ?_
      refine hG.put dX4_why_2_2 fp_X4_58_X4 mdL_m rfl rfl (Nat.le_of_ble_eq_true rfl) ?_
      refine hG.mp_th ?_
      have hM1 : Mr N F (V.wTh 0) := hM.eqv ⟨rfl, rfl, rfl, rfl, rfl⟩ mv_nw_wTh mv_kp_wTh mv_un_wTh mv_le_wTh mv_tx_wTh mv_ld_wTh mv_ln_wTh (mv_fa_wTh.trans hM.efa) (mv_re_wTh.trans hM.ere) (mv_de_wTh.trans hM.ede) mv_is_wTh mv_sv_wTh
      have hth : (V.wTh 0).th = 0 := mv_th_wTh
      generalize V.wTh 0 = V1 at hM1 hth ⊢
      refine hG.aload_n dX4_why_2_5 rfl ?_
      refine hG.iload_n dX4_why_2_6 rfl ?_
      refine hG.callV dX4_why_2_7 kv_X4_207 (Rcv.raw mdL_m cl_X4) (sp_X4_bars (N := N) (R := F.rv) (V := V1) (w := true) hΓ hA hM1.1 hW.1) rfl rfl (Nat.le_of_ble_eq_true rfl) (by decide) (by omega) (by omega) (fun r7 I7 L7 hI7 h7 => ?_) (fun _ _ _ _ _ h => h.elim)
      rw [hck] at h7
      obtain ⟨rfl, _, rfl, rfl, rfl⟩ := h7
      refine hG.istore_n dX4_why_2_10 (by decide) ?_
      refine hG.iload_n dX4_why_2_11 rfl ?_
      refine hG.if_eq (tgt := 22) dX4_why_2_12 rfl (fun c_12 => absurd c_12 (by decide)) (fun c_12 => ?_)
      refine hG.aload_n dX4_why_2_15 rfl ?_
      refine hG.get dX4_why_2_16 fg_X4_64_X4 (Or.inl mdL_m) rfl ?_
      refine hG.goto (tgt := 23) dX4_why_2_19 rfl ?_
      refine hG.iret dX4_why_2_23 rfl ?_ (by omega) (by omega) trivial
      have hv : whyV F true true = 0 := by unfold whyV; rw [hck]
      exact pMq.mk (hM1.eqv ⟨rfl, rfl, rfl, rfl, rfl⟩ mv_nw_wAn mv_kp_wAn mv_un_wAn mv_le_wAn mv_tx_wAn mv_ld_wAn mv_ln_wAn (mv_fa_wAn.trans hM1.efa) (mv_re_wAn.trans hM1.ere) (mv_de_wAn.trans hM1.ede) mv_is_wAn mv_sv_wAn) ((mv_th_wAn.trans hth)) (fun _ => hv.symm)
    | some p =>
      refine hG.aload_n dX4_why_2_0 rfl ?_
      refine hG.iconst (v := 0) dX4_why_2_1 rfl ?_
      refine hG.put dX4_why_2_2 fp_X4_58_X4 mdL_m rfl rfl (Nat.le_of_ble_eq_true rfl) ?_
      refine hG.mp_th ?_
      have hM1 : Mr N F (V.wTh 0) := hM.eqv ⟨rfl, rfl, rfl, rfl, rfl⟩ mv_nw_wTh mv_kp_wTh mv_un_wTh mv_le_wTh mv_tx_wTh mv_ld_wTh mv_ln_wTh (mv_fa_wTh.trans hM.efa) (mv_re_wTh.trans hM.ere) (mv_de_wTh.trans hM.ede) mv_is_wTh mv_sv_wTh
      have hth : (V.wTh 0).th = 0 := mv_th_wTh
      generalize V.wTh 0 = V1 at hM1 hth ⊢
      refine hG.aload_n dX4_why_2_5 rfl ?_
      refine hG.iload_n dX4_why_2_6 rfl ?_
      refine hG.callV dX4_why_2_7 kv_X4_207 (Rcv.raw mdL_m cl_X4) (sp_X4_bars (N := N) (R := F.rv) (V := V1) (w := true) hΓ hA hM1.1 hW.1) rfl rfl (Nat.le_of_ble_eq_true rfl) (by decide) (by omega) (by omega) (fun r7 I7 L7 hI7 h7 => ?_) (fun _ _ _ _ _ h => h.elim)
      rw [hck] at h7
      obtain ⟨rfl, _, rfl, rfl, rfl⟩ := h7
      refine hG.istore_n dX4_why_2_10 (by decide) ?_
      refine hG.iload_n dX4_why_2_11 rfl ?_
      refine hG.if_eq (tgt := 22) dX4_why_2_12 rfl (fun c_12 => absurd c_12 (by decide)) (fun c_12 => ?_)
      refine hG.aload_n dX4_why_2_15 rfl ?_
      refine hG.get dX4_why_2_16 fg_X4_64_X4 (Or.inl mdL_m) rfl ?_
      refine hG.goto (tgt := 23) dX4_why_2_19 rfl ?_
      refine hG.iret dX4_why_2_23 rfl ?_ (by omega) (by omega) trivial
      have hv : whyV F true true = p.2 := by unfold whyV; rw [hck]
      exact pMq.mk (hM1.eqv ⟨rfl, rfl, rfl, rfl, rfl⟩ mv_nw_wAn mv_kp_wAn mv_un_wAn mv_le_wAn mv_tx_wAn mv_ld_wAn mv_ln_wAn (mv_fa_wAn.trans hM1.efa) (mv_re_wAn.trans hM1.ere) (mv_de_wAn.trans hM1.ede) mv_is_wAn mv_sv_wAn) ((mv_th_wAn.trans hth)) (fun _ => hv.symm)
