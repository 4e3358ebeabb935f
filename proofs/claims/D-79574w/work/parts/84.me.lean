/-! the model's calls -/
theorem wX_f {V : MV} {n : Nat → Int32} {a r d : Int32} : (wX V n a r d).kp = V.kp ∧ (wX V n a r d).un = V.un ∧ (wX V n a r d).tr = V.tr := ⟨(mv_kp_wDe.trans (mv_kp_wRe.trans (mv_kp_wAn.trans mv_kp_wNw))), (mv_un_wDe.trans (mv_un_wRe.trans (mv_un_wAn.trans mv_un_wNw))), (mv_tr_wDe.trans (mv_tr_wRe.trans (mv_tr_wAn.trans mv_tr_wNw)))⟩
theorem wX_th {V : MV} {n kp : Nat → Int32} {a r d u : Int32} : (((wX V n a r d).wKp kp).wUn u).th = V.th := (mv_th_wUn.trans (mv_th_wKp.trans (mv_th_wDe.trans (mv_th_wRe.trans (mv_th_wAn.trans mv_th_wNw)))))
theorem Mr.don1 {N : Nat} {F : Fy} {V : MV} (h : Mr N F V) {kp n : Nat → Int32} {a : Int32} {v : Int32} {R2 : Rv} (hR : Rep (N + 1) R2 n) (hK : KpOk (N + 1) (pushP F.rv F.pa) kp) : Mr (N + 1) (chF F (.inl (v, R2))) (((wX V n a V.re V.de).wKp kp).wUn (nI (pushP F.rv F.pa).length)) := by
  have h2 := h.mono (Nat.le_succ N)
  unfold Mr
  rw [show (((wX V n a V.re V.de).wKp kp).wUn (nI (pushP F.rv F.pa).length)).nw = n from (mv_nw_wUn.trans (mv_nw_wKp.trans (mv_nw_wDe.trans (mv_nw_wRe.trans (mv_nw_wAn.trans mv_nw_wNw))))), show (((wX V n a V.re V.de).wKp kp).wUn (nI (pushP F.rv F.pa).length)).kp = kp from (mv_kp_wUn.trans mv_kp_wKp), show (((wX V n a V.re V.de).wKp kp).wUn (nI (pushP F.rv F.pa).length)).un = nI (pushP F.rv F.pa).length from mv_un_wUn, show (((wX V n a V.re V.de).wKp kp).wUn (nI (pushP F.rv F.pa).length)).le = V.le from (mv_le_wUn.trans (mv_le_wKp.trans (mv_le_wDe.trans (mv_le_wRe.trans (mv_le_wAn.trans mv_le_wNw))))), show (((wX V n a V.re V.de).wKp kp).wUn (nI (pushP F.rv F.pa).length)).tx = V.tx from (mv_tx_wUn.trans (mv_tx_wKp.trans (mv_tx_wDe.trans (mv_tx_wRe.trans (mv_tx_wAn.trans mv_tx_wNw))))), show (((wX V n a V.re V.de).wKp kp).wUn (nI (pushP F.rv F.pa).length)).ld = V.ld from (mv_ld_wUn.trans (mv_ld_wKp.trans (mv_ld_wDe.trans (mv_ld_wRe.trans (mv_ld_wAn.trans mv_ld_wNw))))), show (((wX V n a V.re V.de).wKp kp).wUn (nI (pushP F.rv F.pa).length)).ln = V.ln from (mv_ln_wUn.trans (mv_ln_wKp.trans (mv_ln_wDe.trans (mv_ln_wRe.trans (mv_ln_wAn.trans mv_ln_wNw))))), show (((wX V n a V.re V.de).wKp kp).wUn (nI (pushP F.rv F.pa).length)).fa = V.fa from (mv_fa_wUn.trans (mv_fa_wKp.trans (mv_fa_wDe.trans (mv_fa_wRe.trans (mv_fa_wAn.trans mv_fa_wNw))))), show (((wX V n a V.re V.de).wKp kp).wUn (nI (pushP F.rv F.pa).length)).re = V.re from (mv_re_wUn.trans (mv_re_wKp.trans (mv_re_wDe.trans mv_re_wRe))), show (((wX V n a V.re V.de).wKp kp).wUn (nI (pushP F.rv F.pa).length)).de = V.de from (mv_de_wUn.trans (mv_de_wKp.trans mv_de_wDe)), show (((wX V n a V.re V.de).wKp kp).wUn (nI (pushP F.rv F.pa).length)).is = V.is from (mv_is_wUn.trans (mv_is_wKp.trans (mv_is_wDe.trans (mv_is_wRe.trans (mv_is_wAn.trans mv_is_wNw))))), show (((wX V n a V.re V.de).wKp kp).wUn (nI (pushP F.rv F.pa).length)).sv = V.sv from (mv_sv_wUn.trans (mv_sv_wKp.trans (mv_sv_wDe.trans (mv_sv_wRe.trans (mv_sv_wAn.trans mv_sv_wNw)))))]
  exact ⟨hR, hK, rfl, h2.2.2.2.1, h2.2.2.2.2.1, h2.2.2.2.2.2.1, h2.2.2.2.2.2.2.1, h2.efa, h2.ere, h2.ede, h2.esv⟩
theorem Mr.err1 {N : Nat} {F : Fy} {V : MV} (h : Mr N F V) {a c : Int32} (b : Bool) : Mr (N + 1) (chF F (.inr (.inl b))) ((wX V V.nw a V.re V.de).wTh c) := (h.mono (Nat.le_succ N)).eqv ⟨rfl, rfl, rfl, rfl, rfl⟩ (mv_nw_wTh.trans (mv_nw_wDe.trans (mv_nw_wRe.trans (mv_nw_wAn.trans mv_nw_wNw)))) (mv_kp_wTh.trans (mv_kp_wDe.trans (mv_kp_wRe.trans (mv_kp_wAn.trans mv_kp_wNw)))) (mv_un_wTh.trans (mv_un_wDe.trans (mv_un_wRe.trans (mv_un_wAn.trans mv_un_wNw)))) (mv_le_wTh.trans (mv_le_wDe.trans (mv_le_wRe.trans (mv_le_wAn.trans mv_le_wNw)))) (mv_tx_wTh.trans (mv_tx_wDe.trans (mv_tx_wRe.trans (mv_tx_wAn.trans mv_tx_wNw)))) (mv_ld_wTh.trans (mv_ld_wDe.trans (mv_ld_wRe.trans (mv_ld_wAn.trans mv_ld_wNw)))) (mv_ln_wTh.trans (mv_ln_wDe.trans (mv_ln_wRe.trans (mv_ln_wAn.trans mv_ln_wNw)))) (mv_fa_wTh.trans (mv_fa_wDe.trans (mv_fa_wRe.trans (mv_fa_wAn.trans (mv_fa_wNw.trans h.efa))))) (mv_re_wTh.trans (mv_re_wDe.trans (mv_re_wRe.trans h.ere))) (mv_de_wTh.trans (mv_de_wDe.trans h.ede)) (mv_is_wTh.trans (mv_is_wDe.trans (mv_is_wRe.trans (mv_is_wAn.trans mv_is_wNw)))) (mv_sv_wTh.trans (mv_sv_wDe.trans (mv_sv_wRe.trans (mv_sv_wAn.trans mv_sv_wNw))))
theorem Mr.ref1 {N : Nat} {F : Fy} {V : MV} (h : Mr N F V) {a c : Int32} (p : Int32 × Int32) : Mr (N + 1) (chF F (.inr (.inr p))) ((wX V V.nw a p.1 p.2).wTh c) := (h.mono (Nat.le_succ N)).eqv ⟨rfl, rfl, rfl, rfl, rfl⟩ (mv_nw_wTh.trans (mv_nw_wDe.trans (mv_nw_wRe.trans (mv_nw_wAn.trans mv_nw_wNw)))) (mv_kp_wTh.trans (mv_kp_wDe.trans (mv_kp_wRe.trans (mv_kp_wAn.trans mv_kp_wNw)))) (mv_un_wTh.trans (mv_un_wDe.trans (mv_un_wRe.trans (mv_un_wAn.trans mv_un_wNw)))) (mv_le_wTh.trans (mv_le_wDe.trans (mv_le_wRe.trans (mv_le_wAn.trans mv_le_wNw)))) (mv_tx_wTh.trans (mv_tx_wDe.trans (mv_tx_wRe.trans (mv_tx_wAn.trans mv_tx_wNw)))) (mv_ld_wTh.trans (mv_ld_wDe.trans (mv_ld_wRe.trans (mv_ld_wAn.trans mv_ld_wNw)))) (mv_ln_wTh.trans (mv_ln_wDe.trans (mv_ln_wRe.trans (mv_ln_wAn.trans mv_ln_wNw)))) (mv_fa_wTh.trans (mv_fa_wDe.trans (mv_fa_wRe.trans (mv_fa_wAn.trans (mv_fa_wNw.trans h.efa))))) (mv_re_wTh.trans (mv_re_wDe.trans mv_re_wRe)) (mv_de_wTh.trans mv_de_wDe) (mv_is_wTh.trans (mv_is_wDe.trans (mv_is_wRe.trans (mv_is_wAn.trans mv_is_wNw)))) (mv_sv_wTh.trans (mv_sv_wDe.trans (mv_sv_wRe.trans (mv_sv_wAn.trans mv_sv_wNw))))
theorem pMo.r2 {N : Nat} {I : AI} {L : AL} {m : Nat} {A : MA} {F : Fy} {cb : Bool → Int32} {cr w : Int32} {o : Out} {p : Int32 × Int32} {V : MV} (ho : o = .inr (.inr p)) (hM : Mr (N + 1) (chF F (.inr (.inr p))) V) (ht : V.th = cr) : pMo N I L m A F cb cr o (some (.int w)) I (mdL L m A V) := by
  subst ho
  exact ⟨rfl, V, w, rfl, rfl, hM, ht⟩
theorem pMo.e2 {N : Nat} {I : AI} {L : AL} {m : Nat} {A : MA} {F : Fy} {cb : Bool → Int32} {cr w : Int32} {o : Out} {b : Bool} {V : MV} (ho : o = .inr (.inl b)) (hM : Mr (N + 1) (chF F (.inr (.inl b))) V) (ht : V.th = cb b) : pMo N I L m A F cb cr o (some (.int w)) I (mdL L m A V) := by
  subst ho
  exact ⟨rfl, V, w, rfl, rfl, hM, ht⟩
theorem kv_X4_214 : LkV RX4 214 yX4_crosses 1 := ⟨q3552, q3554, qs61, q87, by decide +kernel, by decide +kernel, by decide +kernel⟩
set_option maxHeartbeats 300000 in
set_option maxRecDepth 100000 in
theorem sp_X4_cross {l : Launch} {s0 : State} {D : va_G} {I : AI} {L : AL} {m : Nat} {A : MA} {V : MV} {N : Nat} {F : Fy} (hΓ : Gam l s0 D) (hA : MOk m A) (hM : Mr N F V) (hW : WfF N F) {w : Bool} : Spc l s0 D yX4_cross 9 [.ref m, .int (b2i w)] I (mdL L m A V) 0 0 (pMo N I L m A F (fun b => match b with | true => 2 | false => 1) 1 (crsO F.rv w)) noX := by
  refine Spc.of hΓ cX4_cross 2 (some FieldType.int) q3551 (by decide +kernel) (by decide) (Nat.le_of_ble_eq_true rfl) (fun G GX hG => ?_)
  rcases ho : crsO F.rv w with vR | b | p
  · obtain ⟨v, R2⟩ := vR
    refine hG.aload_n dX4_cross_0 rfl ?_
    refine hG.callV dX4_cross_1 kv_X4_84 (Rcv.raw mdL_m cl_X4) (sp_X4_tries hΓ hA) rfl rfl (Nat.le_of_ble_eq_true rfl) (by decide) (by omega) (by omega) (fun r1 I1 L1 hI1 h1 => ?_) (fun _ _ _ _ _ h => h.elim)
    obtain ⟨rfl, rfl, t, ht, rfl⟩ := h1
    have hT : Rep N F.rv t := hM.1.cg hW.1 ht
    have hM1 : Mr N F ((V.wTh 0).wTr t) := hM.eqv ⟨rfl, rfl, rfl, rfl, rfl⟩ (mv_nw_wTr.trans mv_nw_wTh) (mv_kp_wTr.trans mv_kp_wTh) (mv_un_wTr.trans mv_un_wTh) (mv_le_wTr.trans mv_le_wTh) (mv_tx_wTr.trans mv_tx_wTh) (mv_ld_wTr.trans mv_ld_wTh) (mv_ln_wTr.trans mv_ln_wTh) (mv_fa_wTr.trans (mv_fa_wTh.trans hM.efa)) (mv_re_wTr.trans (mv_re_wTh.trans hM.ere)) (mv_de_wTr.trans (mv_de_wTh.trans hM.ede)) (mv_is_wTr.trans mv_is_wTh) (mv_sv_wTr.trans mv_sv_wTh)
    have hth : ((V.wTh 0).wTr t).th = 0 := mv_th_wTr.trans mv_th_wTh
    have htr : ((V.wTh 0).wTr t).tr = t := mv_tr_wTr
    generalize (V.wTh 0).wTr t = V1 at hM1 hth htr ⊢
    refine hG.aload_n dX4_cross_4 rfl ?_
    refine hG.aload_n dX4_cross_5 rfl ?_
    refine hG.iload_n dX4_cross_6 rfl ?_
    refine hG.callV dX4_cross_7 kv_X4_214 (Rcv.raw mdL_m cl_X4) (sp_X4_crosses (N := N) (R := F.rv) (V := V1) hΓ hA hM1.1 hW.1) rfl rfl (Nat.le_of_ble_eq_true rfl) (by decide) (by omega) (by omega) (fun r7 I7 L7 hI7 h7 => ?_) (fun _ _ _ _ _ h => h.elim)
    obtain ⟨rfl, n, a9, r9, d9, rfl, hp⟩ := h7
    rw [ho] at hp
    obtain ⟨rfl, hRn, rfl, rfl, rfl⟩ := hp
    refine hG.iconst (v := 1) dX4_cross_10 rfl ?_
    refine hG.callV dX4_cross_11 kv_X4_91 (Rcv.raw mdL_m cl_X4) (sp_X4_ends0 (N := N) (past := F.pa) (P0 := F.rv) (V := wX V1 n _ _ _) hΓ hA (by rw [wX_f.1]; exact hM1.2.1) (by rw [wX_f.2.1]; exact hM1.2.2.1) hW.2.2.1 hW.2.1 (by rw [wX_f.2.2, htr]; exact hT) hW.1) rfl rfl (Nat.le_of_ble_eq_true rfl) (by decide) (by omega) (by omega) (fun r11 I11 L11 hI11 h11 => ?_) (fun _ _ _ _ _ h => h.elim)
    obtain ⟨rfl, rfl, kp, hkp, rfl⟩ := h11
    refine hG.iret dX4_cross_14 rfl ?_ (by omega) (by omega) trivial
    exact pMo.d ho (Mr.don1 hM1 hRn (hkp.mono (Nat.le_succ N))) (wX_th.trans hth)
  · rcases b with _ | _
    · refine hG.aload_n dX4_cross_0 rfl ?_
      refine hG.callV dX4_cross_1 kv_X4_84 (Rcv.raw mdL_m cl_X4) (sp_X4_tries hΓ hA) rfl rfl (Nat.le_of_ble_eq_true rfl) (by decide) (by omega) (by omega) (fun r1 I1 L1 hI1 h1 => ?_) (fun _ _ _ _ _ h => h.elim)
      obtain ⟨rfl, rfl, t, ht, rfl⟩ := h1
      have hT : Rep N F.rv t := hM.1.cg hW.1 ht
      have hM1 : Mr N F ((V.wTh 0).wTr t) := hM.eqv ⟨rfl, rfl, rfl, rfl, rfl⟩ (mv_nw_wTr.trans mv_nw_wTh) (mv_kp_wTr.trans mv_kp_wTh) (mv_un_wTr.trans mv_un_wTh) (mv_le_wTr.trans mv_le_wTh) (mv_tx_wTr.trans mv_tx_wTh) (mv_ld_wTr.trans mv_ld_wTh) (mv_ln_wTr.trans mv_ln_wTh) (mv_fa_wTr.trans (mv_fa_wTh.trans hM.efa)) (mv_re_wTr.trans (mv_re_wTh.trans hM.ere)) (mv_de_wTr.trans (mv_de_wTh.trans hM.ede)) (mv_is_wTr.trans mv_is_wTh) (mv_sv_wTr.trans mv_sv_wTh)
      have hth : ((V.wTh 0).wTr t).th = 0 := mv_th_wTr.trans mv_th_wTh
      have htr : ((V.wTh 0).wTr t).tr = t := mv_tr_wTr
      generalize (V.wTh 0).wTr t = V1 at hM1 hth htr ⊢
      refine hG.aload_n dX4_cross_4 rfl ?_
      refine hG.aload_n dX4_cross_5 rfl ?_
      refine hG.iload_n dX4_cross_6 rfl ?_
      refine hG.callV dX4_cross_7 kv_X4_214 (Rcv.raw mdL_m cl_X4) (sp_X4_crosses (N := N) (R := F.rv) (V := V1) hΓ hA hM1.1 hW.1) rfl rfl (Nat.le_of_ble_eq_true rfl) (by decide) (by omega) (by omega) (fun r7 I7 L7 hI7 h7 => ?_) (fun _ _ _ _ _ h => h.elim)
      obtain ⟨rfl, n, a9, r9, d9, rfl, hp⟩ := h7
      rw [ho] at hp
      obtain ⟨rfl, rfl, rfl, rfl⟩ := hp
      refine hG.iconst (v := 1) dX4_cross_10 rfl ?_
      refine hG.callV dX4_cross_11 kv_X4_91 (Rcv.raw mdL_m cl_X4) (sp_X4_endsN hΓ (v := -1) (by decide) rfl) rfl rfl (Nat.le_of_ble_eq_true rfl) (by decide) (by omega) (by omega) (fun r11 I11 L11 hI11 h11 => ?_) (fun _ _ _ _ _ h => h.elim)
      obtain ⟨rfl, rfl, rfl⟩ := h11
      refine hG.iret dX4_cross_14 rfl ?_ (by omega) (by omega) trivial
      exact pMo.e2 ho (Mr.err1 hM1 false) (mv_th_wTh.trans (by decide))
    · refine hG.aload_n dX4_cross_0 rfl ?_
      refine hG.callV dX4_cross_1 kv_X4_84 (Rcv.raw mdL_m cl_X4) (sp_X4_tries hΓ hA) rfl rfl (Nat.le_of_ble_eq_true rfl) (by decide) (by omega) (by omega) (fun r1 I1 L1 hI1 h1 => ?_) (fun _ _ _ _ _ h => h.elim)
      obtain ⟨rfl, rfl, t, ht, rfl⟩ := h1
      have hT : Rep N F.rv t := hM.1.cg hW.1 ht
      have hM1 : Mr N F ((V.wTh 0).wTr t) := hM.eqv ⟨rfl, rfl, rfl, rfl, rfl⟩ (mv_nw_wTr.trans mv_nw_wTh) (mv_kp_wTr.trans mv_kp_wTh) (mv_un_wTr.trans mv_un_wTh) (mv_le_wTr.trans mv_le_wTh) (mv_tx_wTr.trans mv_tx_wTh) (mv_ld_wTr.trans mv_ld_wTh) (mv_ln_wTr.trans mv_ln_wTh) (mv_fa_wTr.trans (mv_fa_wTh.trans hM.efa)) (mv_re_wTr.trans (mv_re_wTh.trans hM.ere)) (mv_de_wTr.trans (mv_de_wTh.trans hM.ede)) (mv_is_wTr.trans mv_is_wTh) (mv_sv_wTr.trans mv_sv_wTh)
      have hth : ((V.wTh 0).wTr t).th = 0 := mv_th_wTr.trans mv_th_wTh
      have htr : ((V.wTh 0).wTr t).tr = t := mv_tr_wTr
      generalize (V.wTh 0).wTr t = V1 at hM1 hth htr ⊢
      refine hG.aload_n dX4_cross_4 rfl ?_
      refine hG.aload_n dX4_cross_5 rfl ?_
      refine hG.iload_n dX4_cross_6 rfl ?_
      refine hG.callV dX4_cross_7 kv_X4_214 (Rcv.raw mdL_m cl_X4) (sp_X4_crosses (N := N) (R := F.rv) (V := V1) hΓ hA hM1.1 hW.1) rfl rfl (Nat.le_of_ble_eq_true rfl) (by decide) (by omega) (by omega) (fun r7 I7 L7 hI7 h7 => ?_) (fun _ _ _ _ _ h => h.elim)
      obtain ⟨rfl, n, a9, r9, d9, rfl, hp⟩ := h7
      rw [ho] at hp
      obtain ⟨rfl, rfl, rfl, rfl⟩ := hp
      refine hG.iconst (v := 1) dX4_cross_10 rfl ?_
      refine hG.callV dX4_cross_11 kv_X4_91 (Rcv.raw mdL_m cl_X4) (sp_X4_endsN hΓ (v := -2) (by decide) rfl) rfl rfl (Nat.le_of_ble_eq_true rfl) (by decide) (by omega) (by omega) (fun r11 I11 L11 hI11 h11 => ?_) (fun _ _ _ _ _ h => h.elim)
      obtain ⟨rfl, rfl, rfl⟩ := h11
      refine hG.iret dX4_cross_14 rfl ?_ (by omega) (by omega) trivial
      exact pMo.e2 ho (Mr.err1 hM1 true) (mv_th_wTh.trans (by decide))
  · refine hG.aload_n dX4_cross_0 rfl ?_
    refine hG.callV dX4_cross_1 kv_X4_84 (Rcv.raw mdL_m cl_X4) (sp_X4_tries hΓ hA) rfl rfl (Nat.le_of_ble_eq_true rfl) (by decide) (by omega) (by omega) (fun r1 I1 L1 hI1 h1 => ?_) (fun _ _ _ _ _ h => h.elim)
    obtain ⟨rfl, rfl, t, ht, rfl⟩ := h1
    have hT : Rep N F.rv t := hM.1.cg hW.1 ht
    have hM1 : Mr N F ((V.wTh 0).wTr t) := hM.eqv ⟨rfl, rfl, rfl, rfl, rfl⟩ (mv_nw_wTr.trans mv_nw_wTh) (mv_kp_wTr.trans mv_kp_wTh) (mv_un_wTr.trans mv_un_wTh) (mv_le_wTr.trans mv_le_wTh) (mv_tx_wTr.trans mv_tx_wTh) (mv_ld_wTr.trans mv_ld_wTh) (mv_ln_wTr.trans mv_ln_wTh) (mv_fa_wTr.trans (mv_fa_wTh.trans hM.efa)) (mv_re_wTr.trans (mv_re_wTh.trans hM.ere)) (mv_de_wTr.trans (mv_de_wTh.trans hM.ede)) (mv_is_wTr.trans mv_is_wTh) (mv_sv_wTr.trans mv_sv_wTh)
    have hth : ((V.wTh 0).wTr t).th = 0 := mv_th_wTr.trans mv_th_wTh
    have htr : ((V.wTh 0).wTr t).tr = t := mv_tr_wTr
    generalize (V.wTh 0).wTr t = V1 at hM1 hth htr ⊢
    refine hG.aload_n dX4_cross_4 rfl ?_
    refine hG.aload_n dX4_cross_5 rfl ?_
    refine hG.iload_n dX4_cross_6 rfl ?_
    refine hG.callV dX4_cross_7 kv_X4_214 (Rcv.raw mdL_m cl_X4) (sp_X4_crosses (N := N) (R := F.rv) (V := V1) hΓ hA hM1.1 hW.1) rfl rfl (Nat.le_of_ble_eq_true rfl) (by decide) (by omega) (by omega) (fun r7 I7 L7 hI7 h7 => ?_) (fun _ _ _ _ _ h => h.elim)
    obtain ⟨rfl, n, a9, r9, d9, rfl, hp⟩ := h7
    rw [ho] at hp
    obtain ⟨rfl, hpos, rfl, rfl, rfl⟩ := hp
    refine hG.iconst (v := 1) dX4_cross_10 rfl ?_
    refine hG.callV dX4_cross_11 kv_X4_91 (Rcv.raw mdL_m cl_X4) (sp_X4_endsN (c := 1) hΓ (fun e => by rw [e] at hpos; exact absurd hpos (by decide)) (if_neg (fun q => absurd (Int32.lt_trans hpos q) (by decide))).symm) rfl rfl (Nat.le_of_ble_eq_true rfl) (by decide) (by omega) (by omega) (fun r11 I11 L11 hI11 h11 => ?_) (fun _ _ _ _ _ h => h.elim)
    obtain ⟨rfl, rfl, rfl⟩ := h11
    refine hG.iret dX4_cross_14 rfl ?_ (by omega) (by omega) trivial
    exact pMo.r2 ho (Mr.ref1 hM1 p) mv_th_wTh
theorem kv_X4_127 : LkV RX4 127 yX4_sets 2 := ⟨q3418, q3420, qs45, q87, by decide +kernel, by decide +kernel, by decide +kernel⟩
set_option maxHeartbeats 300000 in
set_option maxRecDepth 100000 in
theorem sp_X4_anchor {l : Launch} {s0 : State} {D : va_G} {I : AI} {L : AL} {m : Nat} {A : MA} {V : MV} {N : Nat} {F : Fy} (hΓ : Gam l s0 D) (hA : MOk m A) (hM : Mr N F V) (hW : WfF N F) {c s : Int32} : Spc l s0 D yX4_anchor 9 [.ref m, .int c, .int s] I (mdL L m A V) 0 0 (pMo N I L m A F (fun b => match b with | true => 2 | false => 1) 3 (ancO c s F.rv)) noX := by
  refine Spc.of hΓ cX4_anchor 3 (some FieldType.int) q3417 (by decide +kernel) (by decide) (Nat.le_of_ble_eq_true rfl) (fun G GX hG => ?_)
  rcases ho : ancO c s F.rv with vR | b | p
  · obtain ⟨v, R2⟩ := vR
    refine hG.aload_n dX4_anchor_0 rfl ?_
    refine hG.callV dX4_anchor_1 kv_X4_84 (Rcv.raw mdL_m cl_X4) (sp_X4_tries hΓ hA) rfl rfl (Nat.le_of_ble_eq_true rfl) (by decide) (by omega) (by omega) (fun r1 I1 L1 hI1 h1 => ?_) (fun _ _ _ _ _ h => h.elim)
    obtain ⟨rfl, rfl, t, ht, rfl⟩ := h1
    have hT : Rep N F.rv t := hM.1.cg hW.1 ht
    have hM1 : Mr N F ((V.wTh 0).wTr t) := hM.eqv ⟨rfl, rfl, rfl, rfl, rfl⟩ (mv_nw_wTr.trans mv_nw_wTh) (mv_kp_wTr.trans mv_kp_wTh) (mv_un_wTr.trans mv_un_wTh) (mv_le_wTr.trans mv_le_wTh) (mv_tx_wTr.trans mv_tx_wTh) (mv_ld_wTr.trans mv_ld_wTh) (mv_ln_wTr.trans mv_ln_wTh) (mv_fa_wTr.trans (mv_fa_wTh.trans hM.efa)) (mv_re_wTr.trans (mv_re_wTh.trans hM.ere)) (mv_de_wTr.trans (mv_de_wTh.trans hM.ede)) (mv_is_wTr.trans mv_is_wTh) (mv_sv_wTr.trans mv_sv_wTh)
    have hth : ((V.wTh 0).wTr t).th = 0 := mv_th_wTr.trans mv_th_wTh
    have htr : ((V.wTh 0).wTr t).tr = t := mv_tr_wTr
    generalize (V.wTh 0).wTr t = V1 at hM1 hth htr ⊢
    refine hG.aload_n dX4_anchor_4 rfl ?_
    refine hG.aload_n dX4_anchor_5 rfl ?_
    refine hG.iload_n dX4_anchor_6 rfl ?_
    refine hG.iload_n dX4_anchor_7 rfl ?_
    refine hG.callV dX4_anchor_8 kv_X4_127 (Rcv.raw mdL_m cl_X4) (sp_X4_sets (N := N) (R := F.rv) (V := V1) hΓ hA hM1.1 hW.1) rfl rfl (Nat.le_of_ble_eq_true rfl) (by decide) (by omega) (by omega) (fun r8 I8 L8 hI8 h8 => ?_) (fun _ _ _ _ _ h => h.elim)
    obtain ⟨rfl, n, a9, r9, d9, rfl, hp⟩ := h8
    rw [ho] at hp
    obtain ⟨rfl, hRn, rfl, rfl, rfl⟩ := hp
    refine hG.iconst (v := 3) dX4_anchor_11 rfl ?_
    refine hG.callV dX4_anchor_12 kv_X4_91 (Rcv.raw mdL_m cl_X4) (sp_X4_ends0 (N := N) (past := F.pa) (P0 := F.rv) (V := wX V1 n _ _ _) hΓ hA (by rw [wX_f.1]; exact hM1.2.1) (by rw [wX_f.2.1]; exact hM1.2.2.1) hW.2.2.1 hW.2.1 (by rw [wX_f.2.2, htr]; exact hT) hW.1) rfl rfl (Nat.le_of_ble_eq_true rfl) (by decide) (by omega) (by omega) (fun r12 I12 L12 hI12 h12 => ?_) (fun _ _ _ _ _ h => h.elim)
    obtain ⟨rfl, rfl, kp, hkp, rfl⟩ := h12
    refine hG.iret dX4_anchor_15 rfl ?_ (by omega) (by omega) trivial
    exact pMo.d ho (Mr.don1 hM1 hRn (hkp.mono (Nat.le_succ N))) (wX_th.trans hth)
  · rcases b with _ | _
    · refine hG.aload_n dX4_anchor_0 rfl ?_
      refine hG.callV dX4_anchor_1 kv_X4_84 (Rcv.raw mdL_m cl_X4) (sp_X4_tries hΓ hA) rfl rfl (Nat.le_of_ble_eq_true rfl) (by decide) (by omega) (by omega) (fun r1 I1 L1 hI1 h1 => ?_) (fun _ _ _ _ _ h => h.elim)
      obtain ⟨rfl, rfl, t, ht, rfl⟩ := h1
      have hT : Rep N F.rv t := hM.1.cg hW.1 ht
      have hM1 : Mr N F ((V.wTh 0).wTr t) := hM.eqv ⟨rfl, rfl, rfl, rfl, rfl⟩ (mv_nw_wTr.trans mv_nw_wTh) (mv_kp_wTr.trans mv_kp_wTh) (mv_un_wTr.trans mv_un_wTh) (mv_le_wTr.trans mv_le_wTh) (mv_tx_wTr.trans mv_tx_wTh) (mv_ld_wTr.trans mv_ld_wTh) (mv_ln_wTr.trans mv_ln_wTh) (mv_fa_wTr.trans (mv_fa_wTh.trans hM.efa)) (mv_re_wTr.trans (mv_re_wTh.trans hM.ere)) (mv_de_wTr.trans (mv_de_wTh.trans hM.ede)) (mv_is_wTr.trans mv_is_wTh) (mv_sv_wTr.trans mv_sv_wTh)
      have hth : ((V.wTh 0).wTr t).th = 0 := mv_th_wTr.trans mv_th_wTh
      have htr : ((V.wTh 0).wTr t).tr = t := mv_tr_wTr
      generalize (V.wTh 0).wTr t = V1 at hM1 hth htr ⊢
      refine hG.aload_n dX4_anchor_4 rfl ?_
      refine hG.aload_n dX4_anchor_5 rfl ?_
      refine hG.iload_n dX4_anchor_6 rfl ?_
      refine hG.iload_n dX4_anchor_7 rfl ?_
      refine hG.callV dX4_anchor_8 kv_X4_127 (Rcv.raw mdL_m cl_X4) (sp_X4_sets (N := N) (R := F.rv) (V := V1) hΓ hA hM1.1 hW.1) rfl rfl (Nat.le_of_ble_eq_true rfl) (by decide) (by omega) (by omega) (fun r8 I8 L8 hI8 h8 => ?_) (fun _ _ _ _ _ h => h.elim)
      obtain ⟨rfl, n, a9, r9, d9, rfl, hp⟩ := h8
      rw [ho] at hp
      obtain ⟨rfl, rfl, rfl, rfl⟩ := hp
      refine hG.iconst (v := 3) dX4_anchor_11 rfl ?_
      refine hG.callV dX4_anchor_12 kv_X4_91 (Rcv.raw mdL_m cl_X4) (sp_X4_endsN hΓ (v := -1) (by decide) rfl) rfl rfl (Nat.le_of_ble_eq_true rfl) (by decide) (by omega) (by omega) (fun r12 I12 L12 hI12 h12 => ?_) (fun _ _ _ _ _ h => h.elim)
      obtain ⟨rfl, rfl, rfl⟩ := h12
      refine hG.iret dX4_anchor_15 rfl ?_ (by omega) (by omega) trivial
      exact pMo.e2 ho (Mr.err1 hM1 false) (mv_th_wTh.trans (by decide))
    · refine hG.aload_n dX4_anchor_0 rfl ?_
      refine hG.callV dX4_anchor_1 kv_X4_84 (Rcv.raw mdL_m cl_X4) (sp_X4_tries hΓ hA) rfl rfl (Nat.le_of_ble_eq_true rfl) (by decide) (by omega) (by omega) (fun r1 I1 L1 hI1 h1 => ?_) (fun _ _ _ _ _ h => h.elim)
      obtain ⟨rfl, rfl, t, ht, rfl⟩ := h1
      have hT : Rep N F.rv t := hM.1.cg hW.1 ht
      have hM1 : Mr N F ((V.wTh 0).wTr t) := hM.eqv ⟨rfl, rfl, rfl, rfl, rfl⟩ (mv_nw_wTr.trans mv_nw_wTh) (mv_kp_wTr.trans mv_kp_wTh) (mv_un_wTr.trans mv_un_wTh) (mv_le_wTr.trans mv_le_wTh) (mv_tx_wTr.trans mv_tx_wTh) (mv_ld_wTr.trans mv_ld_wTh) (mv_ln_wTr.trans mv_ln_wTh) (mv_fa_wTr.trans (mv_fa_wTh.trans hM.efa)) (mv_re_wTr.trans (mv_re_wTh.trans hM.ere)) (mv_de_wTr.trans (mv_de_wTh.trans hM.ede)) (mv_is_wTr.trans mv_is_wTh) (mv_sv_wTr.trans mv_sv_wTh)
      have hth : ((V.wTh 0).wTr t).th = 0 := mv_th_wTr.trans mv_th_wTh
      have htr : ((V.wTh 0).wTr t).tr = t := mv_tr_wTr
      generalize (V.wTh 0).wTr t = V1 at hM1 hth htr ⊢
      refine hG.aload_n dX4_anchor_4 rfl ?_
      refine hG.aload_n dX4_anchor_5 rfl ?_
      refine hG.iload_n dX4_anchor_6 rfl ?_
      refine hG.iload_n dX4_anchor_7 rfl ?_
      refine hG.callV dX4_anchor_8 kv_X4_127 (Rcv.raw mdL_m cl_X4) (sp_X4_sets (N := N) (R := F.rv) (V := V1) hΓ hA hM1.1 hW.1) rfl rfl (Nat.le_of_ble_eq_true rfl) (by decide) (by omega) (by omega) (fun r8 I8 L8 hI8 h8 => ?_) (fun _ _ _ _ _ h => h.elim)
      obtain ⟨rfl, n, a9, r9, d9, rfl, hp⟩ := h8
      rw [ho] at hp
      obtain ⟨rfl, rfl, rfl, rfl⟩ := hp
      refine hG.iconst (v := 3) dX4_anchor_11 rfl ?_
      refine hG.callV dX4_anchor_12 kv_X4_91 (Rcv.raw mdL_m cl_X4) (sp_X4_endsN hΓ (v := -2) (by decide) rfl) rfl rfl (Nat.le_of_ble_eq_true rfl) (by decide) (by omega) (by omega) (fun r12 I12 L12 hI12 h12 => ?_) (fun _ _ _ _ _ h => h.elim)
      obtain ⟨rfl, rfl, rfl⟩ := h12
      refine hG.iret dX4_anchor_15 rfl ?_ (by omega) (by omega) trivial
      exact pMo.e2 ho (Mr.err1 hM1 true) (mv_th_wTh.trans (by decide))
  · refine hG.aload_n dX4_anchor_0 rfl ?_
    refine hG.callV dX4_anchor_1 kv_X4_84 (Rcv.raw mdL_m cl_X4) (sp_X4_tries hΓ hA) rfl rfl (Nat.le_of_ble_eq_true rfl) (by decide) (by omega) (by omega) (fun r1 I1 L1 hI1 h1 => ?_) (fun _ _ _ _ _ h => h.elim)
    obtain ⟨rfl, rfl, t, ht, rfl⟩ := h1
    have hT : Rep N F.rv t := hM.1.cg hW.1 ht
    have hM1 : Mr N F ((V.wTh 0).wTr t) := hM.eqv ⟨rfl, rfl, rfl, rfl, rfl⟩ (mv_nw_wTr.trans mv_nw_wTh) (mv_kp_wTr.trans mv_kp_wTh) (mv_un_wTr.trans mv_un_wTh) (mv_le_wTr.trans mv_le_wTh) (mv_tx_wTr.trans mv_tx_wTh) (mv_ld_wTr.trans mv_ld_wTh) (mv_ln_wTr.trans mv_ln_wTh) (mv_fa_wTr.trans (mv_fa_wTh.trans hM.efa)) (mv_re_wTr.trans (mv_re_wTh.trans hM.ere)) (mv_de_wTr.trans (mv_de_wTh.trans hM.ede)) (mv_is_wTr.trans mv_is_wTh) (mv_sv_wTr.trans mv_sv_wTh)
    have hth : ((V.wTh 0).wTr t).th = 0 := mv_th_wTr.trans mv_th_wTh
    have htr : ((V.wTh 0).wTr t).tr = t := mv_tr_wTr
    generalize (V.wTh 0).wTr t = V1 at hM1 hth htr ⊢
    refine hG.aload_n dX4_anchor_4 rfl ?_
    refine hG.aload_n dX4_anchor_5 rfl ?_
    refine hG.iload_n dX4_anchor_6 rfl ?_
    refine hG.iload_n dX4_anchor_7 rfl ?_
    refine hG.callV dX4_anchor_8 kv_X4_127 (Rcv.raw mdL_m cl_X4) (sp_X4_sets (N := N) (R := F.rv) (V := V1) hΓ hA hM1.1 hW.1) rfl rfl (Nat.le_of_ble_eq_true rfl) (by decide) (by omega) (by omega) (fun r8 I8 L8 hI8 h8 => ?_) (fun _ _ _ _ _ h => h.elim)
    obtain ⟨rfl, n, a9, r9, d9, rfl, hp⟩ := h8
    rw [ho] at hp
    obtain ⟨rfl, hpos, rfl, rfl, rfl⟩ := hp
    refine hG.iconst (v := 3) dX4_anchor_11 rfl ?_
    refine hG.callV dX4_anchor_12 kv_X4_91 (Rcv.raw mdL_m cl_X4) (sp_X4_endsN (c := 3) hΓ (fun e => by rw [e] at hpos; exact absurd hpos (by decide)) (if_neg (fun q => absurd (Int32.lt_trans hpos q) (by decide))).symm) rfl rfl (Nat.le_of_ble_eq_true rfl) (by decide) (by omega) (by omega) (fun r12 I12 L12 hI12 h12 => ?_) (fun _ _ _ _ _ h => h.elim)
    obtain ⟨rfl, rfl, rfl⟩ := h12
    refine hG.iret dX4_anchor_15 rfl ?_ (by omega) (by omega) trivial
    exact pMo.r2 ho (Mr.ref1 hM1 p) mv_th_wTh
theorem kv_X4_133 : LkV RX4 133 yX4_weighsOne 1 := ⟨q3430, q3432, qs47, q87, by decide +kernel, by decide +kernel, by decide +kernel⟩
set_option maxHeartbeats 300000 in
set_option maxRecDepth 100000 in
theorem sp_X4_weigh {l : Launch} {s0 : State} {D : va_G} {I : AI} {L : AL} {m : Nat} {A : MA} {V : MV} {N : Nat} {F : Fy} (hΓ : Gam l s0 D) (hA : MOk m A) (hM : Mr N F V) (hW : WfF N F) {n : Int32} : Spc l s0 D yX4_weigh 9 [.ref m, .int n] I (mdL L m A V) 0 0 (pMo N I L m A F (fun b => match b with | true => 2 | false => 1) 1 (weiO n F.rv)) noX := by
  refine Spc.of hΓ cX4_weigh 2 (some FieldType.int) q3429 (by decide +kernel) (by decide) (Nat.le_of_ble_eq_true rfl) (fun G GX hG => ?_)
  rcases ho : weiO n F.rv with vR | b | p
  · obtain ⟨v, R2⟩ := vR
    refine hG.aload_n dX4_weigh_0 rfl ?_
    refine hG.callV dX4_weigh_1 kv_X4_84 (Rcv.raw mdL_m cl_X4) (sp_X4_tries hΓ hA) rfl rfl (Nat.le_of_ble_eq_true rfl) (by decide) (by omega) (by omega) (fun r1 I1 L1 hI1 h1 => ?_) (fun _ _ _ _ _ h => h.elim)
    obtain ⟨rfl, rfl, t, ht, rfl⟩ := h1
    have hT : Rep N F.rv t := hM.1.cg hW.1 ht
    have hM1 : Mr N F ((V.wTh 0).wTr t) := hM.eqv ⟨rfl, rfl, rfl, rfl, rfl⟩ (mv_nw_wTr.trans mv_nw_wTh) (mv_kp_wTr.trans mv_kp_wTh) (mv_un_wTr.trans mv_un_wTh) (mv_le_wTr.trans mv_le_wTh) (mv_tx_wTr.trans mv_tx_wTh) (mv_ld_wTr.trans mv_ld_wTh) (mv_ln_wTr.trans mv_ln_wTh) (mv_fa_wTr.trans (mv_fa_wTh.trans hM.efa)) (mv_re_wTr.trans (mv_re_wTh.trans hM.ere)) (mv_de_wTr.trans (mv_de_wTh.trans hM.ede)) (mv_is_wTr.trans mv_is_wTh) (mv_sv_wTr.trans mv_sv_wTh)
    have hth : ((V.wTh 0).wTr t).th = 0 := mv_th_wTr.trans mv_th_wTh
    have htr : ((V.wTh 0).wTr t).tr = t := mv_tr_wTr
    generalize (V.wTh 0).wTr t = V1 at hM1 hth htr ⊢
    refine hG.aload_n dX4_weigh_4 rfl ?_
    refine hG.aload_n dX4_weigh_5 rfl ?_
    refine hG.iload_n dX4_weigh_6 rfl ?_
    refine hG.callV dX4_weigh_7 kv_X4_133 (Rcv.raw mdL_m cl_X4) (sp_X4_weighsOne (N := N) (R := F.rv) (V := V1) hΓ hA hM1.1 hW.1) rfl rfl (Nat.le_of_ble_eq_true rfl) (by decide) (by omega) (by omega) (fun r7 I7 L7 hI7 h7 => ?_) (fun _ _ _ _ _ h => h.elim)
    obtain ⟨rfl, n, a9, r9, d9, rfl, hp⟩ := h7
    rw [ho] at hp
    obtain ⟨rfl, hRn, rfl, rfl, rfl⟩ := hp
    refine hG.iconst (v := 1) dX4_weigh_10 rfl ?_
    refine hG.callV dX4_weigh_11 kv_X4_91 (Rcv.raw mdL_m cl_X4) (sp_X4_ends0 (N := N) (past := F.pa) (P0 := F.rv) (V := wX V1 n _ _ _) hΓ hA (by rw [wX_f.1]; exact hM1.2.1) (by rw [wX_f.2.1]; exact hM1.2.2.1) hW.2.2.1 hW.2.1 (by rw [wX_f.2.2, htr]; exact hT) hW.1) rfl rfl (Nat.le_of_ble_eq_true rfl) (by decide) (by omega) (by omega) (fun r11 I11 L11 hI11 h11 => ?_) (fun _ _ _ _ _ h => h.elim)
    obtain ⟨rfl, rfl, kp, hkp, rfl⟩ := h11
    refine hG.iret dX4_weigh_14 rfl ?_ (by omega) (by omega) trivial
    exact pMo.d ho (Mr.don1 hM1 hRn (hkp.mono (Nat.le_succ N))) (wX_th.trans hth)
  · rcases b with _ | _
    · refine hG.aload_n dX4_weigh_0 rfl ?_
      refine hG.callV dX4_weigh_1 kv_X4_84 (Rcv.raw mdL_m cl_X4) (sp_X4_tries hΓ hA) rfl rfl (Nat.le_of_ble_eq_true rfl) (by decide) (by omega) (by omega) (fun r1 I1 L1 hI1 h1 => ?_) (fun _ _ _ _ _ h => h.elim)
      obtain ⟨rfl, rfl, t, ht, rfl⟩ := h1
      have hT : Rep N F.rv t := hM.1.cg hW.1 ht
      have hM1 : Mr N F ((V.wTh 0).wTr t) := hM.eqv ⟨rfl, rfl, rfl, rfl, rfl⟩ (mv_nw_wTr.trans mv_nw_wTh) (mv_kp_wTr.trans mv_kp_wTh) (mv_un_wTr.trans mv_un_wTh) (mv_le_wTr.trans mv_le_wTh) (mv_tx_wTr.trans mv_tx_wTh) (mv_ld_wTr.trans mv_ld_wTh) (mv_ln_wTr.trans mv_ln_wTh) (mv_fa_wTr.trans (mv_fa_wTh.trans hM.efa)) (mv_re_wTr.trans (mv_re_wTh.trans hM.ere)) (mv_de_wTr.trans (mv_de_wTh.trans hM.ede)) (mv_is_wTr.trans mv_is_wTh) (mv_sv_wTr.trans mv_sv_wTh)
      have hth : ((V.wTh 0).wTr t).th = 0 := mv_th_wTr.trans mv_th_wTh
      have htr : ((V.wTh 0).wTr t).tr = t := mv_tr_wTr
      generalize (V.wTh 0).wTr t = V1 at hM1 hth htr ⊢
      refine hG.aload_n dX4_weigh_4 rfl ?_
      refine hG.aload_n dX4_weigh_5 rfl ?_
      refine hG.iload_n dX4_weigh_6 rfl ?_
      refine hG.callV dX4_weigh_7 kv_X4_133 (Rcv.raw mdL_m cl_X4) (sp_X4_weighsOne (N := N) (R := F.rv) (V := V1) hΓ hA hM1.1 hW.1) rfl rfl (Nat.le_of_ble_eq_true rfl) (by decide) (by omega) (by omega) (fun r7 I7 L7 hI7 h7 => ?_) (fun _ _ _ _ _ h => h.elim)
      obtain ⟨rfl, n, a9, r9, d9, rfl, hp⟩ := h7
      rw [ho] at hp
      obtain ⟨rfl, rfl, rfl, rfl⟩ := hp
      refine hG.iconst (v := 1) dX4_weigh_10 rfl ?_
      refine hG.callV dX4_weigh_11 kv_X4_91 (Rcv.raw mdL_m cl_X4) (sp_X4_endsN hΓ (v := -1) (by decide) rfl) rfl rfl (Nat.le_of_ble_eq_true rfl) (by decide) (by omega) (by omega) (fun r11 I11 L11 hI11 h11 => ?_) (fun _ _ _ _ _ h => h.elim)
      obtain ⟨rfl, rfl, rfl⟩ := h11
      refine hG.iret dX4_weigh_14 rfl ?_ (by omega) (by omega) trivial
      exact pMo.e2 ho (Mr.err1 hM1 false) (mv_th_wTh.trans (by decide))
    · refine hG.aload_n dX4_weigh_0 rfl ?_
      refine hG.callV dX4_weigh_1 kv_X4_84 (Rcv.raw mdL_m cl_X4) (sp_X4_tries hΓ hA) rfl rfl (Nat.le_of_ble_eq_true rfl) (by decide) (by omega) (by omega) (fun r1 I1 L1 hI1 h1 => ?_) (fun _ _ _ _ _ h => h.elim)
      obtain ⟨rfl, rfl, t, ht, rfl⟩ := h1
      have hT : Rep N F.rv t := hM.1.cg hW.1 ht
      have hM1 : Mr N F ((V.wTh 0).wTr t) := hM.eqv ⟨rfl, rfl, rfl, rfl, rfl⟩ (mv_nw_wTr.trans mv_nw_wTh) (mv_kp_wTr.trans mv_kp_wTh) (mv_un_wTr.trans mv_un_wTh) (mv_le_wTr.trans mv_le_wTh) (mv_tx_wTr.trans mv_tx_wTh) (mv_ld_wTr.trans mv_ld_wTh) (mv_ln_wTr.trans mv_ln_wTh) (mv_fa_wTr.trans (mv_fa_wTh.trans hM.efa)) (mv_re_wTr.trans (mv_re_wTh.trans hM.ere)) (mv_de_wTr.trans (mv_de_wTh.trans hM.ede)) (mv_is_wTr.trans mv_is_wTh) (mv_sv_wTr.trans mv_sv_wTh)
      have hth : ((V.wTh 0).wTr t).th = 0 := mv_th_wTr.trans mv_th_wTh
      have htr : ((V.wTh 0).wTr t).tr = t := mv_tr_wTr
      generalize (V.wTh 0).wTr t = V1 at hM1 hth htr ⊢
      refine hG.aload_n dX4_weigh_4 rfl ?_
      refine hG.aload_n dX4_weigh_5 rfl ?_
      refine hG.iload_n dX4_weigh_6 rfl ?_
      refine hG.callV dX4_weigh_7 kv_X4_133 (Rcv.raw mdL_m cl_X4) (sp_X4_weighsOne (N := N) (R := F.rv) (V := V1) hΓ hA hM1.1 hW.1) rfl rfl (Nat.le_of_ble_eq_true rfl) (by decide) (by omega) (by omega) (fun r7 I7 L7 hI7 h7 => ?_) (fun _ _ _ _ _ h => h.elim)
      obtain ⟨rfl, n, a9, r9, d9, rfl, hp⟩ := h7
      rw [ho] at hp
      obtain ⟨rfl, rfl, rfl, rfl⟩ := hp
      refine hG.iconst (v := 1) dX4_weigh_10 rfl ?_
      refine hG.callV dX4_weigh_11 kv_X4_91 (Rcv.raw mdL_m cl_X4) (sp_X4_endsN hΓ (v := -2) (by decide) rfl) rfl rfl (Nat.le_of_ble_eq_true rfl) (by decide) (by omega) (by omega) (fun r11 I11 L11 hI11 h11 => ?_) (fun _ _ _ _ _ h => h.elim)
      obtain ⟨rfl, rfl, rfl⟩ := h11
      refine hG.iret dX4_weigh_14 rfl ?_ (by omega) (by omega) trivial
      exact pMo.e2 ho (Mr.err1 hM1 true) (mv_th_wTh.trans (by decide))
  · refine hG.aload_n dX4_weigh_0 rfl ?_
    refine hG.callV dX4_weigh_1 kv_X4_84 (Rcv.raw mdL_m cl_X4) (sp_X4_tries hΓ hA) rfl rfl (Nat.le_of_ble_eq_true rfl) (by decide) (by omega) (by omega) (fun r1 I1 L1 hI1 h1 => ?_) (fun _ _ _ _ _ h => h.elim)
    obtain ⟨rfl, rfl, t, ht, rfl⟩ := h1
    have hT : Rep N F.rv t := hM.1.cg hW.1 ht
    have hM1 : Mr N F ((V.wTh 0).wTr t) := hM.eqv ⟨rfl, rfl, rfl, rfl, rfl⟩ (mv_nw_wTr.trans mv_nw_wTh) (mv_kp_wTr.trans mv_kp_wTh) (mv_un_wTr.trans mv_un_wTh) (mv_le_wTr.trans mv_le_wTh) (mv_tx_wTr.trans mv_tx_wTh) (mv_ld_wTr.trans mv_ld_wTh) (mv_ln_wTr.trans mv_ln_wTh) (mv_fa_wTr.trans (mv_fa_wTh.trans hM.efa)) (mv_re_wTr.trans (mv_re_wTh.trans hM.ere)) (mv_de_wTr.trans (mv_de_wTh.trans hM.ede)) (mv_is_wTr.trans mv_is_wTh) (mv_sv_wTr.trans mv_sv_wTh)
    have hth : ((V.wTh 0).wTr t).th = 0 := mv_th_wTr.trans mv_th_wTh
    have htr : ((V.wTh 0).wTr t).tr = t := mv_tr_wTr
    generalize (V.wTh 0).wTr t = V1 at hM1 hth htr ⊢
    refine hG.aload_n dX4_weigh_4 rfl ?_
    refine hG.aload_n dX4_weigh_5 rfl ?_
    refine hG.iload_n dX4_weigh_6 rfl ?_
    refine hG.callV dX4_weigh_7 kv_X4_133 (Rcv.raw mdL_m cl_X4) (sp_X4_weighsOne (N := N) (R := F.rv) (V := V1) hΓ hA hM1.1 hW.1) rfl rfl (Nat.le_of_ble_eq_true rfl) (by decide) (by omega) (by omega) (fun r7 I7 L7 hI7 h7 => ?_) (fun _ _ _ _ _ h => h.elim)
    obtain ⟨rfl, n, a9, r9, d9, rfl, hp⟩ := h7
    rw [ho] at hp
    obtain ⟨rfl, hpos, rfl, rfl, rfl⟩ := hp
    refine hG.iconst (v := 1) dX4_weigh_10 rfl ?_
    refine hG.callV dX4_weigh_11 kv_X4_91 (Rcv.raw mdL_m cl_X4) (sp_X4_endsN (c := 1) hΓ (fun e => by rw [e] at hpos; exact absurd hpos (by decide)) (if_neg (fun q => absurd (Int32.lt_trans hpos q) (by decide))).symm) rfl rfl (Nat.le_of_ble_eq_true rfl) (by decide) (by omega) (by omega) (fun r11 I11 L11 hI11 h11 => ?_) (fun _ _ _ _ _ h => h.elim)
    obtain ⟨rfl, rfl, rfl⟩ := h11
    refine hG.iret dX4_weigh_14 rfl ?_ (by omega) (by omega) trivial
    exact pMo.r2 ho (Mr.ref1 hM1 p) mv_th_wTh
theorem kv_X4_164 : LkV RX4 164 yX4_comes 4 := ⟨q3478, q3480, qs54, q87, by decide +kernel, by decide +kernel, by decide +kernel⟩
set_option maxHeartbeats 300000 in
set_option maxRecDepth 100000 in
theorem sp_X4_come {l : Launch} {s0 : State} {D : va_G} {I : AI} {L : AL} {m : Nat} {A : MA} {V : MV} {N : Nat} {F : Fy} (hΓ : Gam l s0 D) (hA : MOk m A) (hM : Mr N F V) (hW : WfF N F) {k f t9 n9 : Int32} (hN : N < 2 ^ 29) : Spc l s0 D yX4_come 9 [.ref m, .int k, .int f, .int t9, .int n9] I (mdL L m A V) 0 0 (pMo N I L m A F (fun b => match b with | true => 2 | false => 1) 3 (comO k f t9 n9 F.rv)) noX := by
  refine Spc.of hΓ cX4_come 5 (some FieldType.int) q3477 (by decide +kernel) (by decide) (Nat.le_of_ble_eq_true rfl) (fun G GX hG => ?_)
  rcases ho : comO k f t9 n9 F.rv with vR | b | p
  · obtain ⟨v, R2⟩ := vR
    refine hG.aload_n dX4_come_0 rfl ?_
    refine hG.callV dX4_come_1 kv_X4_84 (Rcv.raw mdL_m cl_X4) (sp_X4_tries hΓ hA) rfl rfl (Nat.le_of_ble_eq_true rfl) (by decide) (by omega) (by omega) (fun r1 I1 L1 hI1 h1 => ?_) (fun _ _ _ _ _ h => h.elim)
    obtain ⟨rfl, rfl, t, ht, rfl⟩ := h1
    have hT : Rep N F.rv t := hM.1.cg hW.1 ht
    have hM1 : Mr N F ((V.wTh 0).wTr t) := hM.eqv ⟨rfl, rfl, rfl, rfl, rfl⟩ (mv_nw_wTr.trans mv_nw_wTh) (mv_kp_wTr.trans mv_kp_wTh) (mv_un_wTr.trans mv_un_wTh) (mv_le_wTr.trans mv_le_wTh) (mv_tx_wTr.trans mv_tx_wTh) (mv_ld_wTr.trans mv_ld_wTh) (mv_ln_wTr.trans mv_ln_wTh) (mv_fa_wTr.trans (mv_fa_wTh.trans hM.efa)) (mv_re_wTr.trans (mv_re_wTh.trans hM.ere)) (mv_de_wTr.trans (mv_de_wTh.trans hM.ede)) (mv_is_wTr.trans mv_is_wTh) (mv_sv_wTr.trans mv_sv_wTh)
    have hth : ((V.wTh 0).wTr t).th = 0 := mv_th_wTr.trans mv_th_wTh
    have htr : ((V.wTh 0).wTr t).tr = t := mv_tr_wTr
    generalize (V.wTh 0).wTr t = V1 at hM1 hth htr ⊢
    refine hG.aload_n dX4_come_4 rfl ?_
    refine hG.aload_n dX4_come_5 rfl ?_
    refine hG.iload_n dX4_come_6 rfl ?_
    refine hG.iload_n dX4_come_7 rfl ?_
    refine hG.iload_n dX4_come_8 rfl ?_
    refine hG.iload dX4_come_9 rfl ?_
    refine hG.callV dX4_come_11 kv_X4_164 (Rcv.raw mdL_m cl_X4) (sp_X4_comes (N := N) (R := F.rv) (V := V1) hΓ hA hM1.1 hW.1 hN) rfl rfl (Nat.le_of_ble_eq_true rfl) (by decide) (by omega) (by omega) (fun r11 I11 L11 hI11 h11 => ?_) (fun _ _ _ _ _ h => h.elim)
    obtain ⟨rfl, n, a9, r9, d9, rfl, hp⟩ := h11
    rw [ho] at hp
    obtain ⟨rfl, hRn, rfl, rfl, rfl⟩ := hp
    refine hG.iconst (v := 3) dX4_come_14 rfl ?_
    refine hG.callV dX4_come_15 kv_X4_91 (Rcv.raw mdL_m cl_X4) (sp_X4_ends0 (N := N) (past := F.pa) (P0 := F.rv) (V := wX V1 n _ _ _) hΓ hA (by rw [wX_f.1]; exact hM1.2.1) (by rw [wX_f.2.1]; exact hM1.2.2.1) hW.2.2.1 hW.2.1 (by rw [wX_f.2.2, htr]; exact hT) hW.1) rfl rfl (Nat.le_of_ble_eq_true rfl) (by decide) (by omega) (by omega) (fun r15 I15 L15 hI15 h15 => ?_) (fun _ _ _ _ _ h => h.elim)
    obtain ⟨rfl, rfl, kp, hkp, rfl⟩ := h15
    refine hG.iret dX4_come_18 rfl ?_ (by omega) (by omega) trivial
    exact pMo.d ho (Mr.don1 hM1 hRn (hkp.mono (Nat.le_succ N))) (wX_th.trans hth)
  · rcases b with _ | _
    · refine hG.aload_n dX4_come_0 rfl ?_
      refine hG.callV dX4_come_1 kv_X4_84 (Rcv.raw mdL_m cl_X4) (sp_X4_tries hΓ hA) rfl rfl (Nat.le_of_ble_eq_true rfl) (by decide) (by omega) (by omega) (fun r1 I1 L1 hI1 h1 => ?_) (fun _ _ _ _ _ h => h.elim)
      obtain ⟨rfl, rfl, t, ht, rfl⟩ := h1
      have hT : Rep N F.rv t := hM.1.cg hW.1 ht
      have hM1 : Mr N F ((V.wTh 0).wTr t) := hM.eqv ⟨rfl, rfl, rfl, rfl, rfl⟩ (mv_nw_wTr.trans mv_nw_wTh) (mv_kp_wTr.trans mv_kp_wTh) (mv_un_wTr.trans mv_un_wTh) (mv_le_wTr.trans mv_le_wTh) (mv_tx_wTr.trans mv_tx_wTh) (mv_ld_wTr.trans mv_ld_wTh) (mv_ln_wTr.trans mv_ln_wTh) (mv_fa_wTr.trans (mv_fa_wTh.trans hM.efa)) (mv_re_wTr.trans (mv_re_wTh.trans hM.ere)) (mv_de_wTr.trans (mv_de_wTh.trans hM.ede)) (mv_is_wTr.trans mv_is_wTh) (mv_sv_wTr.trans mv_sv_wTh)
      have hth : ((V.wTh 0).wTr t).th = 0 := mv_th_wTr.trans mv_th_wTh
      have htr : ((V.wTh 0).wTr t).tr = t := mv_tr_wTr
      generalize (V.wTh 0).wTr t = V1 at hM1 hth htr ⊢
      refine hG.aload_n dX4_come_4 rfl ?_
      refine hG.aload_n dX4_come_5 rfl ?_
      refine hG.iload_n dX4_come_6 rfl ?_
      refine hG.iload_n dX4_come_7 rfl ?_
      refine hG.iload_n dX4_come_8 rfl ?_
      refine hG.iload dX4_come_9 rfl ?_
      refine hG.callV dX4_come_11 kv_X4_164 (Rcv.raw mdL_m cl_X4) (sp_X4_comes (N := N) (R := F.rv) (V := V1) hΓ hA hM1.1 hW.1 hN) rfl rfl (Nat.le_of_ble_eq_true rfl) (by decide) (by omega) (by omega) (fun r11 I11 L11 hI11 h11 => ?_) (fun _ _ _ _ _ h => h.elim)
      obtain ⟨rfl, n, a9, r9, d9, rfl, hp⟩ := h11
      rw [ho] at hp
      obtain ⟨rfl, rfl, rfl, rfl⟩ := hp
      refine hG.iconst (v := 3) dX4_come_14 rfl ?_
      refine hG.callV dX4_come_15 kv_X4_91 (Rcv.raw mdL_m cl_X4) (sp_X4_endsN hΓ (v := -1) (by decide) rfl) rfl rfl (Nat.le_of_ble_eq_true rfl) (by decide) (by omega) (by omega) (fun r15 I15 L15 hI15 h15 => ?_) (fun _ _ _ _ _ h => h.elim)
      obtain ⟨rfl, rfl, rfl⟩ := h15
      refine hG.iret dX4_come_18 rfl ?_ (by omega) (by omega) trivial
      exact pMo.e2 ho (Mr.err1 hM1 false) (mv_th_wTh.trans (by decide))
    · refine hG.aload_n dX4_come_0 rfl ?_
      refine hG.callV dX4_come_1 kv_X4_84 (Rcv.raw mdL_m cl_X4) (sp_X4_tries hΓ hA) rfl rfl (Nat.le_of_ble_eq_true rfl) (by decide) (by omega) (by omega) (fun r1 I1 L1 hI1 h1 => ?_) (fun _ _ _ _ _ h => h.elim)
      obtain ⟨rfl, rfl, t, ht, rfl⟩ := h1
      have hT : Rep N F.rv t := hM.1.cg hW.1 ht
      have hM1 : Mr N F ((V.wTh 0).wTr t) := hM.eqv ⟨rfl, rfl, rfl, rfl, rfl⟩ (mv_nw_wTr.trans mv_nw_wTh) (mv_kp_wTr.trans mv_kp_wTh) (mv_un_wTr.trans mv_un_wTh) (mv_le_wTr.trans mv_le_wTh) (mv_tx_wTr.trans mv_tx_wTh) (mv_ld_wTr.trans mv_ld_wTh) (mv_ln_wTr.trans mv_ln_wTh) (mv_fa_wTr.trans (mv_fa_wTh.trans hM.efa)) (mv_re_wTr.trans (mv_re_wTh.trans hM.ere)) (mv_de_wTr.trans (mv_de_wTh.trans hM.ede)) (mv_is_wTr.trans mv_is_wTh) (mv_sv_wTr.trans mv_sv_wTh)
      have hth : ((V.wTh 0).wTr t).th = 0 := mv_th_wTr.trans mv_th_wTh
      have htr : ((V.wTh 0).wTr t).tr = t := mv_tr_wTr
      generalize (V.wTh 0).wTr t = V1 at hM1 hth htr ⊢
      refine hG.aload_n dX4_come_4 rfl ?_
      refine hG.aload_n dX4_come_5 rfl ?_
      refine hG.iload_n dX4_come_6 rfl ?_
      refine hG.iload_n dX4_come_7 rfl ?_
      refine hG.iload_n dX4_come_8 rfl ?_
      refine hG.iload dX4_come_9 rfl ?_
      refine hG.callV dX4_come_11 kv_X4_164 (Rcv.raw mdL_m cl_X4) (sp_X4_comes (N := N) (R := F.rv) (V := V1) hΓ hA hM1.1 hW.1 hN) rfl rfl (Nat.le_of_ble_eq_true rfl) (by decide) (by omega) (by omega) (fun r11 I11 L11 hI11 h11 => ?_) (fun _ _ _ _ _ h => h.elim)
      obtain ⟨rfl, n, a9, r9, d9, rfl, hp⟩ := h11
      rw [ho] at hp
      obtain ⟨rfl, rfl, rfl, rfl⟩ := hp
      refine hG.iconst (v := 3) dX4_come_14 rfl ?_
      refine hG.callV dX4_come_15 kv_X4_91 (Rcv.raw mdL_m cl_X4) (sp_X4_endsN hΓ (v := -2) (by decide) rfl) rfl rfl (Nat.le_of_ble_eq_true rfl) (by decide) (by omega) (by omega) (fun r15 I15 L15 hI15 h15 => ?_) (fun _ _ _ _ _ h => h.elim)
      obtain ⟨rfl, rfl, rfl⟩ := h15
      refine hG.iret dX4_come_18 rfl ?_ (by omega) (by omega) trivial
      exact pMo.e2 ho (Mr.err1 hM1 true) (mv_th_wTh.trans (by decide))
  · refine hG.aload_n dX4_come_0 rfl ?_
    refine hG.callV dX4_come_1 kv_X4_84 (Rcv.raw mdL_m cl_X4) (sp_X4_tries hΓ hA) rfl rfl (Nat.le_of_ble_eq_true rfl) (by decide) (by omega) (by omega) (fun r1 I1 L1 hI1 h1 => ?_) (fun _ _ _ _ _ h => h.elim)
    obtain ⟨rfl, rfl, t, ht, rfl⟩ := h1
    have hT : Rep N F.rv t := hM.1.cg hW.1 ht
    have hM1 : Mr N F ((V.wTh 0).wTr t) := hM.eqv ⟨rfl, rfl, rfl, rfl, rfl⟩ (mv_nw_wTr.trans mv_nw_wTh) (mv_kp_wTr.trans mv_kp_wTh) (mv_un_wTr.trans mv_un_wTh) (mv_le_wTr.trans mv_le_wTh) (mv_tx_wTr.trans mv_tx_wTh) (mv_ld_wTr.trans mv_ld_wTh) (mv_ln_wTr.trans mv_ln_wTh) (mv_fa_wTr.trans (mv_fa_wTh.trans hM.efa)) (mv_re_wTr.trans (mv_re_wTh.trans hM.ere)) (mv_de_wTr.trans (mv_de_wTh.trans hM.ede)) (mv_is_wTr.trans mv_is_wTh) (mv_sv_wTr.trans mv_sv_wTh)
    have hth : ((V.wTh 0).wTr t).th = 0 := mv_th_wTr.trans mv_th_wTh
    have htr : ((V.wTh 0).wTr t).tr = t := mv_tr_wTr
    generalize (V.wTh 0).wTr t = V1 at hM1 hth htr ⊢
    refine hG.aload_n dX4_come_4 rfl ?_
    refine hG.aload_n dX4_come_5 rfl ?_
    refine hG.iload_n dX4_come_6 rfl ?_
    refine hG.iload_n dX4_come_7 rfl ?_
    refine hG.iload_n dX4_come_8 rfl ?_
    refine hG.iload dX4_come_9 rfl ?_
    refine hG.callV dX4_come_11 kv_X4_164 (Rcv.raw mdL_m cl_X4) (sp_X4_comes (N := N) (R := F.rv) (V := V1) hΓ hA hM1.1 hW.1 hN) rfl rfl (Nat.le_of_ble_eq_true rfl) (by decide) (by omega) (by omega) (fun r11 I11 L11 hI11 h11 => ?_) (fun _ _ _ _ _ h => h.elim)
    obtain ⟨rfl, n, a9, r9, d9, rfl, hp⟩ := h11
    rw [ho] at hp
    obtain ⟨rfl, hpos, rfl, rfl, rfl⟩ := hp
    refine hG.iconst (v := 3) dX4_come_14 rfl ?_
    refine hG.callV dX4_come_15 kv_X4_91 (Rcv.raw mdL_m cl_X4) (sp_X4_endsN (c := 3) hΓ (fun e => by rw [e] at hpos; exact absurd hpos (by decide)) (if_neg (fun q => absurd (Int32.lt_trans hpos q) (by decide))).symm) rfl rfl (Nat.le_of_ble_eq_true rfl) (by decide) (by omega) (by omega) (fun r15 I15 L15 hI15 h15 => ?_) (fun _ _ _ _ _ h => h.elim)
    obtain ⟨rfl, rfl, rfl⟩ := h15
    refine hG.iret dX4_come_18 rfl ?_ (by omega) (by omega) trivial
    exact pMo.r2 ho (Mr.ref1 hM1 p) mv_th_wTh
theorem kv_X4_168 : LkV RX4 168 yX4_boards 4 := ⟨q3497, q3499, qs56, q87, by decide +kernel, by decide +kernel, by decide +kernel⟩
set_option maxHeartbeats 300000 in
set_option maxRecDepth 100000 in
theorem sp_X4_board {l : Launch} {s0 : State} {D : va_G} {I : AI} {L : AL} {m : Nat} {A : MA} {V : MV} {N : Nat} {F : Fy} (hΓ : Gam l s0 D) (hA : MOk m A) (hM : Mr N F V) (hW : WfF N F) {k t9 n9 : Int32} {w : Bool} : Spc l s0 D yX4_board 9 [.ref m, .int k, .int t9, .int n9, .int (b2i w)] I (mdL L m A V) 0 0 (pMo N I L m A F (fun b => match b with | true => 2 | false => 1) 3 (boaO k t9 n9 (b2i w) F.rv)) noX := by
  refine Spc.of hΓ cX4_board 5 (some FieldType.int) q3496 (by decide +kernel) (by decide) (Nat.le_of_ble_eq_true rfl) (fun G GX hG => ?_)
  rcases ho : boaO k t9 n9 (b2i w) F.rv with vR | b | p
  · obtain ⟨v, R2⟩ := vR
    refine hG.aload_n dX4_board_0 rfl ?_
    refine hG.callV dX4_board_1 kv_X4_84 (Rcv.raw mdL_m cl_X4) (sp_X4_tries hΓ hA) rfl rfl (Nat.le_of_ble_eq_true rfl) (by decide) (by omega) (by omega) (fun r1 I1 L1 hI1 h1 => ?_) (fun _ _ _ _ _ h => h.elim)
    obtain ⟨rfl, rfl, t, ht, rfl⟩ := h1
    have hT : Rep N F.rv t := hM.1.cg hW.1 ht
    have hM1 : Mr N F ((V.wTh 0).wTr t) := hM.eqv ⟨rfl, rfl, rfl, rfl, rfl⟩ (mv_nw_wTr.trans mv_nw_wTh) (mv_kp_wTr.trans mv_kp_wTh) (mv_un_wTr.trans mv_un_wTh) (mv_le_wTr.trans mv_le_wTh) (mv_tx_wTr.trans mv_tx_wTh) (mv_ld_wTr.trans mv_ld_wTh) (mv_ln_wTr.trans mv_ln_wTh) (mv_fa_wTr.trans (mv_fa_wTh.trans hM.efa)) (mv_re_wTr.trans (mv_re_wTh.trans hM.ere)) (mv_de_wTr.trans (mv_de_wTh.trans hM.ede)) (mv_is_wTr.trans mv_is_wTh) (mv_sv_wTr.trans mv_sv_wTh)
    have hth : ((V.wTh 0).wTr t).th = 0 := mv_th_wTr.trans mv_th_wTh
    have htr : ((V.wTh 0).wTr t).tr = t := mv_tr_wTr
    generalize (V.wTh 0).wTr t = V1 at hM1 hth htr ⊢
    refine hG.aload_n dX4_board_4 rfl ?_
    refine hG.aload_n dX4_board_5 rfl ?_
    refine hG.iload_n dX4_board_6 rfl ?_
    refine hG.iload_n dX4_board_7 rfl ?_
    refine hG.iload_n dX4_board_8 rfl ?_
    refine hG.iload dX4_board_9 rfl ?_
    refine hG.callV dX4_board_11 kv_X4_168 (Rcv.raw mdL_m cl_X4) (sp_X4_boards (N := N) (R := F.rv) (V := V1) hΓ hA hM1.1 hW.1) rfl rfl (Nat.le_of_ble_eq_true rfl) (by decide) (by omega) (by omega) (fun r11 I11 L11 hI11 h11 => ?_) (fun _ _ _ _ _ h => h.elim)
    obtain ⟨rfl, n, a9, r9, d9, rfl, hp⟩ := h11
    rw [ho] at hp
    obtain ⟨rfl, hRn, rfl, rfl, rfl⟩ := hp
    refine hG.iconst (v := 3) dX4_board_14 rfl ?_
    refine hG.callV dX4_board_15 kv_X4_91 (Rcv.raw mdL_m cl_X4) (sp_X4_ends0 (N := N) (past := F.pa) (P0 := F.rv) (V := wX V1 n _ _ _) hΓ hA (by rw [wX_f.1]; exact hM1.2.1) (by rw [wX_f.2.1]; exact hM1.2.2.1) hW.2.2.1 hW.2.1 (by rw [wX_f.2.2, htr]; exact hT) hW.1) rfl rfl (Nat.le_of_ble_eq_true rfl) (by decide) (by omega) (by omega) (fun r15 I15 L15 hI15 h15 => ?_) (fun _ _ _ _ _ h => h.elim)
    obtain ⟨rfl, rfl, kp, hkp, rfl⟩ := h15
    refine hG.iret dX4_board_18 rfl ?_ (by omega) (by omega) trivial
    exact pMo.d ho (Mr.don1 hM1 hRn (hkp.mono (Nat.le_succ N))) (wX_th.trans hth)
  · rcases b with _ | _
    · refine hG.aload_n dX4_board_0 rfl ?_
      refine hG.callV dX4_board_1 kv_X4_84 (Rcv.raw mdL_m cl_X4) (sp_X4_tries hΓ hA) rfl rfl (Nat.le_of_ble_eq_true rfl) (by decide) (by omega) (by omega) (fun r1 I1 L1 hI1 h1 => ?_) (fun _ _ _ _ _ h => h.elim)
      obtain ⟨rfl, rfl, t, ht, rfl⟩ := h1
      have hT : Rep N F.rv t := hM.1.cg hW.1 ht
      have hM1 : Mr N F ((V.wTh 0).wTr t) := hM.eqv ⟨rfl, rfl, rfl, rfl, rfl⟩ (mv_nw_wTr.trans mv_nw_wTh) (mv_kp_wTr.trans mv_kp_wTh) (mv_un_wTr.trans mv_un_wTh) (mv_le_wTr.trans mv_le_wTh) (mv_tx_wTr.trans mv_tx_wTh) (mv_ld_wTr.trans mv_ld_wTh) (mv_ln_wTr.trans mv_ln_wTh) (mv_fa_wTr.trans (mv_fa_wTh.trans hM.efa)) (mv_re_wTr.trans (mv_re_wTh.trans hM.ere)) (mv_de_wTr.trans (mv_de_wTh.trans hM.ede)) (mv_is_wTr.trans mv_is_wTh) (mv_sv_wTr.trans mv_sv_wTh)
      have hth : ((V.wTh 0).wTr t).th = 0 := mv_th_wTr.trans mv_th_wTh
      have htr : ((V.wTh 0).wTr t).tr = t := mv_tr_wTr
      generalize (V.wTh 0).wTr t = V1 at hM1 hth htr ⊢
      refine hG.aload_n dX4_board_4 rfl ?_
      refine hG.aload_n dX4_board_5 rfl ?_
      refine hG.iload_n dX4_board_6 rfl ?_
      refine hG.iload_n dX4_board_7 rfl ?_
      refine hG.iload_n dX4_board_8 rfl ?_
      refine hG.iload dX4_board_9 rfl ?_
      refine hG.callV dX4_board_11 kv_X4_168 (Rcv.raw mdL_m cl_X4) (sp_X4_boards (N := N) (R := F.rv) (V := V1) hΓ hA hM1.1 hW.1) rfl rfl (Nat.le_of_ble_eq_true rfl) (by decide) (by omega) (by omega) (fun r11 I11 L11 hI11 h11 => ?_) (fun _ _ _ _ _ h => h.elim)
      obtain ⟨rfl, n, a9, r9, d9, rfl, hp⟩ := h11
      rw [ho] at hp
      obtain ⟨rfl, rfl, rfl, rfl⟩ := hp
      refine hG.iconst (v := 3) dX4_board_14 rfl ?_
      refine hG.callV dX4_board_15 kv_X4_91 (Rcv.raw mdL_m cl_X4) (sp_X4_endsN hΓ (v := -1) (by decide) rfl) rfl rfl (Nat.le_of_ble_eq_true rfl) (by decide) (by omega) (by omega) (fun r15 I15 L15 hI15 h15 => ?_) (fun _ _ _ _ _ h => h.elim)
      obtain ⟨rfl, rfl, rfl⟩ := h15
      refine hG.iret dX4_board_18 rfl ?_ (by omega) (by omega) trivial
      exact pMo.e2 ho (Mr.err1 hM1 false) (mv_th_wTh.trans (by decide))
    · refine hG.aload_n dX4_board_0 rfl ?_
      refine hG.callV dX4_board_1 kv_X4_84 (Rcv.raw mdL_m cl_X4) (sp_X4_tries hΓ hA) rfl rfl (Nat.le_of_ble_eq_true rfl) (by decide) (by omega) (by omega) (fun r1 I1 L1 hI1 h1 => ?_) (fun _ _ _ _ _ h => h.elim)
      obtain ⟨rfl, rfl, t, ht, rfl⟩ := h1
      have hT : Rep N F.rv t := hM.1.cg hW.1 ht
      have hM1 : Mr N F ((V.wTh 0).wTr t) := hM.eqv ⟨rfl, rfl, rfl, rfl, rfl⟩ (mv_nw_wTr.trans mv_nw_wTh) (mv_kp_wTr.trans mv_kp_wTh) (mv_un_wTr.trans mv_un_wTh) (mv_le_wTr.trans mv_le_wTh) (mv_tx_wTr.trans mv_tx_wTh) (mv_ld_wTr.trans mv_ld_wTh) (mv_ln_wTr.trans mv_ln_wTh) (mv_fa_wTr.trans (mv_fa_wTh.trans hM.efa)) (mv_re_wTr.trans (mv_re_wTh.trans hM.ere)) (mv_de_wTr.trans (mv_de_wTh.trans hM.ede)) (mv_is_wTr.trans mv_is_wTh) (mv_sv_wTr.trans mv_sv_wTh)
      have hth : ((V.wTh 0).wTr t).th = 0 := mv_th_wTr.trans mv_th_wTh
      have htr : ((V.wTh 0).wTr t).tr = t := mv_tr_wTr
      generalize (V.wTh 0).wTr t = V1 at hM1 hth htr ⊢
      refine hG.aload_n dX4_board_4 rfl ?_
      refine hG.aload_n dX4_board_5 rfl ?_
      refine hG.iload_n dX4_board_6 rfl ?_
      refine hG.iload_n dX4_board_7 rfl ?_
      refine hG.iload_n dX4_board_8 rfl ?_
      refine hG.iload dX4_board_9 rfl ?_
      refine hG.callV dX4_board_11 kv_X4_168 (Rcv.raw mdL_m cl_X4) (sp_X4_boards (N := N) (R := F.rv) (V := V1) hΓ hA hM1.1 hW.1) rfl rfl (Nat.le_of_ble_eq_true rfl) (by decide) (by omega) (by omega) (fun r11 I11 L11 hI11 h11 => ?_) (fun _ _ _ _ _ h => h.elim)
      obtain ⟨rfl, n, a9, r9, d9, rfl, hp⟩ := h11
      rw [ho] at hp
      obtain ⟨rfl, rfl, rfl, rfl⟩ := hp
      refine hG.iconst (v := 3) dX4_board_14 rfl ?_
      refine hG.callV dX4_board_15 kv_X4_91 (Rcv.raw mdL_m cl_X4) (sp_X4_endsN hΓ (v := -2) (by decide) rfl) rfl rfl (Nat.le_of_ble_eq_true rfl) (by decide) (by omega) (by omega) (fun r15 I15 L15 hI15 h15 => ?_) (fun _ _ _ _ _ h => h.elim)
      obtain ⟨rfl, rfl, rfl⟩ := h15
      refine hG.iret dX4_board_18 rfl ?_ (by omega) (by omega) trivial
      exact pMo.e2 ho (Mr.err1 hM1 true) (mv_th_wTh.trans (by decide))
  · refine hG.aload_n dX4_board_0 rfl ?_
    refine hG.callV dX4_board_1 kv_X4_84 (Rcv.raw mdL_m cl_X4) (sp_X4_tries hΓ hA) rfl rfl (Nat.le_of_ble_eq_true rfl) (by decide) (by omega) (by omega) (fun r1 I1 L1 hI1 h1 => ?_) (fun _ _ _ _ _ h => h.elim)
    obtain ⟨rfl, rfl, t, ht, rfl⟩ := h1
    have hT : Rep N F.rv t := hM.1.cg hW.1 ht
    have hM1 : Mr N F ((V.wTh 0).wTr t) := hM.eqv ⟨rfl, rfl, rfl, rfl, rfl⟩ (mv_nw_wTr.trans mv_nw_wTh) (mv_kp_wTr.trans mv_kp_wTh) (mv_un_wTr.trans mv_un_wTh) (mv_le_wTr.trans mv_le_wTh) (mv_tx_wTr.trans mv_tx_wTh) (mv_ld_wTr.trans mv_ld_wTh) (mv_ln_wTr.trans mv_ln_wTh) (mv_fa_wTr.trans (mv_fa_wTh.trans hM.efa)) (mv_re_wTr.trans (mv_re_wTh.trans hM.ere)) (mv_de_wTr.trans (mv_de_wTh.trans hM.ede)) (mv_is_wTr.trans mv_is_wTh) (mv_sv_wTr.trans mv_sv_wTh)
    have hth : ((V.wTh 0).wTr t).th = 0 := mv_th_wTr.trans mv_th_wTh
    have htr : ((V.wTh 0).wTr t).tr = t := mv_tr_wTr
    generalize (V.wTh 0).wTr t = V1 at hM1 hth htr ⊢
    refine hG.aload_n dX4_board_4 rfl ?_
    refine hG.aload_n dX4_board_5 rfl ?_
    refine hG.iload_n dX4_board_6 rfl ?_
    refine hG.iload_n dX4_board_7 rfl ?_
    refine hG.iload_n dX4_board_8 rfl ?_
    refine hG.iload dX4_board_9 rfl ?_
    refine hG.callV dX4_board_11 kv_X4_168 (Rcv.raw mdL_m cl_X4) (sp_X4_boards (N := N) (R := F.rv) (V := V1) hΓ hA hM1.1 hW.1) rfl rfl (Nat.le_of_ble_eq_true rfl) (by decide) (by omega) (by omega) (fun r11 I11 L11 hI11 h11 => ?_) (fun _ _ _ _ _ h => h.elim)
    obtain ⟨rfl, n, a9, r9, d9, rfl, hp⟩ := h11
    rw [ho] at hp
    obtain ⟨rfl, hpos, rfl, rfl, rfl⟩ := hp
    refine hG.iconst (v := 3) dX4_board_14 rfl ?_
    refine hG.callV dX4_board_15 kv_X4_91 (Rcv.raw mdL_m cl_X4) (sp_X4_endsN (c := 3) hΓ (fun e => by rw [e] at hpos; exact absurd hpos (by decide)) (if_neg (fun q => absurd (Int32.lt_trans hpos q) (by decide))).symm) rfl rfl (Nat.le_of_ble_eq_true rfl) (by decide) (by omega) (by omega) (fun r15 I15 L15 hI15 h15 => ?_) (fun _ _ _ _ _ h => h.elim)
    obtain ⟨rfl, rfl, rfl⟩ := h15
    refine hG.iret dX4_board_18 rfl ?_ (by omega) (by omega) trivial
    exact pMo.r2 ho (Mr.ref1 hM1 p) mv_th_wTh
theorem kv_X4_217 : LkV RX4 217 yX4_passes 1 := ⟨q3572, q3574, qs64, q87, by decide +kernel, by decide +kernel, by decide +kernel⟩
set_option maxHeartbeats 300000 in
set_option maxRecDepth 100000 in
theorem sp_X4_pass {l : Launch} {s0 : State} {D : va_G} {I : AI} {L : AL} {m : Nat} {A : MA} {V : MV} {N : Nat} {F : Fy} (hΓ : Gam l s0 D) (hA : MOk m A) (hM : Mr N F V) (hW : WfF N F) {n9 : Int32} : Spc l s0 D yX4_pass 9 [.ref m, .int n9] I (mdL L m A V) 0 0 (pMo N I L m A F (fun _ => 1) 2 (pasO n9 F.rv)) noX := by
  refine Spc.of hΓ cX4_pass 2 (some FieldType.int) q3571 (by decide +kernel) (by decide) (Nat.le_of_ble_eq_true rfl) (fun G GX hG => ?_)
  rcases ho : pasO n9 F.rv with vR | b | p
  · obtain ⟨v, R2⟩ := vR
    refine hG.aload_n dX4_pass_0 rfl ?_
    refine hG.callV dX4_pass_1 kv_X4_84 (Rcv.raw mdL_m cl_X4) (sp_X4_tries hΓ hA) rfl rfl (Nat.le_of_ble_eq_true rfl) (by decide) (by omega) (by omega) (fun r1 I1 L1 hI1 h1 => ?_) (fun _ _ _ _ _ h => h.elim)
    obtain ⟨rfl, rfl, t, ht, rfl⟩ := h1
    have hT : Rep N F.rv t := hM.1.cg hW.1 ht
    have hM1 : Mr N F ((V.wTh 0).wTr t) := hM.eqv ⟨rfl, rfl, rfl, rfl, rfl⟩ (mv_nw_wTr.trans mv_nw_wTh) (mv_kp_wTr.trans mv_kp_wTh) (mv_un_wTr.trans mv_un_wTh) (mv_le_wTr.trans mv_le_wTh) (mv_tx_wTr.trans mv_tx_wTh) (mv_ld_wTr.trans mv_ld_wTh) (mv_ln_wTr.trans mv_ln_wTh) (mv_fa_wTr.trans (mv_fa_wTh.trans hM.efa)) (mv_re_wTr.trans (mv_re_wTh.trans hM.ere)) (mv_de_wTr.trans (mv_de_wTh.trans hM.ede)) (mv_is_wTr.trans mv_is_wTh) (mv_sv_wTr.trans mv_sv_wTh)
    have hth : ((V.wTh 0).wTr t).th = 0 := mv_th_wTr.trans mv_th_wTh
    have htr : ((V.wTh 0).wTr t).tr = t := mv_tr_wTr
    generalize (V.wTh 0).wTr t = V1 at hM1 hth htr ⊢
    refine hG.aload_n dX4_pass_4 rfl ?_
    refine hG.aload_n dX4_pass_5 rfl ?_
    refine hG.iload_n dX4_pass_6 rfl ?_
    refine hG.callV dX4_pass_7 kv_X4_217 (Rcv.raw mdL_m cl_X4) (sp_X4_passes (N := N) (R := F.rv) (V := V1) hΓ hA hM1.1 hW.1) rfl rfl (Nat.le_of_ble_eq_true rfl) (by decide) (by omega) (by omega) (fun r7 I7 L7 hI7 h7 => ?_) (fun _ _ _ _ _ h => h.elim)
    obtain ⟨rfl, n, a9, r9, d9, rfl, hp⟩ := h7
    rw [ho] at hp
    obtain ⟨rfl, hRn, rfl, rfl, rfl⟩ := hp
    refine hG.iconst (v := 2) dX4_pass_10 rfl ?_
    refine hG.callV dX4_pass_11 kv_X4_91 (Rcv.raw mdL_m cl_X4) (sp_X4_ends0 (N := N) (past := F.pa) (P0 := F.rv) (V := wX V1 n _ _ _) hΓ hA (by rw [wX_f.1]; exact hM1.2.1) (by rw [wX_f.2.1]; exact hM1.2.2.1) hW.2.2.1 hW.2.1 (by rw [wX_f.2.2, htr]; exact hT) hW.1) rfl rfl (Nat.le_of_ble_eq_true rfl) (by decide) (by omega) (by omega) (fun r11 I11 L11 hI11 h11 => ?_) (fun _ _ _ _ _ h => h.elim)
    obtain ⟨rfl, rfl, kp, hkp, rfl⟩ := h11
    refine hG.iret dX4_pass_14 rfl ?_ (by omega) (by omega) trivial
    exact pMo.d ho (Mr.don1 hM1 hRn (hkp.mono (Nat.le_succ N))) (wX_th.trans hth)
  · rcases b with _ | _
    · refine hG.aload_n dX4_pass_0 rfl ?_
      refine hG.callV dX4_pass_1 kv_X4_84 (Rcv.raw mdL_m cl_X4) (sp_X4_tries hΓ hA) rfl rfl (Nat.le_of_ble_eq_true rfl) (by decide) (by omega) (by omega) (fun r1 I1 L1 hI1 h1 => ?_) (fun _ _ _ _ _ h => h.elim)
      obtain ⟨rfl, rfl, t, ht, rfl⟩ := h1
      have hT : Rep N F.rv t := hM.1.cg hW.1 ht
      have hM1 : Mr N F ((V.wTh 0).wTr t) := hM.eqv ⟨rfl, rfl, rfl, rfl, rfl⟩ (mv_nw_wTr.trans mv_nw_wTh) (mv_kp_wTr.trans mv_kp_wTh) (mv_un_wTr.trans mv_un_wTh) (mv_le_wTr.trans mv_le_wTh) (mv_tx_wTr.trans mv_tx_wTh) (mv_ld_wTr.trans mv_ld_wTh) (mv_ln_wTr.trans mv_ln_wTh) (mv_fa_wTr.trans (mv_fa_wTh.trans hM.efa)) (mv_re_wTr.trans (mv_re_wTh.trans hM.ere)) (mv_de_wTr.trans (mv_de_wTh.trans hM.ede)) (mv_is_wTr.trans mv_is_wTh) (mv_sv_wTr.trans mv_sv_wTh)
      have hth : ((V.wTh 0).wTr t).th = 0 := mv_th_wTr.trans mv_th_wTh
      have htr : ((V.wTh 0).wTr t).tr = t := mv_tr_wTr
      generalize (V.wTh 0).wTr t = V1 at hM1 hth htr ⊢
      refine hG.aload_n dX4_pass_4 rfl ?_
      refine hG.aload_n dX4_pass_5 rfl ?_
      refine hG.iload_n dX4_pass_6 rfl ?_
      refine hG.callV dX4_pass_7 kv_X4_217 (Rcv.raw mdL_m cl_X4) (sp_X4_passes (N := N) (R := F.rv) (V := V1) hΓ hA hM1.1 hW.1) rfl rfl (Nat.le_of_ble_eq_true rfl) (by decide) (by omega) (by omega) (fun r7 I7 L7 hI7 h7 => ?_) (fun _ _ _ _ _ h => h.elim)
      obtain ⟨rfl, n, a9, r9, d9, rfl, hp⟩ := h7
      rw [ho] at hp
      obtain ⟨rfl, rfl, rfl, rfl⟩ := hp
      refine hG.iconst (v := 2) dX4_pass_10 rfl ?_
      refine hG.callV dX4_pass_11 kv_X4_91 (Rcv.raw mdL_m cl_X4) (sp_X4_endsN hΓ (v := -1) (by decide) rfl) rfl rfl (Nat.le_of_ble_eq_true rfl) (by decide) (by omega) (by omega) (fun r11 I11 L11 hI11 h11 => ?_) (fun _ _ _ _ _ h => h.elim)
      obtain ⟨rfl, rfl, rfl⟩ := h11
      refine hG.iret dX4_pass_14 rfl ?_ (by omega) (by omega) trivial
      exact pMo.e2 ho (Mr.err1 hM1 false) (mv_th_wTh.trans (by decide))
    · refine hG.aload_n dX4_pass_0 rfl ?_
      refine hG.callV dX4_pass_1 kv_X4_84 (Rcv.raw mdL_m cl_X4) (sp_X4_tries hΓ hA) rfl rfl (Nat.le_of_ble_eq_true rfl) (by decide) (by omega) (by omega) (fun r1 I1 L1 hI1 h1 => ?_) (fun _ _ _ _ _ h => h.elim)
      obtain ⟨rfl, rfl, t, ht, rfl⟩ := h1
      have hT : Rep N F.rv t := hM.1.cg hW.1 ht
      have hM1 : Mr N F ((V.wTh 0).wTr t) := hM.eqv ⟨rfl, rfl, rfl, rfl, rfl⟩ (mv_nw_wTr.trans mv_nw_wTh) (mv_kp_wTr.trans mv_kp_wTh) (mv_un_wTr.trans mv_un_wTh) (mv_le_wTr.trans mv_le_wTh) (mv_tx_wTr.trans mv_tx_wTh) (mv_ld_wTr.trans mv_ld_wTh) (mv_ln_wTr.trans mv_ln_wTh) (mv_fa_wTr.trans (mv_fa_wTh.trans hM.efa)) (mv_re_wTr.trans (mv_re_wTh.trans hM.ere)) (mv_de_wTr.trans (mv_de_wTh.trans hM.ede)) (mv_is_wTr.trans mv_is_wTh) (mv_sv_wTr.trans mv_sv_wTh)
      have hth : ((V.wTh 0).wTr t).th = 0 := mv_th_wTr.trans mv_th_wTh
      have htr : ((V.wTh 0).wTr t).tr = t := mv_tr_wTr
      generalize (V.wTh 0).wTr t = V1 at hM1 hth htr ⊢
      refine hG.aload_n dX4_pass_4 rfl ?_
      refine hG.aload_n dX4_pass_5 rfl ?_
      refine hG.iload_n dX4_pass_6 rfl ?_
      refine hG.callV dX4_pass_7 kv_X4_217 (Rcv.raw mdL_m cl_X4) (sp_X4_passes (N := N) (R := F.rv) (V := V1) hΓ hA hM1.1 hW.1) rfl rfl (Nat.le_of_ble_eq_true rfl) (by decide) (by omega) (by omega) (fun r7 I7 L7 hI7 h7 => ?_) (fun _ _ _ _ _ h => h.elim)
      obtain ⟨rfl, n, a9, r9, d9, rfl, hp⟩ := h7
      rw [ho] at hp
      obtain ⟨rfl, rfl, rfl, rfl⟩ := hp
      refine hG.iconst (v := 2) dX4_pass_10 rfl ?_
      refine hG.callV dX4_pass_11 kv_X4_91 (Rcv.raw mdL_m cl_X4) (sp_X4_endsN hΓ (v := -1) (by decide) rfl) rfl rfl (Nat.le_of_ble_eq_true rfl) (by decide) (by omega) (by omega) (fun r11 I11 L11 hI11 h11 => ?_) (fun _ _ _ _ _ h => h.elim)
      obtain ⟨rfl, rfl, rfl⟩ := h11
      refine hG.iret dX4_pass_14 rfl ?_ (by omega) (by omega) trivial
      exact pMo.e2 ho (Mr.err1 hM1 true) (mv_th_wTh.trans (by decide))
  · refine hG.aload_n dX4_pass_0 rfl ?_
    refine hG.callV dX4_pass_1 kv_X4_84 (Rcv.raw mdL_m cl_X4) (sp_X4_tries hΓ hA) rfl rfl (Nat.le_of_ble_eq_true rfl) (by decide) (by omega) (by omega) (fun r1 I1 L1 hI1 h1 => ?_) (fun _ _ _ _ _ h => h.elim)
    obtain ⟨rfl, rfl, t, ht, rfl⟩ := h1
    have hT : Rep N F.rv t := hM.1.cg hW.1 ht
    have hM1 : Mr N F ((V.wTh 0).wTr t) := hM.eqv ⟨rfl, rfl, rfl, rfl, rfl⟩ (mv_nw_wTr.trans mv_nw_wTh) (mv_kp_wTr.trans mv_kp_wTh) (mv_un_wTr.trans mv_un_wTh) (mv_le_wTr.trans mv_le_wTh) (mv_tx_wTr.trans mv_tx_wTh) (mv_ld_wTr.trans mv_ld_wTh) (mv_ln_wTr.trans mv_ln_wTh) (mv_fa_wTr.trans (mv_fa_wTh.trans hM.efa)) (mv_re_wTr.trans (mv_re_wTh.trans hM.ere)) (mv_de_wTr.trans (mv_de_wTh.trans hM.ede)) (mv_is_wTr.trans mv_is_wTh) (mv_sv_wTr.trans mv_sv_wTh)
    have hth : ((V.wTh 0).wTr t).th = 0 := mv_th_wTr.trans mv_th_wTh
    have htr : ((V.wTh 0).wTr t).tr = t := mv_tr_wTr
    generalize (V.wTh 0).wTr t = V1 at hM1 hth htr ⊢
    refine hG.aload_n dX4_pass_4 rfl ?_
    refine hG.aload_n dX4_pass_5 rfl ?_
    refine hG.iload_n dX4_pass_6 rfl ?_
    refine hG.callV dX4_pass_7 kv_X4_217 (Rcv.raw mdL_m cl_X4) (sp_X4_passes (N := N) (R := F.rv) (V := V1) hΓ hA hM1.1 hW.1) rfl rfl (Nat.le_of_ble_eq_true rfl) (by decide) (by omega) (by omega) (fun r7 I7 L7 hI7 h7 => ?_) (fun _ _ _ _ _ h => h.elim)
    obtain ⟨rfl, n, a9, r9, d9, rfl, hp⟩ := h7
    rw [ho] at hp
    obtain ⟨rfl, hpos, rfl, rfl, rfl⟩ := hp
    refine hG.iconst (v := 2) dX4_pass_10 rfl ?_
    refine hG.callV dX4_pass_11 kv_X4_91 (Rcv.raw mdL_m cl_X4) (sp_X4_endsN (c := 2) hΓ (fun e => by rw [e] at hpos; exact absurd hpos (by decide)) (if_neg (fun q => absurd (Int32.lt_trans hpos q) (by decide))).symm) rfl rfl (Nat.le_of_ble_eq_true rfl) (by decide) (by omega) (by omega) (fun r11 I11 L11 hI11 h11 => ?_) (fun _ _ _ _ _ h => h.elim)
    obtain ⟨rfl, rfl, rfl⟩ := h11
    refine hG.iret dX4_pass_14 rfl ?_ (by omega) (by omega) trivial
    exact pMo.r2 ho (Mr.ref1 hM1 p) mv_th_wTh
