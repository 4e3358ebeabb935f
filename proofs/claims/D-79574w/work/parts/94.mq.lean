/-! numbers of the model -/
abbrev widS (cs : List T3) : Int32 := cs.foldl (fun s c => s + c.1) 0
def numV (F : Fy) : Nat → Int32
  | 0 => F.rv.hr
  | 1 => nI F.rv.ch.length
  | 2 => nI F.rv.fl.length
  | 3 => nI F.rv.an.length
  | 4 => F.rv.st
  | 5 => F.rv.rp
  | 6 => tsum true F.rv.fo
  | 7 => tsum true F.rv.af
  | 8 => tsum false F.rv.fo + tsum false F.rv.af
  | 9 => tsum false F.rv.wa
  | 10 => F.rv.ld
  | 11 => F.rv.pd
  | 12 => F.rv.cr
  | 13 => widS F.rv.ch
  | 14 => nI F.pa.length
  | 15 => nI F.ip.length
  | _ => 0
def numF (F : Fy) (w : Int32) : Int32 × Int32 := if inR w 0 15 = true then (0, numV F w.toNatClampNeg) else (1, 0)
def chnV (R : Rv) (i : Nat) (c0 : T3) : Nat → Int32
  | 0 => c0.1
  | 1 => c0.2.1
  | 2 => c0.2.2
  | 3 => flowV R c0 R.hr
  | 4 => inChan R.an (nI i) false
  | 5 => inChan R.an (nI i) true
  | _ => leastD R.an (nI i)
def chnF (R : Rv) (c w : Int32) : Int32 × Int32 := if inR c 0 (nI R.ch.length - 1) = true then (if inR w 0 6 = true then (match R.ch[c.toNatClampNeg]? with
  | some c0 => (0, chnV R c.toNatClampNeg c0 w.toNatClampNeg)
  | none => (1, 0)) else (2, 0)) else (1, 0)
def ancV (R : Rv) (a c0 : T3) : Nat → Int32
  | 0 => a.1
  | 1 => a.2.1
  | 2 => a.2.2
  | 3 => holdV a c0
  | 4 => pullV R a c0 R.hr
  | _ => b2i (holdsA a)
def ancF (R : Rv) (n w : Int32) : Int32 × Int32 := if inR n 0 (nI R.an.length - 1) = true then (if inR w 0 5 = true then (match R.an[n.toNatClampNeg]? with
  | some a => (match R.ch[a.1.toNatClampNeg]? with
    | some c0 => (0, ancV R a c0 w.toNatClampNeg)
    | none => (1, 0))
  | none => (1, 0)) else (2, 0)) else (1, 0)
theorem inR_out {w : Int32} {n : Nat} (hn : n < 2 ^ 20) (h : ¬ inR w 0 (nI n) = true) : w.toInt < 0 ∨ (n : Int) < w.toInt := by
  by_cases h0 : w < 0
  · exact Or.inl (by have := i_lt.mp h0; rw [tlt0] at this; exact this)
  · refine Or.inr (Int.lt_of_not_ge (fun q => h (inR_iff.mpr ⟨Int32.not_lt.mp h0, i_le.mpr ?_⟩)))
    rw [nI_toInt (by omega)]
    exact q
theorem kv_X4_220 : LkV RX4 220 yX4_all 1 := ⟨q3580, q3582, qs65, q87, by decide +kernel, by decide +kernel, by decide +kernel⟩
theorem fg_X4_223_X4 : LkG RX4 223 ciX4 12 := ⟨RX4, TX4, 21, tyX4, _, cls_X4, by decide, Or.inl rfl, Or.inl q3282⟩
set_option maxHeartbeats 4000000 in
set_option maxRecDepth 100000 in
theorem sp_X4_number {l : Launch} {s0 : State} {D : va_G} {I : AI} {L : AL} {m : Nat} {A : MA} {V : MV} {N : Nat} {F : Fy} (hΓ : Gam l s0 D) (hA : MOk m A) (hM : Mr N F V) (hW : WfF N F) {w : Int32} : Spc l s0 D yX4_number 9 [.ref m, .int w] I (mdL L m A V) 0 0 (pMq N I L m A (F) ((numF F w).1) ((numF F w).2)) noX := by
  refine Spc.of hΓ cX4_number 4 (some FieldType.int) q3579 (by decide +kernel) (by decide) (Nat.le_of_ble_eq_true rfl) (fun G GX hG => ?_)
  by_cases hin : inR w 0 15 = true
  · obtain ⟨j, hj, rfl⟩ := idx_le (n := w) (m := 15) (by decide) hin
    have ho : numF F (nI j) = (0, numV F j) := by unfold numF; rw [if_pos hin, nI_clamp (by omega)]
    rw [ho] at hG
    match j, hj with
    | 0, _ =>
      refine hG.aload_n dX4_number_0 rfl ?_
      refine hG.iconst (v := 0) dX4_number_1 rfl ?_
      refine hG.put dX4_number_2 fp_X4_58_X4 mdL_m rfl rfl (Nat.le_of_ble_eq_true rfl) ?_
      refine hG.mp_th ?_
      have hM1 : Mr N F (V.wTh 0) := hM.eqv ⟨rfl, rfl, rfl, rfl, rfl⟩ mv_nw_wTh mv_kp_wTh mv_un_wTh mv_le_wTh mv_tx_wTh mv_ld_wTh mv_ln_wTh (mv_fa_wTh.trans hM.efa) (mv_re_wTh.trans hM.ere) (mv_de_wTh.trans hM.ede) mv_is_wTh mv_sv_wTh
      have hth : (V.wTh 0).th = 0 := mv_th_wTh
      generalize V.wTh 0 = V1 at hM1 hth ⊢
      have hl6 := hW.1.ch6
      have ha6 := hW.1.an6
      refine hG.iconst (v := 0) dX4_number_5 rfl ?_
      refine hG.istore_n dX4_number_6 (by decide) ?_
      refine hG.iload_n dX4_number_7 rfl ?_
      refine hG.tabIn (off := 80) (tgt := 88) dX4_number_8 (by decide +kernel) (by decide +kernel) (by decide +kernel) rfl ?_
      refine hG.aload_n dX4_number_88 rfl ?_
      refine hG.get dX4_number_89 fg_X4_21_X4 (Or.inl mdL_m) rfl ?_
      refine hG.iconst (v := 3) dX4_number_92 rfl ?_
      refine hG.nld hA (3) dX4_number_93 rfl (by omega) (v := F.rv.hr) (hM1.1.k3) ?_
      refine hG.iret dX4_number_94 rfl ?_ (by omega) (by omega) trivial
      exact pMq.mk hM1 hth (fun _ => rfl)
    | 1, _ =>
      refine hG.aload_n dX4_number_0 rfl ?_
      refine hG.iconst (v := 0) dX4_number_1 rfl ?_
      refine hG.put dX4_number_2 fp_X4_58_X4 mdL_m rfl rfl (Nat.le_of_ble_eq_true rfl) ?_
      refine hG.mp_th ?_
      have hM1 : Mr N F (V.wTh 0) := hM.eqv ⟨rfl, rfl, rfl, rfl, rfl⟩ mv_nw_wTh mv_kp_wTh mv_un_wTh mv_le_wTh mv_tx_wTh mv_ld_wTh mv_ln_wTh (mv_fa_wTh.trans hM.efa) (mv_re_wTh.trans hM.ere) (mv_de_wTh.trans hM.ede) mv_is_wTh mv_sv_wTh
      have hth : (V.wTh 0).th = 0 := mv_th_wTh
      generalize V.wTh 0 = V1 at hM1 hth ⊢
      have hl6 := hW.1.ch6
      have ha6 := hW.1.an6
      refine hG.iconst (v := 0) dX4_number_5 rfl ?_
      refine hG.istore_n dX4_number_6 (by decide) ?_
      refine hG.iload_n dX4_number_7 rfl ?_
      refine hG.tabIn (off := 87) (tgt := 95) dX4_number_8 (by decide +kernel) (by decide +kernel) (by decide +kernel) rfl ?_
      refine hG.aload_n dX4_number_95 rfl ?_
      refine hG.get dX4_number_96 fg_X4_21_X4 (Or.inl mdL_m) rfl ?_
      refine hG.iconst (v := 0) dX4_number_99 rfl ?_
      refine hG.nld hA (0) dX4_number_100 rfl (by omega) (v := nI F.rv.ch.length) (hM1.1.k0) ?_
      refine hG.iret dX4_number_101 rfl ?_ (by omega) (by omega) trivial
      exact pMq.mk hM1 hth (fun _ => rfl)
    | 2, _ =>
      refine hG.aload_n dX4_number_0 rfl ?_
      refine hG.iconst (v := 0) dX4_number_1 rfl ?_
      refine hG.put dX4_number_2 fp_X4_58_X4 mdL_m rfl rfl (Nat.le_of_ble_eq_true rfl) ?_
      refine hG.mp_th ?_
      have hM1 : Mr N F (V.wTh 0) := hM.eqv ⟨rfl, rfl, rfl, rfl, rfl⟩ mv_nw_wTh mv_kp_wTh mv_un_wTh mv_le_wTh mv_tx_wTh mv_ld_wTh mv_ln_wTh (mv_fa_wTh.trans hM.efa) (mv_re_wTh.trans hM.ere) (mv_de_wTh.trans hM.ede) mv_is_wTh mv_sv_wTh
      have hth : (V.wTh 0).th = 0 := mv_th_wTh
      generalize V.wTh 0 = V1 at hM1 hth ⊢
      have hl6 := hW.1.ch6
      have ha6 := hW.1.an6
      refine hG.iconst (v := 0) dX4_number_5 rfl ?_
      refine hG.istore_n dX4_number_6 (by decide) ?_
      refine hG.iload_n dX4_number_7 rfl ?_
      refine hG.tabIn (off := 94) (tgt := 102) dX4_number_8 (by decide +kernel) (by decide +kernel) (by decide +kernel) rfl ?_
      refine hG.aload_n dX4_number_102 rfl ?_
      refine hG.get dX4_number_103 fg_X4_21_X4 (Or.inl mdL_m) rfl ?_
      refine hG.iconst (v := 1) dX4_number_106 rfl ?_
      refine hG.nld hA (1) dX4_number_107 rfl (by omega) (v := nI F.rv.fl.length) (hM1.1.k1) ?_
      refine hG.iret dX4_number_108 rfl ?_ (by omega) (by omega) trivial
      exact pMq.mk hM1 hth (fun _ => rfl)
    | 3, _ =>
      refine hG.aload_n dX4_number_0 rfl ?_
      refine hG.iconst (v := 0) dX4_number_1 rfl ?_
      refine hG.put dX4_number_2 fp_X4_58_X4 mdL_m rfl rfl (Nat.le_of_ble_eq_true rfl) ?_
      refine hG.mp_th ?_
      have hM1 : Mr N F (V.wTh 0) := hM.eqv ⟨rfl, rfl, rfl, rfl, rfl⟩ mv_nw_wTh mv_kp_wTh mv_un_wTh mv_le_wTh mv_tx_wTh mv_ld_wTh mv_ln_wTh (mv_fa_wTh.trans hM.efa) (mv_re_wTh.trans hM.ere) (mv_de_wTh.trans hM.ede) mv_is_wTh mv_sv_wTh
      have hth : (V.wTh 0).th = 0 := mv_th_wTh
      generalize V.wTh 0 = V1 at hM1 hth ⊢
      have hl6 := hW.1.ch6
      have ha6 := hW.1.an6
      refine hG.iconst (v := 0) dX4_number_5 rfl ?_
      refine hG.istore_n dX4_number_6 (by decide) ?_
      refine hG.iload_n dX4_number_7 rfl ?_
      refine hG.tabIn (off := 101) (tgt := 109) dX4_number_8 (by decide +kernel) (by decide +kernel) (by decide +kernel) rfl ?_
      refine hG.aload_n dX4_number_109 rfl ?_
      refine hG.get dX4_number_110 fg_X4_21_X4 (Or.inl mdL_m) rfl ?_
      refine hG.iconst (v := 2) dX4_number_113 rfl ?_
      refine hG.nld hA (2) dX4_number_114 rfl (by omega) (v := nI F.rv.an.length) (hM1.1.k2) ?_
      refine hG.iret dX4_number_115 rfl ?_ (by omega) (by omega) trivial
      exact pMq.mk hM1 hth (fun _ => rfl)
    | 4, _ =>
      refine hG.aload_n dX4_number_0 rfl ?_
      refine hG.iconst (v := 0) dX4_number_1 rfl ?_
      refine hG.put dX4_number_2 fp_X4_58_X4 mdL_m rfl rfl (Nat.le_of_ble_eq_true rfl) ?_
      refine hG.mp_th ?_
      have hM1 : Mr N F (V.wTh 0) := hM.eqv ⟨rfl, rfl, rfl, rfl, rfl⟩ mv_nw_wTh mv_kp_wTh mv_un_wTh mv_le_wTh mv_tx_wTh mv_ld_wTh mv_ln_wTh (mv_fa_wTh.trans hM.efa) (mv_re_wTh.trans hM.ere) (mv_de_wTh.trans hM.ede) mv_is_wTh mv_sv_wTh
      have hth : (V.wTh 0).th = 0 := mv_th_wTh
      generalize V.wTh 0 = V1 at hM1 hth ⊢
      have hl6 := hW.1.ch6
      have ha6 := hW.1.an6
      refine hG.iconst (v := 0) dX4_number_5 rfl ?_
      refine hG.istore_n dX4_number_6 (by decide) ?_
      refine hG.iload_n dX4_number_7 rfl ?_
      refine hG.tabIn (off := 108) (tgt := 116) dX4_number_8 (by decide +kernel) (by decide +kernel) (by decide +kernel) rfl ?_
      refine hG.aload_n dX4_number_116 rfl ?_
      refine hG.get dX4_number_117 fg_X4_21_X4 (Or.inl mdL_m) rfl ?_
      refine hG.iconst (v := 4) dX4_number_120 rfl ?_
      refine hG.nld hA (4) dX4_number_121 rfl (by omega) (v := F.rv.st) (hM1.1.k4) ?_
      refine hG.iret dX4_number_122 rfl ?_ (by omega) (by omega) trivial
      exact pMq.mk hM1 hth (fun _ => rfl)
    | 5, _ =>
      refine hG.aload_n dX4_number_0 rfl ?_
      refine hG.iconst (v := 0) dX4_number_1 rfl ?_
      refine hG.put dX4_number_2 fp_X4_58_X4 mdL_m rfl rfl (Nat.le_of_ble_eq_true rfl) ?_
      refine hG.mp_th ?_
      have hM1 : Mr N F (V.wTh 0) := hM.eqv ⟨rfl, rfl, rfl, rfl, rfl⟩ mv_nw_wTh mv_kp_wTh mv_un_wTh mv_le_wTh mv_tx_wTh mv_ld_wTh mv_ln_wTh (mv_fa_wTh.trans hM.efa) (mv_re_wTh.trans hM.ere) (mv_de_wTh.trans hM.ede) mv_is_wTh mv_sv_wTh
      have hth : (V.wTh 0).th = 0 := mv_th_wTh
      generalize V.wTh 0 = V1 at hM1 hth ⊢
      have hl6 := hW.1.ch6
      have ha6 := hW.1.an6
      refine hG.iconst (v := 0) dX4_number_5 rfl ?_
      refine hG.istore_n dX4_number_6 (by decide) ?_
      refine hG.iload_n dX4_number_7 rfl ?_
      refine hG.tabIn (off := 115) (tgt := 123) dX4_number_8 (by decide +kernel) (by decide +kernel) (by decide +kernel) rfl ?_
      refine hG.aload_n dX4_number_123 rfl ?_
      refine hG.get dX4_number_124 fg_X4_21_X4 (Or.inl mdL_m) rfl ?_
      refine hG.iconst (v := 5) dX4_number_127 rfl ?_
      refine hG.nld hA (5) dX4_number_128 rfl (by omega) (v := F.rv.rp) (hM1.1.k5) ?_
      refine hG.iret dX4_number_129 rfl ?_ (by omega) (by omega) trivial
      exact pMq.mk hM1 hth (fun _ => rfl)
    | 6, _ =>
      refine hG.aload_n dX4_number_0 rfl ?_
      refine hG.iconst (v := 0) dX4_number_1 rfl ?_
      refine hG.put dX4_number_2 fp_X4_58_X4 mdL_m rfl rfl (Nat.le_of_ble_eq_true rfl) ?_
      refine hG.mp_th ?_
      have hM1 : Mr N F (V.wTh 0) := hM.eqv ⟨rfl, rfl, rfl, rfl, rfl⟩ mv_nw_wTh mv_kp_wTh mv_un_wTh mv_le_wTh mv_tx_wTh mv_ld_wTh mv_ln_wTh (mv_fa_wTh.trans hM.efa) (mv_re_wTh.trans hM.ere) (mv_de_wTh.trans hM.ede) mv_is_wTh mv_sv_wTh
      have hth : (V.wTh 0).th = 0 := mv_th_wTh
      generalize V.wTh 0 = V1 at hM1 hth ⊢
      have hl6 := hW.1.ch6
      have ha6 := hW.1.an6
      refine hG.iconst (v := 0) dX4_number_5 rfl ?_
      refine hG.istore_n dX4_number_6 (by decide) ?_
      refine hG.iload_n dX4_number_7 rfl ?_
      refine hG.tabIn (off := 122) (tgt := 130) dX4_number_8 (by decide +kernel) (by decide +kernel) (by decide +kernel) rfl ?_
      refine hG.aload_n dX4_number_130 rfl ?_
      refine hG.sipush (v := 358) dX4_number_131 rfl ?_
      refine hG.callV dX4_number_134 kv_X4_139 (Rcv.raw mdL_m cl_X4) (sp_X4_weightOf (row := 358) (t := F.rv.fo) (V := V1) hΓ hA (by decide) (fun c hc => hM1.1.fo hc) hW.1.fo) rfl rfl (Nat.le_of_ble_eq_true rfl) (by decide) (by omega) (by omega) (fun r134 I134 L134 hI134 h134 => ?_) (fun _ _ _ _ _ h => h.elim)
      obtain ⟨rfl, rfl, rfl⟩ := h134
      refine hG.iret dX4_number_137 rfl ?_ (by omega) (by omega) trivial
      exact pMq.mk hM1 hth (fun _ => rfl)
    | 7, _ =>
      refine hG.aload_n dX4_number_0 rfl ?_
      refine hG.iconst (v := 0) dX4_number_1 rfl ?_
      refine hG.put dX4_number_2 fp_X4_58_X4 mdL_m rfl rfl (Nat.le_of_ble_eq_true rfl) ?_
      refine hG.mp_th ?_
      have hM1 : Mr N F (V.wTh 0) := hM.eqv ⟨rfl, rfl, rfl, rfl, rfl⟩ mv_nw_wTh mv_kp_wTh mv_un_wTh mv_le_wTh mv_tx_wTh mv_ld_wTh mv_ln_wTh (mv_fa_wTh.trans hM.efa) (mv_re_wTh.trans hM.ere) (mv_de_wTh.trans hM.ede) mv_is_wTh mv_sv_wTh
      have hth : (V.wTh 0).th = 0 := mv_th_wTh
      generalize V.wTh 0 = V1 at hM1 hth ⊢
      have hl6 := hW.1.ch6
      have ha6 := hW.1.an6
      refine hG.iconst (v := 0) dX4_number_5 rfl ?_
      refine hG.istore_n dX4_number_6 (by decide) ?_
      refine hG.iload_n dX4_number_7 rfl ?_
      refine hG.tabIn (off := 130) (tgt := 138) dX4_number_8 (by decide +kernel) (by decide +kernel) (by decide +kernel) rfl ?_
      refine hG.aload_n dX4_number_138 rfl ?_
      refine hG.sipush (v := 505) dX4_number_139 rfl ?_
      refine hG.callV dX4_number_142 kv_X4_139 (Rcv.raw mdL_m cl_X4) (sp_X4_weightOf (row := 505) (t := F.rv.af) (V := V1) hΓ hA (by decide) (fun c hc => hM1.1.af hc) hW.1.af) rfl rfl (Nat.le_of_ble_eq_true rfl) (by decide) (by omega) (by omega) (fun r142 I142 L142 hI142 h142 => ?_) (fun _ _ _ _ _ h => h.elim)
      obtain ⟨rfl, rfl, rfl⟩ := h142
      refine hG.iret dX4_number_145 rfl ?_ (by omega) (by omega) trivial
      exact pMq.mk hM1 hth (fun _ => rfl)
    | 8, _ =>
      refine hG.aload_n dX4_number_0 rfl ?_
      refine hG.iconst (v := 0) dX4_number_1 rfl ?_
      refine hG.put dX4_number_2 fp_X4_58_X4 mdL_m rfl rfl (Nat.le_of_ble_eq_true rfl) ?_
      refine hG.mp_th ?_
      have hM1 : Mr N F (V.wTh 0) := hM.eqv ⟨rfl, rfl, rfl, rfl, rfl⟩ mv_nw_wTh mv_kp_wTh mv_un_wTh mv_le_wTh mv_tx_wTh mv_ld_wTh mv_ln_wTh (mv_fa_wTh.trans hM.efa) (mv_re_wTh.trans hM.ere) (mv_de_wTh.trans hM.ede) mv_is_wTh mv_sv_wTh
      have hth : (V.wTh 0).th = 0 := mv_th_wTh
      generalize V.wTh 0 = V1 at hM1 hth ⊢
      have hl6 := hW.1.ch6
      have ha6 := hW.1.an6
      refine hG.iconst (v := 0) dX4_number_5 rfl ?_
      refine hG.istore_n dX4_number_6 (by decide) ?_
      refine hG.iload_n dX4_number_7 rfl ?_
      refine hG.tabIn (off := 138) (tgt := 146) dX4_number_8 (by decide +kernel) (by decide +kernel) (by decide +kernel) rfl ?_
      refine hG.aload_n dX4_number_146 rfl ?_
      refine hG.sipush (v := 358) dX4_number_147 rfl ?_
      refine hG.callV dX4_number_150 kv_X4_220 (Rcv.raw mdL_m cl_X4) (sp_X4_all (row := 358) (t := F.rv.fo) (V := V1) hΓ hA (by decide) (fun c hc => hM1.1.fo hc) hW.1.fo) rfl rfl (Nat.le_of_ble_eq_true rfl) (by decide) (by omega) (by omega) (fun r150 I150 L150 hI150 h150 => ?_) (fun _ _ _ _ _ h => h.elim)
      obtain ⟨rfl, rfl, rfl⟩ := h150
      refine hG.aload_n dX4_number_153 rfl ?_
      refine hG.sipush (v := 505) dX4_number_154 rfl ?_
      refine hG.callV dX4_number_157 kv_X4_220 (Rcv.raw mdL_m cl_X4) (sp_X4_all (row := 505) (t := F.rv.af) (V := V1) hΓ hA (by decide) (fun c hc => hM1.1.af hc) hW.1.af) rfl rfl (Nat.le_of_ble_eq_true rfl) (by decide) (by omega) (by omega) (fun r157 I157 L157 hI157 h157 => ?_) (fun _ _ _ _ _ h => h.elim)
      obtain ⟨rfl, rfl, rfl⟩ := h157
      refine hG.iadd dX4_number_160 ?_
      refine hG.iret dX4_number_161 rfl ?_ (by omega) (by omega) trivial
      exact pMq.mk hM1 hth (fun _ => rfl)
    | 9, _ =>
      refine hG.aload_n dX4_number_0 rfl ?_
      refine hG.iconst (v := 0) dX4_number_1 rfl ?_
      refine hG.put dX4_number_2 fp_X4_58_X4 mdL_m rfl rfl (Nat.le_of_ble_eq_true rfl) ?_
      refine hG.mp_th ?_
      have hM1 : Mr N F (V.wTh 0) := hM.eqv ⟨rfl, rfl, rfl, rfl, rfl⟩ mv_nw_wTh mv_kp_wTh mv_un_wTh mv_le_wTh mv_tx_wTh mv_ld_wTh mv_ln_wTh (mv_fa_wTh.trans hM.efa) (mv_re_wTh.trans hM.ere) (mv_de_wTh.trans hM.ede) mv_is_wTh mv_sv_wTh
      have hth : (V.wTh 0).th = 0 := mv_th_wTh
      generalize V.wTh 0 = V1 at hM1 hth ⊢
      have hl6 := hW.1.ch6
      have ha6 := hW.1.an6
      refine hG.iconst (v := 0) dX4_number_5 rfl ?_
      refine hG.istore_n dX4_number_6 (by decide) ?_
      refine hG.iload_n dX4_number_7 rfl ?_
      refine hG.tabIn (off := 154) (tgt := 162) dX4_number_8 (by decide +kernel) (by decide +kernel) (by decide +kernel) rfl ?_
      refine hG.aload_n dX4_number_162 rfl ?_
      refine hG.bipush (v := 64) dX4_number_163 rfl ?_
      refine hG.callV dX4_number_165 kv_X4_220 (Rcv.raw mdL_m cl_X4) (sp_X4_all (row := 64) (t := F.rv.wa) (V := V1) hΓ hA (by decide) (fun c hc => hM1.1.w hc) hW.1.wa) rfl rfl (Nat.le_of_ble_eq_true rfl) (by decide) (by omega) (by omega) (fun r165 I165 L165 hI165 h165 => ?_) (fun _ _ _ _ _ h => h.elim)
      obtain ⟨rfl, rfl, rfl⟩ := h165
      refine hG.iret dX4_number_168 rfl ?_ (by omega) (by omega) trivial
      exact pMq.mk hM1 hth (fun _ => rfl)
    | 10, _ =>
      refine hG.aload_n dX4_number_0 rfl ?_
      refine hG.iconst (v := 0) dX4_number_1 rfl ?_
      refine hG.put dX4_number_2 fp_X4_58_X4 mdL_m rfl rfl (Nat.le_of_ble_eq_true rfl) ?_
      refine hG.mp_th ?_
      have hM1 : Mr N F (V.wTh 0) := hM.eqv ⟨rfl, rfl, rfl, rfl, rfl⟩ mv_nw_wTh mv_kp_wTh mv_un_wTh mv_le_wTh mv_tx_wTh mv_ld_wTh mv_ln_wTh (mv_fa_wTh.trans hM.efa) (mv_re_wTh.trans hM.ere) (mv_de_wTh.trans hM.ede) mv_is_wTh mv_sv_wTh
      have hth : (V.wTh 0).th = 0 := mv_th_wTh
      generalize V.wTh 0 = V1 at hM1 hth ⊢
      have hl6 := hW.1.ch6
      have ha6 := hW.1.an6
      refine hG.iconst (v := 0) dX4_number_5 rfl ?_
      refine hG.istore_n dX4_number_6 (by decide) ?_
      refine hG.iload_n dX4_number_7 rfl ?_
      refine hG.tabIn (off := 161) (tgt := 169) dX4_number_8 (by decide +kernel) (by decide +kernel) (by decide +kernel) rfl ?_
      refine hG.aload_n dX4_number_169 rfl ?_
      refine hG.get dX4_number_170 fg_X4_21_X4 (Or.inl mdL_m) rfl ?_
      refine hG.bipush (v := 6) dX4_number_173 rfl ?_
      refine hG.nld hA (6) dX4_number_175 rfl (by omega) (v := F.rv.ld) (hM1.1.k6) ?_
      refine hG.iret dX4_number_176 rfl ?_ (by omega) (by omega) trivial
      exact pMq.mk hM1 hth (fun _ => rfl)
    | 11, _ =>
      refine hG.aload_n dX4_number_0 rfl ?_
      refine hG.iconst (v := 0) dX4_number_1 rfl ?_
      refine hG.put dX4_number_2 fp_X4_58_X4 mdL_m rfl rfl (Nat.le_of_ble_eq_true rfl) ?_
      refine hG.mp_th ?_
      have hM1 : Mr N F (V.wTh 0) := hM.eqv ⟨rfl, rfl, rfl, rfl, rfl⟩ mv_nw_wTh mv_kp_wTh mv_un_wTh mv_le_wTh mv_tx_wTh mv_ld_wTh mv_ln_wTh (mv_fa_wTh.trans hM.efa) (mv_re_wTh.trans hM.ere) (mv_de_wTh.trans hM.ede) mv_is_wTh mv_sv_wTh
      have hth : (V.wTh 0).th = 0 := mv_th_wTh
      generalize V.wTh 0 = V1 at hM1 hth ⊢
      have hl6 := hW.1.ch6
      have ha6 := hW.1.an6
      refine hG.iconst (v := 0) dX4_number_5 rfl ?_
      refine hG.istore_n dX4_number_6 (by decide) ?_
      refine hG.iload_n dX4_number_7 rfl ?_
      refine hG.tabIn (off := 169) (tgt := 177) dX4_number_8 (by decide +kernel) (by decide +kernel) (by decide +kernel) rfl ?_
      refine hG.aload_n dX4_number_177 rfl ?_
      refine hG.get dX4_number_178 fg_X4_21_X4 (Or.inl mdL_m) rfl ?_
      refine hG.bipush (v := 7) dX4_number_181 rfl ?_
      refine hG.nld hA (7) dX4_number_183 rfl (by omega) (v := F.rv.pd) (hM1.1.k7) ?_
      refine hG.iret dX4_number_184 rfl ?_ (by omega) (by omega) trivial
      exact pMq.mk hM1 hth (fun _ => rfl)
    | 12, _ =>
      refine hG.aload_n dX4_number_0 rfl ?_
      refine hG.iconst (v := 0) dX4_number_1 rfl ?_
      refine hG.put dX4_number_2 fp_X4_58_X4 mdL_m rfl rfl (Nat.le_of_ble_eq_true rfl) ?_
      refine hG.mp_th ?_
      have hM1 : Mr N F (V.wTh 0) := hM.eqv ⟨rfl, rfl, rfl, rfl, rfl⟩ mv_nw_wTh mv_kp_wTh mv_un_wTh mv_le_wTh mv_tx_wTh mv_ld_wTh mv_ln_wTh (mv_fa_wTh.trans hM.efa) (mv_re_wTh.trans hM.ere) (mv_de_wTh.trans hM.ede) mv_is_wTh mv_sv_wTh
      have hth : (V.wTh 0).th = 0 := mv_th_wTh
      generalize V.wTh 0 = V1 at hM1 hth ⊢
      have hl6 := hW.1.ch6
      have ha6 := hW.1.an6
      refine hG.iconst (v := 0) dX4_number_5 rfl ?_
      refine hG.istore_n dX4_number_6 (by decide) ?_
      refine hG.iload_n dX4_number_7 rfl ?_
      refine hG.tabIn (off := 177) (tgt := 185) dX4_number_8 (by decide +kernel) (by decide +kernel) (by decide +kernel) rfl ?_
      refine hG.aload_n dX4_number_185 rfl ?_
      refine hG.get dX4_number_186 fg_X4_21_X4 (Or.inl mdL_m) rfl ?_
      refine hG.bipush (v := 8) dX4_number_189 rfl ?_
      refine hG.nld hA (8) dX4_number_191 rfl (by omega) (v := F.rv.cr) (hM1.1.k8) ?_
      refine hG.iret dX4_number_192 rfl ?_ (by omega) (by omega) trivial
      exact pMq.mk hM1 hth (fun _ => rfl)
    | 13, _ =>
      refine hG.aload_n dX4_number_0 rfl ?_
      refine hG.iconst (v := 0) dX4_number_1 rfl ?_
      refine hG.put dX4_number_2 fp_X4_58_X4 mdL_m rfl rfl (Nat.le_of_ble_eq_true rfl) ?_
      refine hG.mp_th ?_
      have hM1 : Mr N F (V.wTh 0) := hM.eqv ⟨rfl, rfl, rfl, rfl, rfl⟩ mv_nw_wTh mv_kp_wTh mv_un_wTh mv_le_wTh mv_tx_wTh mv_ld_wTh mv_ln_wTh (mv_fa_wTh.trans hM.efa) (mv_re_wTh.trans hM.ere) (mv_de_wTh.trans hM.ede) mv_is_wTh mv_sv_wTh
      have hth : (V.wTh 0).th = 0 := mv_th_wTh
      generalize V.wTh 0 = V1 at hM1 hth ⊢
      have hl6 := hW.1.ch6
      have ha6 := hW.1.an6
      refine hG.iconst (v := 0) dX4_number_5 rfl ?_
      refine hG.istore_n dX4_number_6 (by decide) ?_
      refine hG.iload_n dX4_number_7 rfl ?_
      refine hG.tabIn (off := 185) (tgt := 193) dX4_number_8 (by decide +kernel) (by decide +kernel) (by decide +kernel) rfl ?_
      refine hG.iconst (v := 0) dX4_number_193 rfl ?_
      refine hG.istore_n dX4_number_194 (by decide) ?_
      have loop : ∀ (u k : Nat), k + u = F.rv.ch.length → G 195 [(0, .ref m), (2, .int (widS (F.rv.ch.take k))), (3, .int (nI k))] [] I (mdL L m A V1) 0 0 := by
        intro u
        induction u with
        | zero =>
          intro k hku
          have hke : k = F.rv.ch.length := by omega
          subst hke
          rw [List.take_length]
          refine hG.iload_n dX4_number_195 rfl ?_
          refine hG.aload_n dX4_number_196 rfl ?_
          refine hG.get dX4_number_197 fg_X4_21_X4 (Or.inl mdL_m) rfl ?_
          refine hG.iconst (v := 0) dX4_number_200 rfl ?_
          refine hG.nld hA (0) dX4_number_201 rfl (by omega) (v := nI F.rv.ch.length) (hM1.1.k0) ?_
          refine hG.icmp_ge (tgt := 225) dX4_number_202 rfl (fun c_202 => ?_) (fun c_202 => absurd (nI_le (by omega) (by omega)) c_202)
          refine hG.iload_n dX4_number_225 rfl ?_
          refine hG.iret dX4_number_226 rfl ?_ (by omega) (by omega) trivial
          exact pMq.mk hM1 hth (fun _ => rfl)
        | succ u ih =>
          intro k hku
          obtain ⟨c, hc, -⟩ := get_lt (show k < F.rv.ch.length by omega)
          refine hG.iload_n dX4_number_195 rfl ?_
          refine hG.aload_n dX4_number_196 rfl ?_
          refine hG.get dX4_number_197 fg_X4_21_X4 (Or.inl mdL_m) rfl ?_
          refine hG.iconst (v := 0) dX4_number_200 rfl ?_
          refine hG.nld hA (0) dX4_number_201 rfl (by omega) (v := nI F.rv.ch.length) (hM1.1.k0) ?_
          refine hG.icmp_ge (tgt := 225) dX4_number_202 rfl (fun c_202 => absurd c_202 (nI_ge (by omega) (by omega))) (fun c_202 => ?_)
          refine hG.iload_n dX4_number_205 rfl ?_
          refine hG.aload_n dX4_number_206 rfl ?_
          refine hG.get dX4_number_207 fg_X4_21_X4 (Or.inl mdL_m) rfl ?_
          refine hG.bipush (v := 13) dX4_number_210 rfl ?_
          refine hG.iconst (v := 3) dX4_number_212 rfl ?_
          refine hG.iload_n dX4_number_213 rfl ?_
          refine hG.imul dX4_number_214 ?_
          refine hG.iadd dX4_number_215 ?_
          refine hG.nld hA (13 + 3 * k) dX4_number_216 (ix3 13 k) (by omega) (hM1.1.c hc).1 ?_
          refine hG.iadd dX4_number_217 ?_
          refine hG.istore_n dX4_number_218 (by decide) ?_
          refine hG.iinc dX4_number_219 rfl (by decide) ?_
          refine hG.goto (tgt := 195) dX4_number_222 rfl ?_
          have e9 : widS (F.rv.ch.take k) + c.1 = widS (F.rv.ch.take (k + 1)) := by
            unfold widS
            rw [foldl_take hc]
          rw [e9]
          refine hG.lsb [(0, .ref m), (2, .int (widS (F.rv.ch.take (k + 1)))), (3, .int (nI k + Int32.ofInt 1))] ⟨rfl, rfl, rfl, trivial⟩ ?_
          rw [show nI k + Int32.ofInt 1 = nI (k + 1) from nI_add k 1]
          exact ih (k + 1) (by omega)
      exact hG.lsb [(0, .ref m), (2, .int (widS (F.rv.ch.take 0))), (3, .int (nI 0))] ⟨rfl, rfl, rfl, trivial⟩ (loop F.rv.ch.length 0 (by omega))
    | 14, _ =>
      refine hG.aload_n dX4_number_0 rfl ?_
      refine hG.iconst (v := 0) dX4_number_1 rfl ?_
      refine hG.put dX4_number_2 fp_X4_58_X4 mdL_m rfl rfl (Nat.le_of_ble_eq_true rfl) ?_
      refine hG.mp_th ?_
      have hM1 : Mr N F (V.wTh 0) := hM.eqv ⟨rfl, rfl, rfl, rfl, rfl⟩ mv_nw_wTh mv_kp_wTh mv_un_wTh mv_le_wTh mv_tx_wTh mv_ld_wTh mv_ln_wTh (mv_fa_wTh.trans hM.efa) (mv_re_wTh.trans hM.ere) (mv_de_wTh.trans hM.ede) mv_is_wTh mv_sv_wTh
      have hth : (V.wTh 0).th = 0 := mv_th_wTh
      generalize V.wTh 0 = V1 at hM1 hth ⊢
      have hl6 := hW.1.ch6
      have ha6 := hW.1.an6
      refine hG.iconst (v := 0) dX4_number_5 rfl ?_
      refine hG.istore_n dX4_number_6 (by decide) ?_
      refine hG.iload_n dX4_number_7 rfl ?_
      refine hG.tabIn (off := 219) (tgt := 227) dX4_number_8 (by decide +kernel) (by decide +kernel) (by decide +kernel) rfl ?_
      refine hG.aload_n dX4_number_227 rfl ?_
      refine hG.get dX4_number_228 fg_X4_61_X4 (Or.inl mdL_m) rfl ?_
      rw [hM1.2.2.1]
      refine hG.iret dX4_number_231 rfl ?_ (by omega) (by omega) trivial
      exact pMq.mk hM1 hth (fun _ => rfl)
    | 15, _ =>
      refine hG.aload_n dX4_number_0 rfl ?_
      refine hG.iconst (v := 0) dX4_number_1 rfl ?_
      refine hG.put dX4_number_2 fp_X4_58_X4 mdL_m rfl rfl (Nat.le_of_ble_eq_true rfl) ?_
      refine hG.mp_th ?_
      have hM1 : Mr N F (V.wTh 0) := hM.eqv ⟨rfl, rfl, rfl, rfl, rfl⟩ mv_nw_wTh mv_kp_wTh mv_un_wTh mv_le_wTh mv_tx_wTh mv_ld_wTh mv_ln_wTh (mv_fa_wTh.trans hM.efa) (mv_re_wTh.trans hM.ere) (mv_de_wTh.trans hM.ede) mv_is_wTh mv_sv_wTh
      have hth : (V.wTh 0).th = 0 := mv_th_wTh
      generalize V.wTh 0 = V1 at hM1 hth ⊢
      have hl6 := hW.1.ch6
      have ha6 := hW.1.an6
      refine hG.iconst (v := 0) dX4_number_5 rfl ?_
      refine hG.istore_n dX4_number_6 (by decide) ?_
      refine hG.iload_n dX4_number_7 rfl ?_
      refine hG.tabIn (off := 224) (tgt := 232) dX4_number_8 (by decide +kernel) (by decide +kernel) (by decide +kernel) rfl ?_
      refine hG.aload_n dX4_number_232 rfl ?_
      refine hG.get dX4_number_233 fg_X4_223_X4 (Or.inl mdL_m) rfl ?_
      rw [hM1.2.2.2.1]
      refine hG.iret dX4_number_236 rfl ?_ (by omega) (by omega) trivial
      exact pMq.mk hM1 hth (fun _ => rfl)
    | _ + 16, h => exact absurd h (by omega)
  · have ho : numF F w = (1, 0) := if_neg hin
    rw [ho] at hG
    have hout := inR_out (n := 15) (by decide) hin
    refine hG.aload_n dX4_number_0 rfl ?_
    refine hG.iconst (v := 0) dX4_number_1 rfl ?_
    refine hG.put dX4_number_2 fp_X4_58_X4 mdL_m rfl rfl (Nat.le_of_ble_eq_true rfl) ?_
    refine hG.mp_th ?_
    have hM1 : Mr N F (V.wTh 0) := hM.eqv ⟨rfl, rfl, rfl, rfl, rfl⟩ mv_nw_wTh mv_kp_wTh mv_un_wTh mv_le_wTh mv_tx_wTh mv_ld_wTh mv_ln_wTh (mv_fa_wTh.trans hM.efa) (mv_re_wTh.trans hM.ere) (mv_de_wTh.trans hM.ede) mv_is_wTh mv_sv_wTh
    have hth : (V.wTh 0).th = 0 := mv_th_wTh
    generalize V.wTh 0 = V1 at hM1 hth ⊢
    have hl6 := hW.1.ch6
    have ha6 := hW.1.an6
    refine hG.iconst (v := 0) dX4_number_5 rfl ?_
    refine hG.istore_n dX4_number_6 (by decide) ?_
    refine hG.iload_n dX4_number_7 rfl ?_
    refine hG.tabOut (tgt := 237) dX4_number_8 hout rfl ?_
    refine hG.aload_n dX4_number_237 rfl ?_
    refine hG.iconst (v := 1) dX4_number_238 rfl ?_
    refine hG.callV dX4_number_239 kv_X4_77 (Rcv.raw mdL_m cl_X4) (sp_X4_raises hΓ) rfl rfl (Nat.le_of_ble_eq_true rfl) (by decide) (by omega) (by omega) (fun r239 I239 L239 hI239 h239 => ?_) (fun _ _ _ _ _ h => h.elim)
    obtain ⟨rfl, rfl, rfl⟩ := h239
    refine hG.iret dX4_number_242 rfl ?_ (by omega) (by omega) trivial
    exact pMq.mk (hM1.eqv ⟨rfl, rfl, rfl, rfl, rfl⟩ mv_nw_wTh mv_kp_wTh mv_un_wTh mv_le_wTh mv_tx_wTh mv_ld_wTh mv_ln_wTh (mv_fa_wTh.trans hM1.efa) (mv_re_wTh.trans hM1.ere) (mv_de_wTh.trans hM1.ede) mv_is_wTh mv_sv_wTh) mv_th_wTh (fun e => absurd (show (1 : Int32) = 0 from e) (by decide))
