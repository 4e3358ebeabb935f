/-! what is asked of a channel and of an anchor -/
theorem kv_X4_117 : LkV RX4 117 yX4_anchorsIn 2 := ⟨q3394, q3396, qs42, q87, by decide +kernel, by decide +kernel, by decide +kernel⟩
set_option maxHeartbeats 4000000 in
set_option maxRecDepth 100000 in
theorem sp_X4_channelOf {l : Launch} {s0 : State} {D : va_G} {I : AI} {L : AL} {m : Nat} {A : MA} {V : MV} {N : Nat} {F : Fy} (hΓ : Gam l s0 D) (hA : MOk m A) (hM : Mr N F V) (hW : WfF N F) {c w : Int32} : Spc l s0 D yX4_channelOf 9 [.ref m, .int c, .int w] I (mdL L m A V) 0 0 (pMq N I L m A (F) ((chnF F.rv c w).1) ((chnF F.rv c w).2)) noX := by
  refine Spc.of hΓ cX4_channelOf 3 (some FieldType.int) q3388 (by decide +kernel) (by decide) (Nat.le_of_ble_eq_true rfl) (fun G GX hG => ?_)
  refine hG.aload_n dX4_channelOf_0 rfl ?_
  refine hG.iconst (v := 0) dX4_channelOf_1 rfl ?_
  refine hG.put dX4_channelOf_2 fp_X4_58_X4 mdL_m rfl rfl (Nat.le_of_ble_eq_true rfl) ?_
  refine hG.mp_th ?_
  have hM1 : Mr N F (V.wTh 0) := hM.eqv ⟨rfl, rfl, rfl, rfl, rfl⟩ mv_nw_wTh mv_kp_wTh mv_un_wTh mv_le_wTh mv_tx_wTh mv_ld_wTh mv_ln_wTh (mv_fa_wTh.trans hM.efa) (mv_re_wTh.trans hM.ere) (mv_de_wTh.trans hM.ede) mv_is_wTh mv_sv_wTh
  have hth : (V.wTh 0).th = 0 := mv_th_wTh
  generalize V.wTh 0 = V1 at hM1 hth ⊢
  have hl6 := hW.1.ch6
  have ha6 := hW.1.an6
  refine hG.aload_n dX4_channelOf_5 rfl ?_
  refine hG.iload_n dX4_channelOf_6 rfl ?_
  refine hG.callV dX4_channelOf_7 kv_X4_98 (Rcv.raw mdL_m cl_X4) (sp_X4_isChannel (N := N) (R := F.rv) (V := V1) hΓ hA hM1.1 hW.1) rfl rfl (Nat.le_of_ble_eq_true rfl) (by decide) (by omega) (by omega) (fun r7 I7 L7 hI7 h7 => ?_) (fun _ _ _ _ _ h => h.elim)
  obtain ⟨rfl, rfl, rfl⟩ := h7
  refine hG.if_ne (tgt := 19) dX4_channelOf_10 rfl (fun c_10 => ?_) (fun c_10 => ?_)
  · obtain ⟨i, hi, rfl⟩ := idx_of (by omega) (b2i_1 c_10)
    obtain ⟨c0, hc0, -⟩ := get_lt hi
    by_cases hin : inR w 0 6 = true
    · obtain ⟨j, hj, rfl⟩ := idx_le (n := w) (m := 6) (by decide) hin
      have ho : chnF F.rv (nI i) (nI j) = (0, chnV F.rv i c0 j) := by unfold chnF; rw [if_pos (b2i_1 c_10), if_pos hin, nI_clamp (by omega), nI_clamp (by omega), hc0]
      rw [ho] at hG
      match j, hj with
      | 0, _ =>
        refine hG.iload_n dX4_channelOf_19 rfl ?_
        refine hG.tabIn (off := 44) (tgt := 64) dX4_channelOf_20 (by decide +kernel) (by decide +kernel) (by decide +kernel) rfl ?_
        refine hG.aload_n dX4_channelOf_64 rfl ?_
        refine hG.get dX4_channelOf_65 fg_X4_21_X4 (Or.inl mdL_m) rfl ?_
        refine hG.bipush (v := 13) dX4_channelOf_68 rfl ?_
        refine hG.iconst (v := 3) dX4_channelOf_70 rfl ?_
        refine hG.iload_n dX4_channelOf_71 rfl ?_
        refine hG.imul dX4_channelOf_72 ?_
        refine hG.iadd dX4_channelOf_73 ?_
        refine hG.iload_n dX4_channelOf_74 rfl ?_
        refine hG.iadd dX4_channelOf_75 ?_
        refine hG.nld hA (13 + 3 * i + 0) dX4_channelOf_76 (ix_b 13 i 0) (by omega) (v := c0.1) ((hM1.1.c hc0).1) ?_
        refine hG.iret dX4_channelOf_77 rfl ?_ (by omega) (by omega) trivial
        exact pMq.mk hM1 hth (fun _ => rfl)
      | 1, _ =>
        refine hG.iload_n dX4_channelOf_19 rfl ?_
        refine hG.tabIn (off := 44) (tgt := 64) dX4_channelOf_20 (by decide +kernel) (by decide +kernel) (by decide +kernel) rfl ?_
        refine hG.aload_n dX4_channelOf_64 rfl ?_
        refine hG.get dX4_channelOf_65 fg_X4_21_X4 (Or.inl mdL_m) rfl ?_
        refine hG.bipush (v := 13) dX4_channelOf_68 rfl ?_
        refine hG.iconst (v := 3) dX4_channelOf_70 rfl ?_
        refine hG.iload_n dX4_channelOf_71 rfl ?_
        refine hG.imul dX4_channelOf_72 ?_
        refine hG.iadd dX4_channelOf_73 ?_
        refine hG.iload_n dX4_channelOf_74 rfl ?_
        refine hG.iadd dX4_channelOf_75 ?_
        refine hG.nld hA (13 + 3 * i + 1) dX4_channelOf_76 (ix_b 13 i 1) (by omega) (v := c0.2.1) ((hM1.1.c hc0).2.1) ?_
        refine hG.iret dX4_channelOf_77 rfl ?_ (by omega) (by omega) trivial
        exact pMq.mk hM1 hth (fun _ => rfl)
      | 2, _ =>
        refine hG.iload_n dX4_channelOf_19 rfl ?_
        refine hG.tabIn (off := 44) (tgt := 64) dX4_channelOf_20 (by decide +kernel) (by decide +kernel) (by decide +kernel) rfl ?_
        refine hG.aload_n dX4_channelOf_64 rfl ?_
        refine hG.get dX4_channelOf_65 fg_X4_21_X4 (Or.inl mdL_m) rfl ?_
        refine hG.bipush (v := 13) dX4_channelOf_68 rfl ?_
        refine hG.iconst (v := 3) dX4_channelOf_70 rfl ?_
        refine hG.iload_n dX4_channelOf_71 rfl ?_
        refine hG.imul dX4_channelOf_72 ?_
        refine hG.iadd dX4_channelOf_73 ?_
        refine hG.iload_n dX4_channelOf_74 rfl ?_
        refine hG.iadd dX4_channelOf_75 ?_
        refine hG.nld hA (13 + 3 * i + 2) dX4_channelOf_76 (ix_b 13 i 2) (by omega) (v := c0.2.2) ((hM1.1.c hc0).2.2) ?_
        refine hG.iret dX4_channelOf_77 rfl ?_ (by omega) (by omega) trivial
        exact pMq.mk hM1 hth (fun _ => rfl)
      | 3, _ =>
        refine hG.iload_n dX4_channelOf_19 rfl ?_
        refine hG.tabIn (off := 58) (tgt := 78) dX4_channelOf_20 (by decide +kernel) (by decide +kernel) (by decide +kernel) rfl ?_
        refine hG.aload_n dX4_channelOf_78 rfl ?_
        refine hG.iload_n dX4_channelOf_79 rfl ?_
        refine hG.aload_n dX4_channelOf_80 rfl ?_
        refine hG.get dX4_channelOf_81 fg_X4_21_X4 (Or.inl mdL_m) rfl ?_
        refine hG.iconst (v := 3) dX4_channelOf_84 rfl ?_
        refine hG.nld hA (3) dX4_channelOf_85 rfl (by omega) (v := F.rv.hr) (hM1.1.k3) ?_
        refine hG.callV dX4_channelOf_86 kv_X4_114 (Rcv.raw mdL_m cl_X4) (sp_X4_flowAt (N := N) (R := F.rv) (V := V1) hΓ hA hM1.1 hW.1 hc0) rfl rfl (Nat.le_of_ble_eq_true rfl) (by decide) (by omega) (by omega) (fun r86 I86 L86 hI86 h86 => ?_) (fun _ _ _ _ _ h => h.elim)
        obtain ⟨rfl, rfl, rfl⟩ := h86
        refine hG.iret dX4_channelOf_89 rfl ?_ (by omega) (by omega) trivial
        exact pMq.mk hM1 hth (fun _ => rfl)
      | 4, _ =>
        refine hG.iload_n dX4_channelOf_19 rfl ?_
        refine hG.tabIn (off := 70) (tgt := 90) dX4_channelOf_20 (by decide +kernel) (by decide +kernel) (by decide +kernel) rfl ?_
        refine hG.aload_n dX4_channelOf_90 rfl ?_
        refine hG.iload_n dX4_channelOf_91 rfl ?_
        refine hG.iconst (v := 0) dX4_channelOf_92 rfl ?_
        refine hG.callV dX4_channelOf_93 kv_X4_117 (Rcv.raw mdL_m cl_X4) (sp_X4_anchorsIn (N := N) (R := F.rv) (V := V1) (hd := false) hΓ hA hM1.1 hW.1) rfl rfl (Nat.le_of_ble_eq_true rfl) (by decide) (by omega) (by omega) (fun r93 I93 L93 hI93 h93 => ?_) (fun _ _ _ _ _ h => h.elim)
        obtain ⟨rfl, rfl, rfl⟩ := h93
        refine hG.iret dX4_channelOf_96 rfl ?_ (by omega) (by omega) trivial
        exact pMq.mk hM1 hth (fun _ => rfl)
      | 5, _ =>
        refine hG.iload_n dX4_channelOf_19 rfl ?_
        refine hG.tabIn (off := 77) (tgt := 97) dX4_channelOf_20 (by decide +kernel) (by decide +kernel) (by decide +kernel) rfl ?_
        refine hG.aload_n dX4_channelOf_97 rfl ?_
        refine hG.iload_n dX4_channelOf_98 rfl ?_
        refine hG.iconst (v := 1) dX4_channelOf_99 rfl ?_
        refine hG.callV dX4_channelOf_100 kv_X4_117 (Rcv.raw mdL_m cl_X4) (sp_X4_anchorsIn (N := N) (R := F.rv) (V := V1) (hd := true) hΓ hA hM1.1 hW.1) rfl rfl (Nat.le_of_ble_eq_true rfl) (by decide) (by omega) (by omega) (fun r100 I100 L100 hI100 h100 => ?_) (fun _ _ _ _ _ h => h.elim)
        obtain ⟨rfl, rfl, rfl⟩ := h100
        refine hG.iret dX4_channelOf_103 rfl ?_ (by omega) (by omega) trivial
        exact pMq.mk hM1 hth (fun _ => rfl)
      | 6, _ =>
        refine hG.iload_n dX4_channelOf_19 rfl ?_
        refine hG.tabIn (off := 84) (tgt := 104) dX4_channelOf_20 (by decide +kernel) (by decide +kernel) (by decide +kernel) rfl ?_
        refine hG.aload_n dX4_channelOf_104 rfl ?_
        refine hG.iload_n dX4_channelOf_105 rfl ?_
        refine hG.callV dX4_channelOf_106 kv_X4_121 (Rcv.raw mdL_m cl_X4) (sp_X4_leastDrag (N := N) (R := F.rv) (V := V1) hΓ hA hM1.1 hW.1) rfl rfl (Nat.le_of_ble_eq_true rfl) (by decide) (by omega) (by omega) (fun r106 I106 L106 hI106 h106 => ?_) (fun _ _ _ _ _ h => h.elim)
        obtain ⟨rfl, rfl, rfl⟩ := h106
        refine hG.iret dX4_channelOf_109 rfl ?_ (by omega) (by omega) trivial
        exact pMq.mk hM1 hth (fun _ => rfl)
      | _ + 7, h => exact absurd h (by omega)
    · have ho : chnF F.rv (nI i) w = (2, 0) := by unfold chnF; rw [if_pos (b2i_1 c_10), if_neg hin]
      rw [ho] at hG
      have hout := inR_out (n := 6) (by decide) hin
      refine hG.iload_n dX4_channelOf_19 rfl ?_
      refine hG.tabOut (tgt := 110) dX4_channelOf_20 hout rfl ?_
      refine hG.aload_n dX4_channelOf_110 rfl ?_
      refine hG.iconst (v := 2) dX4_channelOf_111 rfl ?_
      refine hG.callV dX4_channelOf_112 kv_X4_77 (Rcv.raw mdL_m cl_X4) (sp_X4_raises hΓ) rfl rfl (Nat.le_of_ble_eq_true rfl) (by decide) (by omega) (by omega) (fun r112 I112 L112 hI112 h112 => ?_) (fun _ _ _ _ _ h => h.elim)
      obtain ⟨rfl, rfl, rfl⟩ := h112
      refine hG.iret dX4_channelOf_115 rfl ?_ (by omega) (by omega) trivial
      exact pMq.mk (hM1.eqv ⟨rfl, rfl, rfl, rfl, rfl⟩ mv_nw_wTh mv_kp_wTh mv_un_wTh mv_le_wTh mv_tx_wTh mv_ld_wTh mv_ln_wTh (mv_fa_wTh.trans hM1.efa) (mv_re_wTh.trans hM1.ere) (mv_de_wTh.trans hM1.ede) mv_is_wTh mv_sv_wTh) mv_th_wTh (fun e => absurd (show (2 : Int32) = 0 from e) (by decide))
  · rw [show chnF F.rv c w = (1, 0) from if_neg (bFT (b2i_0 c_10))] at hG
    refine hG.aload_n dX4_channelOf_13 rfl ?_
    refine hG.iconst (v := 1) dX4_channelOf_14 rfl ?_
    refine hG.callV dX4_channelOf_15 kv_X4_77 (Rcv.raw mdL_m cl_X4) (sp_X4_raises hΓ) rfl rfl (Nat.le_of_ble_eq_true rfl) (by decide) (by omega) (by omega) (fun r15 I15 L15 hI15 h15 => ?_) (fun _ _ _ _ _ h => h.elim)
    obtain ⟨rfl, rfl, rfl⟩ := h15
    refine hG.iret dX4_channelOf_18 rfl ?_ (by omega) (by omega) trivial
    exact pMq.mk (hM1.eqv ⟨rfl, rfl, rfl, rfl, rfl⟩ mv_nw_wTh mv_kp_wTh mv_un_wTh mv_le_wTh mv_tx_wTh mv_ld_wTh mv_ln_wTh (mv_fa_wTh.trans hM1.efa) (mv_re_wTh.trans hM1.ere) (mv_de_wTh.trans hM1.ede) mv_is_wTh mv_sv_wTh) mv_th_wTh (fun e => absurd (show (1 : Int32) = 0 from e) (by decide))
set_option maxHeartbeats 4000000 in
set_option maxRecDepth 100000 in
theorem sp_X4_anchorOf {l : Launch} {s0 : State} {D : va_G} {I : AI} {L : AL} {m : Nat} {A : MA} {V : MV} {N : Nat} {F : Fy} (hΓ : Gam l s0 D) (hA : MOk m A) (hM : Mr N F V) (hW : WfF N F) {c w : Int32} : Spc l s0 D yX4_anchorOf 9 [.ref m, .int c, .int w] I (mdL L m A V) 0 0 (pMq N I L m A (F) ((ancF F.rv c w).1) ((ancF F.rv c w).2)) noX := by
  refine Spc.of hΓ cX4_anchorOf 3 (some FieldType.int) q3441 (by decide +kernel) (by decide) (Nat.le_of_ble_eq_true rfl) (fun G GX hG => ?_)
  refine hG.aload_n dX4_anchorOf_0 rfl ?_
  refine hG.iconst (v := 0) dX4_anchorOf_1 rfl ?_
  refine hG.put dX4_anchorOf_2 fp_X4_58_X4 mdL_m rfl rfl (Nat.le_of_ble_eq_true rfl) ?_
  refine hG.mp_th ?_
  have hM1 : Mr N F (V.wTh 0) := hM.eqv ⟨rfl, rfl, rfl, rfl, rfl⟩ mv_nw_wTh mv_kp_wTh mv_un_wTh mv_le_wTh mv_tx_wTh mv_ld_wTh mv_ln_wTh (mv_fa_wTh.trans hM.efa) (mv_re_wTh.trans hM.ere) (mv_de_wTh.trans hM.ede) mv_is_wTh mv_sv_wTh
  have hth : (V.wTh 0).th = 0 := mv_th_wTh
  generalize V.wTh 0 = V1 at hM1 hth ⊢
  have hl6 := hW.1.ch6
  have ha6 := hW.1.an6
  refine hG.aload_n dX4_anchorOf_5 rfl ?_
  refine hG.iload_n dX4_anchorOf_6 rfl ?_
  refine hG.callV dX4_anchorOf_7 kv_X4_130 (Rcv.raw mdL_m cl_X4) (sp_X4_isAnchor (N := N) (R := F.rv) (V := V1) hΓ hA hM1.1 hW.1) rfl rfl (Nat.le_of_ble_eq_true rfl) (by decide) (by omega) (by omega) (fun r7 I7 L7 hI7 h7 => ?_) (fun _ _ _ _ _ h => h.elim)
  obtain ⟨rfl, rfl, rfl⟩ := h7
  refine hG.if_ne (tgt := 19) dX4_anchorOf_10 rfl (fun c_10 => ?_) (fun c_10 => ?_)
  · obtain ⟨i, hi, rfl⟩ := idx_of (by omega) (b2i_1 c_10)
    obtain ⟨a, ha, ham⟩ := get_lt hi
    obtain ⟨j0, c0, haj, hj0⟩ := hW.1.ok.2 a ham
    have hjl : j0 < F.rv.ch.length := (List.getElem?_eq_some_iff.mp hj0).1
    by_cases hin : inR w 0 5 = true
    · obtain ⟨j, hj, rfl⟩ := idx_le (n := w) (m := 5) (by decide) hin
      have ho : ancF F.rv (nI i) (nI j) = (0, ancV F.rv a c0 j) := by
        unfold ancF
        rw [if_pos (b2i_1 c_10), if_pos hin, nI_clamp (by omega), nI_clamp (by omega), ha]
        show (match F.rv.ch[a.1.toNatClampNeg]? with | some c0 => _ | none => _) = _
        rw [haj, nI_clamp (by omega), hj0]
      rw [ho] at hG
      match j, hj with
      | 0, _ =>
        refine hG.iload_n dX4_anchorOf_19 rfl ?_
        refine hG.tabIn (off := 40) (tgt := 60) dX4_anchorOf_20 (by decide +kernel) (by decide +kernel) (by decide +kernel) rfl ?_
        refine hG.aload_n dX4_anchorOf_60 rfl ?_
        refine hG.get dX4_anchorOf_61 fg_X4_21_X4 (Or.inl mdL_m) rfl ?_
        refine hG.bipush (v := 46) dX4_anchorOf_64 rfl ?_
        refine hG.iconst (v := 3) dX4_anchorOf_66 rfl ?_
        refine hG.iload_n dX4_anchorOf_67 rfl ?_
        refine hG.imul dX4_anchorOf_68 ?_
        refine hG.iadd dX4_anchorOf_69 ?_
        refine hG.iload_n dX4_anchorOf_70 rfl ?_
        refine hG.iadd dX4_anchorOf_71 ?_
        refine hG.nld hA (46 + 3 * i + 0) dX4_anchorOf_72 (ix_b 46 i 0) (by omega) (v := a.1) ((hM1.1.a ha).1) ?_
        refine hG.iret dX4_anchorOf_73 rfl ?_ (by omega) (by omega) trivial
        exact pMq.mk hM1 hth (fun _ => rfl)
      | 1, _ =>
        refine hG.iload_n dX4_anchorOf_19 rfl ?_
        refine hG.tabIn (off := 40) (tgt := 60) dX4_anchorOf_20 (by decide +kernel) (by decide +kernel) (by decide +kernel) rfl ?_
        refine hG.aload_n dX4_anchorOf_60 rfl ?_
        refine hG.get dX4_anchorOf_61 fg_X4_21_X4 (Or.inl mdL_m) rfl ?_
        refine hG.bipush (v := 46) dX4_anchorOf_64 rfl ?_
        refine hG.iconst (v := 3) dX4_anchorOf_66 rfl ?_
        refine hG.iload_n dX4_anchorOf_67 rfl ?_
        refine hG.imul dX4_anchorOf_68 ?_
        refine hG.iadd dX4_anchorOf_69 ?_
        refine hG.iload_n dX4_anchorOf_70 rfl ?_
        refine hG.iadd dX4_anchorOf_71 ?_
        refine hG.nld hA (46 + 3 * i + 1) dX4_anchorOf_72 (ix_b 46 i 1) (by omega) (v := a.2.1) ((hM1.1.a ha).2.1) ?_
        refine hG.iret dX4_anchorOf_73 rfl ?_ (by omega) (by omega) trivial
        exact pMq.mk hM1 hth (fun _ => rfl)
      | 2, _ =>
        refine hG.iload_n dX4_anchorOf_19 rfl ?_
        refine hG.tabIn (off := 40) (tgt := 60) dX4_anchorOf_20 (by decide +kernel) (by decide +kernel) (by decide +kernel) rfl ?_
        refine hG.aload_n dX4_anchorOf_60 rfl ?_
        refine hG.get dX4_anchorOf_61 fg_X4_21_X4 (Or.inl mdL_m) rfl ?_
        refine hG.bipush (v := 46) dX4_anchorOf_64 rfl ?_
        refine hG.iconst (v := 3) dX4_anchorOf_66 rfl ?_
        refine hG.iload_n dX4_anchorOf_67 rfl ?_
        refine hG.imul dX4_anchorOf_68 ?_
        refine hG.iadd dX4_anchorOf_69 ?_
        refine hG.iload_n dX4_anchorOf_70 rfl ?_
        refine hG.iadd dX4_anchorOf_71 ?_
        refine hG.nld hA (46 + 3 * i + 2) dX4_anchorOf_72 (ix_b 46 i 2) (by omega) (v := a.2.2) ((hM1.1.a ha).2.2) ?_
        refine hG.iret dX4_anchorOf_73 rfl ?_ (by omega) (by omega) trivial
        exact pMq.mk hM1 hth (fun _ => rfl)
      | 3, _ =>
        refine hG.iload_n dX4_anchorOf_19 rfl ?_
        refine hG.tabIn (off := 54) (tgt := 74) dX4_anchorOf_20 (by decide +kernel) (by decide +kernel) (by decide +kernel) rfl ?_
        refine hG.aload_n dX4_anchorOf_74 rfl ?_
        refine hG.iload_n dX4_anchorOf_75 rfl ?_
        refine hG.callV dX4_anchorOf_76 kv_X4_149 (Rcv.raw mdL_m cl_X4) (sp_X4_holdOf (N := N) (R := F.rv) (V := V1) hΓ hA hM1.1 hW.1 ha haj hj0) rfl rfl (Nat.le_of_ble_eq_true rfl) (by decide) (by omega) (by omega) (fun r76 I76 L76 hI76 h76 => ?_) (fun _ _ _ _ _ h => h.elim)
        obtain ⟨rfl, rfl, rfl⟩ := h76
        refine hG.iret dX4_anchorOf_79 rfl ?_ (by omega) (by omega) trivial
        exact pMq.mk hM1 hth (fun _ => rfl)
      | 4, _ =>
        refine hG.iload_n dX4_anchorOf_19 rfl ?_
        refine hG.tabIn (off := 60) (tgt := 80) dX4_anchorOf_20 (by decide +kernel) (by decide +kernel) (by decide +kernel) rfl ?_
        refine hG.aload_n dX4_anchorOf_80 rfl ?_
        refine hG.iload_n dX4_anchorOf_81 rfl ?_
        refine hG.aload_n dX4_anchorOf_82 rfl ?_
        refine hG.get dX4_anchorOf_83 fg_X4_21_X4 (Or.inl mdL_m) rfl ?_
        refine hG.iconst (v := 3) dX4_anchorOf_86 rfl ?_
        refine hG.nld hA (3) dX4_anchorOf_87 rfl (by omega) (v := F.rv.hr) (hM1.1.k3) ?_
        refine hG.callV dX4_anchorOf_88 kv_X4_146 (Rcv.raw mdL_m cl_X4) (sp_X4_pullAt (N := N) (R := F.rv) (V := V1) hΓ hA hM1.1 hW.1 ha haj hj0) rfl rfl (Nat.le_of_ble_eq_true rfl) (by decide) (by omega) (by omega) (fun r88 I88 L88 hI88 h88 => ?_) (fun _ _ _ _ _ h => h.elim)
        obtain ⟨rfl, rfl, rfl⟩ := h88
        refine hG.iret dX4_anchorOf_91 rfl ?_ (by omega) (by omega) trivial
        exact pMq.mk hM1 hth (fun _ => rfl)
      | 5, _ =>
        refine hG.iload_n dX4_anchorOf_19 rfl ?_
        refine hG.tabIn (off := 72) (tgt := 92) dX4_anchorOf_20 (by decide +kernel) (by decide +kernel) (by decide +kernel) rfl ?_
        refine hG.aload_n dX4_anchorOf_92 rfl ?_
        refine hG.iload_n dX4_anchorOf_93 rfl ?_
        refine hG.callV dX4_anchorOf_94 kv_X4_111 (Rcv.raw mdL_m cl_X4) (sp_X4_holds (N := N) (R := F.rv) (V := V1) hΓ hA hM1.1 hW.1 ha) rfl rfl (Nat.le_of_ble_eq_true rfl) (by decide) (by omega) (by omega) (fun r94 I94 L94 hI94 h94 => ?_) (fun _ _ _ _ _ h => h.elim)
        obtain ⟨rfl, rfl, rfl⟩ := h94
        refine hG.if_eq (tgt := 104) dX4_anchorOf_97 rfl (fun c_97 => ?_) (fun c_97 => ?_)
        · refine hG.iconst (v := 0) dX4_anchorOf_104 rfl ?_
          refine hG.iret dX4_anchorOf_105 rfl ?_ (by omega) (by omega) trivial
          exact pMq.mk hM1 hth (fun _ => by show (0 : Int32) = b2i (holdsA a); rw [b2i_0 c_97]; rfl)
        · refine hG.iconst (v := 1) dX4_anchorOf_100 rfl ?_
          refine hG.goto (tgt := 105) dX4_anchorOf_101 rfl ?_
          refine hG.iret dX4_anchorOf_105 rfl ?_ (by omega) (by omega) trivial
          exact pMq.mk hM1 hth (fun _ => by show (1 : Int32) = b2i (holdsA a); rw [b2i_1 c_97]; rfl)
      | _ + 6, h => exact absurd h (by omega)
    · have ho : ancF F.rv (nI i) w = (2, 0) := by unfold ancF; rw [if_pos (b2i_1 c_10), if_neg hin]
      rw [ho] at hG
      have hout := inR_out (n := 5) (by decide) hin
      refine hG.iload_n dX4_anchorOf_19 rfl ?_
      refine hG.tabOut (tgt := 106) dX4_anchorOf_20 hout rfl ?_
      refine hG.aload_n dX4_anchorOf_106 rfl ?_
      refine hG.iconst (v := 2) dX4_anchorOf_107 rfl ?_
      refine hG.callV dX4_anchorOf_108 kv_X4_77 (Rcv.raw mdL_m cl_X4) (sp_X4_raises hΓ) rfl rfl (Nat.le_of_ble_eq_true rfl) (by decide) (by omega) (by omega) (fun r108 I108 L108 hI108 h108 => ?_) (fun _ _ _ _ _ h => h.elim)
      obtain ⟨rfl, rfl, rfl⟩ := h108
      refine hG.iret dX4_anchorOf_111 rfl ?_ (by omega) (by omega) trivial
      exact pMq.mk (hM1.eqv ⟨rfl, rfl, rfl, rfl, rfl⟩ mv_nw_wTh mv_kp_wTh mv_un_wTh mv_le_wTh mv_tx_wTh mv_ld_wTh mv_ln_wTh (mv_fa_wTh.trans hM1.efa) (mv_re_wTh.trans hM1.ere) (mv_de_wTh.trans hM1.ede) mv_is_wTh mv_sv_wTh) mv_th_wTh (fun e => absurd (show (2 : Int32) = 0 from e) (by decide))
  · rw [show ancF F.rv c w = (1, 0) from if_neg (bFT (b2i_0 c_10))] at hG
    refine hG.aload_n dX4_anchorOf_13 rfl ?_
    refine hG.iconst (v := 1) dX4_anchorOf_14 rfl ?_
    refine hG.callV dX4_anchorOf_15 kv_X4_77 (Rcv.raw mdL_m cl_X4) (sp_X4_raises hΓ) rfl rfl (Nat.le_of_ble_eq_true rfl) (by decide) (by omega) (by omega) (fun r15 I15 L15 hI15 h15 => ?_) (fun _ _ _ _ _ h => h.elim)
    obtain ⟨rfl, rfl, rfl⟩ := h15
    refine hG.iret dX4_anchorOf_18 rfl ?_ (by omega) (by omega) trivial
    exact pMq.mk (hM1.eqv ⟨rfl, rfl, rfl, rfl, rfl⟩ mv_nw_wTh mv_kp_wTh mv_un_wTh mv_le_wTh mv_tx_wTh mv_ld_wTh mv_ln_wTh (mv_fa_wTh.trans hM1.efa) (mv_re_wTh.trans hM1.ere) (mv_de_wTh.trans hM1.ede) mv_is_wTh mv_sv_wTh) mv_th_wTh (fun e => absurd (show (1 : Int32) = 0 from e) (by decide))
