/-! what the model answers -/
def flowF (R : Rv) (c n : Int32) : Int32 × Int32 := if inR c 0 (nI R.ch.length - 1) = true then (if inR n 0 199 = true then (match R.ch[c.toNatClampNeg]? with
  | some c0 => (0, flowV R c0 (R.hr + n))
  | none => (1, 0)) else (2, 0)) else (1, 0)
def dragF (R : Rv) (n h : Int32) : Int32 × Int32 := if inR n 0 (nI R.an.length - 1) = true then (if inR h 0 199 = true then (match R.an[n.toNatClampNeg]? with
  | some a => (match R.ch[a.1.toNatClampNeg]? with
    | some c0 => (0, (dItr R c0 a h.toNatClampNeg).2.2)
    | none => (1, 0))
  | none => (1, 0)) else (2, 0)) else (1, 0)
def grpF (R : Rv) (k f t w : Int32) : Int32 × Int32 := if inR f 0 (nI R.ch.length) = true ∧ inR t 0 (nI R.ch.length) = true then (if inR k 0 2 = true ∧ inR w 0 2 = true then (0, if w = 0 then tof R.wa (gco k.toNatClampNeg f.toNatClampNeg t.toNatClampNeg) else if w = 1 then tof R.fo (gco k.toNatClampNeg f.toNatClampNeg t.toNatClampNeg) else tof R.af (gco k.toNatClampNeg f.toNatClampNeg t.toNatClampNeg)) else (2, 0)) else (1, 0)
theorem dItr_a {R : Rv} {c0 a : T3} : ∀ k, ∃ x, dItr R c0 a k = (a.1, a.2.1, x)
  | 0 => ⟨a.2.2, rfl⟩
  | k + 1 => by
    obtain ⟨x, hx⟩ := dItr_a (R := R) (c0 := c0) (a := a) k
    exact ⟨_, by show drg1 R c0 (dItr R c0 a k) _ _ = _; rw [hx]⟩
theorem drgV_a {R : Rv} {c0 a : T3} {x at_ : Int32} : drgV R (a.1, a.2.1, x) c0 at_ = drgV R a c0 at_ := rfl
theorem minI_le {x : Int32} : minI 99 x ≤ 99 := i_le.mpr (by rw [t_min, tlt99]; omega)
set_option maxHeartbeats 4000000 in
set_option maxRecDepth 100000 in
theorem sp_X4_flow {l : Launch} {s0 : State} {D : va_G} {I : AI} {L : AL} {m : Nat} {A : MA} {V : MV} {N : Nat} {F : Fy} (hΓ : Gam l s0 D) (hA : MOk m A) (hM : Mr N F V) (hW : WfF N F) {c n : Int32} : Spc l s0 D yX4_flow 9 [.ref m, .int c, .int n] I (mdL L m A V) 0 0 (pMq N I L m A (F) ((flowF F.rv c n).1) ((flowF F.rv c n).2)) noX := by
  refine Spc.of hΓ cX4_flow 3 (some FieldType.int) q3413 (by decide +kernel) (by decide) (Nat.le_of_ble_eq_true rfl) (fun G GX hG => ?_)
  refine hG.aload_n dX4_flow_0 rfl ?_
  refine hG.iconst (v := 0) dX4_flow_1 rfl ?_
  refine hG.put dX4_flow_2 fp_X4_58_X4 mdL_m rfl rfl (Nat.le_of_ble_eq_true rfl) ?_
  refine hG.mp_th ?_
  have hM1 : Mr N F (V.wTh 0) := hM.eqv ⟨rfl, rfl, rfl, rfl, rfl⟩ mv_nw_wTh mv_kp_wTh mv_un_wTh mv_le_wTh mv_tx_wTh mv_ld_wTh mv_ln_wTh (mv_fa_wTh.trans hM.efa) (mv_re_wTh.trans hM.ere) (mv_de_wTh.trans hM.ede) mv_is_wTh mv_sv_wTh
  have hth : (V.wTh 0).th = 0 := mv_th_wTh
  generalize V.wTh 0 = V1 at hM1 hth ⊢
  have hl6 := hW.1.ch6
  have ha6 := hW.1.an6
  refine hG.aload_n dX4_flow_5 rfl ?_
  refine hG.iload_n dX4_flow_6 rfl ?_
  refine hG.callV dX4_flow_7 kv_X4_98 (Rcv.raw mdL_m cl_X4) (sp_X4_isChannel (N := N) (R := F.rv) (V := V1) hΓ hA hM1.1 hW.1) rfl rfl (Nat.le_of_ble_eq_true rfl) (by decide) (by omega) (by omega) (fun r7 I7 L7 hI7 h7 => ?_) (fun _ _ _ _ _ h => h.elim)
  obtain ⟨rfl, rfl, rfl⟩ := h7
  refine hG.if_ne (tgt := 19) dX4_flow_10 rfl (fun c_10 => ?_) (fun c_10 => ?_)
  · refine hG.iload_n dX4_flow_19 rfl ?_
    refine hG.iconst (v := 0) dX4_flow_20 rfl ?_
    refine hG.sipush (v := 199) dX4_flow_21 rfl ?_
    refine hG.callS dX4_flow_24 ks_X4_80 (sp_X4_in hΓ) rfl rfl (Nat.le_of_ble_eq_true rfl) (by decide) (by omega) (by omega) (fun r24 I24 L24 hI24 h24 => ?_) (fun _ _ _ _ _ h => h.elim)
    obtain ⟨rfl, rfl, rfl⟩ := h24
    refine hG.if_eq (tgt := 46) dX4_flow_27 rfl (fun c_27 => ?_) (fun c_27 => ?_)
    · rw [show flowF F.rv c n = (2, 0) by unfold flowF; rw [if_pos (b2i_1 c_10), if_neg (bFT (b2i_0 c_27))]] at hG
      refine hG.aload_n dX4_flow_46 rfl ?_
      refine hG.iconst (v := 2) dX4_flow_47 rfl ?_
      refine hG.callV dX4_flow_48 kv_X4_77 (Rcv.raw mdL_m cl_X4) (sp_X4_raises hΓ) rfl rfl (Nat.le_of_ble_eq_true rfl) (by decide) (by omega) (by omega) (fun r48 I48 L48 hI48 h48 => ?_) (fun _ _ _ _ _ h => h.elim)
      obtain ⟨rfl, rfl, rfl⟩ := h48
      refine hG.iret dX4_flow_51 rfl ?_ (by omega) (by omega) trivial
      exact pMq.mk (hM1.eqv ⟨rfl, rfl, rfl, rfl, rfl⟩ mv_nw_wTh mv_kp_wTh mv_un_wTh mv_le_wTh mv_tx_wTh mv_ld_wTh mv_ln_wTh (mv_fa_wTh.trans hM1.efa) (mv_re_wTh.trans hM1.ere) (mv_de_wTh.trans hM1.ede) mv_is_wTh mv_sv_wTh) mv_th_wTh (fun e => absurd (show (2 : Int32) = 0 from e) (by decide))
    · obtain ⟨i, hi, rfl⟩ := idx_of (by omega) (b2i_1 c_10)
      obtain ⟨c0, hc0, -⟩ := get_lt hi
      rw [show flowF F.rv (nI i) n = (0, flowV F.rv c0 (F.rv.hr + n)) by unfold flowF; rw [if_pos (b2i_1 c_10), if_pos (b2i_1 c_27), nI_clamp (by omega), hc0]] at hG
      refine hG.aload_n dX4_flow_30 rfl ?_
      refine hG.iload_n dX4_flow_31 rfl ?_
      refine hG.aload_n dX4_flow_32 rfl ?_
      refine hG.get dX4_flow_33 fg_X4_21_X4 (Or.inl mdL_m) rfl ?_
      refine hG.iconst (v := 3) dX4_flow_36 rfl ?_
      refine hG.nld hA (3) dX4_flow_37 rfl (by omega) (v := F.rv.hr) (hM1.1.k3) ?_
      refine hG.iload_n dX4_flow_38 rfl ?_
      refine hG.iadd dX4_flow_39 ?_
      refine hG.callV dX4_flow_40 kv_X4_114 (Rcv.raw mdL_m cl_X4) (sp_X4_flowAt (N := N) (R := F.rv) (V := V1) hΓ hA hM1.1 hW.1 hc0) rfl rfl (Nat.le_of_ble_eq_true rfl) (by decide) (by omega) (by omega) (fun r40 I40 L40 hI40 h40 => ?_) (fun _ _ _ _ _ h => h.elim)
      obtain ⟨rfl, rfl, rfl⟩ := h40
      refine hG.goto (tgt := 51) dX4_flow_43 rfl ?_
      refine hG.iret dX4_flow_51 rfl ?_ (by omega) (by omega) trivial
      exact pMq.mk hM1 hth (fun _ => rfl)
  · rw [show flowF F.rv c n = (1, 0) from if_neg (bFT (b2i_0 c_10))] at hG
    refine hG.aload_n dX4_flow_13 rfl ?_
    refine hG.iconst (v := 1) dX4_flow_14 rfl ?_
    refine hG.callV dX4_flow_15 kv_X4_77 (Rcv.raw mdL_m cl_X4) (sp_X4_raises hΓ) rfl rfl (Nat.le_of_ble_eq_true rfl) (by decide) (by omega) (by omega) (fun r15 I15 L15 hI15 h15 => ?_) (fun _ _ _ _ _ h => h.elim)
    obtain ⟨rfl, rfl, rfl⟩ := h15
    refine hG.iret dX4_flow_18 rfl ?_ (by omega) (by omega) trivial
    exact pMq.mk (hM1.eqv ⟨rfl, rfl, rfl, rfl, rfl⟩ mv_nw_wTh mv_kp_wTh mv_un_wTh mv_le_wTh mv_tx_wTh mv_ld_wTh mv_ln_wTh (mv_fa_wTh.trans hM1.efa) (mv_re_wTh.trans hM1.ere) (mv_de_wTh.trans hM1.ede) mv_is_wTh mv_sv_wTh) mv_th_wTh (fun e => absurd (show (1 : Int32) = 0 from e) (by decide))
set_option maxHeartbeats 4000000 in
set_option maxRecDepth 100000 in
theorem sp_X4_dragIn {l : Launch} {s0 : State} {D : va_G} {I : AI} {L : AL} {m : Nat} {A : MA} {V : MV} {N : Nat} {F : Fy} (hΓ : Gam l s0 D) (hA : MOk m A) (hM : Mr N F V) (hW : WfF N F) {n h : Int32} : Spc l s0 D yX4_dragIn 9 [.ref m, .int n, .int h] I (mdL L m A V) 0 0 (pMq N I L m A (F) ((dragF F.rv n h).1) ((dragF F.rv n h).2)) noX := by
  refine Spc.of hΓ cX4_dragIn 5 (some FieldType.int) q3464 (by decide +kernel) (by decide) (Nat.le_of_ble_eq_true rfl) (fun G GX hG => ?_)
  refine hG.aload_n dX4_dragIn_0 rfl ?_
  refine hG.iconst (v := 0) dX4_dragIn_1 rfl ?_
  refine hG.put dX4_dragIn_2 fp_X4_58_X4 mdL_m rfl rfl (Nat.le_of_ble_eq_true rfl) ?_
  refine hG.mp_th ?_
  have hM1 : Mr N F (V.wTh 0) := hM.eqv ⟨rfl, rfl, rfl, rfl, rfl⟩ mv_nw_wTh mv_kp_wTh mv_un_wTh mv_le_wTh mv_tx_wTh mv_ld_wTh mv_ln_wTh (mv_fa_wTh.trans hM.efa) (mv_re_wTh.trans hM.ere) (mv_de_wTh.trans hM.ede) mv_is_wTh mv_sv_wTh
  have hth : (V.wTh 0).th = 0 := mv_th_wTh
  generalize V.wTh 0 = V1 at hM1 hth ⊢
  have hl6 := hW.1.ch6
  have ha6 := hW.1.an6
  refine hG.aload_n dX4_dragIn_5 rfl ?_
  refine hG.iload_n dX4_dragIn_6 rfl ?_
  refine hG.callV dX4_dragIn_7 kv_X4_130 (Rcv.raw mdL_m cl_X4) (sp_X4_isAnchor (N := N) (R := F.rv) (V := V1) hΓ hA hM1.1 hW.1) rfl rfl (Nat.le_of_ble_eq_true rfl) (by decide) (by omega) (by omega) (fun r7 I7 L7 hI7 h7 => ?_) (fun _ _ _ _ _ h => h.elim)
  obtain ⟨rfl, rfl, rfl⟩ := h7
  refine hG.if_ne (tgt := 19) dX4_dragIn_10 rfl (fun c_10 => ?_) (fun c_10 => ?_)
  · refine hG.iload_n dX4_dragIn_19 rfl ?_
    refine hG.iconst (v := 0) dX4_dragIn_20 rfl ?_
    refine hG.sipush (v := 199) dX4_dragIn_21 rfl ?_
    refine hG.callS dX4_dragIn_24 ks_X4_80 (sp_X4_in hΓ) rfl rfl (Nat.le_of_ble_eq_true rfl) (by decide) (by omega) (by omega) (fun r24 I24 L24 hI24 h24 => ?_) (fun _ _ _ _ _ h => h.elim)
    obtain ⟨rfl, rfl, rfl⟩ := h24
    refine hG.if_ne (tgt := 36) dX4_dragIn_27 rfl (fun c_27 => ?_) (fun c_27 => ?_)
    · obtain ⟨i, hi, rfl⟩ := idx_of (by omega) (b2i_1 c_10)
      obtain ⟨H, hH, rfl⟩ := idx_le (n := h) (m := 199) (by decide) (b2i_1 c_27)
      obtain ⟨a, ha, ham⟩ := get_lt hi
      obtain ⟨j, c0, haj, hj⟩ := hW.1.ok.2 a ham
      have hjl : j < F.rv.ch.length := (List.getElem?_eq_some_iff.mp hj).1
      rw [show dragF F.rv (nI i) (nI H) = (0, (dItr F.rv c0 a H).2.2) by unfold dragF; rw [if_pos (b2i_1 c_10), if_pos (b2i_1 c_27), nI_clamp (by omega), ha]; show (match F.rv.ch[a.1.toNatClampNeg]? with | some c0 => _ | none => _) = _; rw [haj, nI_clamp (by omega), hj, nI_clamp (by omega)]] at hG
      refine hG.aload_n dX4_dragIn_36 rfl ?_
      refine hG.get dX4_dragIn_37 fg_X4_21_X4 (Or.inl mdL_m) rfl ?_
      refine hG.bipush (v := 46) dX4_dragIn_40 rfl ?_
      refine hG.iconst (v := 3) dX4_dragIn_42 rfl ?_
      refine hG.iload_n dX4_dragIn_43 rfl ?_
      refine hG.imul dX4_dragIn_44 ?_
      refine hG.iadd dX4_dragIn_45 ?_
      refine hG.iconst (v := 2) dX4_dragIn_46 rfl ?_
      refine hG.iadd dX4_dragIn_47 ?_
      refine hG.nld hA (46 + 3 * i + 2) dX4_dragIn_48 (ix_b 46 i 2) (by omega) (hM1.1.a ha).2.2 ?_
      refine hG.istore_n dX4_dragIn_49 (by decide) ?_
      refine hG.iconst (v := 0) dX4_dragIn_50 rfl ?_
      refine hG.istore dX4_dragIn_51 (by decide) ?_
      have loop : ∀ (w k : Nat), k + w = H → G 53 [(0, .ref m), (1, .int (nI i)), (2, .int (nI H)), (3, .int (dItr F.rv c0 a k).2.2), (4, .int (nI k))] [] I (mdL L m A V1) 0 0 := by
        intro w
        induction w with
        | zero =>
          intro k hkw
          have hke : k = H := by omega
          subst hke
          refine hG.iload dX4_dragIn_53 rfl ?_
          refine hG.iload_n dX4_dragIn_55 rfl ?_
          refine hG.icmp_ge (tgt := 81) dX4_dragIn_56 rfl (fun c_56 => ?_) (fun c_56 => absurd (nI_le (by omega) (by omega)) c_56)
          refine hG.iload_n dX4_dragIn_81 rfl ?_
          refine hG.iret dX4_dragIn_82 rfl ?_ (by omega) (by omega) trivial
          exact pMq.mk hM1 hth (fun _ => rfl)
        | succ w ih =>
          intro k hkw
          obtain ⟨x, hx⟩ := dItr_a (R := F.rv) (c0 := c0) (a := a) k
          have hx99 : (dItr F.rv c0 a k).2.2 ≤ 99 := by
            cases k with
            | zero => exact (hW.1.as a ham).2.2.2
            | succ k => exact minI_le
          refine hG.iload dX4_dragIn_53 rfl ?_
          refine hG.iload_n dX4_dragIn_55 rfl ?_
          refine hG.icmp_ge (tgt := 81) dX4_dragIn_56 rfl (fun c_56 => absurd c_56 (nI_ge (by omega) (by omega))) (fun c_56 => ?_)
          refine hG.aload_n dX4_dragIn_59 rfl ?_
          refine hG.iload_n dX4_dragIn_60 rfl ?_
          refine hG.iload_n dX4_dragIn_61 rfl ?_
          refine hG.aload_n dX4_dragIn_62 rfl ?_
          refine hG.get dX4_dragIn_63 fg_X4_21_X4 (Or.inl mdL_m) rfl ?_
          refine hG.iconst (v := 3) dX4_dragIn_66 rfl ?_
          refine hG.nld hA (3) dX4_dragIn_67 rfl (by omega) (v := F.rv.hr) (hM1.1.k3) ?_
          refine hG.iload dX4_dragIn_68 rfl ?_
          refine hG.iadd dX4_dragIn_70 ?_
          refine hG.callV dX4_dragIn_71 kv_X4_152 (Rcv.raw mdL_m cl_X4) (sp_X4_draggedAt (N := N) (R := F.rv) (V := V1) hΓ hA hM1.1 hW.1 ha haj hj hx99) rfl rfl (Nat.le_of_ble_eq_true rfl) (by decide) (by omega) (by omega) (fun r71 I71 L71 hI71 h71 => ?_) (fun _ _ _ _ _ h => h.elim)
          obtain ⟨rfl, rfl, rfl⟩ := h71
          refine hG.istore_n dX4_dragIn_74 (by decide) ?_
          refine hG.iinc dX4_dragIn_75 rfl (by decide) ?_
          refine hG.goto (tgt := 53) dX4_dragIn_78 rfl ?_
          have e9 : minI 99 ((dItr F.rv c0 a k).2.2 + drgV F.rv a c0 (F.rv.hr + nI k)) = (dItr F.rv c0 a (k + 1)).2.2 := by
            show _ = minI 99 ((dItr F.rv c0 a k).2.2 + drgV F.rv (dItr F.rv c0 a k) c0 (F.rv.hr + nI k) * 1)
            rw [Int32.mul_one, hx, drgV_a]
          rw [e9]
          refine hG.lsb [(0, .ref m), (1, .int (nI i)), (2, .int (nI H)), (3, .int (dItr F.rv c0 a (k + 1)).2.2), (4, .int (nI k + Int32.ofInt 1))] ⟨rfl, rfl, rfl, rfl, rfl, trivial⟩ ?_
          rw [show nI k + Int32.ofInt 1 = nI (k + 1) from nI_add k 1]
          exact ih (k + 1) (by omega)
      exact hG.lsb [(0, .ref m), (1, .int (nI i)), (2, .int (nI H)), (3, .int (dItr F.rv c0 a 0).2.2), (4, .int (nI 0))] ⟨rfl, rfl, rfl, rfl, rfl, trivial⟩ (loop H 0 (by omega))
    · rw [show dragF F.rv n h = (2, 0) by unfold dragF; rw [if_pos (b2i_1 c_10), if_neg (bFT (b2i_0 c_27))]] at hG
      refine hG.aload_n dX4_dragIn_30 rfl ?_
      refine hG.iconst (v := 2) dX4_dragIn_31 rfl ?_
      refine hG.callV dX4_dragIn_32 kv_X4_77 (Rcv.raw mdL_m cl_X4) (sp_X4_raises hΓ) rfl rfl (Nat.le_of_ble_eq_true rfl) (by decide) (by omega) (by omega) (fun r32 I32 L32 hI32 h32 => ?_) (fun _ _ _ _ _ h => h.elim)
      obtain ⟨rfl, rfl, rfl⟩ := h32
      refine hG.iret dX4_dragIn_35 rfl ?_ (by omega) (by omega) trivial
      exact pMq.mk (hM1.eqv ⟨rfl, rfl, rfl, rfl, rfl⟩ mv_nw_wTh mv_kp_wTh mv_un_wTh mv_le_wTh mv_tx_wTh mv_ld_wTh mv_ln_wTh (mv_fa_wTh.trans hM1.efa) (mv_re_wTh.trans hM1.ere) (mv_de_wTh.trans hM1.ede) mv_is_wTh mv_sv_wTh) mv_th_wTh (fun e => absurd (show (2 : Int32) = 0 from e) (by decide))
  · rw [show dragF F.rv n h = (1, 0) from if_neg (bFT (b2i_0 c_10))] at hG
    refine hG.aload_n dX4_dragIn_13 rfl ?_
    refine hG.iconst (v := 1) dX4_dragIn_14 rfl ?_
    refine hG.callV dX4_dragIn_15 kv_X4_77 (Rcv.raw mdL_m cl_X4) (sp_X4_raises hΓ) rfl rfl (Nat.le_of_ble_eq_true rfl) (by decide) (by omega) (by omega) (fun r15 I15 L15 hI15 h15 => ?_) (fun _ _ _ _ _ h => h.elim)
    obtain ⟨rfl, rfl, rfl⟩ := h15
    refine hG.iret dX4_dragIn_18 rfl ?_ (by omega) (by omega) trivial
    exact pMq.mk (hM1.eqv ⟨rfl, rfl, rfl, rfl, rfl⟩ mv_nw_wTh mv_kp_wTh mv_un_wTh mv_le_wTh mv_tx_wTh mv_ld_wTh mv_ln_wTh (mv_fa_wTh.trans hM1.efa) (mv_re_wTh.trans hM1.ere) (mv_de_wTh.trans hM1.ede) mv_is_wTh mv_sv_wTh) mv_th_wTh (fun e => absurd (show (1 : Int32) = 0 from e) (by decide))
theorem kv_X4_155 : LkV RX4 155 yX4_dragIn 2 := ⟨q3473, q3462, q3463, q87, by decide +kernel, by decide +kernel, by decide +kernel⟩
set_option maxHeartbeats 4000000 in
set_option maxRecDepth 100000 in
theorem sp_X4_dragAgain {l : Launch} {s0 : State} {D : va_G} {I : AI} {L : AL} {m : Nat} {A : MA} {V : MV} {N : Nat} {F : Fy} (hΓ : Gam l s0 D) (hA : MOk m A) (hM : Mr N F V) (hW : WfF N F) {n h : Int32} : Spc l s0 D yX4_dragAgain 10 [.ref m, .int n, .int h] I (mdL L m A V) 0 0 (pMq N I L m A (F) ((dragF F.rv n h).1) ((dragF F.rv n h).2)) noX := by
  refine Spc.of hΓ cX4_dragAgain 3 (some FieldType.int) q3472 (by decide +kernel) (by decide) (Nat.le_of_ble_eq_true rfl) (fun G GX hG => ?_)
  refine hG.aload_n dX4_dragAgain_0 rfl ?_
  refine hG.iload_n dX4_dragAgain_1 rfl ?_
  refine hG.iload_n dX4_dragAgain_2 rfl ?_
  refine hG.callV dX4_dragAgain_3 kv_X4_155 (Rcv.raw mdL_m cl_X4) (sp_X4_dragIn (N := N) (V := V) hΓ hA hM hW) rfl rfl (Nat.le_of_ble_eq_true rfl) (by decide) (by omega) (by omega) (fun r3 I3 L3 hI3 h3 => ?_) (fun _ _ _ _ _ h => h.elim)
  obtain ⟨rfl, V2, w2, rfl, rfl, h2, h3, h4⟩ := h3
  refine hG.iret dX4_dragAgain_6 rfl ?_ (by omega) (by omega) trivial
  exact ⟨rfl, V2, w2, rfl, rfl, h2, h3, h4⟩
set_option maxHeartbeats 4000000 in
set_option maxRecDepth 100000 in
theorem sp_X4_group {l : Launch} {s0 : State} {D : va_G} {I : AI} {L : AL} {m : Nat} {A : MA} {V : MV} {N : Nat} {F : Fy} (hΓ : Gam l s0 D) (hA : MOk m A) (hM : Mr N F V) (hW : WfF N F) {k f t w9 : Int32} : Spc l s0 D yX4_group 9 [.ref m, .int k, .int f, .int t, .int w9] I (mdL L m A V) 0 0 (pMq N I L m A (F) ((grpF F.rv k f t w9).1) ((grpF F.rv k f t w9).2)) noX := by
  refine Spc.of hΓ cX4_group 6 (some FieldType.int) q3492 (by decide +kernel) (by decide) (Nat.le_of_ble_eq_true rfl) (fun G GX hG => ?_)
  refine hG.aload_n dX4_group_0 rfl ?_
  refine hG.iconst (v := 0) dX4_group_1 rfl ?_
  refine hG.put dX4_group_2 fp_X4_58_X4 mdL_m rfl rfl (Nat.le_of_ble_eq_true rfl) ?_
  refine hG.mp_th ?_
  have hM1 : Mr N F (V.wTh 0) := hM.eqv ⟨rfl, rfl, rfl, rfl, rfl⟩ mv_nw_wTh mv_kp_wTh mv_un_wTh mv_le_wTh mv_tx_wTh mv_ld_wTh mv_ln_wTh (mv_fa_wTh.trans hM.efa) (mv_re_wTh.trans hM.ere) (mv_de_wTh.trans hM.ede) mv_is_wTh mv_sv_wTh
  have hth : (V.wTh 0).th = 0 := mv_th_wTh
  generalize V.wTh 0 = V1 at hM1 hth ⊢
  have hl6 := hW.1.ch6
  have ha6 := hW.1.an6
  refine hG.aload_n dX4_group_5 rfl ?_
  refine hG.iload_n dX4_group_6 rfl ?_
  refine hG.callV dX4_group_7 kv_X4_158 (Rcv.raw mdL_m cl_X4) (sp_X4_isStop (N := N) (R := F.rv) (V := V1) hΓ hA hM1.1 hW.1) rfl rfl (Nat.le_of_ble_eq_true rfl) (by decide) (by omega) (by omega) (fun r7 I7 L7 hI7 h7 => ?_) (fun _ _ _ _ _ h => h.elim)
  obtain ⟨rfl, rfl, rfl⟩ := h7
  refine hG.if_eq (tgt := 21) dX4_group_10 rfl (fun c_10 => ?_) (fun c_10 => ?_)
  · rw [show grpF F.rv k f t w9 = (1, 0) from if_neg (fun q => bFT (b2i_0 c_10) q.1)] at hG
    refine hG.aload_n dX4_group_21 rfl ?_
    refine hG.iconst (v := 1) dX4_group_22 rfl ?_
    refine hG.callV dX4_group_23 kv_X4_77 (Rcv.raw mdL_m cl_X4) (sp_X4_raises hΓ) rfl rfl (Nat.le_of_ble_eq_true rfl) (by decide) (by omega) (by omega) (fun r23 I23 L23 hI23 h23 => ?_) (fun _ _ _ _ _ h => h.elim)
    obtain ⟨rfl, rfl, rfl⟩ := h23
    refine hG.iret dX4_group_26 rfl ?_ (by omega) (by omega) trivial
    exact pMq.mk (hM1.eqv ⟨rfl, rfl, rfl, rfl, rfl⟩ mv_nw_wTh mv_kp_wTh mv_un_wTh mv_le_wTh mv_tx_wTh mv_ld_wTh mv_ln_wTh (mv_fa_wTh.trans hM1.efa) (mv_re_wTh.trans hM1.ere) (mv_de_wTh.trans hM1.ede) mv_is_wTh mv_sv_wTh) mv_th_wTh (fun e => absurd (show (1 : Int32) = 0 from e) (by decide))
  · refine hG.aload_n dX4_group_13 rfl ?_
    refine hG.iload_n dX4_group_14 rfl ?_
    refine hG.callV dX4_group_15 kv_X4_158 (Rcv.raw mdL_m cl_X4) (sp_X4_isStop (N := N) (R := F.rv) (V := V1) hΓ hA hM1.1 hW.1) rfl rfl (Nat.le_of_ble_eq_true rfl) (by decide) (by omega) (by omega) (fun r15 I15 L15 hI15 h15 => ?_) (fun _ _ _ _ _ h => h.elim)
    obtain ⟨rfl, rfl, rfl⟩ := h15
    refine hG.if_ne (tgt := 27) dX4_group_18 rfl (fun c_18 => ?_) (fun c_18 => ?_)
    · refine hG.iload_n dX4_group_27 rfl ?_
      refine hG.callS dX4_group_28 ks_X4_161 (sp_X4_isKind hΓ) rfl rfl (Nat.le_of_ble_eq_true rfl) (by decide) (by omega) (by omega) (fun r28 I28 L28 hI28 h28 => ?_) (fun _ _ _ _ _ h => h.elim)
      obtain ⟨rfl, rfl, rfl⟩ := h28
      refine hG.if_eq (tgt := 44) dX4_group_31 rfl (fun c_31 => ?_) (fun c_31 => ?_)
      · rw [show grpF F.rv k f t w9 = (2, 0) by unfold grpF; rw [if_pos ⟨b2i_1 c_10, b2i_1 c_18⟩, if_neg (fun q => bFT (b2i_0 c_31) q.1)]] at hG
        refine hG.aload_n dX4_group_44 rfl ?_
        refine hG.iconst (v := 2) dX4_group_45 rfl ?_
        refine hG.callV dX4_group_46 kv_X4_77 (Rcv.raw mdL_m cl_X4) (sp_X4_raises hΓ) rfl rfl (Nat.le_of_ble_eq_true rfl) (by decide) (by omega) (by omega) (fun r46 I46 L46 hI46 h46 => ?_) (fun _ _ _ _ _ h => h.elim)
        obtain ⟨rfl, rfl, rfl⟩ := h46
        refine hG.iret dX4_group_49 rfl ?_ (by omega) (by omega) trivial
        exact pMq.mk (hM1.eqv ⟨rfl, rfl, rfl, rfl, rfl⟩ mv_nw_wTh mv_kp_wTh mv_un_wTh mv_le_wTh mv_tx_wTh mv_ld_wTh mv_ln_wTh (mv_fa_wTh.trans hM1.efa) (mv_re_wTh.trans hM1.ere) (mv_de_wTh.trans hM1.ede) mv_is_wTh mv_sv_wTh) mv_th_wTh (fun e => absurd (show (2 : Int32) = 0 from e) (by decide))
      · refine hG.iload dX4_group_34 rfl ?_
        refine hG.iconst (v := 0) dX4_group_36 rfl ?_
        refine hG.iconst (v := 2) dX4_group_37 rfl ?_
        refine hG.callS dX4_group_38 ks_X4_80 (sp_X4_in hΓ) rfl rfl (Nat.le_of_ble_eq_true rfl) (by decide) (by omega) (by omega) (fun r38 I38 L38 hI38 h38 => ?_) (fun _ _ _ _ _ h => h.elim)
        obtain ⟨rfl, rfl, rfl⟩ := h38
        refine hG.if_ne (tgt := 50) dX4_group_41 rfl (fun c_41 => ?_) (fun c_41 => ?_)
        · obtain ⟨i, hi, rfl⟩ := idx_le (by omega) (b2i_1 c_10)
          obtain ⟨j, hj, rfl⟩ := idx_le (by omega) (b2i_1 c_18)
          obtain ⟨kk, hkk, rfl⟩ := idx_le (n := k) (m := 2) (by decide) (b2i_1 c_31)
          have hk3 : kk < 3 := by omega
          have hg : gco kk i j < 147 := gco_lt hk3 (by omega) (by omega)
          have ho : grpF F.rv (nI kk) (nI i) (nI j) w9 = _ := if_pos ⟨b2i_1 c_10, b2i_1 c_18⟩
          rw [if_pos ⟨b2i_1 c_31, b2i_1 c_41⟩, nI_clamp (by omega), nI_clamp (by omega), nI_clamp (by omega)] at ho
          rw [ho] at hG
          refine hG.iload_n dX4_group_50 rfl ?_
          refine hG.iload_n dX4_group_51 rfl ?_
          refine hG.iload_n dX4_group_52 rfl ?_
          refine hG.callS dX4_group_53 ks_X4_94 (sp_X4_groupAt hΓ) rfl rfl (Nat.le_of_ble_eq_true rfl) (by decide) (by omega) (by omega) (fun r53 I53 L53 hI53 h53 => ?_) (fun _ _ _ _ _ h => h.elim)
          obtain ⟨rfl, rfl, rfl⟩ := h53
          refine hG.istore dX4_group_56 (by decide) ?_
          refine hG.iload dX4_group_58 rfl ?_
          refine hG.if_ne (tgt := 76) dX4_group_60 rfl (fun c_60 => ?_) (fun c_60 => ?_)
          · refine hG.iload dX4_group_76 rfl ?_
            refine hG.iconst (v := 1) dX4_group_78 rfl ?_
            refine hG.icmp_ne (tgt := 96) dX4_group_79 rfl (fun c_79 => ?_) (fun c_79 => ?_)
            · refine hG.aload_n dX4_group_96 rfl ?_
              refine hG.get dX4_group_97 fg_X4_21_X4 (Or.inl mdL_m) rfl ?_
              refine hG.sipush (v := 505) dX4_group_100 rfl ?_
              refine hG.iload dX4_group_103 rfl ?_
              refine hG.iadd dX4_group_105 ?_
              rw [show (505 : Int32) + nI (gco kk i j) = nI (505 + gco kk i j) from ix1 505 _]
              refine hG.nld hA (505 + gco kk i j) dX4_group_106 rfl (by omega) (v := tof F.rv.af (gco kk i j)) (hM1.1.af hg) ?_
              refine hG.iret dX4_group_107 rfl ?_ (by omega) (by omega) trivial
              exact pMq.mk hM1 hth (fun _ => ((if_neg c_60).trans (if_neg c_79)).symm)
            · refine hG.aload_n dX4_group_82 rfl ?_
              refine hG.get dX4_group_83 fg_X4_21_X4 (Or.inl mdL_m) rfl ?_
              refine hG.sipush (v := 358) dX4_group_86 rfl ?_
              refine hG.iload dX4_group_89 rfl ?_
              refine hG.iadd dX4_group_91 ?_
              rw [show (358 : Int32) + nI (gco kk i j) = nI (358 + gco kk i j) from ix1 358 _]
              refine hG.nld hA (358 + gco kk i j) dX4_group_92 rfl (by omega) (v := tof F.rv.fo (gco kk i j)) (hM1.1.fo hg) ?_
              refine hG.goto (tgt := 107) dX4_group_93 rfl ?_
              refine hG.iret dX4_group_107 rfl ?_ (by omega) (by omega) trivial
              exact pMq.mk hM1 hth (fun _ => ((if_neg c_60).trans (if_pos c_79)).symm)
          · refine hG.aload_n dX4_group_63 rfl ?_
            refine hG.get dX4_group_64 fg_X4_21_X4 (Or.inl mdL_m) rfl ?_
            refine hG.bipush (v := 64) dX4_group_67 rfl ?_
            refine hG.iload dX4_group_69 rfl ?_
            refine hG.iadd dX4_group_71 ?_
            rw [show (64 : Int32) + nI (gco kk i j) = nI (64 + gco kk i j) from ix1 64 _]
            refine hG.nld hA (64 + gco kk i j) dX4_group_72 rfl (by omega) (v := tof F.rv.wa (gco kk i j)) (hM1.1.w hg) ?_
            refine hG.goto (tgt := 107) dX4_group_73 rfl ?_
            refine hG.iret dX4_group_107 rfl ?_ (by omega) (by omega) trivial
            exact pMq.mk hM1 hth (fun _ => (if_pos c_60).symm)
        · rw [show grpF F.rv k f t w9 = (2, 0) by unfold grpF; rw [if_pos ⟨b2i_1 c_10, b2i_1 c_18⟩, if_neg (fun q => bFT (b2i_0 c_41) q.2)]] at hG
          refine hG.aload_n dX4_group_44 rfl ?_
          refine hG.iconst (v := 2) dX4_group_45 rfl ?_
          refine hG.callV dX4_group_46 kv_X4_77 (Rcv.raw mdL_m cl_X4) (sp_X4_raises hΓ) rfl rfl (Nat.le_of_ble_eq_true rfl) (by decide) (by omega) (by omega) (fun r46 I46 L46 hI46 h46 => ?_) (fun _ _ _ _ _ h => h.elim)
          obtain ⟨rfl, rfl, rfl⟩ := h46
          refine hG.iret dX4_group_49 rfl ?_ (by omega) (by omega) trivial
          exact pMq.mk (hM1.eqv ⟨rfl, rfl, rfl, rfl, rfl⟩ mv_nw_wTh mv_kp_wTh mv_un_wTh mv_le_wTh mv_tx_wTh mv_ld_wTh mv_ln_wTh (mv_fa_wTh.trans hM1.efa) (mv_re_wTh.trans hM1.ere) (mv_de_wTh.trans hM1.ede) mv_is_wTh mv_sv_wTh) mv_th_wTh (fun e => absurd (show (2 : Int32) = 0 from e) (by decide))
    · rw [show grpF F.rv k f t w9 = (1, 0) from if_neg (fun q => bFT (b2i_0 c_18) q.2)] at hG
      refine hG.aload_n dX4_group_21 rfl ?_
      refine hG.iconst (v := 1) dX4_group_22 rfl ?_
      refine hG.callV dX4_group_23 kv_X4_77 (Rcv.raw mdL_m cl_X4) (sp_X4_raises hΓ) rfl rfl (Nat.le_of_ble_eq_true rfl) (by decide) (by omega) (by omega) (fun r23 I23 L23 hI23 h23 => ?_) (fun _ _ _ _ _ h => h.elim)
      obtain ⟨rfl, rfl, rfl⟩ := h23
      refine hG.iret dX4_group_26 rfl ?_ (by omega) (by omega) trivial
      exact pMq.mk (hM1.eqv ⟨rfl, rfl, rfl, rfl, rfl⟩ mv_nw_wTh mv_kp_wTh mv_un_wTh mv_le_wTh mv_tx_wTh mv_ld_wTh mv_ln_wTh (mv_fa_wTh.trans hM1.efa) (mv_re_wTh.trans hM1.ere) (mv_de_wTh.trans hM1.ede) mv_is_wTh mv_sv_wTh) mv_th_wTh (fun e => absurd (show (1 : Int32) = 0 from e) (by decide))
