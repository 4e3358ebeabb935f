/-! a shift of the model -/
theorem Rep.shf {N M : Nat} {R : Rv} {n : Nat → Int32} (h : Rep N R n) (hw : Wf M R) {i : Nat} {c d : T3} {x y : Int32} (hc : R.ch[i]? = some c) (hd : R.ch[i + 1]? = some d) : Rep N (R.wCh ((R.ch.set i (tW c x)).set (i + 1) (tW d y))) (va_up (va_up n (13 + 3 * i) x) (13 + 3 * (i + 1)) y) := by
  have w1 := hw.ch6
  have w2 := hw.fl5
  have w3 := hw.an6
  have hj : i + 1 < R.ch.length := (List.getElem?_eq_some_iff.mp hd).1
  obtain ⟨q1, q2, q3⟩ := h.c hc
  obtain ⟨r1, r2, r3⟩ := h.c hd
  exact Rep.mk ⟨(by rw [List.length_set, List.length_set]; exact (va_ne (by omega)).trans ((va_ne (by omega)).trans h.k0)), ((va_ne (by omega)).trans ((va_ne (by omega)).trans (h.k1))), ((va_ne (by omega)).trans ((va_ne (by omega)).trans (h.k2)))⟩ ⟨((va_ne (by omega)).trans ((va_ne (by omega)).trans (h.k3))), ((va_ne (by omega)).trans ((va_ne (by omega)).trans (h.k4))), ((va_ne (by omega)).trans ((va_ne (by omega)).trans (h.k5))), ((va_ne (by omega)).trans ((va_ne (by omega)).trans (h.k6))), ((va_ne (by omega)).trans ((va_ne (by omega)).trans (h.k7))), ((va_ne (by omega)).trans ((va_ne (by omega)).trans (h.k8)))⟩ ⟨((va_ne (by omega)).trans ((va_ne (by omega)).trans (h.2.2.1.1))), ((va_ne (by omega)).trans ((va_ne (by omega)).trans (h.2.2.1.2.1))), ((va_ne (by omega)).trans ((va_ne (by omega)).trans (h.2.2.1.2.2)))⟩ ((h.cE.set (c := tW c x) (j := i) (n' := va_up n (13 + 3 * i) x) (fun k hk => va_ne (by omega)) (va_eq rfl) ((va_ne (by omega)).trans q2) ((va_ne (by omega)).trans q3)).set (c := tW d y) (fun k hk => va_ne (by omega)) (va_eq rfl) ((va_ne (by omega)).trans ((va_ne (by omega)).trans r2)) ((va_ne (by omega)).trans ((va_ne (by omega)).trans r3))) (h.fE.cg (m := 5) (by rw [List.length_map]; exact w2) (agr.up (agr.up agr.rf (by omega)) (by omega))) (h.aE.cg w3 (agr.up (agr.up agr.rf (by omega)) (by omega))) (h.wT.cg (agr.up (agr.up agr.rf (by omega)) (by omega))) (h.foT.cg (agr.up (agr.up agr.rf (by omega)) (by omega))) (h.afT.cg (agr.up (agr.up agr.rf (by omega)) (by omega))) (h.or.ag hw.wa (agr.up (agr.up agr.rf (by omega)) (by omega)) (agr.up (agr.up agr.rf (by omega)) (by omega)))
theorem wNw_wNw {V : MV} {a b : Nat → Int32} : (V.wNw a).wNw b = V.wNw b := rfl
theorem wNw_f {V : MV} {n : Nat → Int32} : (V.wNw n).kp = V.kp ∧ (V.wNw n).un = V.un ∧ (V.wNw n).tr = V.tr := ⟨mv_kp_wNw, mv_un_wNw, mv_tr_wNw⟩
theorem Mr.don2 {N : Nat} {F : Fy} {V : MV} (h : Mr N F V) {kp n : Nat → Int32} {v : Int32} {R2 : Rv} (hR : Rep (N + 1) R2 n) (hK : KpOk (N + 1) (pushP F.rv F.pa) kp) : Mr (N + 1) (chF F (.inl (v, R2))) (((V.wNw n).wKp kp).wUn (nI (pushP F.rv F.pa).length)) := by
  have h2 := h.mono (Nat.le_succ N)
  unfold Mr
  rw [show (((V.wNw n).wKp kp).wUn (nI (pushP F.rv F.pa).length)).nw = n from (mv_nw_wUn.trans (mv_nw_wKp.trans mv_nw_wNw)), show (((V.wNw n).wKp kp).wUn (nI (pushP F.rv F.pa).length)).kp = kp from (mv_kp_wUn.trans mv_kp_wKp), show (((V.wNw n).wKp kp).wUn (nI (pushP F.rv F.pa).length)).un = nI (pushP F.rv F.pa).length from mv_un_wUn, show (((V.wNw n).wKp kp).wUn (nI (pushP F.rv F.pa).length)).le = V.le from (mv_le_wUn.trans (mv_le_wKp.trans mv_le_wNw)), show (((V.wNw n).wKp kp).wUn (nI (pushP F.rv F.pa).length)).tx = V.tx from (mv_tx_wUn.trans (mv_tx_wKp.trans mv_tx_wNw)), show (((V.wNw n).wKp kp).wUn (nI (pushP F.rv F.pa).length)).ld = V.ld from (mv_ld_wUn.trans (mv_ld_wKp.trans mv_ld_wNw)), show (((V.wNw n).wKp kp).wUn (nI (pushP F.rv F.pa).length)).ln = V.ln from (mv_ln_wUn.trans (mv_ln_wKp.trans mv_ln_wNw)), show (((V.wNw n).wKp kp).wUn (nI (pushP F.rv F.pa).length)).fa = V.fa from (mv_fa_wUn.trans (mv_fa_wKp.trans mv_fa_wNw)), show (((V.wNw n).wKp kp).wUn (nI (pushP F.rv F.pa).length)).re = V.re from (mv_re_wUn.trans (mv_re_wKp.trans mv_re_wNw)), show (((V.wNw n).wKp kp).wUn (nI (pushP F.rv F.pa).length)).de = V.de from (mv_de_wUn.trans (mv_de_wKp.trans mv_de_wNw)), show (((V.wNw n).wKp kp).wUn (nI (pushP F.rv F.pa).length)).is = V.is from (mv_is_wUn.trans (mv_is_wKp.trans mv_is_wNw)), show (((V.wNw n).wKp kp).wUn (nI (pushP F.rv F.pa).length)).sv = V.sv from (mv_sv_wUn.trans (mv_sv_wKp.trans mv_sv_wNw))]
  exact ⟨hR, hK, rfl, h2.2.2.2.1, h2.2.2.2.2.1, h2.2.2.2.2.2.1, h2.2.2.2.2.2.2.1, h2.efa, h2.ere, h2.ede, h2.esv⟩
theorem Mr.ref2 {N : Nat} {F : Fy} {V : MV} (h : Mr N F V) {re de c : Int32} : Mr (N + 1) (chF F (.inr (.inr (re, de)))) (((V.wRe re).wDe de).wTh c) := (h.mono (Nat.le_succ N)).eqv ⟨rfl, rfl, rfl, rfl, rfl⟩ (mv_nw_wTh.trans (mv_nw_wDe.trans mv_nw_wRe)) (mv_kp_wTh.trans (mv_kp_wDe.trans mv_kp_wRe)) (mv_un_wTh.trans (mv_un_wDe.trans mv_un_wRe)) (mv_le_wTh.trans (mv_le_wDe.trans mv_le_wRe)) (mv_tx_wTh.trans (mv_tx_wDe.trans mv_tx_wRe)) (mv_ld_wTh.trans (mv_ld_wDe.trans mv_ld_wRe)) (mv_ln_wTh.trans (mv_ln_wDe.trans mv_ln_wRe)) (mv_fa_wTh.trans (mv_fa_wDe.trans (mv_fa_wRe.trans h.efa))) (mv_re_wTh.trans (mv_re_wDe.trans mv_re_wRe)) (mv_de_wTh.trans mv_de_wDe) (mv_is_wTh.trans (mv_is_wDe.trans mv_is_wRe)) (mv_sv_wTh.trans (mv_sv_wDe.trans mv_sv_wRe))
set_option maxHeartbeats 4000000 in
set_option maxRecDepth 100000 in
theorem sp_X4_shift {l : Launch} {s0 : State} {D : va_G} {I : AI} {L : AL} {m : Nat} {A : MA} {V : MV} {N : Nat} {F : Fy} (hΓ : Gam l s0 D) (hA : MOk m A) (hM : Mr N F V) (hW : WfF N F) {n b : Int32} : Spc l s0 D yX4_shift 9 [.ref m, .int n, .int b] I (mdL L m A V) 0 0 (pMo N I L m A F (fun b => match b with | true => 2 | false => 1) 3 (shfO F.rv n b)) noX := by
  refine Spc.of hΓ cX4_shift 4 (some FieldType.int) q3384 (by decide +kernel) (by decide) (Nat.le_of_ble_eq_true rfl) (fun G GX hG => ?_)
  refine hG.aload_n dX4_shift_0 rfl ?_
  refine hG.callV dX4_shift_1 kv_X4_84 (Rcv.raw mdL_m cl_X4) (sp_X4_tries hΓ hA) rfl rfl (Nat.le_of_ble_eq_true rfl) (by decide) (by omega) (by omega) (fun r1 I1 L1 hI1 h1 => ?_) (fun _ _ _ _ _ h => h.elim)
  obtain ⟨rfl, rfl, t, ht, rfl⟩ := h1
  have hT : Rep N F.rv t := hM.1.cg hW.1 ht
  have hM1 : Mr N F ((V.wTh 0).wTr t) := hM.eqv ⟨rfl, rfl, rfl, rfl, rfl⟩ (mv_nw_wTr.trans mv_nw_wTh) (mv_kp_wTr.trans mv_kp_wTh) (mv_un_wTr.trans mv_un_wTh) (mv_le_wTr.trans mv_le_wTh) (mv_tx_wTr.trans mv_tx_wTh) (mv_ld_wTr.trans mv_ld_wTh) (mv_ln_wTr.trans mv_ln_wTh) (mv_fa_wTr.trans (mv_fa_wTh.trans hM.efa)) (mv_re_wTr.trans (mv_re_wTh.trans hM.ere)) (mv_de_wTr.trans (mv_de_wTh.trans hM.ede)) (mv_is_wTr.trans mv_is_wTh) (mv_sv_wTr.trans mv_sv_wTh)
  have hth : ((V.wTh 0).wTr t).th = 0 := mv_th_wTr.trans mv_th_wTh
  have htr : ((V.wTh 0).wTr t).tr = t := mv_tr_wTr
  generalize (V.wTh 0).wTr t = V1 at hM1 hth htr ⊢
  have hl6 := hW.1.ch6
  refine hG.aload_n dX4_shift_4 rfl ?_
  refine hG.iload_n dX4_shift_5 rfl ?_
  refine hG.callV dX4_shift_6 kv_X4_98 (Rcv.raw mdL_m cl_X4) (sp_X4_isChannel (N := N) (R := F.rv) (V := V1) hΓ hA hM1.1 hW.1) rfl rfl (Nat.le_of_ble_eq_true rfl) (by decide) (by omega) (by omega) (fun r6 I6 L6 hI6 h6 => ?_) (fun _ _ _ _ _ h => h.elim)
  obtain ⟨rfl, rfl, rfl⟩ := h6
  refine hG.if_eq (tgt := 22) dX4_shift_9 rfl (fun c_9 => ?_) (fun c_9 => ?_)
  · have ho : shfO F.rv n b = .inr (.inl false) := shf_a (b2i_0 c_9)
    refine hG.aload_n dX4_shift_22 rfl ?_
    refine hG.iconst (v := 1) dX4_shift_23 rfl ?_
    refine hG.callV dX4_shift_24 kv_X4_77 (Rcv.raw mdL_m cl_X4) (sp_X4_raises hΓ) rfl rfl (Nat.le_of_ble_eq_true rfl) (by decide) (by omega) (by omega) (fun r24 I24 L24 hI24 h24 => ?_) (fun _ _ _ _ _ h => h.elim)
    obtain ⟨rfl, rfl, rfl⟩ := h24
    refine hG.iret dX4_shift_27 rfl ?_ (by omega) (by omega) trivial
    exact pMo.e2 ho ((hM1.mono (Nat.le_succ N)).eqv ⟨rfl, rfl, rfl, rfl, rfl⟩ mv_nw_wTh mv_kp_wTh mv_un_wTh mv_le_wTh mv_tx_wTh mv_ld_wTh mv_ln_wTh (mv_fa_wTh.trans hM1.efa) (mv_re_wTh.trans hM1.ere) (mv_de_wTh.trans hM1.ede) mv_is_wTh mv_sv_wTh) mv_th_wTh
  · refine hG.aload_n dX4_shift_12 rfl ?_
    refine hG.iload_n dX4_shift_13 rfl ?_
    refine hG.iconst (v := 1) dX4_shift_14 rfl ?_
    refine hG.iadd dX4_shift_15 ?_
    refine hG.callV dX4_shift_16 kv_X4_98 (Rcv.raw mdL_m cl_X4) (sp_X4_isChannel (N := N) (R := F.rv) (V := V1) hΓ hA hM1.1 hW.1) rfl rfl (Nat.le_of_ble_eq_true rfl) (by decide) (by omega) (by omega) (fun r16 I16 L16 hI16 h16 => ?_) (fun _ _ _ _ _ h => h.elim)
    obtain ⟨rfl, rfl, rfl⟩ := h16
    refine hG.if_ne (tgt := 28) dX4_shift_19 rfl (fun c_19 => ?_) (fun c_19 => ?_)
    · refine hG.iload_n dX4_shift_28 rfl ?_
      refine hG.bipush (v := -99) dX4_shift_29 rfl ?_
      refine hG.bipush (v := 99) dX4_shift_31 rfl ?_
      refine hG.callS dX4_shift_33 ks_X4_80 (sp_X4_in hΓ) rfl rfl (Nat.le_of_ble_eq_true rfl) (by decide) (by omega) (by omega) (fun r33 I33 L33 hI33 h33 => ?_) (fun _ _ _ _ _ h => h.elim)
      obtain ⟨rfl, rfl, rfl⟩ := h33
      refine hG.if_ne (tgt := 45) dX4_shift_36 rfl (fun c_36 => ?_) (fun c_36 => ?_)
      · obtain ⟨i, hi, rfl⟩ := idx_of (by omega) (b2i_1 c_9)
        have hi1 := b2i_1 c_19
        rw [nI_1] at hi1
        obtain ⟨i2, hi2, e2⟩ := idx_of (by omega) hi1
        have e3 : i + 1 = i2 := (nI_eq (by omega) (by omega)).mp e2
        subst e3
        obtain ⟨c, hc, -⟩ := get_lt hi
        obtain ⟨d9, hd, -⟩ := get_lt hi2
        have ho := shf_d (b := b) (by omega) (b2i_1 c_9) (b2i_1 c_19) (b2i_1 c_36) hc hd
        refine hG.bipush (v := 13) dX4_shift_45 rfl ?_
        refine hG.iconst (v := 3) dX4_shift_47 rfl ?_
        refine hG.iload_n dX4_shift_48 rfl ?_
        refine hG.imul dX4_shift_49 ?_
        refine hG.iadd dX4_shift_50 ?_
        rw [show (13 : Int32) + 3 * nI i = nI (13 + 3 * i) from ix3 13 i]
        refine hG.istore_n dX4_shift_51 (by decide) ?_
        refine hG.aload_n dX4_shift_52 rfl ?_
        refine hG.get dX4_shift_53 fg_X4_21_X4 (Or.inl mdL_m) rfl ?_
        refine hG.iload_n dX4_shift_56 rfl ?_
        refine hG.nld hA (13 + 3 * i) dX4_shift_57 rfl (by omega) (v := c.1) ((hM1.1.c hc).1) ?_
        refine hG.iload_n dX4_shift_58 rfl ?_
        refine hG.iadd dX4_shift_59 ?_
        refine hG.bipush (v := 10) dX4_shift_60 rfl ?_
        refine hG.bipush (v := 99) dX4_shift_62 rfl ?_
        refine hG.callS dX4_shift_64 ks_X4_80 (sp_X4_in hΓ) rfl rfl (Nat.le_of_ble_eq_true rfl) (by decide) (by omega) (by omega) (fun r64 I64 L64 hI64 h64 => ?_) (fun _ _ _ _ _ h => h.elim)
        obtain ⟨rfl, rfl, rfl⟩ := h64
        refine hG.if_ne (tgt := 89) dX4_shift_67 rfl (fun c_67 => ?_) (fun c_67 => ?_)
        · rw [if_pos (b2i_1 c_67)] at ho
          refine hG.aload_n dX4_shift_89 rfl ?_
          refine hG.get dX4_shift_90 fg_X4_21_X4 (Or.inl mdL_m) rfl ?_
          refine hG.iload_n dX4_shift_93 rfl ?_
          refine hG.iconst (v := 3) dX4_shift_94 rfl ?_
          refine hG.iadd dX4_shift_95 ?_
          refine hG.nld hA (13 + 3 * (i + 1)) dX4_shift_96 (by rw [show 13 + 3 * (i + 1) = 13 + 3 * i + 3 by omega]; exact ix1 _ 3) (by omega) (v := d9.1) ((hM1.1.c hd).1) ?_
          refine hG.iload_n dX4_shift_97 rfl ?_
          refine hG.isub dX4_shift_98 ?_
          refine hG.bipush (v := 10) dX4_shift_99 rfl ?_
          refine hG.bipush (v := 99) dX4_shift_101 rfl ?_
          refine hG.callS dX4_shift_103 ks_X4_80 (sp_X4_in hΓ) rfl rfl (Nat.le_of_ble_eq_true rfl) (by decide) (by omega) (by omega) (fun r103 I103 L103 hI103 h103 => ?_) (fun _ _ _ _ _ h => h.elim)
          obtain ⟨rfl, rfl, rfl⟩ := h103
          refine hG.if_ne (tgt := 130) dX4_shift_106 rfl (fun c_106 => ?_) (fun c_106 => ?_)
          · rw [if_pos (b2i_1 c_106)] at ho
            refine hG.aload_n dX4_shift_130 rfl ?_
            refine hG.get dX4_shift_131 fg_X4_21_X4 (Or.inl mdL_m) rfl ?_
            refine hG.iload_n dX4_shift_134 rfl ?_
            refine hG.dup2 dX4_shift_135 rfl rfl ?_
            refine hG.nld hA (13 + 3 * i) dX4_shift_136 rfl (by omega) (v := c.1) ((hM1.1.c hc).1) ?_
            refine hG.iload_n dX4_shift_137 rfl ?_
            refine hG.iadd dX4_shift_138 ?_
            refine hG.nst hA (13 + 3 * i) dX4_shift_139 rfl (by omega) ?_
            refine hG.aload_n dX4_shift_140 rfl ?_
            refine hG.get dX4_shift_141 fg_X4_21_X4 (Or.inl mdL_m) rfl ?_
            refine hG.iload_n dX4_shift_144 rfl ?_
            refine hG.iconst (v := 3) dX4_shift_145 rfl ?_
            refine hG.iadd dX4_shift_146 ?_
            refine hG.dup2 dX4_shift_147 rfl rfl ?_
            refine hG.nld hA (13 + 3 * (i + 1)) dX4_shift_148 (by rw [show 13 + 3 * (i + 1) = 13 + 3 * i + 3 by omega]; exact ix1 _ 3) (by omega) (v := d9.1) ((by rw [nw_w]; exact (va_ne (by omega)).trans (hM1.1.c hd).1)) ?_
            refine hG.iload_n dX4_shift_149 rfl ?_
            refine hG.isub dX4_shift_150 ?_
            refine hG.nst hA (13 + 3 * (i + 1)) dX4_shift_151 (by rw [show 13 + 3 * (i + 1) = 13 + 3 * i + 3 by omega]; exact ix1 _ 3) (by omega) ?_
            rw [wNw_wNw, nw_w]
            refine hG.aload_n dX4_shift_152 rfl ?_
            refine hG.aload_n dX4_shift_153 rfl ?_
            refine hG.get dX4_shift_154 fg_X4_21_X4 (Or.inl mdL_m) rfl ?_
            refine hG.iload_n dX4_shift_157 rfl ?_
            refine hG.nld hA (13 + 3 * i) dX4_shift_158 rfl (by omega) (v := c.1 + b) ((by rw [nw_w]; exact (va_ne (by omega)).trans (va_eq rfl))) ?_
            refine hG.callV dX4_shift_159 kv_X4_73 (Rcv.raw mdL_m cl_X4) (sp_X4_keeps (N := N) (past := F.pa) (P0 := F.rv) (V := V1.wNw _) hΓ hA (by rw [wNw_f.1]; exact hM1.2.1) (by rw [wNw_f.2.1]; exact hM1.2.2.1) hW.2.2.1 hW.2.1 (by rw [wNw_f.2.2, htr]; exact hT) hW.1) rfl rfl (Nat.le_of_ble_eq_true rfl) (by decide) (by omega) (by omega) (fun r159 I159 L159 hI159 h159 => ?_) (fun _ _ _ _ _ h => h.elim)
            obtain ⟨rfl, rfl, kp, hkp, rfl⟩ := h159
            refine hG.iret dX4_shift_162 rfl ?_ (by omega) (by omega) trivial
            exact pMo.d ho (Mr.don2 hM1 ((hM1.1.shf hW.1 hc hd).mono (Nat.le_succ N)) (hkp.mono (Nat.le_succ N))) ((mv_th_wUn.trans (mv_th_wKp.trans (mv_th_wNw.trans hth))))
          · rw [if_neg (bFT (b2i_0 c_106))] at ho
            refine hG.aload_n dX4_shift_109 rfl ?_
            refine hG.aload_n dX4_shift_110 rfl ?_
            refine hG.iconst (v := 2) dX4_shift_111 rfl ?_
            refine hG.aload_n dX4_shift_112 rfl ?_
            refine hG.get dX4_shift_113 fg_X4_21_X4 (Or.inl mdL_m) rfl ?_
            refine hG.iload_n dX4_shift_116 rfl ?_
            refine hG.iconst (v := 3) dX4_shift_117 rfl ?_
            refine hG.iadd dX4_shift_118 ?_
            refine hG.nld hA (13 + 3 * (i + 1)) dX4_shift_119 (by rw [show 13 + 3 * (i + 1) = 13 + 3 * i + 3 by omega]; exact ix1 _ 3) (by omega) (v := d9.1) ((hM1.1.c hd).1) ?_
            refine hG.iload_n dX4_shift_120 rfl ?_
            refine hG.isub dX4_shift_121 ?_
            refine hG.callV dX4_shift_122 kv_X4_87 (Rcv.raw mdL_m cl_X4) (sp_X4_why hΓ) rfl rfl (Nat.le_of_ble_eq_true rfl) (by decide) (by omega) (by omega) (fun r122 I122 L122 hI122 h122 => ?_) (fun _ _ _ _ _ h => h.elim)
            obtain ⟨rfl, rfl, rfl⟩ := h122
            refine hG.iconst (v := 3) dX4_shift_125 rfl ?_
            refine hG.callV dX4_shift_126 kv_X4_91 (Rcv.raw mdL_m cl_X4) (sp_X4_endsN (c := 3) hΓ (by decide) rfl) rfl rfl (Nat.le_of_ble_eq_true rfl) (by decide) (by omega) (by omega) (fun r126 I126 L126 hI126 h126 => ?_) (fun _ _ _ _ _ h => h.elim)
            obtain ⟨rfl, rfl, rfl⟩ := h126
            refine hG.iret dX4_shift_129 rfl ?_ (by omega) (by omega) trivial
            exact pMo.r2 ho (hM1.ref2) mv_th_wTh
        · rw [if_neg (bFT (b2i_0 c_67))] at ho
          refine hG.aload_n dX4_shift_70 rfl ?_
          refine hG.aload_n dX4_shift_71 rfl ?_
          refine hG.iconst (v := 2) dX4_shift_72 rfl ?_
          refine hG.aload_n dX4_shift_73 rfl ?_
          refine hG.get dX4_shift_74 fg_X4_21_X4 (Or.inl mdL_m) rfl ?_
          refine hG.iload_n dX4_shift_77 rfl ?_
          refine hG.nld hA (13 + 3 * i) dX4_shift_78 rfl (by omega) (v := c.1) ((hM1.1.c hc).1) ?_
          refine hG.iload_n dX4_shift_79 rfl ?_
          refine hG.iadd dX4_shift_80 ?_
          refine hG.callV dX4_shift_81 kv_X4_87 (Rcv.raw mdL_m cl_X4) (sp_X4_why hΓ) rfl rfl (Nat.le_of_ble_eq_true rfl) (by decide) (by omega) (by omega) (fun r81 I81 L81 hI81 h81 => ?_) (fun _ _ _ _ _ h => h.elim)
          obtain ⟨rfl, rfl, rfl⟩ := h81
          refine hG.iconst (v := 3) dX4_shift_84 rfl ?_
          refine hG.callV dX4_shift_85 kv_X4_91 (Rcv.raw mdL_m cl_X4) (sp_X4_endsN (c := 3) hΓ (by decide) rfl) rfl rfl (Nat.le_of_ble_eq_true rfl) (by decide) (by omega) (by omega) (fun r85 I85 L85 hI85 h85 => ?_) (fun _ _ _ _ _ h => h.elim)
          obtain ⟨rfl, rfl, rfl⟩ := h85
          refine hG.iret dX4_shift_88 rfl ?_ (by omega) (by omega) trivial
          exact pMo.r2 ho (hM1.ref2) mv_th_wTh
      · have ho := shf_c (b2i_1 c_9) (b2i_1 c_19) (b2i_0 c_36)
        refine hG.aload_n dX4_shift_39 rfl ?_
        refine hG.iconst (v := 2) dX4_shift_40 rfl ?_
        refine hG.callV dX4_shift_41 kv_X4_77 (Rcv.raw mdL_m cl_X4) (sp_X4_raises hΓ) rfl rfl (Nat.le_of_ble_eq_true rfl) (by decide) (by omega) (by omega) (fun r41 I41 L41 hI41 h41 => ?_) (fun _ _ _ _ _ h => h.elim)
        obtain ⟨rfl, rfl, rfl⟩ := h41
        refine hG.iret dX4_shift_44 rfl ?_ (by omega) (by omega) trivial
        exact pMo.e2 ho ((hM1.mono (Nat.le_succ N)).eqv ⟨rfl, rfl, rfl, rfl, rfl⟩ mv_nw_wTh mv_kp_wTh mv_un_wTh mv_le_wTh mv_tx_wTh mv_ld_wTh mv_ln_wTh (mv_fa_wTh.trans hM1.efa) (mv_re_wTh.trans hM1.ere) (mv_de_wTh.trans hM1.ede) mv_is_wTh mv_sv_wTh) mv_th_wTh
    · have ho : shfO F.rv n b = .inr (.inl false) := shf_b (b2i_0 c_19)
      refine hG.aload_n dX4_shift_22 rfl ?_
      refine hG.iconst (v := 1) dX4_shift_23 rfl ?_
      refine hG.callV dX4_shift_24 kv_X4_77 (Rcv.raw mdL_m cl_X4) (sp_X4_raises hΓ) rfl rfl (Nat.le_of_ble_eq_true rfl) (by decide) (by omega) (by omega) (fun r24 I24 L24 hI24 h24 => ?_) (fun _ _ _ _ _ h => h.elim)
      obtain ⟨rfl, rfl, rfl⟩ := h24
      refine hG.iret dX4_shift_27 rfl ?_ (by omega) (by omega) trivial
      exact pMo.e2 ho ((hM1.mono (Nat.le_succ N)).eqv ⟨rfl, rfl, rfl, rfl, rfl⟩ mv_nw_wTh mv_kp_wTh mv_un_wTh mv_le_wTh mv_tx_wTh mv_ld_wTh mv_ln_wTh (mv_fa_wTh.trans hM1.efa) (mv_re_wTh.trans hM1.ere) (mv_de_wTh.trans hM1.ede) mv_is_wTh mv_sv_wTh) mv_th_wTh
