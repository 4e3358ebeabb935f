/-! the busiest stop of the model -/
abbrev lwf (s : Nat) : Nat → Int32 := fun c => if c / 7 % 7 = s then wgt c else 0
theorem sumT_z {t : Tal} {F : Nat → Int32} {a : Nat} : ∀ d, (∀ c, a ≤ c → c < a + d → F c = 0) → sumT t F (a + d) = sumT t F a
  | 0, _ => rfl
  | d + 1, h => by
    show sumT t F (a + d) + tof t (a + d) * F (a + d) = _
    rw [h (a + d) (by omega) (by omega), Int32.mul_zero, Int32.add_zero]
    exact sumT_z d (fun c h1 h2 => h c h1 (by omega))
theorem wsum_sum {m s : Nat} {t : Tal} (hk : TOk m t) (hs : s < 7) : wsum (nI s) t = sumT t (lwf s) 147 := by
  rw [sumT_all hk.1 (fun x hx => (hk.2 x hx).1)]
  unfold wsum
  refine foldl_cg t 0 (fun a x hx => ?_)
  by_cases e : x.1 / 7 % 7 = s
  · rw [if_pos (by rw [e]), show lwf s x.1 = wgt x.1 from if_pos e]
  · rw [if_neg (fun q => e ((nI_eq (by omega) (by omega)).mp q)), show lwf s x.1 = 0 from if_neg e, Int32.mul_zero]
def bstep (R : Rv) (p : Int32 × Int32) (s : Nat) : Int32 × Int32 := if wsum (nI s) R.wa = 0 ∨ wsum (nI s) R.wa < p.2 then p else if wsum (nI s) R.wa = p.2 ∧ ¬ absI (nI s - R.st) < absI (p.1 - R.st) then p else (nI s, wsum (nI s) R.wa)
def busM (R : Rv) : Nat → Int32 × Int32
  | 0 => (-1, 0)
  | k + 1 => bstep R (busM R k) k
def busF (R : Rv) : Int32 × Int32 := if (busM R (R.ch.length + 1)).1 < 0 then (1, 0) else (0, (busM R (R.ch.length + 1)).1)
set_option maxHeartbeats 4000000 in
set_option maxRecDepth 100000 in
theorem sp_X4_busiest {l : Launch} {s0 : State} {D : va_G} {I : AI} {L : AL} {m : Nat} {A : MA} {V : MV} {N : Nat} {F : Fy} (hΓ : Gam l s0 D) (hA : MOk m A) (hM : Mr N F V) (hW : WfF N F)  : Spc l s0 D yX4_busiest 9 [.ref m] I (mdL L m A V) 0 0 (pMq N I L m A (F) ((busF F.rv).1) ((busF F.rv).2)) noX := by
  refine Spc.of hΓ cX4_busiest 7 (some FieldType.int) q3543 (by decide +kernel) (by decide) (Nat.le_of_ble_eq_true rfl) (fun G GX hG => ?_)
  refine hG.aload_n dX4_busiest_0 rfl ?_
  refine hG.iconst (v := 0) dX4_busiest_1 rfl ?_
  refine hG.put dX4_busiest_2 fp_X4_58_X4 mdL_m rfl rfl (Nat.le_of_ble_eq_true rfl) ?_
  refine hG.mp_th ?_
  have hM1 : Mr N F (V.wTh 0) := hM.eqv ⟨rfl, rfl, rfl, rfl, rfl⟩ mv_nw_wTh mv_kp_wTh mv_un_wTh mv_le_wTh mv_tx_wTh mv_ld_wTh mv_ln_wTh (mv_fa_wTh.trans hM.efa) (mv_re_wTh.trans hM.ere) (mv_de_wTh.trans hM.ede) mv_is_wTh mv_sv_wTh
  have hth : (V.wTh 0).th = 0 := mv_th_wTh
  generalize V.wTh 0 = V1 at hM1 hth ⊢
  have hl6 := hW.1.ch6
  have ha6 := hW.1.an6
  have lpt : ∀ (s k : Nat), s < 7 → k < 3 → G 76 [(0, .ref m), (1, .int (busM F.rv s).1), (2, .int (busM F.rv s).2), (3, .int (nI s)), (4, .int (sumT F.rv.wa (lwf s) (49 * k + 7 * s + 7))), (5, .int (nI k))] [] I (mdL L m A V1) 0 0 → ∀ (u t : Nat), t + u = 7 → G 36 [(0, .ref m), (1, .int (busM F.rv s).1), (2, .int (busM F.rv s).2), (3, .int (nI s)), (4, .int (sumT F.rv.wa (lwf s) (49 * k + 7 * s + t))), (5, .int (nI k)), (6, .int (nI t))] [] I (mdL L m A V1) 0 0 := by
    intro s k hs hk kk u
    induction u with
    | zero =>
      intro t htu
      have hte : t = 7 := by omega
      subst hte
      refine hG.iload dX4_busiest_36 rfl ?_
      refine hG.bipush (v := 7) dX4_busiest_38 rfl ?_
      refine hG.icmp_ge (tgt := 76) dX4_busiest_40 rfl (fun c_40 => ?_) (fun c_40 => absurd (by decide) c_40)
      exact hG.lsb [(0, .ref m), (1, .int (busM F.rv s).1), (2, .int (busM F.rv s).2), (3, .int (nI s)), (4, .int (sumT F.rv.wa (lwf s) (49 * k + 7 * s + 7))), (5, .int (nI k))] ⟨rfl, rfl, rfl, rfl, rfl, rfl, trivial⟩ kk
    | succ u ih =>
      intro t htu
      have hg : gco k s t < 147 := gco_lt hk (by omega) (by omega)
      obtain ⟨e1, e2, e3⟩ := gco_p (k := k) (f := s) (t := t) (by omega) (by omega)
      have e9 : sumT F.rv.wa (lwf s) (49 * k + 7 * s + t) + wof (nI k) * tof F.rv.wa (gco k s t) = sumT F.rv.wa (lwf s) (49 * k + 7 * s + (t + 1)) := by
        show _ = sumT F.rv.wa (lwf s) (49 * k + 7 * s + t) + tof F.rv.wa (gco k s t) * (if gco k s t / 7 % 7 = s then wgt (gco k s t) else 0)
        rw [if_pos e2, Int32.mul_comm]
        unfold wgt
        rw [e1]
      refine hG.iload dX4_busiest_36 rfl ?_
      refine hG.bipush (v := 7) dX4_busiest_38 rfl ?_
      refine hG.icmp_ge (tgt := 76) dX4_busiest_40 rfl (fun c_40 => absurd c_40 (nI_ge (a := t) (b := 7) (by omega) (by decide))) (fun c_40 => ?_)
      refine hG.iload dX4_busiest_43 rfl ?_
      refine hG.iload dX4_busiest_45 rfl ?_
      refine hG.callS dX4_busiest_47 ks_X4_136 (sp_X4_weighs hΓ) rfl rfl (Nat.le_of_ble_eq_true rfl) (by decide) (by omega) (by omega) (fun r47 I47 L47 hI47 h47 => ?_) (fun _ _ _ _ _ h => h.elim)
      obtain ⟨rfl, rfl, rfl⟩ := h47
      refine hG.aload_n dX4_busiest_50 rfl ?_
      refine hG.get dX4_busiest_51 fg_X4_21_X4 (Or.inl mdL_m) rfl ?_
      refine hG.bipush (v := 64) dX4_busiest_54 rfl ?_
      refine hG.iload dX4_busiest_56 rfl ?_
      refine hG.iload_n dX4_busiest_58 rfl ?_
      refine hG.iload dX4_busiest_59 rfl ?_
      refine hG.callS dX4_busiest_61 ks_X4_94 (sp_X4_groupAt hΓ) rfl rfl (Nat.le_of_ble_eq_true rfl) (by decide) (by omega) (by omega) (fun r61 I61 L61 hI61 h61 => ?_) (fun _ _ _ _ _ h => h.elim)
      obtain ⟨rfl, rfl, rfl⟩ := h61
      refine hG.iadd dX4_busiest_64 ?_
      rw [show (64 : Int32) + nI (gco k s t) = nI (64 + gco k s t) from ix1 64 _]
      refine hG.nld hA (64 + gco k s t) dX4_busiest_65 rfl (by omega) (v := tof F.rv.wa (gco k s t)) (hM1.1.w hg) ?_
      refine hG.imul dX4_busiest_66 ?_
      refine hG.iadd dX4_busiest_67 ?_
      rw [e9]
      refine hG.istore dX4_busiest_68 (by decide) ?_
      refine hG.iinc dX4_busiest_70 rfl (by decide) ?_
      refine hG.goto (tgt := 36) dX4_busiest_73 rfl ?_
      refine hG.lsb [(0, .ref m), (1, .int (busM F.rv s).1), (2, .int (busM F.rv s).2), (3, .int (nI s)), (4, .int (sumT F.rv.wa (lwf s) (49 * k + 7 * s + (t + 1)))), (5, .int (nI k)), (6, .int (nI t + Int32.ofInt 1))] ⟨rfl, rfl, rfl, rfl, rfl, rfl, rfl, trivial⟩ ?_
      rw [show nI t + Int32.ofInt 1 = nI (t + 1) from nI_add t 1]
      exact ih (t + 1) (by omega)
  have lpk : ∀ (s : Nat), s < 7 → G 82 [(0, .ref m), (1, .int (busM F.rv s).1), (2, .int (busM F.rv s).2), (3, .int (nI s)), (4, .int (wsum (nI s) F.rv.wa))] [] I (mdL L m A V1) 0 0 → ∀ (u k : Nat), k + u = 3 → G 27 [(0, .ref m), (1, .int (busM F.rv s).1), (2, .int (busM F.rv s).2), (3, .int (nI s)), (4, .int (sumT F.rv.wa (lwf s) (49 * k))), (5, .int (nI k))] [] I (mdL L m A V1) 0 0 := by
    intro s hs kk u
    induction u with
    | zero =>
      intro k hku
      have hke : k = 3 := by omega
      subst hke
      refine hG.iload dX4_busiest_27 rfl ?_
      refine hG.iconst (v := 3) dX4_busiest_29 rfl ?_
      refine hG.icmp_ge (tgt := 82) dX4_busiest_30 rfl (fun c_30 => ?_) (fun c_30 => absurd (by decide) c_30)
      rw [wsum_sum hW.1.wa hs] at kk
      exact hG.lsb [(0, .ref m), (1, .int (busM F.rv s).1), (2, .int (busM F.rv s).2), (3, .int (nI s)), (4, .int (sumT F.rv.wa (lwf s) 147))] ⟨rfl, rfl, rfl, rfl, rfl, trivial⟩ kk
    | succ u ih =>
      intro k hku
      have ea : sumT F.rv.wa (lwf s) (49 * k) = sumT F.rv.wa (lwf s) (49 * k + 7 * s + 0) := (sumT_z (a := 49 * k) (7 * s) (fun c h1 h2 => if_neg (by omega))).symm
      have eb : sumT F.rv.wa (lwf s) (49 * k + 7 * s + 7) = sumT F.rv.wa (lwf s) (49 * (k + 1)) := by
        rw [show 49 * (k + 1) = 49 * k + 7 * s + 7 + (42 - 7 * s) by omega]
        exact (sumT_z _ (fun c h1 h2 => if_neg (by omega))).symm
      rw [ea]
      refine hG.iload dX4_busiest_27 rfl ?_
      refine hG.iconst (v := 3) dX4_busiest_29 rfl ?_
      refine hG.icmp_ge (tgt := 82) dX4_busiest_30 rfl (fun c_30 => absurd c_30 (nI_ge (a := k) (b := 3) (by omega) (by decide))) (fun c_30 => ?_)
      refine hG.iconst (v := 0) dX4_busiest_33 rfl ?_
      refine hG.istore dX4_busiest_34 (by decide) ?_
      refine hG.lsb [(0, .ref m), (1, .int (busM F.rv s).1), (2, .int (busM F.rv s).2), (3, .int (nI s)), (4, .int (sumT F.rv.wa (lwf s) (49 * k + 7 * s + 0))), (5, .int (nI k)), (6, .int (nI 0))] ⟨rfl, rfl, rfl, rfl, rfl, rfl, rfl, trivial⟩ (lpt s k hs (by omega) ?_ 7 0 (by omega))
      refine hG.iinc dX4_busiest_76 rfl (by decide) ?_
      refine hG.goto (tgt := 27) dX4_busiest_79 rfl ?_
      rw [eb]
      refine hG.lsb [(0, .ref m), (1, .int (busM F.rv s).1), (2, .int (busM F.rv s).2), (3, .int (nI s)), (4, .int (sumT F.rv.wa (lwf s) (49 * (k + 1)))), (5, .int (nI k + Int32.ofInt 1))] ⟨rfl, rfl, rfl, rfl, rfl, rfl, trivial⟩ ?_
      rw [show nI k + Int32.ofInt 1 = nI (k + 1) from nI_add k 1]
      exact ih (k + 1) (by omega)
  have lps : ∀ (u s : Nat), s + u = F.rv.ch.length + 1 → G 11 [(0, .ref m), (1, .int (busM F.rv s).1), (2, .int (busM F.rv s).2), (3, .int (nI s))] [] I (mdL L m A V1) 0 0 := by
    intro u
    induction u with
    | zero =>
      intro s hsu
      have hse : s = F.rv.ch.length + 1 := by omega
      subst hse
      refine hG.iload_n dX4_busiest_11 rfl ?_
      refine hG.aload_n dX4_busiest_12 rfl ?_
      refine hG.get dX4_busiest_13 fg_X4_21_X4 (Or.inl mdL_m) rfl ?_
      refine hG.iconst (v := 0) dX4_busiest_16 rfl ?_
      refine hG.nld hA (0) dX4_busiest_17 rfl (by omega) (v := nI F.rv.ch.length) (hM1.1.k0) ?_
      refine hG.icmp_gt (tgt := 141) dX4_busiest_18 rfl (fun c_18 => ?_) (fun c_18 => absurd (nI_lt (by omega) (by omega)) c_18)
      refine hG.iload_n dX4_busiest_141 rfl ?_
      refine hG.if_ge (tgt := 153) dX4_busiest_142 rfl (fun c_142 => ?_) (fun c_142 => ?_)
      · rw [show busF F.rv = (0, (busM F.rv (F.rv.ch.length + 1)).1) from if_neg (fun q => lt_not.mp q c_142)] at hG
        refine hG.iload_n dX4_busiest_153 rfl ?_
        refine hG.iret dX4_busiest_154 rfl ?_ (by omega) (by omega) trivial
        exact pMq.mk hM1 hth (fun _ => rfl)
      · rw [show busF F.rv = (1, 0) from if_pos (Int32.not_le.mp c_142)] at hG
        refine hG.aload_n dX4_busiest_145 rfl ?_
        refine hG.iconst (v := 1) dX4_busiest_146 rfl ?_
        refine hG.callV dX4_busiest_147 kv_X4_77 (Rcv.raw mdL_m cl_X4) (sp_X4_raises hΓ) rfl rfl (Nat.le_of_ble_eq_true rfl) (by decide) (by omega) (by omega) (fun r147 I147 L147 hI147 h147 => ?_) (fun _ _ _ _ _ h => h.elim)
        obtain ⟨rfl, rfl, rfl⟩ := h147
        refine hG.goto (tgt := 154) dX4_busiest_150 rfl ?_
        refine hG.iret dX4_busiest_154 rfl ?_ (by omega) (by omega) trivial
        exact pMq.mk (hM1.eqv ⟨rfl, rfl, rfl, rfl, rfl⟩ mv_nw_wTh mv_kp_wTh mv_un_wTh mv_le_wTh mv_tx_wTh mv_ld_wTh mv_ln_wTh (mv_fa_wTh.trans hM1.efa) (mv_re_wTh.trans hM1.ere) (mv_de_wTh.trans hM1.ede) mv_is_wTh mv_sv_wTh) mv_th_wTh (fun e => absurd (show (1 : Int32) = 0 from e) (by decide))
    | succ u ih =>
      intro s hsu
      have hs7 : s < 7 := by omega
      refine hG.iload_n dX4_busiest_11 rfl ?_
      refine hG.aload_n dX4_busiest_12 rfl ?_
      refine hG.get dX4_busiest_13 fg_X4_21_X4 (Or.inl mdL_m) rfl ?_
      refine hG.iconst (v := 0) dX4_busiest_16 rfl ?_
      refine hG.nld hA (0) dX4_busiest_17 rfl (by omega) (v := nI F.rv.ch.length) (hM1.1.k0) ?_
      refine hG.icmp_gt (tgt := 141) dX4_busiest_18 rfl (fun c_18 => absurd c_18 (nI_nlt (by omega) (by omega))) (fun c_18 => ?_)
      refine hG.iconst (v := 0) dX4_busiest_21 rfl ?_
      refine hG.istore dX4_busiest_22 (by decide) ?_
      refine hG.iconst (v := 0) dX4_busiest_24 rfl ?_
      refine hG.istore dX4_busiest_25 (by decide) ?_
      refine hG.lsb [(0, .ref m), (1, .int (busM F.rv s).1), (2, .int (busM F.rv s).2), (3, .int (nI s)), (4, .int (sumT F.rv.wa (lwf s) (49 * 0))), (5, .int (nI 0))] ⟨rfl, rfl, rfl, rfl, rfl, rfl, trivial⟩ (lpk s hs7 ?_ 3 0 (by omega))
      refine hG.iload dX4_busiest_82 rfl ?_
      refine hG.if_eq (tgt := 135) dX4_busiest_84 rfl (fun c_84 => ?_) (fun c_84 => ?_)
      · refine hG.iinc dX4_busiest_135 rfl (by decide) ?_
        refine hG.goto (tgt := 11) dX4_busiest_138 rfl ?_
        refine hG.lsb [(0, .ref m), (1, .int (busM F.rv s).1), (2, .int (busM F.rv s).2), (3, .int (nI s + Int32.ofInt 1))] ⟨rfl, rfl, rfl, rfl, trivial⟩ ?_
        rw [show nI s + Int32.ofInt 1 = nI (s + 1) from nI_add s 1]
        have h9 := ih (s + 1) (by omega)
        rw [show busM F.rv (s + 1) = busM F.rv s from if_pos (Or.inl c_84)] at h9
        exact h9
      · refine hG.iload dX4_busiest_87 rfl ?_
        refine hG.iload_n dX4_busiest_89 rfl ?_
        refine hG.icmp_ge (tgt := 96) dX4_busiest_90 rfl (fun c_90 => ?_) (fun c_90 => ?_)
        · refine hG.iload dX4_busiest_96 rfl ?_
          refine hG.iload_n dX4_busiest_98 rfl ?_
          refine hG.icmp_ne (tgt := 130) dX4_busiest_99 rfl (fun c_99 => ?_) (fun c_99 => ?_)
          · refine hG.iload dX4_busiest_130 rfl ?_
            refine hG.istore_n dX4_busiest_132 (by decide) ?_
            refine hG.iload_n dX4_busiest_133 rfl ?_
            refine hG.istore_n dX4_busiest_134 (by decide) ?_
            refine hG.iinc dX4_busiest_135 rfl (by decide) ?_
            refine hG.goto (tgt := 11) dX4_busiest_138 rfl ?_
            refine hG.lsb [(0, .ref m), (1, .int (nI s)), (2, .int (wsum (nI s) F.rv.wa)), (3, .int (nI s + Int32.ofInt 1))] ⟨rfl, rfl, rfl, rfl, trivial⟩ ?_
            rw [show nI s + Int32.ofInt 1 = nI (s + 1) from nI_add s 1]
            have h9 := ih (s + 1) (by omega)
            rw [show busM F.rv (s + 1) = (nI s, wsum (nI s) F.rv.wa) from (if_neg (fun q => q.elim c_84 (fun z => lt_not.mp z c_90))).trans (if_neg (fun q => c_99 q.1))] at h9
            exact h9
          · refine hG.iload_n dX4_busiest_102 rfl ?_
            refine hG.aload_n dX4_busiest_103 rfl ?_
            refine hG.get dX4_busiest_104 fg_X4_21_X4 (Or.inl mdL_m) rfl ?_
            refine hG.iconst (v := 4) dX4_busiest_107 rfl ?_
            refine hG.nld hA (4) dX4_busiest_108 rfl (by omega) (v := F.rv.st) (hM1.1.k4) ?_
            refine hG.isub dX4_busiest_109 ?_
            refine hG.mabs dX4_busiest_110 q3509 (Nat.le_of_ble_eq_true rfl) (by decide) ?_
            refine hG.iload_n dX4_busiest_113 rfl ?_
            refine hG.aload_n dX4_busiest_114 rfl ?_
            refine hG.get dX4_busiest_115 fg_X4_21_X4 (Or.inl mdL_m) rfl ?_
            refine hG.iconst (v := 4) dX4_busiest_118 rfl ?_
            refine hG.nld hA (4) dX4_busiest_119 rfl (by omega) (v := F.rv.st) (hM1.1.k4) ?_
            refine hG.isub dX4_busiest_120 ?_
            refine hG.mabs dX4_busiest_121 q3509 (Nat.le_of_ble_eq_true rfl) (by decide) ?_
            refine hG.icmp_lt (tgt := 130) dX4_busiest_124 rfl (fun c_124 => ?_) (fun c_124 => ?_)
            · refine hG.iload dX4_busiest_130 rfl ?_
              refine hG.istore_n dX4_busiest_132 (by decide) ?_
              refine hG.iload_n dX4_busiest_133 rfl ?_
              refine hG.istore_n dX4_busiest_134 (by decide) ?_
              refine hG.iinc dX4_busiest_135 rfl (by decide) ?_
              refine hG.goto (tgt := 11) dX4_busiest_138 rfl ?_
              refine hG.lsb [(0, .ref m), (1, .int (nI s)), (2, .int (wsum (nI s) F.rv.wa)), (3, .int (nI s + Int32.ofInt 1))] ⟨rfl, rfl, rfl, rfl, trivial⟩ ?_
              rw [show nI s + Int32.ofInt 1 = nI (s + 1) from nI_add s 1]
              have h9 := ih (s + 1) (by omega)
              rw [show busM F.rv (s + 1) = (nI s, wsum (nI s) F.rv.wa) from (if_neg (fun q => q.elim c_84 (fun z => lt_not.mp z c_90))).trans (if_neg (fun q => q.2 c_124))] at h9
              exact h9
            · refine hG.goto (tgt := 135) dX4_busiest_127 rfl ?_
              refine hG.iinc dX4_busiest_135 rfl (by decide) ?_
              refine hG.goto (tgt := 11) dX4_busiest_138 rfl ?_
              refine hG.lsb [(0, .ref m), (1, .int (busM F.rv s).1), (2, .int (busM F.rv s).2), (3, .int (nI s + Int32.ofInt 1))] ⟨rfl, rfl, rfl, rfl, trivial⟩ ?_
              rw [show nI s + Int32.ofInt 1 = nI (s + 1) from nI_add s 1]
              have h9 := ih (s + 1) (by omega)
              rw [show busM F.rv (s + 1) = busM F.rv s from (if_neg (fun q => q.elim c_84 (fun z => lt_not.mp z c_90))).trans (if_pos ⟨c_99, c_124⟩)] at h9
              exact h9
        · refine hG.goto (tgt := 135) dX4_busiest_93 rfl ?_
          refine hG.iinc dX4_busiest_135 rfl (by decide) ?_
          refine hG.goto (tgt := 11) dX4_busiest_138 rfl ?_
          refine hG.lsb [(0, .ref m), (1, .int (busM F.rv s).1), (2, .int (busM F.rv s).2), (3, .int (nI s + Int32.ofInt 1))] ⟨rfl, rfl, rfl, rfl, trivial⟩ ?_
          rw [show nI s + Int32.ofInt 1 = nI (s + 1) from nI_add s 1]
          have h9 := ih (s + 1) (by omega)
          rw [show busM F.rv (s + 1) = busM F.rv s from if_pos (Or.inr (lt_not.mpr c_90))] at h9
          exact h9
  refine hG.iconst (v := -1) dX4_busiest_5 rfl ?_
  refine hG.istore_n dX4_busiest_6 (by decide) ?_
  refine hG.iconst (v := 0) dX4_busiest_7 rfl ?_
  refine hG.istore_n dX4_busiest_8 (by decide) ?_
  refine hG.iconst (v := 0) dX4_busiest_9 rfl ?_
  refine hG.istore_n dX4_busiest_10 (by decide) ?_
  exact hG.lsb [(0, .ref m), (1, .int (busM F.rv 0).1), (2, .int (busM F.rv 0).2), (3, .int (nI 0))] ⟨rfl, rfl, rfl, rfl, trivial⟩ (lps (F.rv.ch.length + 1) 0 (by omega))
