/-! the model reads: digits -/
theorem mq_e {t : List Nat} {j n q : Nat} (h : t.length ≤ q) : moF t j n q = (n, q) := by
  cases j with
  | zero => rfl
  | succ j =>
    unfold moF
    rw [List.getElem?_eq_none h]
theorem mq_n {t : List Nat} {j n q c : Nat} (h : t[q]? = some c) (h2 : ¬ (48 ≤ c ∧ c ≤ 57)) : moF t j n q = (n, q) := by
  cases j with
  | zero => rfl
  | succ j =>
    unfold moF
    rw [h]
    exact if_neg h2
theorem fg_X4_51_X4 : LkG RX4 51 ciX4 14 := ⟨RX4, TX4, 21, tyX4, _, cls_X4, by decide, Or.inl rfl, Or.inl q3284⟩
set_option maxHeartbeats 4000000 in
set_option maxRecDepth 100000 in
theorem sp_X4_digits {l : Launch} {s0 : State} {D : va_G} {I : AI} {L : AL} {m : Nat} {A : MA} {V V0 : MV} (hΓ : Gam l s0 D) (hA : MOk m A) {t : List Nat} (hT0 : TxM V0 t) {p : Nat} {c0 : Int32} {g : Nat → Int32} (hp : p ≤ t.length) (hV : V = VP V0 (nI p) c0 g) {k mo : Nat} (hk : k < 5) (hmo3 : mo ≤ 3) : Spc l s0 D yX4_digits 2 [.ref m, .int (nI k), .int (nI mo)] I (mdL L m A V) 0 0 ((fun r I' L' => ∃ (V2 : MV) (g2 : Nat → Int32), r = some (.int (b2i (decide (p < (moF t mo 0 p).2)))) ∧ I = I' ∧ L' = mdL L m A V2 ∧ V2 = VP V0 (nI (moF t mo 0 p).2) c0 g2 ∧ g2 k = nI (moF t mo 0 p).1 ∧ ∀ j, j ≠ k → g2 j = g j)) noX := by
  refine Spc.of hΓ cX4_digits 4 (some FieldType.boolean) q3617 (by decide +kernel) (by decide) (Nat.le_of_ble_eq_true rfl) (fun G GX hG => ?_)
  refine hG.iconst (v := 0) dX4_digits_0 rfl ?_
  refine hG.istore_n dX4_digits_1 (by decide) ?_
  refine hG.aload_n dX4_digits_2 rfl ?_
  refine hG.get dX4_digits_3 fg_X4_51_X4 (Or.inl mdL_m) rfl ?_
  refine hG.iload_n dX4_digits_6 rfl ?_
  refine hG.iconst (v := 0) dX4_digits_7 rfl ?_
  refine hG.st_to hA k dX4_digits_8 rfl (by omega) ?_
  have kend : ∀ (i q v : Nat) (g1 : Nat → Int32) (V1 : MV), V1 = VP V0 (nI q) c0 g1 → g1 k = nI v → (∀ j, j ≠ k → g1 j = g j) → q = p + i → i ≤ 3 → moF t mo 0 p = (v, q) → G 85 [(0, .ref m), (1, .int (nI k)), (2, .int (nI mo)), (3, .int (nI i))] [] I (mdL L m A V1) 0 0 := by
    intro i q v g1 V1 hV1 hgk hgo hqi hi3 hmo
    by_cases hi0 : i = 0
    · skip
      refine hG.iload_n dX4_digits_85 rfl ?_
      refine hG.if_le (tgt := 93) dX4_digits_86 rfl (fun c_86 => ?_) (fun c_86 => absurd (by rw [show i = 0 by omega]; decide) c_86)
      refine hG.iconst (v := 0) dX4_digits_93 rfl ?_
      refine hG.zret dX4_digits_94 rfl (by first | rfl | exact b2i_nar _) ?_ (by omega) (by omega) trivial
      refine ⟨V1, g1, ?_, rfl, rfl, by rw [hmo]; exact hV1, by rw [hmo]; exact hgk, hgo⟩
      rw [hmo]
      show some (Value.int 0) = some (Value.int (b2i (decide (p < q))))
      rw [decide_eq_false (by omega)]
      rfl
    · skip
      refine hG.iload_n dX4_digits_85 rfl ?_
      refine hG.if_le (tgt := 93) dX4_digits_86 rfl (fun c_86 => absurd c_86 (fun e => absurd ((nI_leI (b := 0) (by omega) (by decide)).mp e) (by omega))) (fun c_86 => ?_)
      refine hG.iconst (v := 1) dX4_digits_89 rfl ?_
      refine hG.goto (tgt := 94) dX4_digits_90 rfl ?_
      refine hG.zret dX4_digits_94 rfl (by first | rfl | exact b2i_nar _) ?_ (by omega) (by omega) trivial
      refine ⟨V1, g1, ?_, rfl, rfl, by rw [hmo]; exact hV1, by rw [hmo]; exact hgk, hgo⟩
      rw [hmo]
      show some (Value.int 1) = some (Value.int (b2i (decide (p < q))))
      rw [decide_eq_true (by omega)]
      rfl
  have loop : ∀ (u i q v : Nat) (g1 : Nat → Int32) (V1 : MV), i + u = mo → q ≤ t.length → V1 = VP V0 (nI q) c0 g1 → g1 k = nI v → (∀ j, j ≠ k → g1 j = g j) → q = p + i → v < 10 ^ i → moF t mo 0 p = moF t (mo - i) v q → G 9 [(0, .ref m), (1, .int (nI k)), (2, .int (nI mo)), (3, .int (nI i))] [] I (mdL L m A V1) 0 0 := by
    intro u
    induction u with
    | zero =>
      intro i q v g1 V1 hiu hql hV1 hgk hgo hqi hv hmo0
      refine hG.iload_n dX4_digits_9 rfl ?_
      refine hG.iload_n dX4_digits_10 rfl ?_
      refine hG.icmp_ge (tgt := 85) dX4_digits_11 rfl (fun c_11 => ?_) (fun c_11 => absurd (nI_le (by omega) (by omega)) c_11)
      exact hG.lsb [(0, .ref m), (1, .int (nI k)), (2, .int (nI mo)), (3, .int (nI i))] ⟨rfl, rfl, rfl, rfl, trivial⟩ (kend i q v g1 V1 hV1 hgk hgo hqi (by omega) (hmo0.trans (by rw [show mo - i = 0 by omega]; rfl)))
    | succ u ih =>
      intro i q v g1 V1 hiu hql hV1 hgk hgo hqi hv hmo0
      have hps : V1.ps = nI q := by rw [hV1, vp_ps]
      have hle : V1.le = nI t.length := by rw [hV1, vp_le]; exact hT0.1
      have h60 := hT0.2.2.1
      have hv3 : v < 1000 := Nat.lt_of_lt_of_le hv (Nat.pow_le_pow_right (n := 10) (by decide) (show i ≤ 3 by omega))
      by_cases hpl : q = t.length
      · skip
        refine hG.iload_n dX4_digits_9 rfl ?_
        refine hG.iload_n dX4_digits_10 rfl ?_
        refine hG.icmp_ge (tgt := 85) dX4_digits_11 rfl (fun c_11 => absurd c_11 (nI_ge (by omega) (by omega))) (fun c_11 => ?_)
        refine hG.aload_n dX4_digits_14 rfl ?_
        refine hG.get dX4_digits_15 fg_X4_225_X4 (Or.inl mdL_m) rfl ?_
        rw [hps]
        refine hG.aload_n dX4_digits_18 rfl ?_
        refine hG.get dX4_digits_19 fg_X4_223_X4 (Or.inl mdL_m) rfl ?_
        rw [hle]
        refine hG.icmp_ge (tgt := 85) dX4_digits_22 rfl (fun c_22 => ?_) (fun c_22 => absurd (nI_le (by omega) (by omega)) c_22)
        exact hG.lsb [(0, .ref m), (1, .int (nI k)), (2, .int (nI mo)), (3, .int (nI i))] ⟨rfl, rfl, rfl, rfl, trivial⟩ (kend i q v g1 V1 hV1 hgk hgo hqi (by omega) (hmo0.trans (mq_e (by omega))))
      · obtain ⟨c, hc, hcm⟩ := get_lt (show q < t.length by omega)
        have hcc := hT0.2.2.2 c hcm
        have htx9 : V1.tx q = nI c := by rw [hV1, vp_tx]; exact hT0.2.1 q c hc
        by_cases hd : 48 ≤ c ∧ c ≤ 57
        · have hin : inR (nI c) 48 57 = true := (inR_n (lo := 48) (hi := 57) hcc (by decide) (by decide)).mpr hd
          have har : 10 * nI v + nI c - 48 = nI (10 * v + (c - 48)) := by
            rw [show (10 : Int32) * nI v = nI (10 * v) from pk_mul 10 v, ix1, show nI (10 * v + c) - 48 = nI (10 * v + c - 48) from nI_sub (b := 48) (by omega) (by omega)]
            congr 1
            omega
          refine hG.iload_n dX4_digits_9 rfl ?_
          refine hG.iload_n dX4_digits_10 rfl ?_
          refine hG.icmp_ge (tgt := 85) dX4_digits_11 rfl (fun c_11 => absurd c_11 (nI_ge (by omega) (by omega))) (fun c_11 => ?_)
          refine hG.aload_n dX4_digits_14 rfl ?_
          refine hG.get dX4_digits_15 fg_X4_225_X4 (Or.inl mdL_m) rfl ?_
          rw [hps]
          refine hG.aload_n dX4_digits_18 rfl ?_
          refine hG.get dX4_digits_19 fg_X4_223_X4 (Or.inl mdL_m) rfl ?_
          rw [hle]
          refine hG.icmp_ge (tgt := 85) dX4_digits_22 rfl (fun c_22 => absurd c_22 (nI_ge (by omega) (by omega))) (fun c_22 => ?_)
          refine hG.aload_n dX4_digits_25 rfl ?_
          refine hG.get dX4_digits_26 fg_X4_48_X4 (Or.inl mdL_m) rfl ?_
          refine hG.aload_n dX4_digits_29 rfl ?_
          refine hG.get dX4_digits_30 fg_X4_225_X4 (Or.inl mdL_m) rfl ?_
          rw [hps]
          refine hG.ld_tx hA q dX4_digits_33 rfl (by omega) (v := nI c) (htx9) ?_
          refine hG.bipush (v := 48) dX4_digits_34 rfl ?_
          refine hG.bipush (v := 57) dX4_digits_36 rfl ?_
          refine hG.callS dX4_digits_38 ks_X4_80 (sp_X4_in hΓ) rfl rfl (Nat.le_of_ble_eq_true rfl) (by decide) (by omega) (by omega) (fun r38 I38 L38 hI38 h38 => ?_) (fun _ _ _ _ _ h => h.elim)
          obtain ⟨rfl, rfl, rfl⟩ := h38
          refine hG.if_eq (tgt := 85) dX4_digits_41 rfl (fun c_41 => absurd c_41 (by rw [hin]; decide)) (fun c_41 => ?_)
          refine hG.aload_n dX4_digits_44 rfl ?_
          refine hG.get dX4_digits_45 fg_X4_51_X4 (Or.inl mdL_m) rfl ?_
          refine hG.iload_n dX4_digits_48 rfl ?_
          refine hG.bipush (v := 10) dX4_digits_49 rfl ?_
          refine hG.aload_n dX4_digits_51 rfl ?_
          refine hG.get dX4_digits_52 fg_X4_51_X4 (Or.inl mdL_m) rfl ?_
          refine hG.iload_n dX4_digits_55 rfl ?_
          refine hG.ld_to hA k dX4_digits_56 rfl (by omega) (v := nI v) (by rw [hV1, vp_to]; exact hgk) ?_
          refine hG.imul dX4_digits_57 ?_
          refine hG.aload_n dX4_digits_58 rfl ?_
          refine hG.get dX4_digits_59 fg_X4_48_X4 (Or.inl mdL_m) rfl ?_
          refine hG.aload_n dX4_digits_62 rfl ?_
          refine hG.dup dX4_digits_63 rfl ?_
          refine hG.get dX4_digits_64 fg_X4_225_X4 (Or.inl mdL_m) rfl ?_
          rw [hps]
          refine hG.dup_x1 dX4_digits_67 rfl rfl ?_
          refine hG.iconst (v := 1) dX4_digits_68 rfl ?_
          refine hG.iadd dX4_digits_69 ?_
          rw [nI_1]
          refine hG.put dX4_digits_70 fp_X4_225_X4 mdL_m rfl rfl (Nat.le_of_ble_eq_true rfl) ?_
          refine hG.mp_ps ?_
          obtain ⟨V2, hV2⟩ : ∃ V2, V2 = V1.wPs (nI (q + 1)) := ⟨_, rfl⟩
          rw [← hV2]
          have hV2 : V2 = VP V0 (nI (q + 1)) c0 g1 := by rw [hV2, hV1, vp_wps]
          have htx9 : V2.tx q = nI c := by rw [hV2, vp_tx]; exact hT0.2.1 q c hc
          refine hG.ld_tx hA q dX4_digits_73 rfl (by omega) (v := nI c) htx9 ?_
          refine hG.iadd dX4_digits_74 ?_
          refine hG.bipush (v := 48) dX4_digits_75 rfl ?_
          refine hG.isub dX4_digits_77 ?_
          rw [har]
          refine hG.st_to hA k dX4_digits_78 rfl (by omega) ?_
          refine hG.iinc dX4_digits_79 rfl (by decide) ?_
          refine hG.goto (tgt := 9) dX4_digits_82 rfl ?_
          refine hG.lsb [(0, .ref m), (1, .int (nI k)), (2, .int (nI mo)), (3, .int (nI i + Int32.ofInt 1))] ⟨rfl, rfl, rfl, rfl, trivial⟩ ?_
          rw [show nI i + Int32.ofInt 1 = nI (i + 1) from nI_add i 1]
          refine ih (i + 1) (q + 1) (10 * v + (c - 48)) (va_up g1 k (nI (10 * v + (c - 48)))) _ (by omega) (by omega) ?_ (va_eq rfl) (fun j hj => (va_ne hj).trans (hgo j hj)) (by omega) ?_ ?_
          · rw [hV2, vp_to, vp_wto]
          · rw [Nat.pow_succ]; omega
          · rw [hmo0, show mo - i = (mo - (i + 1)) + 1 by omega]
            exact mo_s hc hd
        · have hin : inR (nI c) 48 57 = false := Bool.eq_false_iff.mpr (fun e => hd ((inR_n (lo := 48) (hi := 57) hcc (by decide) (by decide)).mp e))
          refine hG.iload_n dX4_digits_9 rfl ?_
          refine hG.iload_n dX4_digits_10 rfl ?_
          refine hG.icmp_ge (tgt := 85) dX4_digits_11 rfl (fun c_11 => absurd c_11 (nI_ge (by omega) (by omega))) (fun c_11 => ?_)
          refine hG.aload_n dX4_digits_14 rfl ?_
          refine hG.get dX4_digits_15 fg_X4_225_X4 (Or.inl mdL_m) rfl ?_
          rw [hps]
          refine hG.aload_n dX4_digits_18 rfl ?_
          refine hG.get dX4_digits_19 fg_X4_223_X4 (Or.inl mdL_m) rfl ?_
          rw [hle]
          refine hG.icmp_ge (tgt := 85) dX4_digits_22 rfl (fun c_22 => absurd c_22 (nI_ge (by omega) (by omega))) (fun c_22 => ?_)
          refine hG.aload_n dX4_digits_25 rfl ?_
          refine hG.get dX4_digits_26 fg_X4_48_X4 (Or.inl mdL_m) rfl ?_
          refine hG.aload_n dX4_digits_29 rfl ?_
          refine hG.get dX4_digits_30 fg_X4_225_X4 (Or.inl mdL_m) rfl ?_
          rw [hps]
          refine hG.ld_tx hA q dX4_digits_33 rfl (by omega) (v := nI c) (htx9) ?_
          refine hG.bipush (v := 48) dX4_digits_34 rfl ?_
          refine hG.bipush (v := 57) dX4_digits_36 rfl ?_
          refine hG.callS dX4_digits_38 ks_X4_80 (sp_X4_in hΓ) rfl rfl (Nat.le_of_ble_eq_true rfl) (by decide) (by omega) (by omega) (fun r38 I38 L38 hI38 h38 => ?_) (fun _ _ _ _ _ h => h.elim)
          obtain ⟨rfl, rfl, rfl⟩ := h38
          refine hG.if_eq (tgt := 85) dX4_digits_41 rfl (fun c_41 => ?_) (fun c_41 => absurd (by rw [hin]; rfl) c_41)
          exact hG.lsb [(0, .ref m), (1, .int (nI k)), (2, .int (nI mo)), (3, .int (nI i))] ⟨rfl, rfl, rfl, rfl, trivial⟩ (kend i q v g1 V1 hV1 hgk hgo hqi (by omega) (hmo0.trans (mq_n hc hd)))
  refine hG.lsb [(0, .ref m), (1, .int (nI k)), (2, .int (nI mo)), (3, .int (nI 0))] ⟨rfl, rfl, rfl, rfl, trivial⟩ (loop mo 0 p 0 (va_up g k (nI 0)) _ (by omega) hp ?_ (va_eq rfl) (fun j hj => va_ne hj) (by omega) (by decide) rfl)
  rw [hV, vp_to, vp_wto]
  rfl
