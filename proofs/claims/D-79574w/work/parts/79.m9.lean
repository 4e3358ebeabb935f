/-! an anchor weighed; an hour -/
theorem kv_X4_130 : LkV RX4 130 yX4_isAnchor 1 := ⟨q3434, q3436, qs48, q87, by decide +kernel, by decide +kernel, by decide +kernel⟩
set_option maxHeartbeats 4000000 in
set_option maxRecDepth 100000 in
theorem sp_X4_weighsOne {l : Launch} {s0 : State} {D : va_G} {I : AI} {L : AL} {m : Nat} {A : MA} {V : MV} {N : Nat} {R : Rv} (hΓ : Gam l s0 D) (hA : MOk m A) (hR : Rep N R V.nw) (hw : Wf N R) {n : Int32} : Spc l s0 D yX4_weighsOne 3 [.ref m, .int n] I (mdL L m A V) 0 0 (pIs N I L m A V (fun b => match b with | true => -2 | false => -1) (weiO n R)) noX := by
  refine Spc.of hΓ cX4_weighsOne 4 (some FieldType.int) q3433 (by decide +kernel) (by decide) (Nat.le_of_ble_eq_true rfl) (fun G GX hG => ?_)
  have hl6 := hw.ch6
  have hl5 := hw.fl5
  have ha6 := hw.an6
  refine hG.aload_n dX4_weighsOne_0 rfl ?_
  refine hG.iload_n dX4_weighsOne_1 rfl ?_
  refine hG.callV dX4_weighsOne_2 kv_X4_130 (Rcv.raw mdL_m cl_X4) (sp_X4_isAnchor hΓ hA hR hw) rfl rfl (Nat.le_of_ble_eq_true rfl) (by decide) (by omega) (by omega) (fun r2 I2 L2 hI2 h2 => ?_) (fun _ _ _ _ _ h => h.elim)
  obtain ⟨rfl, rfl, rfl⟩ := h2
  refine hG.if_ne (tgt := 10) dX4_weighsOne_5 rfl (fun c_5 => ?_) (fun c_5 => ?_)
  · obtain ⟨i, hil, rfl⟩ := idx_of (by omega) (b2i_1 c_5)
    obtain ⟨a, ha, -⟩ := get_lt hil
    have ho : weiO (nI i) R = .inl (a.2.2, R.wAn (R.an.eraseIdx i)) := by
      unfold weiO
      rw [if_pos (b2i_1 c_5), nI_clamp (by omega), ha]
    refine hG.aload_n dX4_weighsOne_10 rfl ?_
    refine hG.get dX4_weighsOne_11 fg_X4_21_X4 (Or.inl mdL_m) rfl ?_
    refine hG.bipush (v := 46) dX4_weighsOne_14 rfl ?_
    refine hG.iconst (v := 3) dX4_weighsOne_16 rfl ?_
    refine hG.iload_n dX4_weighsOne_17 rfl ?_
    refine hG.imul dX4_weighsOne_18 ?_
    refine hG.iadd dX4_weighsOne_19 ?_
    refine hG.iconst (v := 2) dX4_weighsOne_20 rfl ?_
    refine hG.iadd dX4_weighsOne_21 ?_
    refine hG.nld hA (46 + 3 * i + 2) dX4_weighsOne_22 (ix_b 46 i 2) (by omega) (hR.a ha).2.2 ?_
    refine hG.istore_n dX4_weighsOne_23 (by decide) ?_
    refine hG.aload_n dX4_weighsOne_24 rfl ?_
    refine hG.get dX4_weighsOne_25 fg_X4_21_X4 (Or.inl mdL_m) rfl ?_
    refine hG.iconst (v := 2) dX4_weighsOne_28 rfl ?_
    refine hG.dup2 dX4_weighsOne_29 rfl rfl ?_
    refine hG.nld hA (2) dX4_weighsOne_30 rfl (by decide) hR.k2 ?_
    refine hG.iconst (v := 1) dX4_weighsOne_31 rfl ?_
    refine hG.isub dX4_weighsOne_32 ?_
    rw [show nI R.an.length - 1 = nI (R.an.length - 1) by rw [show R.an.length = (R.an.length - 1) + 1 by omega, nI_pred]; rfl]
    refine hG.nst hA (2) dX4_weighsOne_33 rfl (by decide) ?_
    refine hG.bipush (v := 46) dX4_weighsOne_34 rfl ?_
    refine hG.iconst (v := 3) dX4_weighsOne_36 rfl ?_
    refine hG.iload_n dX4_weighsOne_37 rfl ?_
    refine hG.imul dX4_weighsOne_38 ?_
    refine hG.iadd dX4_weighsOne_39 ?_
    rw [show (46 : Int32) + 3 * nI i = nI (46 + 3 * i) from ix3 46 i]
    refine hG.istore_n dX4_weighsOne_40 (by decide) ?_
    have loop : ∀ (w k : Nat) (t : Nat → Int32), k + w = 46 + 3 * (R.an.length - 1) → 46 + 3 * i ≤ k → (∀ q, q ≠ 2 → (q < 46 + 3 * i ∨ k ≤ q) → t q = V.nw q) → t 2 = nI (R.an.length - 1) → (∀ q, 46 + 3 * i ≤ q → q < k → t q = V.nw (q + 3)) → G 41 [(0, .ref m), (1, .int (nI i)), (2, .int a.2.2), (3, .int (nI k))] [] I (mdL L m A (V.wNw t)) 0 0 := by
      intro w
      induction w with
      | zero =>
        intro k t hkw hik t1 t2 t3
        refine hG.iload_n dX4_weighsOne_41 rfl ?_
        refine hG.bipush (v := 46) dX4_weighsOne_42 rfl ?_
        refine hG.iconst (v := 3) dX4_weighsOne_44 rfl ?_
        refine hG.aload_n dX4_weighsOne_45 rfl ?_
        refine hG.get dX4_weighsOne_46 fg_X4_21_X4 (Or.inl mdL_m) rfl ?_
        refine hG.iconst (v := 2) dX4_weighsOne_49 rfl ?_
        refine hG.nld hA 2 dX4_weighsOne_50 rfl (by decide) (v := nI (R.an.length - 1)) t2 ?_
        refine hG.imul dX4_weighsOne_51 ?_
        refine hG.iadd dX4_weighsOne_52 ?_
        rw [show (46 : Int32) + 3 * nI (R.an.length - 1) = nI (46 + 3 * (R.an.length - 1)) from ix3 46 _]
        refine hG.icmp_ge (tgt := 76) dX4_weighsOne_53 rfl (fun c_53 => ?_) (fun c_53 => absurd (nI_le (by omega) (by omega)) c_53)
        refine hG.aload_n dX4_weighsOne_76 rfl ?_
        refine hG.iload_n dX4_weighsOne_77 rfl ?_
        refine hG.callV dX4_weighsOne_78 kv_X4_124 (Rcv.raw mdL_m cl_X4) (sp_X4_does hΓ) rfl rfl (Nat.le_of_ble_eq_true rfl) (by decide) (by omega) (by omega) (fun r78 I78 L78 hI78 h78 => ?_) (fun _ _ _ _ _ h => h.elim)
        obtain ⟨rfl, rfl, rfl⟩ := h78
        refine hG.iret dX4_weighsOne_81 rfl ?_ (by omega) (by omega) trivial
        exact pIs.d ho ((hR.ersA hw hil t2 (fun q hq h => t1 q hq (h.elim Or.inl (fun z => Or.inr (by omega)))) (fun q h1 h2 => t3 q h1 (by omega))).mono (Nat.le_succ N))
      | succ w ih =>
        intro k t hkw hik t1 t2 t3
        refine hG.iload_n dX4_weighsOne_41 rfl ?_
        refine hG.bipush (v := 46) dX4_weighsOne_42 rfl ?_
        refine hG.iconst (v := 3) dX4_weighsOne_44 rfl ?_
        refine hG.aload_n dX4_weighsOne_45 rfl ?_
        refine hG.get dX4_weighsOne_46 fg_X4_21_X4 (Or.inl mdL_m) rfl ?_
        refine hG.iconst (v := 2) dX4_weighsOne_49 rfl ?_
        refine hG.nld hA 2 dX4_weighsOne_50 rfl (by decide) (v := nI (R.an.length - 1)) t2 ?_
        refine hG.imul dX4_weighsOne_51 ?_
        refine hG.iadd dX4_weighsOne_52 ?_
        rw [show (46 : Int32) + 3 * nI (R.an.length - 1) = nI (46 + 3 * (R.an.length - 1)) from ix3 46 _]
        refine hG.icmp_ge (tgt := 76) dX4_weighsOne_53 rfl (fun c_53 => absurd c_53 (nI_ge (by omega) (by omega))) (fun c_53 => ?_)
        refine hG.aload_n dX4_weighsOne_56 rfl ?_
        refine hG.get dX4_weighsOne_57 fg_X4_21_X4 (Or.inl mdL_m) rfl ?_
        refine hG.iload_n dX4_weighsOne_60 rfl ?_
        refine hG.aload_n dX4_weighsOne_61 rfl ?_
        refine hG.get dX4_weighsOne_62 fg_X4_21_X4 (Or.inl mdL_m) rfl ?_
        refine hG.iload_n dX4_weighsOne_65 rfl ?_
        refine hG.iconst (v := 3) dX4_weighsOne_66 rfl ?_
        refine hG.iadd dX4_weighsOne_67 ?_
        rw [show nI k + 3 = nI (k + 3) from ix1 k 3]
        refine hG.nld hA (k + 3) dX4_weighsOne_68 rfl (by omega) (v := V.nw (k + 3)) (t1 _ (by omega) (Or.inr (by omega))) ?_
        refine hG.nst hA k dX4_weighsOne_69 rfl (by omega) ?_
        refine hG.iinc dX4_weighsOne_70 rfl (by decide) ?_
        refine hG.goto (tgt := 41) dX4_weighsOne_73 rfl ?_
        refine hG.lsb [(0, .ref m), (1, .int (nI i)), (2, .int a.2.2), (3, .int (nI k + Int32.ofInt 1))] ⟨rfl, rfl, rfl, rfl, trivial⟩ ?_
        rw [show nI k + Int32.ofInt 1 = nI (k + 1) from nI_add k 1]
        refine ih (k + 1) (va_up t k (V.nw (k + 3))) (by omega) (by omega) (fun q h1 h2 => ?_) ((va_ne (by omega)).trans t2) (fun q h1 h2 => ?_)
        · exact (va_ne (by omega)).trans (t1 q h1 (by omega))
        · by_cases e : q = k
          · subst e; exact va_eq rfl
          · exact (va_ne e).trans (t3 q h1 (by omega))
    exact hG.lsb [(0, .ref m), (1, .int (nI i)), (2, .int a.2.2), (3, .int (nI (46 + 3 * i)))] ⟨rfl, rfl, rfl, rfl, trivial⟩ (loop (46 + 3 * (R.an.length - 1) - (46 + 3 * i)) (46 + 3 * i) _ (by omega) (Nat.le_refl _) (fun q h1 h2 => va_ne h1) (va_eq rfl) (fun q h1 h2 => absurd h1 (by omega)))
  · refine hG.iconst (v := -1) dX4_weighsOne_8 rfl ?_
    refine hG.iret dX4_weighsOne_9 rfl ?_ (by omega) (by omega) trivial
    first
    | exact pIs.e (b := false) (a := V.an) (if_neg (bFT (b2i_0 c_5))) rfl
