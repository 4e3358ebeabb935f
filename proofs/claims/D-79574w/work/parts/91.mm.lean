/-! the model renumbers: its code -/
theorem mvn_a {V : MV} {a n : Nat → Int32} {i : Nat} {x : Int32} : ((V.wMv a).wNw n).wMv (va_up ((V.wMv a).wNw n).mv i x) = (V.wMv (va_up a i x)).wNw n := rfl
theorem mvn_b {V : MV} {a n : Nat → Int32} {i : Nat} {x : Int32} : ((V.wMv a).wNw n).wNw (va_up ((V.wMv a).wNw n).nw i x) = (V.wMv a).wNw (va_up n i x) := rfl
theorem fg_X4_34_X4 : LkG RX4 34 ciX4 7 := ⟨RX4, TX4, 21, tyX4, _, cls_X4, by decide, Or.inl rfl, Or.inl q3277⟩
set_option maxHeartbeats 4000000 in
set_option maxRecDepth 100000 in
theorem sp_X4_renumbers {l : Launch} {s0 : State} {D : va_G} {I : AI} {L : AL} {m : Nat} {A : MA} {V : MV} (hΓ : Gam l s0 D) (hA : MOk m A) {row j : Nat} (hr : row + 147 ≤ 652) (hj : j ≤ 5) : Spc l s0 D yX4_renumbers 3 [.ref m, .int (nI row), .int (nI j)] I (mdL L m A V) 0 0 (fun q I' L' => q = none ∧ I = I' ∧ ∃ mv n : Nat → Int32, RnR row j V.nw n ∧ L' = mdL L m A ((V.wMv mv).wNw n)) noX := by
  refine Spc.of hΓ cX4_renumbers 6 none q3377 (by decide +kernel) (by decide) (Nat.le_of_ble_eq_true rfl) (fun G GX hG => ?_)
  have inner : ∀ (k f : Nat) (mv : Nat → Int32), k < 3 → f ≤ 5 → (∀ n : Nat → Int32, RnI row j V.nw mv n (36 * k + 6 * f + 6) → G 125 [(0, .ref m), (1, .int (nI row)), (2, .int (nI j)), (3, .int (nI k)), (4, .int (nI f))] [] I (mdL L m A ((V.wMv mv).wNw n)) 0 0) → ∀ (w t : Nat) (n : Nat → Int32), t + w = 6 → RnI row j V.nw mv n (36 * k + 6 * f + t) → G 58 [(0, .ref m), (1, .int (nI row)), (2, .int (nI j)), (3, .int (nI k)), (4, .int (nI f)), (5, .int (nI t))] [] I (mdL L m A ((V.wMv mv).wNw n)) 0 0 := by
    intro k f mv hk hf kk w
    induction w with
    | zero =>
      intro t n htw hI
      have hte : t = 6 := by omega
      subst hte
      refine hG.iload dX4_renumbers_58 rfl ?_
      refine hG.bipush (v := 6) dX4_renumbers_60 rfl ?_
      refine hG.icmp_ge (tgt := 125) dX4_renumbers_62 rfl (fun c_62 => ?_) (fun c_62 => absurd (by decide) c_62)
      exact hG.lsb [(0, .ref m), (1, .int (nI row)), (2, .int (nI j)), (3, .int (nI k)), (4, .int (nI f))] ⟨rfl, rfl, rfl, rfl, rfl, trivial⟩ (kk n hI)
    | succ w ih =>
      intro t n htw hI
      have b1 := bh_le (j := j) hf
      have b2 := bh_le (j := j) (show t ≤ 5 by omega)
      have hgl := gco_lt hk b1 b2
      have hg0 := gco_lt hk (show f ≤ 6 by omega) (show t ≤ 6 by omega)
      refine hG.iload dX4_renumbers_58 rfl ?_
      refine hG.bipush (v := 6) dX4_renumbers_60 rfl ?_
      refine hG.icmp_ge (tgt := 125) dX4_renumbers_62 rfl (fun c_62 => absurd c_62 (nI_ge (a := t) (b := 6) (by omega) (by decide))) (fun c_62 => ?_)
      refine hG.aload_n dX4_renumbers_65 rfl ?_
      refine hG.get dX4_renumbers_66 fg_X4_21_X4 (Or.inl mdL_m) rfl ?_
      refine hG.iload_n dX4_renumbers_69 rfl ?_
      refine hG.iload_n dX4_renumbers_70 rfl ?_
      refine hG.iload dX4_renumbers_71 rfl ?_
      refine hG.iload_n dX4_renumbers_73 rfl ?_
      refine hG.icmp_le (tgt := 84) dX4_renumbers_74 rfl (fun c_74 => ?_) (fun c_74 => ?_)
      · refine hG.iload dX4_renumbers_84 rfl ?_
        have hbf : bh j f = f := if_neg (by have := (nI_leI (by omega) (by omega)).mp c_74; omega)
        refine hG.iload dX4_renumbers_86 rfl ?_
        refine hG.iload_n dX4_renumbers_88 rfl ?_
        refine hG.icmp_le (tgt := 99) dX4_renumbers_89 rfl (fun c_89 => ?_) (fun c_89 => ?_)
        · refine hG.iload dX4_renumbers_99 rfl ?_
          have hbt : bh j t = t := if_neg (by have := (nI_leI (by omega) (by omega)).mp c_89; omega)
          refine hG.callS dX4_renumbers_101 ks_X4_94 (sp_X4_groupAt hΓ) rfl rfl (Nat.le_of_ble_eq_true rfl) (by decide) (by omega) (by omega) (fun r101 I101 L101 hI101 h101 => ?_) (fun _ _ _ _ _ h => h.elim)
          obtain ⟨rfl, rfl, rfl⟩ := h101
          rw [show gco k f t = gco k (bh j f) (bh j t) by rw [hbf, hbt]]
          refine hG.iadd dX4_renumbers_104 ?_
          rw [ix1]
          refine hG.aload_n dX4_renumbers_105 rfl ?_
          refine hG.get dX4_renumbers_106 fg_X4_34_X4 (Or.inl mdL_m) rfl ?_
          refine hG.iload_n dX4_renumbers_109 rfl ?_
          refine hG.iload dX4_renumbers_110 rfl ?_
          refine hG.iload dX4_renumbers_112 rfl ?_
          refine hG.callS dX4_renumbers_114 ks_X4_94 (sp_X4_groupAt hΓ) rfl rfl (Nat.le_of_ble_eq_true rfl) (by decide) (by omega) (by omega) (fun r114 I114 L114 hI114 h114 => ?_) (fun _ _ _ _ _ h => h.elim)
          obtain ⟨rfl, rfl, rfl⟩ := h114
          refine hG.ld_mv hA (gco k f t) dX4_renumbers_117 rfl (by omega) (v := mv (gco k f t)) rfl ?_
          refine hG.nst hA (row + gco k (bh j f) (bh j t)) dX4_renumbers_118 rfl (by omega) ?_
          rw [mvn_b]
          refine hG.iinc dX4_renumbers_119 rfl (by decide) ?_
          refine hG.goto (tgt := 58) dX4_renumbers_122 rfl ?_
          refine hG.lsb [(0, .ref m), (1, .int (nI row)), (2, .int (nI j)), (3, .int (nI k)), (4, .int (nI f)), (5, .int (nI t + Int32.ofInt 1))] ⟨rfl, rfl, rfl, rfl, rfl, rfl, trivial⟩ ?_
          rw [show nI t + Int32.ofInt 1 = nI (t + 1) from nI_add t 1]
          exact ih (t + 1) _ (by omega) (hI.next hj hk hf (by omega))
        · refine hG.iload dX4_renumbers_92 rfl ?_
          refine hG.iconst (v := 1) dX4_renumbers_94 rfl ?_
          refine hG.iadd dX4_renumbers_95 ?_
          refine hG.goto (tgt := 101) dX4_renumbers_96 rfl ?_
          have hbt : bh j t = t + 1 := if_pos (Nat.lt_of_not_le (fun q => c_89 (nI_le q (by omega))))
          rw [nI_1]
          refine hG.callS dX4_renumbers_101 ks_X4_94 (sp_X4_groupAt hΓ) rfl rfl (Nat.le_of_ble_eq_true rfl) (by decide) (by omega) (by omega) (fun r101 I101 L101 hI101 h101 => ?_) (fun _ _ _ _ _ h => h.elim)
          obtain ⟨rfl, rfl, rfl⟩ := h101
          rw [show gco k f (t + 1) = gco k (bh j f) (bh j t) by rw [hbf, hbt]]
          refine hG.iadd dX4_renumbers_104 ?_
          rw [ix1]
          refine hG.aload_n dX4_renumbers_105 rfl ?_
          refine hG.get dX4_renumbers_106 fg_X4_34_X4 (Or.inl mdL_m) rfl ?_
          refine hG.iload_n dX4_renumbers_109 rfl ?_
          refine hG.iload dX4_renumbers_110 rfl ?_
          refine hG.iload dX4_renumbers_112 rfl ?_
          refine hG.callS dX4_renumbers_114 ks_X4_94 (sp_X4_groupAt hΓ) rfl rfl (Nat.le_of_ble_eq_true rfl) (by decide) (by omega) (by omega) (fun r114 I114 L114 hI114 h114 => ?_) (fun _ _ _ _ _ h => h.elim)
          obtain ⟨rfl, rfl, rfl⟩ := h114
          refine hG.ld_mv hA (gco k f t) dX4_renumbers_117 rfl (by omega) (v := mv (gco k f t)) rfl ?_
          refine hG.nst hA (row + gco k (bh j f) (bh j t)) dX4_renumbers_118 rfl (by omega) ?_
          rw [mvn_b]
          refine hG.iinc dX4_renumbers_119 rfl (by decide) ?_
          refine hG.goto (tgt := 58) dX4_renumbers_122 rfl ?_
          refine hG.lsb [(0, .ref m), (1, .int (nI row)), (2, .int (nI j)), (3, .int (nI k)), (4, .int (nI f)), (5, .int (nI t + Int32.ofInt 1))] ⟨rfl, rfl, rfl, rfl, rfl, rfl, trivial⟩ ?_
          rw [show nI t + Int32.ofInt 1 = nI (t + 1) from nI_add t 1]
          exact ih (t + 1) _ (by omega) (hI.next hj hk hf (by omega))
      · refine hG.iload dX4_renumbers_77 rfl ?_
        refine hG.iconst (v := 1) dX4_renumbers_79 rfl ?_
        refine hG.iadd dX4_renumbers_80 ?_
        refine hG.goto (tgt := 86) dX4_renumbers_81 rfl ?_
        have hbf : bh j f = f + 1 := if_pos (Nat.lt_of_not_le (fun q => c_74 (nI_le q (by omega))))
        rw [nI_1]
        refine hG.iload dX4_renumbers_86 rfl ?_
        refine hG.iload_n dX4_renumbers_88 rfl ?_
        refine hG.icmp_le (tgt := 99) dX4_renumbers_89 rfl (fun c_89 => ?_) (fun c_89 => ?_)
        · refine hG.iload dX4_renumbers_99 rfl ?_
          have hbt : bh j t = t := if_neg (by have := (nI_leI (by omega) (by omega)).mp c_89; omega)
          refine hG.callS dX4_renumbers_101 ks_X4_94 (sp_X4_groupAt hΓ) rfl rfl (Nat.le_of_ble_eq_true rfl) (by decide) (by omega) (by omega) (fun r101 I101 L101 hI101 h101 => ?_) (fun _ _ _ _ _ h => h.elim)
          obtain ⟨rfl, rfl, rfl⟩ := h101
          rw [show gco k (f + 1) t = gco k (bh j f) (bh j t) by rw [hbf, hbt]]
          refine hG.iadd dX4_renumbers_104 ?_
          rw [ix1]
          refine hG.aload_n dX4_renumbers_105 rfl ?_
          refine hG.get dX4_renumbers_106 fg_X4_34_X4 (Or.inl mdL_m) rfl ?_
          refine hG.iload_n dX4_renumbers_109 rfl ?_
          refine hG.iload dX4_renumbers_110 rfl ?_
          refine hG.iload dX4_renumbers_112 rfl ?_
          refine hG.callS dX4_renumbers_114 ks_X4_94 (sp_X4_groupAt hΓ) rfl rfl (Nat.le_of_ble_eq_true rfl) (by decide) (by omega) (by omega) (fun r114 I114 L114 hI114 h114 => ?_) (fun _ _ _ _ _ h => h.elim)
          obtain ⟨rfl, rfl, rfl⟩ := h114
          refine hG.ld_mv hA (gco k f t) dX4_renumbers_117 rfl (by omega) (v := mv (gco k f t)) rfl ?_
          refine hG.nst hA (row + gco k (bh j f) (bh j t)) dX4_renumbers_118 rfl (by omega) ?_
          rw [mvn_b]
          refine hG.iinc dX4_renumbers_119 rfl (by decide) ?_
          refine hG.goto (tgt := 58) dX4_renumbers_122 rfl ?_
          refine hG.lsb [(0, .ref m), (1, .int (nI row)), (2, .int (nI j)), (3, .int (nI k)), (4, .int (nI f)), (5, .int (nI t + Int32.ofInt 1))] ⟨rfl, rfl, rfl, rfl, rfl, rfl, trivial⟩ ?_
          rw [show nI t + Int32.ofInt 1 = nI (t + 1) from nI_add t 1]
          exact ih (t + 1) _ (by omega) (hI.next hj hk hf (by omega))
        · refine hG.iload dX4_renumbers_92 rfl ?_
          refine hG.iconst (v := 1) dX4_renumbers_94 rfl ?_
          refine hG.iadd dX4_renumbers_95 ?_
          refine hG.goto (tgt := 101) dX4_renumbers_96 rfl ?_
          have hbt : bh j t = t + 1 := if_pos (Nat.lt_of_not_le (fun q => c_89 (nI_le q (by omega))))
          rw [nI_1]
          refine hG.callS dX4_renumbers_101 ks_X4_94 (sp_X4_groupAt hΓ) rfl rfl (Nat.le_of_ble_eq_true rfl) (by decide) (by omega) (by omega) (fun r101 I101 L101 hI101 h101 => ?_) (fun _ _ _ _ _ h => h.elim)
          obtain ⟨rfl, rfl, rfl⟩ := h101
          rw [show gco k (f + 1) (t + 1) = gco k (bh j f) (bh j t) by rw [hbf, hbt]]
          refine hG.iadd dX4_renumbers_104 ?_
          rw [ix1]
          refine hG.aload_n dX4_renumbers_105 rfl ?_
          refine hG.get dX4_renumbers_106 fg_X4_34_X4 (Or.inl mdL_m) rfl ?_
          refine hG.iload_n dX4_renumbers_109 rfl ?_
          refine hG.iload dX4_renumbers_110 rfl ?_
          refine hG.iload dX4_renumbers_112 rfl ?_
          refine hG.callS dX4_renumbers_114 ks_X4_94 (sp_X4_groupAt hΓ) rfl rfl (Nat.le_of_ble_eq_true rfl) (by decide) (by omega) (by omega) (fun r114 I114 L114 hI114 h114 => ?_) (fun _ _ _ _ _ h => h.elim)
          obtain ⟨rfl, rfl, rfl⟩ := h114
          refine hG.ld_mv hA (gco k f t) dX4_renumbers_117 rfl (by omega) (v := mv (gco k f t)) rfl ?_
          refine hG.nst hA (row + gco k (bh j f) (bh j t)) dX4_renumbers_118 rfl (by omega) ?_
          rw [mvn_b]
          refine hG.iinc dX4_renumbers_119 rfl (by decide) ?_
          refine hG.goto (tgt := 58) dX4_renumbers_122 rfl ?_
          refine hG.lsb [(0, .ref m), (1, .int (nI row)), (2, .int (nI j)), (3, .int (nI k)), (4, .int (nI f)), (5, .int (nI t + Int32.ofInt 1))] ⟨rfl, rfl, rfl, rfl, rfl, rfl, trivial⟩ ?_
          rw [show nI t + Int32.ofInt 1 = nI (t + 1) from nI_add t 1]
          exact ih (t + 1) _ (by omega) (hI.next hj hk hf (by omega))
  have mid : ∀ (k : Nat) (mv : Nat → Int32), k < 3 → (∀ n : Nat → Int32, RnI row j V.nw mv n (36 * k + 36) → G 131 [(0, .ref m), (1, .int (nI row)), (2, .int (nI j)), (3, .int (nI k))] [] I (mdL L m A ((V.wMv mv).wNw n)) 0 0) → ∀ (w f : Nat) (n : Nat → Int32), f + w = 6 → RnI row j V.nw mv n (36 * k + 6 * f) → G 48 [(0, .ref m), (1, .int (nI row)), (2, .int (nI j)), (3, .int (nI k)), (4, .int (nI f))] [] I (mdL L m A ((V.wMv mv).wNw n)) 0 0 := by
    intro k mv hk kk w
    induction w with
    | zero =>
      intro f n hfw hI
      have hfe : f = 6 := by omega
      subst hfe
      refine hG.iload dX4_renumbers_48 rfl ?_
      refine hG.bipush (v := 6) dX4_renumbers_50 rfl ?_
      refine hG.icmp_ge (tgt := 131) dX4_renumbers_52 rfl (fun c_52 => ?_) (fun c_52 => absurd (by decide) c_52)
      exact hG.lsb [(0, .ref m), (1, .int (nI row)), (2, .int (nI j)), (3, .int (nI k))] ⟨rfl, rfl, rfl, rfl, trivial⟩ (kk n hI)
    | succ w ih =>
      intro f n hfw hI
      refine hG.iload dX4_renumbers_48 rfl ?_
      refine hG.bipush (v := 6) dX4_renumbers_50 rfl ?_
      refine hG.icmp_ge (tgt := 131) dX4_renumbers_52 rfl (fun c_52 => absurd c_52 (nI_ge (a := f) (b := 6) (by omega) (by decide))) (fun c_52 => ?_)
      refine hG.iconst (v := 0) dX4_renumbers_55 rfl ?_
      refine hG.istore dX4_renumbers_56 (by decide) ?_
      refine hG.lsb [(0, .ref m), (1, .int (nI row)), (2, .int (nI j)), (3, .int (nI k)), (4, .int (nI f)), (5, .int (nI 0))] ⟨rfl, rfl, rfl, rfl, rfl, rfl, trivial⟩ (inner k f mv hk (by omega) (fun n9 hI9 => ?_) 6 0 n (by omega) hI)
      refine hG.iinc dX4_renumbers_125 rfl (by decide) ?_
      refine hG.goto (tgt := 48) dX4_renumbers_128 rfl ?_
      refine hG.lsb [(0, .ref m), (1, .int (nI row)), (2, .int (nI j)), (3, .int (nI k)), (4, .int (nI f + Int32.ofInt 1))] ⟨rfl, rfl, rfl, rfl, rfl, trivial⟩ ?_
      rw [show nI f + Int32.ofInt 1 = nI (f + 1) from nI_add f 1]
      exact ih (f + 1) n9 (by omega) hI9
  have outer : ∀ (w k : Nat) (mv n : Nat → Int32), k + w = 3 → RnI row j V.nw mv n (36 * k) → G 40 [(0, .ref m), (1, .int (nI row)), (2, .int (nI j)), (3, .int (nI k))] [] I (mdL L m A ((V.wMv mv).wNw n)) 0 0 := by
    intro w
    induction w with
    | zero =>
      intro k mv n hkw hI
      have hke : k = 3 := by omega
      subst hke
      refine hG.iload_n dX4_renumbers_40 rfl ?_
      refine hG.iconst (v := 3) dX4_renumbers_41 rfl ?_
      refine hG.icmp_ge (tgt := 137) dX4_renumbers_42 rfl (fun c_42 => ?_) (fun c_42 => absurd (by decide) c_42)
      refine hG.vret dX4_renumbers_137 rfl ?_ (by omega) (by omega) trivial
      exact ⟨rfl, rfl, mv, n, hI.done hj, rfl⟩
    | succ w ih =>
      intro k mv n hkw hI
      refine hG.iload_n dX4_renumbers_40 rfl ?_
      refine hG.iconst (v := 3) dX4_renumbers_41 rfl ?_
      refine hG.icmp_ge (tgt := 137) dX4_renumbers_42 rfl (fun c_42 => absurd c_42 (nI_ge (a := k) (b := 3) (by omega) (by decide))) (fun c_42 => ?_)
      refine hG.iconst (v := 0) dX4_renumbers_45 rfl ?_
      refine hG.istore dX4_renumbers_46 (by decide) ?_
      refine hG.lsb [(0, .ref m), (1, .int (nI row)), (2, .int (nI j)), (3, .int (nI k)), (4, .int (nI 0))] ⟨rfl, rfl, rfl, rfl, rfl, trivial⟩ (mid k mv (by omega) (fun n9 hI9 => ?_) 6 0 n (by omega) hI)
      refine hG.iinc dX4_renumbers_131 rfl (by decide) ?_
      refine hG.goto (tgt := 40) dX4_renumbers_134 rfl ?_
      refine hG.lsb [(0, .ref m), (1, .int (nI row)), (2, .int (nI j)), (3, .int (nI k + Int32.ofInt 1))] ⟨rfl, rfl, rfl, rfl, trivial⟩ ?_
      rw [show nI k + Int32.ofInt 1 = nI (k + 1) from nI_add k 1]
      exact ih (k + 1) mv n9 (by omega) hI9
  have loop0 : ∀ (w i : Nat) (mv n : Nat → Int32), i + w = 147 → (∀ c, c < i → mv c = V.nw (row + c)) → (∀ k, n k = if row ≤ k ∧ k < row + i then 0 else V.nw k) → G 2 [(0, .ref m), (1, .int (nI row)), (2, .int (nI j)), (3, .int (nI i))] [] I (mdL L m A ((V.wMv mv).wNw n)) 0 0 := by
    intro w
    induction w with
    | zero =>
      intro i mv n hiw h1 h2
      have hie : i = 147 := by omega
      subst hie
      refine hG.iload_n dX4_renumbers_2 rfl ?_
      refine hG.sipush (v := 147) dX4_renumbers_3 rfl ?_
      refine hG.icmp_ge (tgt := 38) dX4_renumbers_6 rfl (fun c_6 => ?_) (fun c_6 => absurd (by decide) c_6)
      refine hG.iconst (v := 0) dX4_renumbers_38 rfl ?_
      refine hG.istore_n dX4_renumbers_39 (by decide) ?_
      exact hG.lsb [(0, .ref m), (1, .int (nI row)), (2, .int (nI j)), (3, .int (nI 0))] ⟨rfl, rfl, rfl, rfl, trivial⟩ (outer 3 0 mv n (by omega) ⟨h1, fun k hk => (h2 k).trans (if_neg (by omega)), fun e he => ⟨fun q => absurd q.2 (by omega), fun _ => (h2 _).trans (if_pos (by omega))⟩⟩)
    | succ w ih =>
      intro i mv n hiw h1 h2
      refine hG.iload_n dX4_renumbers_2 rfl ?_
      refine hG.sipush (v := 147) dX4_renumbers_3 rfl ?_
      refine hG.icmp_ge (tgt := 38) dX4_renumbers_6 rfl (fun c_6 => absurd c_6 (nI_ge (a := i) (b := 147) (by omega) (by decide))) (fun c_6 => ?_)
      refine hG.aload_n dX4_renumbers_9 rfl ?_
      refine hG.get dX4_renumbers_10 fg_X4_34_X4 (Or.inl mdL_m) rfl ?_
      refine hG.iload_n dX4_renumbers_13 rfl ?_
      refine hG.aload_n dX4_renumbers_14 rfl ?_
      refine hG.get dX4_renumbers_15 fg_X4_21_X4 (Or.inl mdL_m) rfl ?_
      refine hG.iload_n dX4_renumbers_18 rfl ?_
      refine hG.iload_n dX4_renumbers_19 rfl ?_
      refine hG.iadd dX4_renumbers_20 ?_
      refine hG.nld hA (row + i) dX4_renumbers_21 (ix1 row i) (by omega) (v := V.nw (row + i)) ((h2 _).trans (if_neg (by omega))) ?_
      refine hG.st_mv hA i dX4_renumbers_22 rfl (by omega) ?_
      rw [mvn_a]
      refine hG.aload_n dX4_renumbers_23 rfl ?_
      refine hG.get dX4_renumbers_24 fg_X4_21_X4 (Or.inl mdL_m) rfl ?_
      refine hG.iload_n dX4_renumbers_27 rfl ?_
      refine hG.iload_n dX4_renumbers_28 rfl ?_
      refine hG.iadd dX4_renumbers_29 ?_
      refine hG.iconst (v := 0) dX4_renumbers_30 rfl ?_
      refine hG.nst hA (row + i) dX4_renumbers_31 (ix1 row i) (by omega) ?_
      rw [mvn_b]
      refine hG.iinc dX4_renumbers_32 rfl (by decide) ?_
      refine hG.goto (tgt := 2) dX4_renumbers_35 rfl ?_
      refine hG.lsb [(0, .ref m), (1, .int (nI row)), (2, .int (nI j)), (3, .int (nI i + Int32.ofInt 1))] ⟨rfl, rfl, rfl, rfl, trivial⟩ ?_
      rw [show nI i + Int32.ofInt 1 = nI (i + 1) from nI_add i 1]
      refine ih (i + 1) _ _ (by omega) (fun c hc => ?_) (fun k => ?_)
      · by_cases e : c = i
        · rw [va_eq e, e]
        · rw [va_ne e]; exact h1 c (by omega)
      · by_cases e : k = row + i
        · rw [va_eq e, if_pos (by omega)]
        · rw [va_ne e, h2 k]
          by_cases e2 : row ≤ k ∧ k < row + i
          · rw [if_pos e2, if_pos (by omega)]
          · rw [if_neg e2, if_neg (by omega)]
  refine hG.iconst (v := 0) dX4_renumbers_0 rfl ?_
  refine hG.istore_n dX4_renumbers_1 (by decide) ?_
  have hb : V = (V.wMv V.mv).wNw V.nw := rfl
  rw [hb]
  exact hG.lsb [(0, .ref m), (1, .int (nI row)), (2, .int (nI j)), (3, .int (nI 0))] ⟨rfl, rfl, rfl, rfl, trivial⟩ (loop0 147 0 V.mv V.nw (by omega) (fun c hc => absurd hc (Nat.not_lt_zero c)) (fun k => (if_neg (by omega)).symm))
