/-! coming, boarding, weighing -/
theorem Rep.comN {N M : Nat} {R : Rv} {n : Nat → Int32} (h : Rep N R n) (hw : Wf M R) {g cm : Nat} {x : Int32} (hg : g < 147) (h0 : tof R.wa g = 0) (hx : x ≠ 0) (hcm : n 9 = nI cm) (hcN : cm ≤ N) (hlt : N < 2 ^ 30) : Rep (N + 1) (R.wWa (tadd R.wa g x)) (va_up (va_up (va_up n (9) (nI (cm + 1))) (211 + g) (nI (cm + 1))) (64 + g) (tof R.wa g + x)) := by
  have w1 := hw.ch6
  have w2 := hw.fl5
  have w3 := hw.an6
  exact Rep.mk ⟨((va_ne (by omega)).trans ((va_ne (by omega)).trans ((va_ne (by omega)).trans (h.k0)))), ((va_ne (by omega)).trans ((va_ne (by omega)).trans ((va_ne (by omega)).trans (h.k1)))), ((va_ne (by omega)).trans ((va_ne (by omega)).trans ((va_ne (by omega)).trans (h.k2))))⟩ ⟨((va_ne (by omega)).trans ((va_ne (by omega)).trans ((va_ne (by omega)).trans (h.k3)))), ((va_ne (by omega)).trans ((va_ne (by omega)).trans ((va_ne (by omega)).trans (h.k4)))), ((va_ne (by omega)).trans ((va_ne (by omega)).trans ((va_ne (by omega)).trans (h.k5)))), ((va_ne (by omega)).trans ((va_ne (by omega)).trans ((va_ne (by omega)).trans (h.k6)))), ((va_ne (by omega)).trans ((va_ne (by omega)).trans ((va_ne (by omega)).trans (h.k7)))), ((va_ne (by omega)).trans ((va_ne (by omega)).trans ((va_ne (by omega)).trans (h.k8))))⟩ ⟨((va_ne (by omega)).trans ((va_ne (by omega)).trans ((va_ne (by omega)).trans (h.2.2.1.1)))), ((va_ne (by omega)).trans ((va_ne (by omega)).trans ((va_ne (by omega)).trans (h.2.2.1.2.1)))), ((va_ne (by omega)).trans ((va_ne (by omega)).trans ((va_ne (by omega)).trans (h.2.2.1.2.2))))⟩ (h.cE.cg w1 (agr.up (agr.up (agr.up agr.rf (by omega)) (by omega)) (by omega))) (h.fE.cg (m := 5) (by rw [List.length_map]; exact w2) (agr.up (agr.up (agr.up agr.rf (by omega)) (by omega)) (by omega))) (h.aE.cg w3 (agr.up (agr.up (agr.up agr.rf (by omega)) (by omega)) (by omega))) (h.wT.add (fun k a b c => (va_ne c).trans ((va_ne (by omega)).trans (va_ne (by omega)))) (va_eq rfl)) (h.foT.cg (agr.up (agr.up (agr.up agr.rf (by omega)) (by omega)) (by omega))) (h.afT.cg (agr.up (agr.up (agr.up agr.rf (by omega)) (by omega)) (by omega))) (OrdA.new hw.wa h.or h0 hx hcm hcN hlt ((va_ne (by omega)).trans ((va_ne (by omega)).trans (va_eq rfl))) ((va_ne (by omega)).trans (va_eq rfl)) (fun k a b c => (va_ne (by omega)).trans ((va_ne c).trans (va_ne (by omega)))))
theorem Rep.comO {N M : Nat} {R : Rv} {n : Nat → Int32} (h : Rep N R n) (hw : Wf M R) {g : Nat} {x : Int32} (hg : g < 147) (h0 : tof R.wa g ≠ 0) (hx : tof R.wa g + x ≠ 0) : Rep (N) (R.wWa (tadd R.wa g x)) (va_up n (64 + g) (tof R.wa g + x)) := by
  have w1 := hw.ch6
  have w2 := hw.fl5
  have w3 := hw.an6
  exact Rep.mk ⟨((va_ne (by omega)).trans (h.k0)), ((va_ne (by omega)).trans (h.k1)), ((va_ne (by omega)).trans (h.k2))⟩ ⟨((va_ne (by omega)).trans (h.k3)), ((va_ne (by omega)).trans (h.k4)), ((va_ne (by omega)).trans (h.k5)), ((va_ne (by omega)).trans (h.k6)), ((va_ne (by omega)).trans (h.k7)), ((va_ne (by omega)).trans (h.k8))⟩ ⟨((va_ne (by omega)).trans (h.2.2.1.1)), ((va_ne (by omega)).trans (h.2.2.1.2.1)), ((va_ne (by omega)).trans (h.2.2.1.2.2))⟩ (h.cE.cg w1 (agr.up agr.rf (by omega))) (h.fE.cg (m := 5) (by rw [List.length_map]; exact w2) (agr.up agr.rf (by omega))) (h.aE.cg w3 (agr.up agr.rf (by omega))) (h.wT.add (fun k a b c => va_ne c) (va_eq rfl)) (h.foT.cg (agr.up agr.rf (by omega))) (h.afT.cg (agr.up agr.rf (by omega))) (h.or.old h0 hx (va_ne (by omega)) (fun k a b => va_ne (by omega)) hw.wa)
theorem Rep.brdFo {N M : Nat} {R : Rv} {n : Nat → Int32} (h : Rep N R n) (hw : Wf M R) {g : Nat} {x y : Int32} (hg : g < 147) (h0 : tof R.wa g ≠ 0) : Rep (N) ((R.wWa (tadd R.wa g x)).wFo (tadd R.fo g y)) (va_up (va_up n (64 + g) (tof R.wa g + x)) (358 + g) (tof R.fo g + y)) := by
  have w1 := hw.ch6
  have w2 := hw.fl5
  have w3 := hw.an6
  exact Rep.mk ⟨((va_ne (by omega)).trans ((va_ne (by omega)).trans (h.k0))), ((va_ne (by omega)).trans ((va_ne (by omega)).trans (h.k1))), ((va_ne (by omega)).trans ((va_ne (by omega)).trans (h.k2)))⟩ ⟨((va_ne (by omega)).trans ((va_ne (by omega)).trans (h.k3))), ((va_ne (by omega)).trans ((va_ne (by omega)).trans (h.k4))), ((va_ne (by omega)).trans ((va_ne (by omega)).trans (h.k5))), ((va_ne (by omega)).trans ((va_ne (by omega)).trans (h.k6))), ((va_ne (by omega)).trans ((va_ne (by omega)).trans (h.k7))), ((va_ne (by omega)).trans ((va_ne (by omega)).trans (h.k8)))⟩ ⟨((va_ne (by omega)).trans ((va_ne (by omega)).trans (h.2.2.1.1))), ((va_ne (by omega)).trans ((va_ne (by omega)).trans (h.2.2.1.2.1))), ((va_ne (by omega)).trans ((va_ne (by omega)).trans (h.2.2.1.2.2)))⟩ (h.cE.cg w1 (agr.up (agr.up agr.rf (by omega)) (by omega))) (h.fE.cg (m := 5) (by rw [List.length_map]; exact w2) (agr.up (agr.up agr.rf (by omega)) (by omega))) (h.aE.cg w3 (agr.up (agr.up agr.rf (by omega)) (by omega))) (h.wT.add (fun k a b c => (va_ne (by omega)).trans (va_ne c)) ((va_ne (by omega)).trans (va_eq rfl))) (h.foT.add (fun k a b c => (va_ne c).trans (va_ne (by omega))) (va_eq rfl)) (h.afT.cg (agr.up (agr.up agr.rf (by omega)) (by omega))) (h.or.gone h0 ((va_ne (by omega)).trans (va_ne (by omega))) (fun k a b => (va_ne (by omega)).trans (va_ne (by omega))) hw.wa)
theorem Rep.brdAf {N M : Nat} {R : Rv} {n : Nat → Int32} (h : Rep N R n) (hw : Wf M R) {g : Nat} {x y : Int32} (hg : g < 147) (h0 : tof R.wa g ≠ 0) : Rep (N) ((R.wWa (tadd R.wa g x)).wAf (tadd R.af g y)) (va_up (va_up n (64 + g) (tof R.wa g + x)) (505 + g) (tof R.af g + y)) := by
  have w1 := hw.ch6
  have w2 := hw.fl5
  have w3 := hw.an6
  exact Rep.mk ⟨((va_ne (by omega)).trans ((va_ne (by omega)).trans (h.k0))), ((va_ne (by omega)).trans ((va_ne (by omega)).trans (h.k1))), ((va_ne (by omega)).trans ((va_ne (by omega)).trans (h.k2)))⟩ ⟨((va_ne (by omega)).trans ((va_ne (by omega)).trans (h.k3))), ((va_ne (by omega)).trans ((va_ne (by omega)).trans (h.k4))), ((va_ne (by omega)).trans ((va_ne (by omega)).trans (h.k5))), ((va_ne (by omega)).trans ((va_ne (by omega)).trans (h.k6))), ((va_ne (by omega)).trans ((va_ne (by omega)).trans (h.k7))), ((va_ne (by omega)).trans ((va_ne (by omega)).trans (h.k8)))⟩ ⟨((va_ne (by omega)).trans ((va_ne (by omega)).trans (h.2.2.1.1))), ((va_ne (by omega)).trans ((va_ne (by omega)).trans (h.2.2.1.2.1))), ((va_ne (by omega)).trans ((va_ne (by omega)).trans (h.2.2.1.2.2)))⟩ (h.cE.cg w1 (agr.up (agr.up agr.rf (by omega)) (by omega))) (h.fE.cg (m := 5) (by rw [List.length_map]; exact w2) (agr.up (agr.up agr.rf (by omega)) (by omega))) (h.aE.cg w3 (agr.up (agr.up agr.rf (by omega)) (by omega))) (h.wT.add (fun k a b c => (va_ne (by omega)).trans (va_ne c)) ((va_ne (by omega)).trans (va_eq rfl))) (h.foT.cg (agr.up (agr.up agr.rf (by omega)) (by omega))) (h.afT.add (fun k a b c => (va_ne c).trans (va_ne (by omega))) (va_eq rfl)) (h.or.gone h0 ((va_ne (by omega)).trans (va_ne (by omega))) (fun k a b => (va_ne (by omega)).trans (va_ne (by omega))) hw.wa)
theorem RpE.ers {b i : Nat} {cs : List T3} {n n' : Nat → Int32} (h : RpE b cs n) (hi : i < cs.length) (e1 : ∀ k, b ≤ k → k < b + 3 * i → n' k = n k) (e2 : ∀ k, b + 3 * i ≤ k → k < b + 3 * (cs.length - 1) → n' k = n (k + 3)) : RpE b (cs.eraseIdx i) n' := fun j c hc => by
  have hj : j < cs.length - 1 := by
    have := (List.getElem?_eq_some_iff.mp hc).1
    rw [List.length_eraseIdx_of_lt hi] at this
    exact this
  rw [List.getElem?_eraseIdx] at hc
  by_cases hji : j < i
  · rw [if_pos hji] at hc
    obtain ⟨x, y, z⟩ := h j c hc
    exact ⟨(e1 _ (by omega) (by omega)).trans x, (e1 _ (by omega) (by omega)).trans y, (e1 _ (by omega) (by omega)).trans z⟩
  · rw [if_neg hji] at hc
    obtain ⟨x, y, z⟩ := h (j + 1) c hc
    refine ⟨(e2 _ (by omega) (by omega)).trans ?_, (e2 _ (by omega) (by omega)).trans ?_, (e2 _ (by omega) (by omega)).trans ?_⟩
    · rw [show b + 3 * j + 3 = b + 3 * (j + 1) by omega]; exact x
    · rw [show b + 3 * j + 1 + 3 = b + 3 * (j + 1) + 1 by omega]; exact y
    · rw [show b + 3 * j + 2 + 3 = b + 3 * (j + 1) + 2 by omega]; exact z
theorem Rep.ersA {N M i : Nat} {R : Rv} {n n' : Nat → Int32} (h : Rep N R n) (hw : Wf M R) (hi : i < R.an.length) (k2 : n' 2 = nI (R.an.length - 1)) (e1 : ∀ k, k ≠ 2 → (k < 46 + 3 * i ∨ 64 ≤ k) → n' k = n k) (e2 : ∀ k, 46 + 3 * i ≤ k → k < 46 + 3 * (R.an.length - 1) → n' k = n (k + 3)) : Rep N (R.wAn (R.an.eraseIdx i)) n' := by
  have w1 := hw.ch6
  have w2 := hw.fl5
  have w3 := hw.an6
  have s : ∀ k, k < 46 → k ≠ 2 → n' k = n k := fun k a b => e1 k b (Or.inl (by omega))
  have z : ∀ a b, 64 ≤ a → agr n n' a b := fun a b ha k h1 h2 => e1 k (by omega) (Or.inr (by omega))
  exact Rep.mk ⟨(s 0 (by decide) (by decide)).trans h.k0, (s 1 (by decide) (by decide)).trans h.k1, by rw [List.length_eraseIdx_of_lt hi]; exact k2⟩ ⟨(s 3 (by decide) (by decide)).trans h.k3, (s 4 (by decide) (by decide)).trans h.k4, (s 5 (by decide) (by decide)).trans h.k5, (s 6 (by decide) (by decide)).trans h.k6, (s 7 (by decide) (by decide)).trans h.k7, (s 8 (by decide) (by decide)).trans h.k8⟩ ⟨(s 10 (by decide) (by decide)).trans h.2.2.1.1, (s 11 (by decide) (by decide)).trans h.2.2.1.2.1, (s 12 (by decide) (by decide)).trans h.2.2.1.2.2⟩ (h.cE.cg w1 (fun k a b => s k (by omega) (by omega))) (h.fE.cg (m := 5) (by rw [List.length_map]; exact w2) (fun k a b => s k (by omega) (by omega))) (h.aE.ers hi (fun k a b => e1 k (by omega) (Or.inl b)) e2) (h.wT.cg (z _ _ (by decide))) (h.foT.cg (z _ _ (by decide))) (h.afT.cg (z _ _ (by decide))) (h.or.ag hw.wa (fun k a b => s k (by omega) (by omega)) (z _ _ (by decide)))
theorem comes_ne {m : Nat} {t : Tal} (h : TOk m t) {c : Nat} {n : Int32} (hn : 1 ≤ n) (hn2 : n ≤ 99) : tof t c + n ≠ 0 := fun e => by
  have e9 : (tof t c + n).toInt = 0 := by rw [e]; rfl
  have hn9 := Int32.le_iff_toInt_le.mp hn
  have h1 : (1 : Int32).toInt = 1 := rfl
  have hz : 0 ≤ tof t c ∧ tof t c ≤ 9999 := by
    rcases h.rng c with e | ⟨a, b⟩
    · rw [e]; exact ⟨by decide, by decide⟩
    · exact ⟨Int32.le_of_lt a, Int32.le_trans b (by decide)⟩
  have hz9 := Int32.le_iff_toInt_le.mp hz.1
  have b1 : (0 : Int32).toInt = 0 := rfl
  rw [addS hz.1 hz.2 (Int32.le_trans (by decide) hn) (Int32.le_trans hn2 (by decide))] at e9
  omega
theorem kv_X4_158 : LkV RX4 158 yX4_isStop 1 := ⟨q3482, q3484, qs55, q87, by decide +kernel, by decide +kernel, by decide +kernel⟩
theorem ks_X4_94 : LkS RX4 94 yX4_groupAt 3 := ⟨q3378, q3379, q87, by decide +kernel, by decide +kernel, by decide +kernel⟩
set_option maxHeartbeats 4000000 in
set_option maxRecDepth 100000 in
theorem sp_X4_comes {l : Launch} {s0 : State} {D : va_G} {I : AI} {L : AL} {m : Nat} {A : MA} {V : MV} {N : Nat} {R : Rv} (hΓ : Gam l s0 D) (hA : MOk m A) (hR : Rep N R V.nw) (hw : Wf N R) {k f t n : Int32} (hN : N < 2 ^ 29) : Spc l s0 D yX4_comes 3 [.ref m, .int k, .int f, .int t, .int n] I (mdL L m A V) 0 0 (pIs N I L m A V (fun b => match b with | true => -2 | false => -1) (comO k f t n R)) noX := by
  refine Spc.of hΓ cX4_comes 6 (some FieldType.int) q3481 (by decide +kernel) (by decide) (Nat.le_of_ble_eq_true rfl) (fun G GX hG => ?_)
  have hl6 := hw.ch6
  have hl5 := hw.fl5
  have ha6 := hw.an6
  refine hG.aload_n dX4_comes_0 rfl ?_
  refine hG.iload_n dX4_comes_1 rfl ?_
  refine hG.callV dX4_comes_2 kv_X4_158 (Rcv.raw mdL_m cl_X4) (sp_X4_isStop hΓ hA hR hw) rfl rfl (Nat.le_of_ble_eq_true rfl) (by decide) (by omega) (by omega) (fun r2 I2 L2 hI2 h2 => ?_) (fun _ _ _ _ _ h => h.elim)
  obtain ⟨rfl, rfl, rfl⟩ := h2
  refine hG.if_eq (tgt := 16) dX4_comes_5 rfl (fun c_5 => ?_) (fun c_5 => ?_)
  · refine hG.iconst (v := -1) dX4_comes_16 rfl ?_
    refine hG.iret dX4_comes_17 rfl ?_ (by omega) (by omega) trivial
    first
    | exact pIs.e (b := false) (a := V.an) (if_neg (fun q => bFT (b2i_0 c_5) q.1)) rfl
    | exact pIs.e (b := false) (a := V.an) (if_neg (fun q => bFT (b2i_0 c_13) q.2)) rfl
  · refine hG.aload_n dX4_comes_8 rfl ?_
    refine hG.iload_n dX4_comes_9 rfl ?_
    refine hG.callV dX4_comes_10 kv_X4_158 (Rcv.raw mdL_m cl_X4) (sp_X4_isStop hΓ hA hR hw) rfl rfl (Nat.le_of_ble_eq_true rfl) (by decide) (by omega) (by omega) (fun r10 I10 L10 hI10 h10 => ?_) (fun _ _ _ _ _ h => h.elim)
    obtain ⟨rfl, rfl, rfl⟩ := h10
    refine hG.if_ne (tgt := 18) dX4_comes_13 rfl (fun c_13 => ?_) (fun c_13 => ?_)
    · refine hG.iload_n dX4_comes_18 rfl ?_
      refine hG.callS dX4_comes_19 ks_X4_161 (sp_X4_isKind hΓ) rfl rfl (Nat.le_of_ble_eq_true rfl) (by decide) (by omega) (by omega) (fun r19 I19 L19 hI19 h19 => ?_) (fun _ _ _ _ _ h => h.elim)
      obtain ⟨rfl, rfl, rfl⟩ := h19
      refine hG.if_eq (tgt := 41) dX4_comes_22 rfl (fun c_22 => ?_) (fun c_22 => ?_)
      · refine hG.bipush (v := -2) dX4_comes_41 rfl ?_
        refine hG.iret dX4_comes_43 rfl ?_ (by omega) (by omega) trivial
        have ho : comO k f t n R = _ := if_pos ⟨b2i_1 c_5, b2i_1 c_13⟩
        exact pIs.e (b := true) (a := V.an) (ho.trans (if_neg (fun q => bFT (b2i_0 c_22) q.1))) rfl
      · refine hG.iload_n dX4_comes_25 rfl ?_
        refine hG.iload_n dX4_comes_26 rfl ?_
        refine hG.icmp_eq (tgt := 41) dX4_comes_27 rfl (fun c_27 => ?_) (fun c_27 => ?_)
        · refine hG.bipush (v := -2) dX4_comes_41 rfl ?_
          refine hG.iret dX4_comes_43 rfl ?_ (by omega) (by omega) trivial
          have ho : comO k f t n R = _ := if_pos ⟨b2i_1 c_5, b2i_1 c_13⟩
          exact pIs.e (b := true) (a := V.an) (ho.trans (if_neg (fun q => q.2.1 c_27))) rfl
        · refine hG.iload dX4_comes_30 rfl ?_
          refine hG.iconst (v := 1) dX4_comes_32 rfl ?_
          refine hG.bipush (v := 99) dX4_comes_33 rfl ?_
          refine hG.callS dX4_comes_35 ks_X4_80 (sp_X4_in hΓ) rfl rfl (Nat.le_of_ble_eq_true rfl) (by decide) (by omega) (by omega) (fun r35 I35 L35 hI35 h35 => ?_) (fun _ _ _ _ _ h => h.elim)
          obtain ⟨rfl, rfl, rfl⟩ := h35
          refine hG.if_ne (tgt := 44) dX4_comes_38 rfl (fun c_38 => ?_) (fun c_38 => ?_)
          · obtain ⟨kk, hkk, rfl⟩ := idx_le (n := k) (m := 2) (by decide) (b2i_1 c_22)
            obtain ⟨i, hi, rfl⟩ := idx_le (n := f) (by omega) (b2i_1 c_5)
            obtain ⟨j, hj, rfl⟩ := idx_le (n := t) (by omega) (b2i_1 c_13)
            have hk3 : kk < 3 := by omega
            have hg : gco kk i j < 147 := gco_lt hk3 (by omega) (by omega)
            have hn9 := b2i_1 c_38
            obtain ⟨g1, g2⟩ := inR_iff.mp hn9
            have ho : comO (nI kk) (nI i) (nI j) n R = _ := if_pos ⟨b2i_1 c_5, b2i_1 c_13⟩
            rw [if_pos ⟨b2i_1 c_22, c_27, hn9⟩, nI_clamp (by omega), nI_clamp (by omega), nI_clamp (by omega)] at ho
            refine hG.iload_n dX4_comes_44 rfl ?_
            refine hG.iload_n dX4_comes_45 rfl ?_
            refine hG.iload_n dX4_comes_46 rfl ?_
            refine hG.callS dX4_comes_47 ks_X4_94 (sp_X4_groupAt hΓ) rfl rfl (Nat.le_of_ble_eq_true rfl) (by decide) (by omega) (by omega) (fun r47 I47 L47 hI47 h47 => ?_) (fun _ _ _ _ _ h => h.elim)
            obtain ⟨rfl, rfl, rfl⟩ := h47
            refine hG.istore dX4_comes_50 (by decide) ?_
            refine hG.aload_n dX4_comes_52 rfl ?_
            refine hG.get dX4_comes_53 fg_X4_21_X4 (Or.inl mdL_m) rfl ?_
            refine hG.bipush (v := 64) dX4_comes_56 rfl ?_
            refine hG.iload dX4_comes_58 rfl ?_
            refine hG.iadd dX4_comes_60 ?_
            refine hG.nld hA (64 + gco kk i j) dX4_comes_61 (ix1 64 _) (by omega) (hR.w hg) ?_
            refine hG.iload dX4_comes_62 rfl ?_
            refine hG.iadd dX4_comes_64 ?_
            refine hG.sipush (v := 999) dX4_comes_65 rfl ?_
            refine hG.icmp_le (tgt := 80) dX4_comes_68 rfl (fun c_68 => ?_) (fun c_68 => ?_)
            · rw [if_pos c_68] at ho
              have hx0 : n ≠ 0 := fun e => absurd (e ▸ g1 : (1 : Int32) ≤ 0) (by decide)
              obtain ⟨cm, rk, hcm, hcN, -⟩ := hR.or
              by_cases h0 : tof R.wa (gco kk i j) = 0
              · refine hG.aload_n dX4_comes_80 rfl ?_
                refine hG.get dX4_comes_81 fg_X4_21_X4 (Or.inl mdL_m) rfl ?_
                refine hG.bipush (v := 64) dX4_comes_84 rfl ?_
                refine hG.iload dX4_comes_86 rfl ?_
                refine hG.iadd dX4_comes_88 ?_
                refine hG.nld hA (64 + gco kk i j) dX4_comes_89 (ix1 64 _) (by omega) (hR.w hg) ?_
                refine hG.if_ne (tgt := 116) dX4_comes_90 rfl (fun c_90 => absurd h0 c_90) (fun c_90 => ?_)
                refine hG.aload_n dX4_comes_93 rfl ?_
                refine hG.get dX4_comes_94 fg_X4_21_X4 (Or.inl mdL_m) rfl ?_
                refine hG.sipush (v := 211) dX4_comes_97 rfl ?_
                refine hG.iload dX4_comes_100 rfl ?_
                refine hG.iadd dX4_comes_102 ?_
                rw [show (211 : Int32) + nI (gco kk i j) = nI (211 + gco kk i j) from ix1 211 _]
                refine hG.aload_n dX4_comes_103 rfl ?_
                refine hG.get dX4_comes_104 fg_X4_21_X4 (Or.inl mdL_m) rfl ?_
                refine hG.bipush (v := 9) dX4_comes_107 rfl ?_
                refine hG.dup2 dX4_comes_109 rfl rfl ?_
                refine hG.nld hA (9) (v := nI cm) dX4_comes_110 rfl (by decide) hcm ?_
                refine hG.iconst (v := 1) dX4_comes_111 rfl ?_
                refine hG.iadd dX4_comes_112 ?_
                rw [nI_1]
                refine hG.dup_x2 dX4_comes_113 rfl rfl rfl ?_
                refine hG.nst hA (9) dX4_comes_114 rfl (by decide) ?_
                refine hG.nst hA (211 + gco kk i j) dX4_comes_115 rfl (by omega) ?_
                refine hG.aload_n dX4_comes_116 rfl ?_
                refine hG.get dX4_comes_117 fg_X4_21_X4 (Or.inl mdL_m) rfl ?_
                refine hG.bipush (v := 64) dX4_comes_120 rfl ?_
                refine hG.iload dX4_comes_122 rfl ?_
                refine hG.iadd dX4_comes_124 ?_
                rw [show (64 : Int32) + nI (gco kk i j) = nI (64 + gco kk i j) from ix1 64 _]
                refine hG.dup2 dX4_comes_125 rfl rfl ?_
                refine hG.nld hA (64 + gco kk i j) (v := tof R.wa (gco kk i j)) dX4_comes_126 rfl (by omega) (by
                  rw [nw_w, va_ne, nw_w, va_ne]
                  · exact (hR.w hg)
                  all_goals omega) ?_
                refine hG.iload dX4_comes_127 rfl ?_
                refine hG.iadd dX4_comes_129 ?_
                refine hG.nst hA (64 + gco kk i j) dX4_comes_130 rfl (by omega) ?_
                refine hG.aload_n dX4_comes_131 rfl ?_
                refine hG.aload_n dX4_comes_132 rfl ?_
                refine hG.get dX4_comes_133 fg_X4_21_X4 (Or.inl mdL_m) rfl ?_
                refine hG.bipush (v := 64) dX4_comes_136 rfl ?_
                refine hG.iload dX4_comes_138 rfl ?_
                refine hG.iadd dX4_comes_140 ?_
                rw [show (64 : Int32) + nI (gco kk i j) = nI (64 + gco kk i j) from ix1 64 _]
                refine hG.nld hA (64 + gco kk i j) (v := tof R.wa (gco kk i j) + n) dX4_comes_141 rfl (by omega) (by
                  rw [nw_w, va_eq rfl]
                  all_goals omega) ?_
                refine hG.callV dX4_comes_142 kv_X4_124 (Rcv.raw mdL_m cl_X4) (sp_X4_does hΓ) rfl rfl (Nat.le_of_ble_eq_true rfl) (by decide) (by omega) (by omega) (fun r142 I142 L142 hI142 h142 => ?_) (fun _ _ _ _ _ h => h.elim)
                obtain ⟨rfl, rfl, rfl⟩ := h142
                refine hG.iret dX4_comes_145 rfl ?_ (by omega) (by omega) trivial
                exact pIs.d ho (hR.comN hw hg h0 hx0 hcm hcN (by omega))
              · refine hG.aload_n dX4_comes_80 rfl ?_
                refine hG.get dX4_comes_81 fg_X4_21_X4 (Or.inl mdL_m) rfl ?_
                refine hG.bipush (v := 64) dX4_comes_84 rfl ?_
                refine hG.iload dX4_comes_86 rfl ?_
                refine hG.iadd dX4_comes_88 ?_
                refine hG.nld hA (64 + gco kk i j) dX4_comes_89 (ix1 64 _) (by omega) (hR.w hg) ?_
                refine hG.if_ne (tgt := 116) dX4_comes_90 rfl (fun c_90 => ?_) (fun c_90 => absurd c_90 h0)
                refine hG.aload_n dX4_comes_116 rfl ?_
                refine hG.get dX4_comes_117 fg_X4_21_X4 (Or.inl mdL_m) rfl ?_
                refine hG.bipush (v := 64) dX4_comes_120 rfl ?_
                refine hG.iload dX4_comes_122 rfl ?_
                refine hG.iadd dX4_comes_124 ?_
                rw [show (64 : Int32) + nI (gco kk i j) = nI (64 + gco kk i j) from ix1 64 _]
                refine hG.dup2 dX4_comes_125 rfl rfl ?_
                refine hG.nld hA (64 + gco kk i j) dX4_comes_126 rfl (by omega) (hR.w hg) ?_
                refine hG.iload dX4_comes_127 rfl ?_
                refine hG.iadd dX4_comes_129 ?_
                refine hG.nst hA (64 + gco kk i j) dX4_comes_130 rfl (by omega) ?_
                refine hG.aload_n dX4_comes_131 rfl ?_
                refine hG.aload_n dX4_comes_132 rfl ?_
                refine hG.get dX4_comes_133 fg_X4_21_X4 (Or.inl mdL_m) rfl ?_
                refine hG.bipush (v := 64) dX4_comes_136 rfl ?_
                refine hG.iload dX4_comes_138 rfl ?_
                refine hG.iadd dX4_comes_140 ?_
                rw [show (64 : Int32) + nI (gco kk i j) = nI (64 + gco kk i j) from ix1 64 _]
                refine hG.nld hA (64 + gco kk i j) (v := tof R.wa (gco kk i j) + n) dX4_comes_141 rfl (by omega) (by
                  rw [nw_w, va_eq rfl]
                  all_goals omega) ?_
                refine hG.callV dX4_comes_142 kv_X4_124 (Rcv.raw mdL_m cl_X4) (sp_X4_does hΓ) rfl rfl (Nat.le_of_ble_eq_true rfl) (by decide) (by omega) (by omega) (fun r142 I142 L142 hI142 h142 => ?_) (fun _ _ _ _ _ h => h.elim)
                obtain ⟨rfl, rfl, rfl⟩ := h142
                refine hG.iret dX4_comes_145 rfl ?_ (by omega) (by omega) trivial
                exact pIs.d ho ((hR.comO hw hg h0 (comes_ne hw.wa g1 g2)).mono (Nat.le_succ N))
            · refine hG.aload_n dX4_comes_71 rfl ?_
              refine hG.iconst (v := 1) dX4_comes_72 rfl ?_
              refine hG.sipush (v := 999) dX4_comes_73 rfl ?_
              refine hG.callV dX4_comes_76 kv_X4_87 (Rcv.raw mdL_m cl_X4) (sp_X4_why hΓ) rfl rfl (Nat.le_of_ble_eq_true rfl) (by decide) (by omega) (by omega) (fun r76 I76 L76 hI76 h76 => ?_) (fun _ _ _ _ _ h => h.elim)
              obtain ⟨rfl, rfl, rfl⟩ := h76
              refine hG.iret dX4_comes_79 rfl ?_ (by omega) (by omega) trivial
              exact pIs.r (a := V.an) (ho.trans (if_neg c_68)) (show (0 : Int32) < 1 by decide)
          · refine hG.bipush (v := -2) dX4_comes_41 rfl ?_
            refine hG.iret dX4_comes_43 rfl ?_ (by omega) (by omega) trivial
            have ho : comO k f t n R = _ := if_pos ⟨b2i_1 c_5, b2i_1 c_13⟩
            exact pIs.e (b := true) (a := V.an) (ho.trans (if_neg (fun q => bFT (b2i_0 c_38) q.2.2))) rfl
    · refine hG.iconst (v := -1) dX4_comes_16 rfl ?_
      refine hG.iret dX4_comes_17 rfl ?_ (by omega) (by omega) trivial
      first
      | exact pIs.e (b := false) (a := V.an) (if_neg (fun q => bFT (b2i_0 c_5) q.1)) rfl
      | exact pIs.e (b := false) (a := V.an) (if_neg (fun q => bFT (b2i_0 c_13) q.2)) rfl
theorem b2i_rng (w : Bool) : inR (b2i w) 0 1 = true := by cases w <;> decide
theorem b2i_dec (w : Bool) : decide (b2i w = 1) = w := by cases w <;> decide
set_option maxHeartbeats 4000000 in
set_option maxRecDepth 100000 in
theorem sp_X4_boards {l : Launch} {s0 : State} {D : va_G} {I : AI} {L : AL} {m : Nat} {A : MA} {V : MV} {N : Nat} {R : Rv} (hΓ : Gam l s0 D) (hA : MOk m A) (hR : Rep N R V.nw) (hw : Wf N R) {k t n : Int32} {w : Bool} : Spc l s0 D yX4_boards 4 [.ref m, .int k, .int t, .int n, .int (b2i w)] I (mdL L m A V) 0 0 (pIs N I L m A V (fun b => match b with | true => -2 | false => -1) (boaO k t n (b2i w) R)) noX := by
  refine Spc.of hΓ cX4_boards 7 (some FieldType.int) q3500 (by decide +kernel) (by decide) (Nat.le_of_ble_eq_true rfl) (fun G GX hG => ?_)
  rcases w with _ | _
  · have hl6 := hw.ch6
    have hl5 := hw.fl5
    have ha6 := hw.an6
    refine hG.aload_n dX4_boards_0 rfl ?_
    refine hG.iload_n dX4_boards_1 rfl ?_
    refine hG.callV dX4_boards_2 kv_X4_158 (Rcv.raw mdL_m cl_X4) (sp_X4_isStop hΓ hA hR hw) rfl rfl (Nat.le_of_ble_eq_true rfl) (by decide) (by omega) (by omega) (fun r2 I2 L2 hI2 h2 => ?_) (fun _ _ _ _ _ h => h.elim)
    obtain ⟨rfl, rfl, rfl⟩ := h2
    refine hG.if_ne (tgt := 10) dX4_boards_5 rfl (fun c_5 => ?_) (fun c_5 => ?_)
    · refine hG.iload_n dX4_boards_10 rfl ?_
      refine hG.callS dX4_boards_11 ks_X4_161 (sp_X4_isKind hΓ) rfl rfl (Nat.le_of_ble_eq_true rfl) (by decide) (by omega) (by omega) (fun r11 I11 L11 hI11 h11 => ?_) (fun _ _ _ _ _ h => h.elim)
      obtain ⟨rfl, rfl, rfl⟩ := h11
      refine hG.if_eq (tgt := 27) dX4_boards_14 rfl (fun c_14 => ?_) (fun c_14 => ?_)
      · refine hG.bipush (v := -2) dX4_boards_27 rfl ?_
        refine hG.iret dX4_boards_29 rfl ?_ (by omega) (by omega) trivial
        have ho : boaO k t n (b2i false) R = _ := if_pos (b2i_1 c_5)
        first
        | exact pIs.e (b := true) (a := V.an) (ho.trans (if_neg (fun q => bFT (b2i_0 c_14) q.1))) rfl
        | exact pIs.e (b := true) (a := V.an) (ho.trans (if_neg (fun q => bFT (b2i_0 c_24) q.2.1))) rfl
      · refine hG.iload_n dX4_boards_17 rfl ?_
        refine hG.iconst (v := 1) dX4_boards_18 rfl ?_
        refine hG.bipush (v := 99) dX4_boards_19 rfl ?_
        refine hG.callS dX4_boards_21 ks_X4_80 (sp_X4_in hΓ) rfl rfl (Nat.le_of_ble_eq_true rfl) (by decide) (by omega) (by omega) (fun r21 I21 L21 hI21 h21 => ?_) (fun _ _ _ _ _ h => h.elim)
        obtain ⟨rfl, rfl, rfl⟩ := h21
        refine hG.if_ne (tgt := 30) dX4_boards_24 rfl (fun c_24 => ?_) (fun c_24 => ?_)
        · obtain ⟨kk, hkk, rfl⟩ := idx_le (n := k) (m := 2) (by decide) (b2i_1 c_14)
          obtain ⟨i, hi, hst⟩ := hw.st
          obtain ⟨j, hj, rfl⟩ := idx_le (n := t) (by omega) (b2i_1 c_5)
          have hk3 : kk < 3 := by omega
          have hg : gco kk i j < 147 := gco_lt hk3 (by omega) (by omega)
          have hn9 := b2i_1 c_24
          obtain ⟨g1, g2⟩ := inR_iff.mp hn9
          have ho : boaO (nI kk) (nI j) n (b2i false) R = _ := if_pos (b2i_1 c_5)
          rw [if_pos ⟨b2i_1 c_14, hn9, b2i_rng false⟩, hst, nI_clamp (by omega), nI_clamp (by omega), nI_clamp (by omega), b2i_dec false] at ho
          have hwg : wof (nI kk) = wgt (gco kk i j) := by unfold wgt; rw [(gco_p (by omega) (by omega)).1]
          refine hG.iload_n dX4_boards_30 rfl ?_
          refine hG.aload_n dX4_boards_31 rfl ?_
          refine hG.get dX4_boards_32 fg_X4_21_X4 (Or.inl mdL_m) rfl ?_
          refine hG.iconst (v := 4) dX4_boards_35 rfl ?_
          refine hG.nld hA (4) dX4_boards_36 rfl (by decide) (hR.k4.trans hst) ?_
          refine hG.iload_n dX4_boards_37 rfl ?_
          refine hG.callS dX4_boards_38 ks_X4_94 (sp_X4_groupAt hΓ) rfl rfl (Nat.le_of_ble_eq_true rfl) (by decide) (by omega) (by omega) (fun r38 I38 L38 hI38 h38 => ?_) (fun _ _ _ _ _ h => h.elim)
          obtain ⟨rfl, rfl, rfl⟩ := h38
          refine hG.istore dX4_boards_41 (by decide) ?_
          refine hG.aload_n dX4_boards_43 rfl ?_
          refine hG.get dX4_boards_44 fg_X4_21_X4 (Or.inl mdL_m) rfl ?_
          refine hG.bipush (v := 64) dX4_boards_47 rfl ?_
          refine hG.iload dX4_boards_49 rfl ?_
          refine hG.iadd dX4_boards_51 ?_
          refine hG.nld hA (64 + gco kk i j) dX4_boards_52 (ix1 64 _) (by omega) (hR.w hg) ?_
          refine hG.iload_n dX4_boards_53 rfl ?_
          refine hG.icmp_ge (tgt := 74) dX4_boards_54 rfl (fun c_54 => ?_) (fun c_54 => ?_)
          · have hb2 : n ≤ tof R.wa (gco kk i j) := c_54
            rw [show brdO R (gco kk i j) n false = _ from if_pos hb2] at ho
            refine hG.aload_n dX4_boards_74 rfl ?_
            refine hG.callV dX4_boards_75 kv_X4_142 (Rcv.raw mdL_m cl_X4) (sp_X4_aboard hΓ hA hR hw) rfl rfl (Nat.le_of_ble_eq_true rfl) (by decide) (by omega) (by omega) (fun r75 I75 L75 hI75 h75 => ?_) (fun _ _ _ _ _ h => h.elim)
            obtain ⟨rfl, rfl, rfl⟩ := h75
            refine hG.iload_n dX4_boards_78 rfl ?_
            refine hG.iload_n dX4_boards_79 rfl ?_
            refine hG.callS dX4_boards_80 ks_X4_136 (sp_X4_weighs hΓ) rfl rfl (Nat.le_of_ble_eq_true rfl) (by decide) (by omega) (by omega) (fun r80 I80 L80 hI80 h80 => ?_) (fun _ _ _ _ _ h => h.elim)
            obtain ⟨rfl, rfl, rfl⟩ := h80
            rw [hwg]
            refine hG.imul dX4_boards_83 ?_
            refine hG.iadd dX4_boards_84 ?_
            refine hG.istore dX4_boards_85 (by decide) ?_
            refine hG.iload dX4_boards_87 rfl ?_
            refine hG.bipush (v := 60) dX4_boards_89 rfl ?_
            refine hG.icmp_le (tgt := 103) dX4_boards_91 rfl (fun c_91 => ?_) (fun c_91 => ?_)
            · rw [if_pos (show ldR R + n * wgt (gco kk i j) ≤ 60 from c_91)] at ho
              refine hG.aload_n dX4_boards_103 rfl ?_
              refine hG.get dX4_boards_104 fg_X4_21_X4 (Or.inl mdL_m) rfl ?_
              refine hG.bipush (v := 64) dX4_boards_107 rfl ?_
              refine hG.iload dX4_boards_109 rfl ?_
              refine hG.iadd dX4_boards_111 ?_
              rw [show (64 : Int32) + nI (gco kk i j) = nI (64 + gco kk i j) from ix1 64 _]
              refine hG.dup2 dX4_boards_112 rfl rfl ?_
              refine hG.nld hA (64 + gco kk i j) dX4_boards_113 rfl (by omega) (hR.w hg) ?_
              refine hG.iload_n dX4_boards_114 rfl ?_
              refine hG.isub dX4_boards_115 ?_
              rw [Int32.sub_eq_add_neg]
              refine hG.nst hA (64 + gco kk i j) dX4_boards_116 rfl (by omega) ?_
              refine hG.aload_n dX4_boards_117 rfl ?_
              refine hG.get dX4_boards_118 fg_X4_21_X4 (Or.inl mdL_m) rfl ?_
              refine hG.iload dX4_boards_121 rfl ?_
              refine hG.if_eq (tgt := 132) dX4_boards_123 rfl (fun c_123 => ?_) (fun c_123 => absurd rfl c_123)
              refine hG.sipush (v := 358) dX4_boards_132 rfl ?_
              refine hG.iload dX4_boards_135 rfl ?_
              refine hG.iadd dX4_boards_137 ?_
              rw [show (358 : Int32) + nI (gco kk i j) = nI (358 + gco kk i j) from ix1 358 _]
              refine hG.dup2 dX4_boards_138 rfl rfl ?_
              refine hG.nld hA (358 + gco kk i j) (v := tof R.fo (gco kk i j)) dX4_boards_139 rfl (by omega) (by
                rw [nw_w, va_ne]
                · exact (hR.fo hg)
                all_goals omega) ?_
              refine hG.iload_n dX4_boards_140 rfl ?_
              refine hG.iadd dX4_boards_141 ?_
              refine hG.nst hA (358 + gco kk i j) dX4_boards_142 rfl (by omega) ?_
              refine hG.aload_n dX4_boards_143 rfl ?_
              refine hG.iload dX4_boards_144 rfl ?_
              refine hG.callV dX4_boards_146 kv_X4_124 (Rcv.raw mdL_m cl_X4) (sp_X4_does hΓ) rfl rfl (Nat.le_of_ble_eq_true rfl) (by decide) (by omega) (by omega) (fun r146 I146 L146 hI146 h146 => ?_) (fun _ _ _ _ _ h => h.elim)
              obtain ⟨rfl, rfl, rfl⟩ := h146
              refine hG.iret dX4_boards_149 rfl ?_ (by omega) (by omega) trivial
              exact pIs.d ho ((hR.brdFo hw hg (fun e => by rw [e] at hb2; exact absurd (Int32.le_trans g1 hb2) (by decide))).mono (Nat.le_succ N))
            · refine hG.aload_n dX4_boards_94 rfl ?_
              refine hG.bipush (v := 7) dX4_boards_95 rfl ?_
              refine hG.iload dX4_boards_97 rfl ?_
              refine hG.callV dX4_boards_99 kv_X4_87 (Rcv.raw mdL_m cl_X4) (sp_X4_why hΓ) rfl rfl (Nat.le_of_ble_eq_true rfl) (by decide) (by omega) (by omega) (fun r99 I99 L99 hI99 h99 => ?_) (fun _ _ _ _ _ h => h.elim)
              obtain ⟨rfl, rfl, rfl⟩ := h99
              refine hG.iret dX4_boards_102 rfl ?_ (by omega) (by omega) trivial
              exact pIs.r (a := V.an) (ho.trans (if_neg c_91)) (show (0 : Int32) < 7 by decide)
          · refine hG.aload_n dX4_boards_57 rfl ?_
            refine hG.bipush (v := 8) dX4_boards_58 rfl ?_
            refine hG.aload_n dX4_boards_60 rfl ?_
            refine hG.get dX4_boards_61 fg_X4_21_X4 (Or.inl mdL_m) rfl ?_
            refine hG.bipush (v := 64) dX4_boards_64 rfl ?_
            refine hG.iload dX4_boards_66 rfl ?_
            refine hG.iadd dX4_boards_68 ?_
            refine hG.nld hA (64 + gco kk i j) dX4_boards_69 (ix1 64 _) (by omega) (hR.w hg) ?_
            refine hG.callV dX4_boards_70 kv_X4_87 (Rcv.raw mdL_m cl_X4) (sp_X4_why hΓ) rfl rfl (Nat.le_of_ble_eq_true rfl) (by decide) (by omega) (by omega) (fun r70 I70 L70 hI70 h70 => ?_) (fun _ _ _ _ _ h => h.elim)
            obtain ⟨rfl, rfl, rfl⟩ := h70
            refine hG.iret dX4_boards_73 rfl ?_ (by omega) (by omega) trivial
            exact pIs.r (a := V.an) (ho.trans (if_neg c_54)) (show (0 : Int32) < 8 by decide)
        · refine hG.bipush (v := -2) dX4_boards_27 rfl ?_
          refine hG.iret dX4_boards_29 rfl ?_ (by omega) (by omega) trivial
          have ho : boaO k t n (b2i false) R = _ := if_pos (b2i_1 c_5)
          first
          | exact pIs.e (b := true) (a := V.an) (ho.trans (if_neg (fun q => bFT (b2i_0 c_14) q.1))) rfl
          | exact pIs.e (b := true) (a := V.an) (ho.trans (if_neg (fun q => bFT (b2i_0 c_24) q.2.1))) rfl
    · refine hG.iconst (v := -1) dX4_boards_8 rfl ?_
      refine hG.iret dX4_boards_9 rfl ?_ (by omega) (by omega) trivial
      first
      | exact pIs.e (b := false) (a := V.an) (if_neg (bFT (b2i_0 c_5))) rfl
  · have hl6 := hw.ch6
    have hl5 := hw.fl5
    have ha6 := hw.an6
    refine hG.aload_n dX4_boards_0 rfl ?_
    refine hG.iload_n dX4_boards_1 rfl ?_
    refine hG.callV dX4_boards_2 kv_X4_158 (Rcv.raw mdL_m cl_X4) (sp_X4_isStop hΓ hA hR hw) rfl rfl (Nat.le_of_ble_eq_true rfl) (by decide) (by omega) (by omega) (fun r2 I2 L2 hI2 h2 => ?_) (fun _ _ _ _ _ h => h.elim)
    obtain ⟨rfl, rfl, rfl⟩ := h2
    refine hG.if_ne (tgt := 10) dX4_boards_5 rfl (fun c_5 => ?_) (fun c_5 => ?_)
    · refine hG.iload_n dX4_boards_10 rfl ?_
      refine hG.callS dX4_boards_11 ks_X4_161 (sp_X4_isKind hΓ) rfl rfl (Nat.le_of_ble_eq_true rfl) (by decide) (by omega) (by omega) (fun r11 I11 L11 hI11 h11 => ?_) (fun _ _ _ _ _ h => h.elim)
      obtain ⟨rfl, rfl, rfl⟩ := h11
      refine hG.if_eq (tgt := 27) dX4_boards_14 rfl (fun c_14 => ?_) (fun c_14 => ?_)
      · refine hG.bipush (v := -2) dX4_boards_27 rfl ?_
        refine hG.iret dX4_boards_29 rfl ?_ (by omega) (by omega) trivial
        have ho : boaO k t n (b2i true) R = _ := if_pos (b2i_1 c_5)
        first
        | exact pIs.e (b := true) (a := V.an) (ho.trans (if_neg (fun q => bFT (b2i_0 c_14) q.1))) rfl
        | exact pIs.e (b := true) (a := V.an) (ho.trans (if_neg (fun q => bFT (b2i_0 c_24) q.2.1))) rfl
      · refine hG.iload_n dX4_boards_17 rfl ?_
        refine hG.iconst (v := 1) dX4_boards_18 rfl ?_
        refine hG.bipush (v := 99) dX4_boards_19 rfl ?_
        refine hG.callS dX4_boards_21 ks_X4_80 (sp_X4_in hΓ) rfl rfl (Nat.le_of_ble_eq_true rfl) (by decide) (by omega) (by omega) (fun r21 I21 L21 hI21 h21 => ?_) (fun _ _ _ _ _ h => h.elim)
        obtain ⟨rfl, rfl, rfl⟩ := h21
        refine hG.if_ne (tgt := 30) dX4_boards_24 rfl (fun c_24 => ?_) (fun c_24 => ?_)
        · obtain ⟨kk, hkk, rfl⟩ := idx_le (n := k) (m := 2) (by decide) (b2i_1 c_14)
          obtain ⟨i, hi, hst⟩ := hw.st
          obtain ⟨j, hj, rfl⟩ := idx_le (n := t) (by omega) (b2i_1 c_5)
          have hk3 : kk < 3 := by omega
          have hg : gco kk i j < 147 := gco_lt hk3 (by omega) (by omega)
          have hn9 := b2i_1 c_24
          obtain ⟨g1, g2⟩ := inR_iff.mp hn9
          have ho : boaO (nI kk) (nI j) n (b2i true) R = _ := if_pos (b2i_1 c_5)
          rw [if_pos ⟨b2i_1 c_14, hn9, b2i_rng true⟩, hst, nI_clamp (by omega), nI_clamp (by omega), nI_clamp (by omega), b2i_dec true] at ho
          have hwg : wof (nI kk) = wgt (gco kk i j) := by unfold wgt; rw [(gco_p (by omega) (by omega)).1]
          refine hG.iload_n dX4_boards_30 rfl ?_
          refine hG.aload_n dX4_boards_31 rfl ?_
          refine hG.get dX4_boards_32 fg_X4_21_X4 (Or.inl mdL_m) rfl ?_
          refine hG.iconst (v := 4) dX4_boards_35 rfl ?_
          refine hG.nld hA (4) dX4_boards_36 rfl (by decide) (hR.k4.trans hst) ?_
          refine hG.iload_n dX4_boards_37 rfl ?_
          refine hG.callS dX4_boards_38 ks_X4_94 (sp_X4_groupAt hΓ) rfl rfl (Nat.le_of_ble_eq_true rfl) (by decide) (by omega) (by omega) (fun r38 I38 L38 hI38 h38 => ?_) (fun _ _ _ _ _ h => h.elim)
          obtain ⟨rfl, rfl, rfl⟩ := h38
          refine hG.istore dX4_boards_41 (by decide) ?_
          refine hG.aload_n dX4_boards_43 rfl ?_
          refine hG.get dX4_boards_44 fg_X4_21_X4 (Or.inl mdL_m) rfl ?_
          refine hG.bipush (v := 64) dX4_boards_47 rfl ?_
          refine hG.iload dX4_boards_49 rfl ?_
          refine hG.iadd dX4_boards_51 ?_
          refine hG.nld hA (64 + gco kk i j) dX4_boards_52 (ix1 64 _) (by omega) (hR.w hg) ?_
          refine hG.iload_n dX4_boards_53 rfl ?_
          refine hG.icmp_ge (tgt := 74) dX4_boards_54 rfl (fun c_54 => ?_) (fun c_54 => ?_)
          · have hb2 : n ≤ tof R.wa (gco kk i j) := c_54
            rw [show brdO R (gco kk i j) n true = _ from if_pos hb2] at ho
            refine hG.aload_n dX4_boards_74 rfl ?_
            refine hG.callV dX4_boards_75 kv_X4_142 (Rcv.raw mdL_m cl_X4) (sp_X4_aboard hΓ hA hR hw) rfl rfl (Nat.le_of_ble_eq_true rfl) (by decide) (by omega) (by omega) (fun r75 I75 L75 hI75 h75 => ?_) (fun _ _ _ _ _ h => h.elim)
            obtain ⟨rfl, rfl, rfl⟩ := h75
            refine hG.iload_n dX4_boards_78 rfl ?_
            refine hG.iload_n dX4_boards_79 rfl ?_
            refine hG.callS dX4_boards_80 ks_X4_136 (sp_X4_weighs hΓ) rfl rfl (Nat.le_of_ble_eq_true rfl) (by decide) (by omega) (by omega) (fun r80 I80 L80 hI80 h80 => ?_) (fun _ _ _ _ _ h => h.elim)
            obtain ⟨rfl, rfl, rfl⟩ := h80
            rw [hwg]
            refine hG.imul dX4_boards_83 ?_
            refine hG.iadd dX4_boards_84 ?_
            refine hG.istore dX4_boards_85 (by decide) ?_
            refine hG.iload dX4_boards_87 rfl ?_
            refine hG.bipush (v := 60) dX4_boards_89 rfl ?_
            refine hG.icmp_le (tgt := 103) dX4_boards_91 rfl (fun c_91 => ?_) (fun c_91 => ?_)
            · rw [if_pos (show ldR R + n * wgt (gco kk i j) ≤ 60 from c_91)] at ho
              refine hG.aload_n dX4_boards_103 rfl ?_
              refine hG.get dX4_boards_104 fg_X4_21_X4 (Or.inl mdL_m) rfl ?_
              refine hG.bipush (v := 64) dX4_boards_107 rfl ?_
              refine hG.iload dX4_boards_109 rfl ?_
              refine hG.iadd dX4_boards_111 ?_
              rw [show (64 : Int32) + nI (gco kk i j) = nI (64 + gco kk i j) from ix1 64 _]
              refine hG.dup2 dX4_boards_112 rfl rfl ?_
              refine hG.nld hA (64 + gco kk i j) dX4_boards_113 rfl (by omega) (hR.w hg) ?_
              refine hG.iload_n dX4_boards_114 rfl ?_
              refine hG.isub dX4_boards_115 ?_
              rw [Int32.sub_eq_add_neg]
              refine hG.nst hA (64 + gco kk i j) dX4_boards_116 rfl (by omega) ?_
              refine hG.aload_n dX4_boards_117 rfl ?_
              refine hG.get dX4_boards_118 fg_X4_21_X4 (Or.inl mdL_m) rfl ?_
              refine hG.iload dX4_boards_121 rfl ?_
              refine hG.if_eq (tgt := 132) dX4_boards_123 rfl (fun c_123 => absurd c_123 (by decide)) (fun c_123 => ?_)
              refine hG.sipush (v := 505) dX4_boards_126 rfl ?_
              refine hG.goto (tgt := 135) dX4_boards_129 rfl ?_
              refine hG.iload dX4_boards_135 rfl ?_
              refine hG.iadd dX4_boards_137 ?_
              rw [show (505 : Int32) + nI (gco kk i j) = nI (505 + gco kk i j) from ix1 505 _]
              refine hG.dup2 dX4_boards_138 rfl rfl ?_
              refine hG.nld hA (505 + gco kk i j) (v := tof R.af (gco kk i j)) dX4_boards_139 rfl (by omega) (by
                rw [nw_w, va_ne]
                · exact (hR.af hg)
                all_goals omega) ?_
              refine hG.iload_n dX4_boards_140 rfl ?_
              refine hG.iadd dX4_boards_141 ?_
              refine hG.nst hA (505 + gco kk i j) dX4_boards_142 rfl (by omega) ?_
              refine hG.aload_n dX4_boards_143 rfl ?_
              refine hG.iload dX4_boards_144 rfl ?_
              refine hG.callV dX4_boards_146 kv_X4_124 (Rcv.raw mdL_m cl_X4) (sp_X4_does hΓ) rfl rfl (Nat.le_of_ble_eq_true rfl) (by decide) (by omega) (by omega) (fun r146 I146 L146 hI146 h146 => ?_) (fun _ _ _ _ _ h => h.elim)
              obtain ⟨rfl, rfl, rfl⟩ := h146
              refine hG.iret dX4_boards_149 rfl ?_ (by omega) (by omega) trivial
              exact pIs.d ho ((hR.brdAf hw hg (fun e => by rw [e] at hb2; exact absurd (Int32.le_trans g1 hb2) (by decide))).mono (Nat.le_succ N))
            · refine hG.aload_n dX4_boards_94 rfl ?_
              refine hG.bipush (v := 7) dX4_boards_95 rfl ?_
              refine hG.iload dX4_boards_97 rfl ?_
              refine hG.callV dX4_boards_99 kv_X4_87 (Rcv.raw mdL_m cl_X4) (sp_X4_why hΓ) rfl rfl (Nat.le_of_ble_eq_true rfl) (by decide) (by omega) (by omega) (fun r99 I99 L99 hI99 h99 => ?_) (fun _ _ _ _ _ h => h.elim)
              obtain ⟨rfl, rfl, rfl⟩ := h99
              refine hG.iret dX4_boards_102 rfl ?_ (by omega) (by omega) trivial
              exact pIs.r (a := V.an) (ho.trans (if_neg c_91)) (show (0 : Int32) < 7 by decide)
          · refine hG.aload_n dX4_boards_57 rfl ?_
            refine hG.bipush (v := 8) dX4_boards_58 rfl ?_
            refine hG.aload_n dX4_boards_60 rfl ?_
            refine hG.get dX4_boards_61 fg_X4_21_X4 (Or.inl mdL_m) rfl ?_
            refine hG.bipush (v := 64) dX4_boards_64 rfl ?_
            refine hG.iload dX4_boards_66 rfl ?_
            refine hG.iadd dX4_boards_68 ?_
            refine hG.nld hA (64 + gco kk i j) dX4_boards_69 (ix1 64 _) (by omega) (hR.w hg) ?_
            refine hG.callV dX4_boards_70 kv_X4_87 (Rcv.raw mdL_m cl_X4) (sp_X4_why hΓ) rfl rfl (Nat.le_of_ble_eq_true rfl) (by decide) (by omega) (by omega) (fun r70 I70 L70 hI70 h70 => ?_) (fun _ _ _ _ _ h => h.elim)
            obtain ⟨rfl, rfl, rfl⟩ := h70
            refine hG.iret dX4_boards_73 rfl ?_ (by omega) (by omega) trivial
            exact pIs.r (a := V.an) (ho.trans (if_neg c_54)) (show (0 : Int32) < 8 by decide)
        · refine hG.bipush (v := -2) dX4_boards_27 rfl ?_
          refine hG.iret dX4_boards_29 rfl ?_ (by omega) (by omega) trivial
          have ho : boaO k t n (b2i true) R = _ := if_pos (b2i_1 c_5)
          first
          | exact pIs.e (b := true) (a := V.an) (ho.trans (if_neg (fun q => bFT (b2i_0 c_14) q.1))) rfl
          | exact pIs.e (b := true) (a := V.an) (ho.trans (if_neg (fun q => bFT (b2i_0 c_24) q.2.1))) rfl
    · refine hG.iconst (v := -1) dX4_boards_8 rfl ?_
      refine hG.iret dX4_boards_9 rfl ?_ (by omega) (by omega) trivial
      first
      | exact pIs.e (b := false) (a := V.an) (if_neg (bFT (b2i_0 c_5))) rfl
