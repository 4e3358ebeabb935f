/-! bytes compared and sought -/
set_option maxHeartbeats 4000000 in
set_option maxRecDepth 100000 in
theorem sp_J26_equals {l : Launch} {s0 : State} {D : va_G} {I : AI} {L : AL} (hΓ : Gam l s0 D) {a b n m : Nat} {f g : Nat → Int32} (ha : Rd I L a (arB n f)) (hb : Rd I L b (arB m g)) (hn : n < 2 ^ 28) (hm : m < 2 ^ 28) : Spc l s0 D yJ26_equals 1 [.ref a, .ref b] I L 0 0 (pV (.int (b2i (decide (n = m ∧ ∀ t, t < n → f t = g t)))) I L) noX := by
  refine Spc.of hΓ cJ26_equals 3 (some FieldType.boolean) q1154 (by decide +kernel) (by decide) (Nat.le_of_ble_eq_true rfl) (fun G GX hG => ?_)
  refine hG.aload_n dJ26_equals_0 rfl ?_
  refine hG.alen dJ26_equals_1 ha ?_
  refine hG.aload_n dJ26_equals_2 rfl ?_
  refine hG.alen dJ26_equals_3 hb ?_
  refine hG.icmp_ne (tgt := 34) dJ26_equals_4 rfl (fun c_4 => ?_) (fun c_4 => ?_)
  · refine hG.iconst (v := 0) dJ26_equals_34 rfl ?_
    refine hG.zret dJ26_equals_35 rfl rfl ?_ (by omega) (by omega) trivial
    exact ⟨by rw [show decide (n = m ∧ ∀ t, t < n → f t = g t) = false from decide_eq_false (fun q => c_4 (by show Int32.ofNat n = Int32.ofNat m; rw [q.1]))]; rfl, rfl, rfl⟩
  · have hnm : n = m := (nI_eq (by omega) (by omega)).mp c_4
    subst hnm
    refine hG.iconst (v := 0) dJ26_equals_7 rfl ?_
    refine hG.istore_n dJ26_equals_8 (by decide) ?_
    have loop : ∀ (w i : Nat), i + w = n → (∀ t, t < i → f t = g t) → G 9 [(0, .ref a), (1, .ref b), (2, .int (nI i))] [] I L 0 0 := by
      intro w
      induction w with
      | zero =>
        intro i hiw hi
        refine hG.iload_n dJ26_equals_9 rfl ?_
        refine hG.aload_n dJ26_equals_10 rfl ?_
        refine hG.alen dJ26_equals_11 ha ?_
        refine hG.icmp_ge (tgt := 32) dJ26_equals_12 rfl (fun c_12 => ?_) (fun c_12 => absurd (nI_le (by omega) (by omega)) c_12)
        refine hG.iconst (v := 1) dJ26_equals_32 rfl ?_
        refine hG.zret dJ26_equals_33 rfl rfl ?_ (by omega) (by omega) trivial
        exact ⟨by rw [show decide (n = n ∧ ∀ t, t < n → f t = g t) = true from decide_eq_true ⟨rfl, fun t ht => hi t (by omega)⟩]; rfl, rfl, rfl⟩
      | succ w ih =>
        intro i hiw hi
        refine hG.iload_n dJ26_equals_9 rfl ?_
        refine hG.aload_n dJ26_equals_10 rfl ?_
        refine hG.alen dJ26_equals_11 ha ?_
        refine hG.icmp_ge (tgt := 32) dJ26_equals_12 rfl (fun c_12 => absurd c_12 (nI_ge (by omega) (by omega))) (fun c_12 => ?_)
        refine hG.aload_n dJ26_equals_15 rfl ?_
        refine hG.iload_n dJ26_equals_16 rfl ?_
        refine hG.bald dJ26_equals_17 ha (vp_in_nI (by omega) (by omega)) ?_
        refine hG.aload_n dJ26_equals_18 rfl ?_
        refine hG.iload_n dJ26_equals_19 rfl ?_
        refine hG.bald dJ26_equals_20 hb (vp_in_nI (by omega) (by omega)) ?_
        rw [nI_clamp (by omega)]
        refine hG.icmp_eq (tgt := 26) dJ26_equals_21 rfl (fun c_21 => ?_) (fun c_21 => ?_)
        · refine hG.iinc dJ26_equals_26 rfl (by decide) ?_
          refine hG.goto (tgt := 9) dJ26_equals_29 rfl ?_
          refine hG.lsb [(0, .ref a), (1, .ref b), (2, .int (nI (i + 1)))] ⟨rfl, rfl, by show some (Value.int (nI i + Int32.ofInt 1)) = _; rw [show nI i + Int32.ofInt 1 = nI (i + 1) from nI_add _ 1], trivial⟩ (ih (i + 1) (by omega) (fun t ht => ?_))
          by_cases hti : t = i
          · subst hti; exact c_21
          · exact hi t (by omega)
        · refine hG.iconst (v := 0) dJ26_equals_24 rfl ?_
          refine hG.zret dJ26_equals_25 rfl rfl ?_ (by omega) (by omega) trivial
          exact ⟨by rw [show decide (n = n ∧ ∀ t, t < n → f t = g t) = false from decide_eq_false (fun q => c_21 (q.2 i (by omega)))]; rfl, rfl, rfl⟩
    exact hG.lsb [(0, .ref a), (1, .ref b), (2, .int (nI 0))] ⟨rfl, rfl, rfl, trivial⟩ (loop n 0 (by omega) (fun t ht => absurd ht (Nat.not_lt_zero t)))
set_option maxHeartbeats 4000000 in
set_option maxRecDepth 100000 in
theorem sp_J17_mismatch_2 {l : Launch} {s0 : State} {D : va_G} {I : AI} {L : AL} (hΓ : Gam l s0 D) {a b n m : Nat} {f g : Nat → Int32} (ha : Rd I L a (arB n f)) (hb : Rd I L b (arB m g)) (hn : n < 2 ^ 28) (hm : m < 2 ^ 28) {ao bo len : Nat} (h1 : ao + len ≤ n) (h2 : bo + len ≤ m) (h7 : len ≤ 7) : Spc l s0 D yJ17_mismatch_2 1 [.ref a, .int (nI ao), .ref b, .int (nI bo), .int (nI len)] I L 0 0 (fun r I' L' => I = I' ∧ L = L' ∧ ∃ v, r = some (.int v) ∧ (0 ≤ v ↔ ¬ ∀ t, t < len → f (ao + t) = g (bo + t))) noX := by
  refine Spc.of hΓ cJ17_mismatch_2 8 (some FieldType.int) q3014 (by decide +kernel) (by decide) (Nat.le_of_ble_eq_true rfl) (fun G GX hG => ?_)
  have loop : ∀ (w i : Nat), i + w = len → (∀ t, t < i → f (ao + t) = g (bo + t)) → G 70 [(0, .ref a), (1, .int (nI ao)), (2, .ref b), (3, .int (nI bo)), (4, .int (nI len)), (5, .int (nI i))] [] I L 0 0 := by
    intro w
    induction w with
    | zero =>
      intro i hiw hi
      refine hG.iload dJ17_mismatch_2_70 rfl ?_
      refine hG.iload dJ17_mismatch_2_72 rfl ?_
      refine hG.icmp_ge (tgt := 101) dJ17_mismatch_2_74 rfl (fun c_74 => ?_) (fun c_74 => absurd (nI_le (by omega) (by omega)) c_74)
      refine hG.iconst (v := -1) dJ17_mismatch_2_101 rfl ?_
      refine hG.iret dJ17_mismatch_2_102 rfl ?_ (by omega) (by omega) trivial
      exact ⟨rfl, rfl, _, rfl, ⟨fun q => absurd q (by decide), fun q => absurd (fun t ht => hi t (by omega)) q⟩⟩
    | succ w ih =>
      intro i hiw hi
      refine hG.iload dJ17_mismatch_2_70 rfl ?_
      refine hG.iload dJ17_mismatch_2_72 rfl ?_
      refine hG.icmp_ge (tgt := 101) dJ17_mismatch_2_74 rfl (fun c_74 => absurd c_74 (nI_ge (by omega) (by omega))) (fun c_74 => ?_)
      refine hG.aload_n dJ17_mismatch_2_77 rfl ?_
      refine hG.iload_n dJ17_mismatch_2_78 rfl ?_
      refine hG.iload dJ17_mismatch_2_79 rfl ?_
      refine hG.iadd dJ17_mismatch_2_81 ?_
      rw [nI_add]
      refine hG.bald dJ17_mismatch_2_82 ha (vp_in_nI (by omega) (by omega)) ?_
      rw [nI_clamp (by omega)]
      refine hG.aload_n dJ17_mismatch_2_83 rfl ?_
      refine hG.iload_n dJ17_mismatch_2_84 rfl ?_
      refine hG.iload dJ17_mismatch_2_85 rfl ?_
      refine hG.iadd dJ17_mismatch_2_87 ?_
      rw [nI_add]
      refine hG.bald dJ17_mismatch_2_88 hb (vp_in_nI (by omega) (by omega)) ?_
      rw [nI_clamp (by omega)]
      refine hG.icmp_eq (tgt := 95) dJ17_mismatch_2_89 rfl (fun c_89 => ?_) (fun c_89 => ?_)
      · refine hG.iinc dJ17_mismatch_2_95 rfl (by decide) ?_
        refine hG.goto (tgt := 70) dJ17_mismatch_2_98 rfl ?_
        refine hG.lsb [(0, .ref a), (1, .int (nI ao)), (2, .ref b), (3, .int (nI bo)), (4, .int (nI len)), (5, .int (nI (i + 1)))] ⟨rfl, rfl, rfl, rfl, rfl, by show some (Value.int (nI i + Int32.ofInt 1)) = _; rw [show nI i + Int32.ofInt 1 = nI (i + 1) from nI_add _ 1], trivial⟩ (ih (i + 1) (by omega) (fun t ht => ?_))
        by_cases hti : t = i
        · subst hti; exact c_89
        · exact hi t (by omega)
      · refine hG.iload dJ17_mismatch_2_92 rfl ?_
        refine hG.iret dJ17_mismatch_2_94 rfl ?_ (by omega) (by omega) trivial
        exact ⟨rfl, rfl, _, rfl, ⟨fun _ q => c_89 (q i (by omega)), fun _ => nI_pos' (by omega)⟩⟩
  refine hG.iconst (v := 0) dJ17_mismatch_2_0 rfl ?_
  refine hG.istore dJ17_mismatch_2_1 (by decide) ?_
  refine hG.iload dJ17_mismatch_2_3 rfl ?_
  refine hG.bipush (v := 7) dJ17_mismatch_2_5 rfl ?_
  refine hG.icmp_le (tgt := 70) dJ17_mismatch_2_7 rfl (fun c_7 => ?_) (fun c_7 => absurd (nI_le (b := 7) (by omega) (by decide)) c_7)
  exact hG.lsb [(0, .ref a), (1, .int (nI ao)), (2, .ref b), (3, .int (nI bo)), (4, .int (nI len)), (5, .int (nI 0))] ⟨rfl, rfl, rfl, rfl, rfl, rfl, trivial⟩ (loop len 0 (by omega) (fun t ht => absurd ht (Nat.not_lt_zero t)))
set_option maxHeartbeats 4000000 in
set_option maxRecDepth 100000 in
theorem sp_J26_indexOf_2 {l : Launch} {s0 : State} {D : va_G} {I : AI} {L : AL} (hΓ : Gam l s0 D) {a b n m : Nat} {f g : Nat → Int32} (ha : Rd I L a (arB n f)) (hb : Rd I L b (arB m g)) (hn : n < 2 ^ 28) (hm : m < 2 ^ 28) (hmn : m ≤ n) (h0 : 0 < m) : Spc l s0 D yJ26_indexOf_2 1 [.ref a, .int (nI n), .ref b, .int (nI m), .int 0] I L 0 0 (fun r I' L' => I = I' ∧ L = L' ∧ ∃ v, r = some (.int v) ∧ (0 ≤ v ↔ ∃ t, t + m ≤ n ∧ ∀ u, u < m → f (t + u) = g u)) noX := by
  refine Spc.of hΓ cJ26_indexOf_2 11 (some FieldType.int) q3039 (by decide +kernel) (by decide) (Nat.le_of_ble_eq_true rfl) (fun G GX hG => ?_)
  have key : ∀ (w i0 : Nat), i0 + w = n - m + 2 → (∀ t, t < i0 → ¬ (t + m ≤ n ∧ ∀ u, u < m → f (t + u) = g u)) → G 14 [(0, .ref a), (1, .int (nI n)), (2, .ref b), (3, .int (nI m)), (5, .int (g 0)), (6, .int (nI (n - m))), (7, .int (nI i0))] [] I L 0 0 := by
    intro w
    induction w using Nat.strongRecOn with
    | ind w IH =>
    intro i0 hiw hv0
    have s14 : ∀ i : Nat, i0 < i → i ≤ n - m + 2 → (∀ t, t < i → ¬ (t + m ≤ n ∧ ∀ u, u < m → f (t + u) = g u)) → G 14 [(0, .ref a), (1, .int (nI n)), (2, .ref b), (3, .int (nI m)), (5, .int (g 0)), (6, .int (nI (n - m))), (7, .int (nI i))] [] I L 0 0 := fun i h1 h2 h3 => IH (n - m + 2 - i) (by omega) i (by omega) h3
    have s52 : ∀ i : Nat, i0 ≤ i → i ≤ n - m → (∀ t, t < i → ¬ (t + m ≤ n ∧ ∀ u, u < m → f (t + u) = g u)) → f i = g 0 → G 52 [(0, .ref a), (1, .int (nI n)), (2, .ref b), (3, .int (nI m)), (5, .int (g 0)), (6, .int (nI (n - m))), (7, .int (nI i))] [] I L 0 0 := by
      intro i h0i him hv hf
      have s76 : ∀ (w k : Nat), k + w = m → 1 ≤ k → (∀ t, t < k → f (i + t) = g t) → G 76 [(0, .ref a), (1, .int (nI n)), (2, .ref b), (3, .int (nI m)), (5, .int (g 0)), (6, .int (nI (n - m))), (7, .int (nI i)), (8, .int (nI (i + k))), (9, .int (nI (i + m))), (10, .int (nI k))] [] I L 0 0 := by
        intro w
        induction w with
        | zero =>
          intro k hkw hk1 hk
          refine hG.iload dJ26_indexOf_2_76 rfl ?_
          refine hG.iload dJ26_indexOf_2_78 rfl ?_
          refine hG.icmp_ge (tgt := 103) dJ26_indexOf_2_80 rfl (fun c_80 => ?_) (fun c_80 => absurd (nI_le (by omega) (by omega)) c_80)
          refine hG.iload dJ26_indexOf_2_103 rfl ?_
          refine hG.iload dJ26_indexOf_2_105 rfl ?_
          refine hG.icmp_ne (tgt := 113) dJ26_indexOf_2_107 rfl (fun c_107 => absurd (by rw [show i + k = i + m by omega]) c_107) (fun c_107 => ?_)
          refine hG.iload dJ26_indexOf_2_110 rfl ?_
          refine hG.iret dJ26_indexOf_2_112 rfl ?_ (by omega) (by omega) trivial
          exact ⟨rfl, rfl, _, rfl, ⟨fun _ => ⟨i, by omega, fun u hu => hk u (by omega)⟩, fun _ => nI_pos' (by omega)⟩⟩
        | succ w ihk =>
          intro k hkw hk1 hk
          refine hG.iload dJ26_indexOf_2_76 rfl ?_
          refine hG.iload dJ26_indexOf_2_78 rfl ?_
          refine hG.icmp_ge (tgt := 103) dJ26_indexOf_2_80 rfl (fun c_80 => absurd c_80 (nI_ge (by omega) (by omega))) (fun c_80 => ?_)
          refine hG.aload_n dJ26_indexOf_2_83 rfl ?_
          refine hG.iload dJ26_indexOf_2_84 rfl ?_
          refine hG.bald dJ26_indexOf_2_86 ha (vp_in_nI (by omega) (by omega)) ?_
          rw [nI_clamp (by omega)]
          refine hG.aload_n dJ26_indexOf_2_87 rfl ?_
          refine hG.iload dJ26_indexOf_2_88 rfl ?_
          refine hG.bald dJ26_indexOf_2_90 hb (vp_in_nI (by omega) (by omega)) ?_
          rw [nI_clamp (by omega)]
          refine hG.icmp_ne (tgt := 103) dJ26_indexOf_2_91 rfl (fun c_91 => ?_) (fun c_91 => ?_)
          · refine hG.iload dJ26_indexOf_2_103 rfl ?_
            refine hG.iload dJ26_indexOf_2_105 rfl ?_
            refine hG.icmp_ne (tgt := 113) dJ26_indexOf_2_107 rfl (fun c_107 => ?_) (fun c_107 => absurd c_107 (fun e => absurd ((nI_eq (by omega) (by omega)).mp e) (by omega)))
            refine hG.iinc dJ26_indexOf_2_113 rfl (by decide) ?_
            refine hG.goto (tgt := 14) dJ26_indexOf_2_116 rfl ?_
            refine hG.lsb [(0, .ref a), (1, .int (nI n)), (2, .ref b), (3, .int (nI m)), (5, .int (g 0)), (6, .int (nI (n - m))), (7, .int (nI (i + 1)))] ⟨rfl, rfl, rfl, rfl, rfl, rfl, by show some (Value.int (nI i + Int32.ofInt 1)) = _; rw [show nI i + Int32.ofInt 1 = nI (i + 1) from nI_add _ 1], trivial⟩ (s14 (i + 1) (by omega) (by omega) (fun t ht => by
                by_cases e9 : t = i
                · subst e9; exact (fun q => c_91 (q.2 k (by omega)))
                · exact hv t (by omega)))
          · refine hG.iinc dJ26_indexOf_2_94 rfl (by decide) ?_
            refine hG.iinc dJ26_indexOf_2_97 rfl (by decide) ?_
            refine hG.goto (tgt := 76) dJ26_indexOf_2_100 rfl ?_
            refine hG.lsb [(0, .ref a), (1, .int (nI n)), (2, .ref b), (3, .int (nI m)), (5, .int (g 0)), (6, .int (nI (n - m))), (7, .int (nI i)), (8, .int (nI (i + (k + 1)))), (9, .int (nI (i + m))), (10, .int (nI (k + 1)))] ⟨rfl, rfl, rfl, rfl, rfl, rfl, rfl, by show some (Value.int (nI (i + k) + Int32.ofInt 1)) = _; rw [show nI (i + k) + Int32.ofInt 1 = nI (i + (k + 1)) from nI_add _ 1], rfl, by show some (Value.int (nI k + Int32.ofInt 1)) = _; rw [show nI k + Int32.ofInt 1 = nI (k + 1) from nI_add _ 1], trivial⟩ (ihk (k + 1) (by omega) (by omega) (fun t ht => ?_))
            by_cases e9 : t = k
            · subst e9; exact c_91
            · exact hk t (by omega)
      refine hG.iload dJ26_indexOf_2_52 rfl ?_
      refine hG.iload dJ26_indexOf_2_54 rfl ?_
      refine hG.icmp_gt (tgt := 113) dJ26_indexOf_2_56 rfl (fun c_56 => absurd c_56 (nI_nlt (by omega) (by omega))) (fun c_56 => ?_)
      refine hG.iload dJ26_indexOf_2_59 rfl ?_
      refine hG.iconst (v := 1) dJ26_indexOf_2_61 rfl ?_
      refine hG.iadd dJ26_indexOf_2_62 ?_
      rw [show nI i + 1 = nI (i + 1) from nI_1 i]
      refine hG.istore dJ26_indexOf_2_63 (by decide) ?_
      refine hG.iload dJ26_indexOf_2_65 rfl ?_
      refine hG.iload_n dJ26_indexOf_2_67 rfl ?_
      refine hG.iadd dJ26_indexOf_2_68 ?_
      rw [nI_add]
      refine hG.iconst (v := 1) dJ26_indexOf_2_69 rfl ?_
      refine hG.isub dJ26_indexOf_2_70 ?_
      rw [show nI (i + 1 + m) - 1 = nI (i + m) by rw [show i + 1 + m = i + m + 1 by omega]; exact nI_pred _]
      refine hG.istore dJ26_indexOf_2_71 (by decide) ?_
      refine hG.iconst (v := 1) dJ26_indexOf_2_73 rfl ?_
      refine hG.istore dJ26_indexOf_2_74 (by decide) ?_
      refine hG.lsb [(0, .ref a), (1, .int (nI n)), (2, .ref b), (3, .int (nI m)), (5, .int (g 0)), (6, .int (nI (n - m))), (7, .int (nI i)), (8, .int (nI (i + 1))), (9, .int (nI (i + m))), (10, .int (nI 1))] ⟨rfl, rfl, rfl, rfl, rfl, rfl, rfl, rfl, rfl, rfl, trivial⟩ (s76 (m - 1) 1 (by omega) (by omega) (fun t ht => ?_))
      rw [show t = 0 by omega]
      exact hf
    have s33 : ∀ (w i : Nat), i + w = n - m + 1 → i0 < i → (∀ t, t < i → ¬ (t + m ≤ n ∧ ∀ u, u < m → f (t + u) = g u)) → G 33 [(0, .ref a), (1, .int (nI n)), (2, .ref b), (3, .int (nI m)), (5, .int (g 0)), (6, .int (nI (n - m))), (7, .int (nI i))] [] I L 0 0 := by
      intro w
      induction w with
      | zero =>
        intro i hiw h0i hv
        refine hG.iload dJ26_indexOf_2_33 rfl ?_
        refine hG.iload dJ26_indexOf_2_35 rfl ?_
        refine hG.icmp_gt (tgt := 52) dJ26_indexOf_2_37 rfl (fun c_37 => ?_) (fun c_37 => absurd (nI_lt (by omega) (by omega)) c_37)
        refine hG.iload dJ26_indexOf_2_52 rfl ?_
        refine hG.iload dJ26_indexOf_2_54 rfl ?_
        refine hG.icmp_gt (tgt := 113) dJ26_indexOf_2_56 rfl (fun c_56 => ?_) (fun c_56 => absurd (nI_lt (by omega) (by omega)) c_56)
        refine hG.iinc dJ26_indexOf_2_113 rfl (by decide) ?_
        refine hG.goto (tgt := 14) dJ26_indexOf_2_116 rfl ?_
        refine hG.lsb [(0, .ref a), (1, .int (nI n)), (2, .ref b), (3, .int (nI m)), (5, .int (g 0)), (6, .int (nI (n - m))), (7, .int (nI (i + 1)))] ⟨rfl, rfl, rfl, rfl, rfl, rfl, by show some (Value.int (nI i + Int32.ofInt 1)) = _; rw [show nI i + Int32.ofInt 1 = nI (i + 1) from nI_add _ 1], trivial⟩ (s14 (i + 1) (by omega) (by omega) (fun t ht => by
            by_cases e9 : t = i
            · subst e9; exact (fun q => absurd q.1 (by omega))
            · exact hv t (by omega)))
      | succ w ihw =>
        intro i hiw h0i hv
        refine hG.iload dJ26_indexOf_2_33 rfl ?_
        refine hG.iload dJ26_indexOf_2_35 rfl ?_
        refine hG.icmp_gt (tgt := 52) dJ26_indexOf_2_37 rfl (fun c_37 => absurd c_37 (nI_nlt (by omega) (by omega))) (fun c_37 => ?_)
        refine hG.aload_n dJ26_indexOf_2_40 rfl ?_
        refine hG.iload dJ26_indexOf_2_41 rfl ?_
        refine hG.bald dJ26_indexOf_2_43 ha (vp_in_nI (by omega) (by omega)) ?_
        rw [nI_clamp (by omega)]
        refine hG.iload dJ26_indexOf_2_44 rfl ?_
        refine hG.icmp_eq (tgt := 52) dJ26_indexOf_2_46 rfl (fun c_46 => ?_) (fun c_46 => ?_)
        · exact hG.lsb [(0, .ref a), (1, .int (nI n)), (2, .ref b), (3, .int (nI m)), (5, .int (g 0)), (6, .int (nI (n - m))), (7, .int (nI i))] ⟨rfl, rfl, rfl, rfl, rfl, rfl, rfl, trivial⟩ (s52 i (by omega) (by omega) hv c_46)
        · refine hG.goto (tgt := 30) dJ26_indexOf_2_49 rfl ?_
          refine hG.iinc dJ26_indexOf_2_30 rfl (by decide) ?_
          refine hG.lsb [(0, .ref a), (1, .int (nI n)), (2, .ref b), (3, .int (nI m)), (5, .int (g 0)), (6, .int (nI (n - m))), (7, .int (nI (i + 1)))] ⟨rfl, rfl, rfl, rfl, rfl, rfl, by show some (Value.int (nI i + Int32.ofInt 1)) = _; rw [show nI i + Int32.ofInt 1 = nI (i + 1) from nI_add _ 1], trivial⟩ (ihw (i + 1) (by omega) (by omega) (fun t ht => by
              by_cases e9 : t = i
              · subst e9; exact (fun q => c_46 (q.2 0 (by omega)))
              · exact hv t (by omega)))
    refine hG.iload dJ26_indexOf_2_14 rfl ?_
    refine hG.iload dJ26_indexOf_2_16 rfl ?_
    refine hG.icmp_gt (tgt := 119) dJ26_indexOf_2_18 rfl (fun c_18 => ?_) (fun c_18 => ?_)
    · refine hG.iconst (v := -1) dJ26_indexOf_2_119 rfl ?_
      refine hG.iret dJ26_indexOf_2_120 rfl ?_ (by omega) (by omega) trivial
      have him : n - m < i0 := (nI_ltI (by omega) (by omega)).mp c_18
      exact ⟨rfl, rfl, _, rfl, ⟨fun q => absurd q (by decide), fun ⟨t, q1, q2⟩ => absurd ⟨q1, q2⟩ (hv0 t (by omega))⟩⟩
    · refine hG.aload_n dJ26_indexOf_2_21 rfl ?_
      refine hG.iload dJ26_indexOf_2_22 rfl ?_
      have him : i0 ≤ n - m := by have := mt (nI_ltI (a := n - m) (b := i0) (by omega) (by omega)).mpr c_18; omega
      refine hG.bald dJ26_indexOf_2_24 ha (vp_in_nI (by have := mt (nI_ltI (a := n - m) (b := i0) (by omega) (by omega)).mpr c_18; omega) (by omega)) ?_
      rw [nI_clamp (by omega)]
      refine hG.iload dJ26_indexOf_2_25 rfl ?_
      refine hG.icmp_eq (tgt := 52) dJ26_indexOf_2_27 rfl (fun c_27 => ?_) (fun c_27 => ?_)
      · exact hG.lsb [(0, .ref a), (1, .int (nI n)), (2, .ref b), (3, .int (nI m)), (5, .int (g 0)), (6, .int (nI (n - m))), (7, .int (nI i0))] ⟨rfl, rfl, rfl, rfl, rfl, rfl, rfl, trivial⟩ (s52 i0 (Nat.le_refl _) him hv0 c_27)
      · refine hG.iinc dJ26_indexOf_2_30 rfl (by decide) ?_
        refine hG.lsb [(0, .ref a), (1, .int (nI n)), (2, .ref b), (3, .int (nI m)), (5, .int (g 0)), (6, .int (nI (n - m))), (7, .int (nI (i0 + 1)))] ⟨rfl, rfl, rfl, rfl, rfl, rfl, by show some (Value.int (nI i0 + Int32.ofInt 1)) = _; rw [show nI i0 + Int32.ofInt 1 = nI (i0 + 1) from nI_add _ 1], trivial⟩ (s33 (n - m - i0) (i0 + 1) (by omega) (by omega) (fun t ht => by
            by_cases e9 : t = i0
            · subst e9; exact (fun q => c_27 (q.2 0 (by omega)))
            · exact hv0 t (by omega)))
  refine hG.aload_n dJ26_indexOf_2_0 rfl ?_
  refine hG.iconst (v := 0) dJ26_indexOf_2_1 rfl ?_
  refine hG.bald dJ26_indexOf_2_2 hb (vp_in_nI (n := 0) h0 (by omega)) ?_
  rw [show (0 : Int32).toNatClampNeg = 0 from rfl]
  refine hG.istore dJ26_indexOf_2_3 (by decide) ?_
  refine hG.iload_n dJ26_indexOf_2_5 rfl ?_
  refine hG.iload_n dJ26_indexOf_2_6 rfl ?_
  refine hG.isub dJ26_indexOf_2_7 ?_
  rw [pk_sub hmn]
  refine hG.istore dJ26_indexOf_2_8 (by decide) ?_
  refine hG.iload dJ26_indexOf_2_10 rfl ?_
  refine hG.istore dJ26_indexOf_2_12 (by decide) ?_
  exact hG.lsb [(0, .ref a), (1, .int (nI n)), (2, .ref b), (3, .int (nI m)), (5, .int (g 0)), (6, .int (nI (n - m))), (7, .int (nI 0))] ⟨rfl, rfl, rfl, rfl, rfl, rfl, rfl, trivial⟩ (key (n - m + 2) 0 (by omega) (fun t ht => absurd ht (Nat.not_lt_zero t)))
theorem ks_J26_99 : LkS RJ26 99 yJ26_indexOf_2 5 := ⟨q3037, q3038, q106, by decide +kernel, by decide +kernel, by decide +kernel⟩
set_option maxHeartbeats 4000000 in
set_option maxRecDepth 100000 in
theorem sp_J26_indexOf {l : Launch} {s0 : State} {D : va_G} {I : AI} {L : AL} (hΓ : Gam l s0 D) {a b n m : Nat} {f g : Nat → Int32} (ha : Rd I L a (arB n f)) (hb : Rd I L b (arB m g)) (hn : n < 2 ^ 28) (hm : m < 2 ^ 28) (hmn : m ≤ n) (h0 : 0 < m) : Spc l s0 D yJ26_indexOf 2 [.ref a, .ref b] I L 0 0 (fun r I' L' => I = I' ∧ L = L' ∧ ∃ v, r = some (.int v) ∧ (0 ≤ v ↔ ∃ t, t + m ≤ n ∧ ∀ u, u < m → f (t + u) = g u)) noX := by
  refine Spc.of hΓ cJ26_indexOf 2 (some FieldType.int) q3036 (by decide +kernel) (by decide) (Nat.le_of_ble_eq_true rfl) (fun G GX hG => ?_)
  refine hG.aload_n dJ26_indexOf_0 rfl ?_
  refine hG.alen dJ26_indexOf_1 hb ?_
  refine hG.if_ne (tgt := 7) dJ26_indexOf_2 rfl (fun c_2 => ?_) (fun c_2 => absurd c_2 (nI_ne0 h0 (by omega)))
  refine hG.aload_n dJ26_indexOf_7 rfl ?_
  refine hG.alen dJ26_indexOf_8 ha ?_
  refine hG.if_ne (tgt := 14) dJ26_indexOf_9 rfl (fun c_9 => ?_) (fun c_9 => absurd c_9 (nI_ne0 (by omega) (by omega)))
  refine hG.aload_n dJ26_indexOf_14 rfl ?_
  refine hG.aload_n dJ26_indexOf_15 rfl ?_
  refine hG.alen dJ26_indexOf_16 ha ?_
  refine hG.aload_n dJ26_indexOf_17 rfl ?_
  refine hG.aload_n dJ26_indexOf_18 rfl ?_
  refine hG.alen dJ26_indexOf_19 hb ?_
  refine hG.iconst (v := 0) dJ26_indexOf_20 rfl ?_
  refine hG.callS dJ26_indexOf_21 ks_J26_99 (sp_J26_indexOf_2 hΓ ha hb hn hm hmn h0) rfl rfl (Nat.le_of_ble_eq_true rfl) (by decide) (by omega) (by omega) (fun r21 I21 L21 hI21 h21 => ?_) (fun _ _ _ _ _ h => h.elim)
  obtain ⟨rfl, rfl, v, rfl, hv⟩ := h21
  refine hG.iret dJ26_indexOf_24 rfl ?_ (by omega) (by omega) trivial
  exact ⟨rfl, rfl, v, rfl, hv⟩
