/-! small numbers told -/
def dec (n : Nat) : List Nat := if n < 10 then [48 + n] else if n < 100 then [48 + n / 10, 48 + n % 10] else [48 + n / 100, 48 + n / 10 % 10, 48 + n % 10]
theorem dec_1 {n : Nat} (h : n < 10) : dec n = [48 + n] := if_pos h
theorem dec_2 {n : Nat} (h : 10 ≤ n) (h2 : n < 100) : dec n = [48 + n / 10, 48 + n % 10] := (if_neg (by omega)).trans (if_pos h2)
theorem dec_3 {n : Nat} (h : 100 ≤ n) : dec n = [48 + n / 100, 48 + n / 10 % 10, 48 + n % 10] := (if_neg (by omega)).trans (if_neg (by omega))
theorem dec_c {n : Nat} (hn : n < 1000) : ∀ c ∈ dec n, c < 256 := by
  intro c hc
  by_cases h1 : n < 10
  · rw [dec_1 h1] at hc
    simp at hc
    omega
  · by_cases h2 : n < 100
    · rw [dec_2 (by omega) h2] at hc
      simp at hc
      omega
    · rw [dec_3 (by omega)] at hc
      simp at hc
      omega
theorem dec_len (n : Nat) : 1 ≤ (dec n).length ∧ (dec n).length ≤ 3 := by
  by_cases h1 : n < 10
  · rw [dec_1 h1]; simp
  · by_cases h2 : n < 100
    · rw [dec_2 (by omega) h2]; simp
    · rw [dec_3 (by omega)]; simp
theorem nI_sub_le0 {a b : Nat} (ha : a < 2 ^ 30) (hb : b < 2 ^ 30) : nI a - nI b ≤ 0 ↔ a ≤ b := by
  by_cases h : b < a
  · rw [pk_sub (Nat.le_of_lt h)]
    exact ⟨fun q => absurd ((nI_leI (b := 0) (by omega) (by decide)).mp q) (by omega), fun q => absurd q (by omega)⟩
  · by_cases e : a = b
    · subst e
      rw [pk_sub (Nat.le_refl _), Nat.sub_self]
      exact ⟨fun _ => Nat.le_refl _, fun _ => by decide⟩
    · exact ⟨fun _ => by omega, fun _ => Int32.le_of_lt (pk_sneg hb (by omega))⟩
/-- the digits' statics -/
def StD (s0 : State) (D : va_G) (d1 d2 : Nat) : Prop := (va_Z "java/lang/Integer" "DigitOnes" "[B" (.ref d1) (Are s0) s0 s0.heap ∧ va_Z "java/lang/Integer" "DigitTens" "[B" (.ref d2) (Are s0) s0 s0.heap) ∧ (∃ g, Sta s0 D d1 (arB 100 g) ∧ ∀ i, i < 100 → g i = byt (48 + i % 10)) ∧ ∃ g, Sta s0 D d2 (arB 100 g) ∧ ∀ i, i < 100 → g i = byt (48 + i / 10)
theorem neg100 : ∀ n, n < 1000 → -(nI n) / 100 = -(nI (n / 100)) ∧ -(nI (n / 100)) * 100 - -(nI n) = nI (n % 100) ∧ - -(nI n) = nI n := by decide +kernel
theorem negc : ∀ n, n < 1000 → (-100 < -(nI n) ↔ n < 100) ∧ (-9 ≤ -(nI n) ↔ n < 10) ∧ ¬ nI n < 0 ∧ (-(nI n) ≤ -10 ↔ 10 ≤ n) ∧ (-(nI n) ≤ -100 ↔ 100 ≤ n) ∧ ¬ -(nI n) ≤ -1000 := by decide +kernel
set_option maxHeartbeats 4000000 in
set_option maxRecDepth 100000 in
theorem sp_J25_stringSize {l : Launch} {s0 : State} {D : va_G} {I : AI} {L : AL} (hΓ : Gam l s0 D) {n : Nat} (hn : n < 1000) : Spc l s0 D yJ25_stringSize 1 [.int (nI n)] I L 0 0 (pV (.int (nI (dec n).length)) I L) noX := by
  refine Spc.of hΓ cJ25_stringSize 4 (some FieldType.int) q999 (by decide +kernel) (by decide) (Nat.le_of_ble_eq_true rfl) (fun G GX hG => ?_)
  have s3 : 100 ≤ n → G 16 [(0, .int (-(nI n))), (1, .int 0), (2, .int (-1000)), (3, .int 3)] [] I L 0 0 := by
    intro h9
    refine hG.iload_n dJ25_stringSize_16 rfl ?_
    refine hG.bipush (v := 10) dJ25_stringSize_17 rfl ?_
    refine hG.icmp_ge (tgt := 42) dJ25_stringSize_19 rfl (fun c_19 => absurd c_19 (by decide)) (fun c_19 => ?_)
    refine hG.iload_n dJ25_stringSize_22 rfl ?_
    refine hG.iload_n dJ25_stringSize_23 rfl ?_
    refine hG.icmp_le (tgt := 31) dJ25_stringSize_24 rfl (fun c_24 => absurd c_24 (negc n hn).2.2.2.2.2) (fun c_24 => ?_)
    refine hG.iload_n dJ25_stringSize_27 rfl ?_
    refine hG.iload_n dJ25_stringSize_28 rfl ?_
    refine hG.iadd dJ25_stringSize_29 ?_
    refine hG.iret dJ25_stringSize_30 rfl ?_ (by omega) (by omega) trivial
    rw [dec_3 (by omega)]
    exact ⟨rfl, rfl, rfl⟩
  have s2 : 10 ≤ n → G 16 [(0, .int (-(nI n))), (1, .int 0), (2, .int (-100)), (3, .int 2)] [] I L 0 0 := by
    intro h9
    refine hG.iload_n dJ25_stringSize_16 rfl ?_
    refine hG.bipush (v := 10) dJ25_stringSize_17 rfl ?_
    refine hG.icmp_ge (tgt := 42) dJ25_stringSize_19 rfl (fun c_19 => absurd c_19 (by decide)) (fun c_19 => ?_)
    refine hG.iload_n dJ25_stringSize_22 rfl ?_
    refine hG.iload_n dJ25_stringSize_23 rfl ?_
    refine hG.icmp_le (tgt := 31) dJ25_stringSize_24 rfl (fun c_24 => ?_) (fun c_24 => ?_)
    · refine hG.bipush (v := 10) dJ25_stringSize_31 rfl ?_
      refine hG.iload_n dJ25_stringSize_33 rfl ?_
      refine hG.imul dJ25_stringSize_34 ?_
      refine hG.istore_n dJ25_stringSize_35 (by decide) ?_
      refine hG.iinc dJ25_stringSize_36 rfl (by decide) ?_
      refine hG.goto (tgt := 16) dJ25_stringSize_39 rfl ?_
      exact hG.lsb [(0, .int (-(nI n))), (1, .int 0), (2, .int (-1000)), (3, .int 3)] ⟨rfl, rfl, rfl, rfl, trivial⟩ (s3 ((negc n hn).2.2.2.2.1.mp c_24))
    · refine hG.iload_n dJ25_stringSize_27 rfl ?_
      refine hG.iload_n dJ25_stringSize_28 rfl ?_
      refine hG.iadd dJ25_stringSize_29 ?_
      refine hG.iret dJ25_stringSize_30 rfl ?_ (by omega) (by omega) trivial
      rw [dec_2 (by omega) (by have := mt (negc n hn).2.2.2.2.1.mpr c_24; omega)]
      exact ⟨rfl, rfl, rfl⟩
  have s1 : G 16 [(0, .int (-(nI n))), (1, .int 0), (2, .int (-10)), (3, .int 1)] [] I L 0 0 := by
    refine hG.iload_n dJ25_stringSize_16 rfl ?_
    refine hG.bipush (v := 10) dJ25_stringSize_17 rfl ?_
    refine hG.icmp_ge (tgt := 42) dJ25_stringSize_19 rfl (fun c_19 => absurd c_19 (by decide)) (fun c_19 => ?_)
    refine hG.iload_n dJ25_stringSize_22 rfl ?_
    refine hG.iload_n dJ25_stringSize_23 rfl ?_
    refine hG.icmp_le (tgt := 31) dJ25_stringSize_24 rfl (fun c_24 => ?_) (fun c_24 => ?_)
    · refine hG.bipush (v := 10) dJ25_stringSize_31 rfl ?_
      refine hG.iload_n dJ25_stringSize_33 rfl ?_
      refine hG.imul dJ25_stringSize_34 ?_
      refine hG.istore_n dJ25_stringSize_35 (by decide) ?_
      refine hG.iinc dJ25_stringSize_36 rfl (by decide) ?_
      refine hG.goto (tgt := 16) dJ25_stringSize_39 rfl ?_
      exact hG.lsb [(0, .int (-(nI n))), (1, .int 0), (2, .int (-100)), (3, .int 2)] ⟨rfl, rfl, rfl, rfl, trivial⟩ (s2 ((negc n hn).2.2.2.1.mp c_24))
    · refine hG.iload_n dJ25_stringSize_27 rfl ?_
      refine hG.iload_n dJ25_stringSize_28 rfl ?_
      refine hG.iadd dJ25_stringSize_29 ?_
      refine hG.iret dJ25_stringSize_30 rfl ?_ (by omega) (by omega) trivial
      rw [dec_1 (by have := mt (negc n hn).2.2.2.1.mpr c_24; omega)]
      exact ⟨rfl, rfl, rfl⟩
  refine hG.iconst (v := 1) dJ25_stringSize_0 rfl ?_
  refine hG.istore_n dJ25_stringSize_1 (by decide) ?_
  refine hG.iload_n dJ25_stringSize_2 rfl ?_
  refine hG.if_lt (tgt := 11) dJ25_stringSize_3 rfl (fun c_3 => absurd c_3 (negc n hn).2.2.1) (fun c_3 => ?_)
  refine hG.iconst (v := 0) dJ25_stringSize_6 rfl ?_
  refine hG.istore_n dJ25_stringSize_7 (by decide) ?_
  refine hG.iload_n dJ25_stringSize_8 rfl ?_
  refine hG.ineg dJ25_stringSize_9 ?_
  refine hG.istore_n dJ25_stringSize_10 (by decide) ?_
  refine hG.bipush (v := -10) dJ25_stringSize_11 rfl ?_
  refine hG.istore_n dJ25_stringSize_13 (by decide) ?_
  refine hG.iconst (v := 1) dJ25_stringSize_14 rfl ?_
  refine hG.istore_n dJ25_stringSize_15 (by decide) ?_
  exact hG.lsb [(0, .int (-(nI n))), (1, .int 0), (2, .int (-10)), (3, .int 1)] ⟨rfl, rfl, rfl, rfl, trivial⟩ s1
theorem Fb.up {N : Nat} {f : Nat → Int32} (h : Fb N f) (k c : Nat) : Fb N (upd f k (byt c)) := fun j hj => by
  by_cases e : j = k
  · subst e
    rw [pk_us]
    exact pk_fb _
  · rw [pk_un e]
    exact h j hj
theorem nI_m1 {i : Nat} (h : 0 < i) : nI i + Int32.ofInt (-1) = nI (i - 1) := by
  obtain ⟨k, rfl⟩ : ∃ k, i = k + 1 := ⟨i - 1, by omega⟩
  exact pk_m1 k
set_option maxHeartbeats 4000000 in
set_option maxRecDepth 100000 in
theorem sp_J25_getChars1 {l : Launch} {s0 : State} {D : va_G} {I : AI} {L : AL} (hΓ : Gam l s0 D) {d1 d2 n i N arr : Nat} {f : Nat → Int32} (hD : StD s0 D d1 d2) (ha : L arr = some (.inl (arB N f))) (hF : Fb N f) (hiN : i ≤ N) (hN : N < 2 ^ 28) (h9 : n < 10) (hn : n < 1000) (hi : 1 ≤ i) : Spc l s0 D yJ25_getChars 1 [.int (nI n), .int (nI i), .ref arr] I L 0 0 (fun r I' L' => r = some (.int (nI (i - (dec n).length))) ∧ I = I' ∧ ∃ g, L' = up1 L arr (some (.inl (arB N g))) ∧ (∀ t c, (dec n)[t]? = some c → g (i - (dec n).length + t) = byt c) ∧ (∀ j, (j < i - (dec n).length ∨ i ≤ j) → g j = f j) ∧ Fb N g) noX := by
  refine Spc.of hΓ cJ25_getChars 7 (some FieldType.int) q1002 (by decide +kernel) (by decide) (Nat.le_of_ble_eq_true rfl) (fun G GX hG => ?_)
  obtain ⟨⟨hz1, hz2⟩, ⟨g1, hs1, hv1⟩, g2, hs2, hv2⟩ := hD
  have vnb : ∀ c, vp_nar .byte (byt c) = byt c := fun c => pk_vb _
  have hln := dec_len n
  refine hG.iload_n dJ25_getChars_0 rfl ?_
  refine hG.istore dJ25_getChars_1 (by decide) ?_
  refine hG.iload_n dJ25_getChars_3 rfl ?_
  refine hG.if_ge (tgt := 11) dJ25_getChars_4 rfl (fun c_4 => ?_) (fun c_4 => absurd (Int32.not_lt.mp (negc n hn).2.2.1) c_4)
  refine hG.iconst (v := 0) dJ25_getChars_11 rfl ?_
  refine hG.istore dJ25_getChars_12 (by decide) ?_
  refine hG.iload dJ25_getChars_14 rfl ?_
  refine hG.if_ne (tgt := 22) dJ25_getChars_16 rfl (fun c_16 => absurd rfl c_16) (fun c_16 => ?_)
  refine hG.iload_n dJ25_getChars_19 rfl ?_
  refine hG.ineg dJ25_getChars_20 ?_
  refine hG.istore_n dJ25_getChars_21 (by decide) ?_
  refine hG.iload_n dJ25_getChars_22 rfl ?_
  refine hG.bipush (v := -100) dJ25_getChars_23 rfl ?_
  refine hG.icmp_gt (tgt := 72) dJ25_getChars_25 rfl (fun c_25 => ?_) (fun c_25 => absurd ((negc n hn).1.mpr (by omega)) c_25)
  refine hG.aload_n dJ25_getChars_72 rfl ?_
  refine hG.iinc dJ25_getChars_73 rfl (by decide) ?_
  rw [nI_m1 (by omega)]
  refine hG.iload dJ25_getChars_76 rfl ?_
  refine hG.gets dJ25_getChars_78 hz1 q1003 (Or.inl rfl) ?_
  refine hG.sta hs1 (fun hg1 => ?_)
  refine hG.iload_n dJ25_getChars_81 rfl ?_
  refine hG.ineg dJ25_getChars_82 ?_
  rw [(neg100 (n) (by omega)).2.2]
  refine hG.bald dJ25_getChars_83 (Or.inr hg1) (vp_in_nI (n := n) (by omega) (by decide)) ?_
  rw [nI_clamp (by omega), hv1 _ (by omega)]
  refine hG.bast dJ25_getChars_84 ha (vp_in_nI (n := i - 1) (by omega) (by omega)) ?_
  rw [nI_clamp (by omega), vnb]
  refine hG.iload_n dJ25_getChars_85 rfl ?_
  refine hG.bipush (v := -9) dJ25_getChars_86 rfl ?_
  refine hG.icmp_ge (tgt := 104) dJ25_getChars_88 rfl (fun c_88 => ?_) (fun c_88 => absurd ((negc (n) (by omega)).2.1.mpr (by omega)) c_88)
  refine hG.iload dJ25_getChars_104 rfl ?_
  refine hG.if_eq (tgt := 118) dJ25_getChars_106 rfl (fun c_106 => ?_) (fun c_106 => absurd rfl c_106)
  refine hG.iload dJ25_getChars_118 rfl ?_
  refine hG.iret dJ25_getChars_120 rfl ?_ (by omega) (by omega) trivial
  refine ⟨by rw [dec_1 h9]; rfl, rfl, _, rfl, fun t c ht => ?_, fun j hj => ?_, hF.up _ _⟩
  · rw [dec_1 h9] at ht ⊢
    match t, ht with
    | 0, ht =>
      cases Option.some.inj ht
      simp only [List.length_cons, List.length_nil, Nat.zero_add, Nat.reduceAdd]
      rw [show i - 1 + 0 = i - 1 by omega]
      exact pk_us.trans (by rw [Nat.mod_eq_of_lt h9])
    | t + 1, ht => cases ht
  · rw [dec_1 h9] at hj
    have hj9 : j < i - 1 ∨ i ≤ j := hj
    exact pk_un (by omega)
set_option maxHeartbeats 4000000 in
set_option maxRecDepth 100000 in
theorem sp_J25_getChars2 {l : Launch} {s0 : State} {D : va_G} {I : AI} {L : AL} (hΓ : Gam l s0 D) {d1 d2 n i N arr : Nat} {f : Nat → Int32} (hD : StD s0 D d1 d2) (ha : L arr = some (.inl (arB N f))) (hF : Fb N f) (hiN : i ≤ N) (hN : N < 2 ^ 28) (h8 : 10 ≤ n) (h9 : n < 100) (hn : n < 1000) (hi : 2 ≤ i) : Spc l s0 D yJ25_getChars 1 [.int (nI n), .int (nI i), .ref arr] I L 0 0 (fun r I' L' => r = some (.int (nI (i - (dec n).length))) ∧ I = I' ∧ ∃ g, L' = up1 L arr (some (.inl (arB N g))) ∧ (∀ t c, (dec n)[t]? = some c → g (i - (dec n).length + t) = byt c) ∧ (∀ j, (j < i - (dec n).length ∨ i ≤ j) → g j = f j) ∧ Fb N g) noX := by
  refine Spc.of hΓ cJ25_getChars 7 (some FieldType.int) q1002 (by decide +kernel) (by decide) (Nat.le_of_ble_eq_true rfl) (fun G GX hG => ?_)
  obtain ⟨⟨hz1, hz2⟩, ⟨g1, hs1, hv1⟩, g2, hs2, hv2⟩ := hD
  have vnb : ∀ c, vp_nar .byte (byt c) = byt c := fun c => pk_vb _
  have hln := dec_len n
  refine hG.iload_n dJ25_getChars_0 rfl ?_
  refine hG.istore dJ25_getChars_1 (by decide) ?_
  refine hG.iload_n dJ25_getChars_3 rfl ?_
  refine hG.if_ge (tgt := 11) dJ25_getChars_4 rfl (fun c_4 => ?_) (fun c_4 => absurd (Int32.not_lt.mp (negc n hn).2.2.1) c_4)
  refine hG.iconst (v := 0) dJ25_getChars_11 rfl ?_
  refine hG.istore dJ25_getChars_12 (by decide) ?_
  refine hG.iload dJ25_getChars_14 rfl ?_
  refine hG.if_ne (tgt := 22) dJ25_getChars_16 rfl (fun c_16 => absurd rfl c_16) (fun c_16 => ?_)
  refine hG.iload_n dJ25_getChars_19 rfl ?_
  refine hG.ineg dJ25_getChars_20 ?_
  refine hG.istore_n dJ25_getChars_21 (by decide) ?_
  refine hG.iload_n dJ25_getChars_22 rfl ?_
  refine hG.bipush (v := -100) dJ25_getChars_23 rfl ?_
  refine hG.icmp_gt (tgt := 72) dJ25_getChars_25 rfl (fun c_25 => ?_) (fun c_25 => absurd ((negc n hn).1.mpr (by omega)) c_25)
  refine hG.aload_n dJ25_getChars_72 rfl ?_
  refine hG.iinc dJ25_getChars_73 rfl (by decide) ?_
  rw [nI_m1 (by omega)]
  refine hG.iload dJ25_getChars_76 rfl ?_
  refine hG.gets dJ25_getChars_78 hz1 q1003 (Or.inl rfl) ?_
  refine hG.sta hs1 (fun hg1 => ?_)
  refine hG.iload_n dJ25_getChars_81 rfl ?_
  refine hG.ineg dJ25_getChars_82 ?_
  rw [(neg100 (n) (by omega)).2.2]
  refine hG.bald dJ25_getChars_83 (Or.inr hg1) (vp_in_nI (n := n) (by omega) (by decide)) ?_
  rw [nI_clamp (by omega), hv1 _ (by omega)]
  refine hG.bast dJ25_getChars_84 ha (vp_in_nI (n := i - 1) (by omega) (by omega)) ?_
  rw [nI_clamp (by omega), vnb]
  refine hG.iload_n dJ25_getChars_85 rfl ?_
  refine hG.bipush (v := -9) dJ25_getChars_86 rfl ?_
  refine hG.icmp_ge (tgt := 104) dJ25_getChars_88 rfl (fun c_88 => absurd c_88 (fun q => absurd ((negc (n) (by omega)).2.1.mp q) (by omega))) (fun c_88 => ?_)
  refine hG.aload_n dJ25_getChars_91 rfl ?_
  refine hG.iinc dJ25_getChars_92 rfl (by decide) ?_
  rw [nI_m1 (by omega), show i - 1 - 1 = i - 2 by omega]
  refine hG.iload dJ25_getChars_95 rfl ?_
  refine hG.gets dJ25_getChars_97 hz2 q1005 (Or.inl rfl) ?_
  refine hG.sta hs2 (fun hg2 => ?_)
  refine hG.iload_n dJ25_getChars_100 rfl ?_
  refine hG.ineg dJ25_getChars_101 ?_
  rw [(neg100 (n) (by omega)).2.2]
  refine hG.bald dJ25_getChars_102 (Or.inr hg2) (vp_in_nI (n := n) (by omega) (by decide)) ?_
  rw [nI_clamp (by omega), hv2 _ (by omega)]
  refine hG.bast dJ25_getChars_103 up1_s (vp_in_nI (n := i - 2) (by omega) (by omega)) ?_
  rw [nI_clamp (by omega), vnb, up1_up1]
  refine hG.iload dJ25_getChars_104 rfl ?_
  refine hG.if_eq (tgt := 118) dJ25_getChars_106 rfl (fun c_106 => ?_) (fun c_106 => absurd rfl c_106)
  refine hG.iload dJ25_getChars_118 rfl ?_
  refine hG.iret dJ25_getChars_120 rfl ?_ (by omega) (by omega) trivial
  refine ⟨by rw [dec_2 h8 h9]; rfl, rfl, _, rfl, fun t c ht => ?_, fun j hj => ?_, (hF.up _ _).up _ _⟩
  · rw [dec_2 h8 h9] at ht ⊢
    match t, ht with
    | 0, ht =>
      cases Option.some.inj ht
      simp only [List.length_cons, List.length_nil, Nat.zero_add, Nat.reduceAdd]
      rw [show i - 2 + 0 = i - 2 by omega]
      exact pk_us
    | 1, ht =>
      cases Option.some.inj ht
      simp only [List.length_cons, List.length_nil, Nat.zero_add, Nat.reduceAdd]
      rw [show i - 2 + 1 = i - 1 by omega]
      exact (pk_un (by omega)).trans (pk_us)
    | t + 2, ht => cases ht
  · rw [dec_2 h8 h9] at hj
    have hj9 : j < i - 2 ∨ i ≤ j := hj
    exact (pk_un (by omega)).trans (pk_un (by omega))
set_option maxHeartbeats 4000000 in
set_option maxRecDepth 100000 in
theorem sp_J25_getChars3 {l : Launch} {s0 : State} {D : va_G} {I : AI} {L : AL} (hΓ : Gam l s0 D) {d1 d2 n i N arr : Nat} {f : Nat → Int32} (hD : StD s0 D d1 d2) (ha : L arr = some (.inl (arB N f))) (hF : Fb N f) (hiN : i ≤ N) (hN : N < 2 ^ 28) (h9 : 100 ≤ n) (hn : n < 1000) (hi : 3 ≤ i) : Spc l s0 D yJ25_getChars 1 [.int (nI n), .int (nI i), .ref arr] I L 0 0 (fun r I' L' => r = some (.int (nI (i - (dec n).length))) ∧ I = I' ∧ ∃ g, L' = up1 L arr (some (.inl (arB N g))) ∧ (∀ t c, (dec n)[t]? = some c → g (i - (dec n).length + t) = byt c) ∧ (∀ j, (j < i - (dec n).length ∨ i ≤ j) → g j = f j) ∧ Fb N g) noX := by
  refine Spc.of hΓ cJ25_getChars 7 (some FieldType.int) q1002 (by decide +kernel) (by decide) (Nat.le_of_ble_eq_true rfl) (fun G GX hG => ?_)
  obtain ⟨⟨hz1, hz2⟩, ⟨g1, hs1, hv1⟩, g2, hs2, hv2⟩ := hD
  have vnb : ∀ c, vp_nar .byte (byt c) = byt c := fun c => pk_vb _
  have hln := dec_len n
  have k3 : G 22 [(0, .int (-(nI (n / 100)))), (1, .int (nI i)), (2, .ref arr), (5, .int (nI (i - 2))), (6, .int 0)] [] I (up1 L arr (some (.inl (arB N (upd (upd f (i - 1) (byt (48 + n % 10))) (i - 2) (byt (48 + n / 10 % 10))))))) 0 0 := by
    refine hG.iload_n dJ25_getChars_22 rfl ?_
    refine hG.bipush (v := -100) dJ25_getChars_23 rfl ?_
    refine hG.icmp_gt (tgt := 72) dJ25_getChars_25 rfl (fun c_25 => ?_) (fun c_25 => absurd ((negc (n / 100) (by omega)).1.mpr (by omega)) c_25)
    refine hG.aload_n dJ25_getChars_72 rfl ?_
    refine hG.iinc dJ25_getChars_73 rfl (by decide) ?_
    rw [nI_m1 (by omega), show i - 2 - 1 = i - 3 by omega]
    refine hG.iload dJ25_getChars_76 rfl ?_
    refine hG.gets dJ25_getChars_78 hz1 q1003 (Or.inl rfl) ?_
    refine hG.sta hs1 (fun hg1 => ?_)
    refine hG.iload_n dJ25_getChars_81 rfl ?_
    refine hG.ineg dJ25_getChars_82 ?_
    rw [(neg100 ((n / 100)) (by omega)).2.2]
    refine hG.bald dJ25_getChars_83 (Or.inr hg1) (vp_in_nI (n := n / 100) (by omega) (by decide)) ?_
    rw [nI_clamp (by omega), hv1 _ (by omega), show n / 100 % 10 = n / 100 by omega]
    refine hG.bast dJ25_getChars_84 up1_s (vp_in_nI (n := i - 3) (by omega) (by omega)) ?_
    rw [nI_clamp (by omega), vnb, up1_up1]
    refine hG.iload_n dJ25_getChars_85 rfl ?_
    refine hG.bipush (v := -9) dJ25_getChars_86 rfl ?_
    refine hG.icmp_ge (tgt := 104) dJ25_getChars_88 rfl (fun c_88 => ?_) (fun c_88 => absurd ((negc ((n / 100)) (by omega)).2.1.mpr (by omega)) c_88)
    refine hG.iload dJ25_getChars_104 rfl ?_
    refine hG.if_eq (tgt := 118) dJ25_getChars_106 rfl (fun c_106 => ?_) (fun c_106 => absurd rfl c_106)
    refine hG.iload dJ25_getChars_118 rfl ?_
    refine hG.iret dJ25_getChars_120 rfl ?_ (by omega) (by omega) trivial
    refine ⟨by rw [dec_3 h9]; rfl, rfl, _, rfl, fun t c ht => ?_, fun j hj => ?_, ((hF.up _ _).up _ _).up _ _⟩
    · rw [dec_3 h9] at ht ⊢
      match t, ht with
      | 0, ht =>
        cases Option.some.inj ht
        simp only [List.length_cons, List.length_nil, Nat.zero_add, Nat.reduceAdd]
        rw [show i - 3 + 0 = i - 3 by omega]
        exact pk_us
      | 1, ht =>
        cases Option.some.inj ht
        simp only [List.length_cons, List.length_nil, Nat.zero_add, Nat.reduceAdd]
        rw [show i - 3 + 1 = i - 2 by omega]
        exact (pk_un (by omega)).trans (pk_us)
      | 2, ht =>
        cases Option.some.inj ht
        simp only [List.length_cons, List.length_nil, Nat.zero_add, Nat.reduceAdd]
        rw [show i - 3 + 2 = i - 1 by omega]
        exact (pk_un (by omega)).trans ((pk_un (by omega)).trans (pk_us))
      | t + 3, ht => cases ht
    · rw [dec_3 h9] at hj
      have hj9 : j < i - 3 ∨ i ≤ j := hj
      exact (pk_un (by omega)).trans ((pk_un (by omega)).trans (pk_un (by omega)))
  have m3 : G 22 [(0, .int (-(nI n))), (1, .int (nI i)), (2, .ref arr), (5, .int (nI i)), (6, .int 0)] [] I L 0 0 := by
    refine hG.iload_n dJ25_getChars_22 rfl ?_
    refine hG.bipush (v := -100) dJ25_getChars_23 rfl ?_
    refine hG.icmp_gt (tgt := 72) dJ25_getChars_25 rfl (fun c_25 => absurd c_25 (fun q => absurd ((negc n hn).1.mp q) (by omega))) (fun c_25 => ?_)
    refine hG.iload_n dJ25_getChars_28 rfl ?_
    refine hG.bipush (v := 100) dJ25_getChars_29 rfl ?_
    refine hG.idiv dJ25_getChars_31 (by decide) ?_
    rw [(neg100 n hn).1]
    refine hG.istore_n dJ25_getChars_32 (by decide) ?_
    refine hG.iload_n dJ25_getChars_33 rfl ?_
    refine hG.bipush (v := 100) dJ25_getChars_34 rfl ?_
    refine hG.imul dJ25_getChars_36 ?_
    refine hG.iload_n dJ25_getChars_37 rfl ?_
    refine hG.isub dJ25_getChars_38 ?_
    rw [(neg100 n hn).2.1]
    refine hG.istore dJ25_getChars_39 (by decide) ?_
    refine hG.iload_n dJ25_getChars_41 rfl ?_
    refine hG.istore_n dJ25_getChars_42 (by decide) ?_
    refine hG.aload_n dJ25_getChars_43 rfl ?_
    refine hG.iinc dJ25_getChars_44 rfl (by decide) ?_
    rw [nI_m1 (by omega)]
    refine hG.iload dJ25_getChars_47 rfl ?_
    refine hG.gets dJ25_getChars_49 hz1 q1003 (Or.inl rfl) ?_
    refine hG.sta hs1 (fun hg1 => ?_)
    refine hG.iload dJ25_getChars_52 rfl ?_
    refine hG.bald dJ25_getChars_54 (Or.inr hg1) (vp_in_nI (n := n % 100) (by omega) (by decide)) ?_
    rw [nI_clamp (by omega), hv1 _ (by omega), show n % 100 % 10 = n % 10 by omega]
    refine hG.bast dJ25_getChars_55 ha (vp_in_nI (n := i - 1) (by omega) (by omega)) ?_
    rw [nI_clamp (by omega), vnb]
    refine hG.aload_n dJ25_getChars_56 rfl ?_
    refine hG.iinc dJ25_getChars_57 rfl (by decide) ?_
    rw [nI_m1 (by omega), show i - 1 - 1 = i - 2 by omega]
    refine hG.iload dJ25_getChars_60 rfl ?_
    refine hG.gets dJ25_getChars_62 hz2 q1005 (Or.inl rfl) ?_
    refine hG.sta hs2 (fun hg2 => ?_)
    refine hG.iload dJ25_getChars_65 rfl ?_
    refine hG.bald dJ25_getChars_67 (Or.inr hg2) (vp_in_nI (n := n % 100) (by omega) (by decide)) ?_
    rw [nI_clamp (by omega), hv2 _ (by omega), show n % 100 / 10 = n / 10 % 10 by omega]
    refine hG.bast dJ25_getChars_68 up1_s (vp_in_nI (n := i - 2) (by omega) (by omega)) ?_
    rw [nI_clamp (by omega), vnb, up1_up1]
    refine hG.goto (tgt := 22) dJ25_getChars_69 rfl ?_
    exact hG.lsb [(0, .int (-(nI (n / 100)))), (1, .int (nI i)), (2, .ref arr), (5, .int (nI (i - 2))), (6, .int 0)] ⟨rfl, rfl, rfl, rfl, rfl, trivial⟩ k3
  refine hG.iload_n dJ25_getChars_0 rfl ?_
  refine hG.istore dJ25_getChars_1 (by decide) ?_
  refine hG.iload_n dJ25_getChars_3 rfl ?_
  refine hG.if_ge (tgt := 11) dJ25_getChars_4 rfl (fun c_4 => ?_) (fun c_4 => absurd (Int32.not_lt.mp (negc n hn).2.2.1) c_4)
  refine hG.iconst (v := 0) dJ25_getChars_11 rfl ?_
  refine hG.istore dJ25_getChars_12 (by decide) ?_
  refine hG.iload dJ25_getChars_14 rfl ?_
  refine hG.if_ne (tgt := 22) dJ25_getChars_16 rfl (fun c_16 => absurd rfl c_16) (fun c_16 => ?_)
  refine hG.iload_n dJ25_getChars_19 rfl ?_
  refine hG.ineg dJ25_getChars_20 ?_
  refine hG.istore_n dJ25_getChars_21 (by decide) ?_
  exact hG.lsb [(0, .int (-(nI n))), (1, .int (nI i)), (2, .ref arr), (5, .int (nI i)), (6, .int 0)] ⟨rfl, rfl, rfl, rfl, rfl, trivial⟩ m3
theorem sp_J25_getChars {l : Launch} {s0 : State} {D : va_G} {I : AI} {L : AL} (hΓ : Gam l s0 D) {d1 d2 n i N arr : Nat} {f : Nat → Int32} (hD : StD s0 D d1 d2) (ha : L arr = some (.inl (arB N f))) (hF : Fb N f) (hiN : i ≤ N) (hN : N < 2 ^ 28) (hn : n < 1000) (hi : (dec n).length ≤ i) : Spc l s0 D yJ25_getChars 1 [.int (nI n), .int (nI i), .ref arr] I L 0 0 (fun r I' L' => r = some (.int (nI (i - (dec n).length))) ∧ I = I' ∧ ∃ g, L' = up1 L arr (some (.inl (arB N g))) ∧ (∀ t c, (dec n)[t]? = some c → g (i - (dec n).length + t) = byt c) ∧ (∀ j, (j < i - (dec n).length ∨ i ≤ j) → g j = f j) ∧ Fb N g) noX := by
  by_cases h1 : n < 10
  · rw [dec_1 h1] at hi
    exact sp_J25_getChars1 hΓ hD ha hF hiN hN h1 hn hi
  · by_cases h2 : n < 100
    · rw [dec_2 (by omega) h2] at hi
      exact sp_J25_getChars2 hΓ hD ha hF hiN hN (by omega) h2 hn hi
    · rw [dec_3 (by omega)] at hi
      exact sp_J25_getChars3 hΓ hD ha hF hiN hN (by omega) hn hi
