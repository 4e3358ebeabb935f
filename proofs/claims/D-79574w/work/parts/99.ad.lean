/-! bounds; StringUTF16's characters -/
theorem or_n {a b : Nat} (ha : a < 2 ^ 31) (hb : b < 2 ^ 31) : ∃ c, c < 2 ^ 31 ∧ nI a ||| nI b = nI c := by
  refine ⟨a ||| b, Nat.or_lt_two_pow ha hb, ?_⟩
  apply Int32.toBitVec_inj.mp
  show (nI a).toBitVec ||| (nI b).toBitVec = (nI (a ||| b)).toBitVec
  apply BitVec.eq_of_toNat_eq
  rw [BitVec.toNat_or, pk_tn (by omega), pk_tn (by omega), pk_tn (Nat.lt_trans (Nat.or_lt_two_pow ha hb) (by decide))]
theorem or3_pos {a b c : Nat} (ha : a < 2 ^ 31) (hb : b < 2 ^ 31) (hc : c < 2 ^ 31) : ¬ nI a ||| nI b ||| nI c < 0 := by
  obtain ⟨x, hx, e⟩ := or_n ha hb
  obtain ⟨y, hy, e2⟩ := or_n hx hc
  rw [e, e2]
  exact nI_pos hy
theorem nar_k {k : Nat} (hk : k ≤ 1) : narrow .byte (.int (nI k)) = .int (nI k) := by
  rcases Nat.le_one_iff_eq_zero_or_eq_one.mp hk with rfl | rfl <;> rfl
theorem k_eq {k : Nat} (hk : k ≤ 1) : nI k = 0 ↔ k = 0 := nI_eq (b := 0) (by omega) (by decide)
set_option maxHeartbeats 4000000 in
set_option maxRecDepth 100000 in
theorem sp_J27_checkIndexF {l : Launch} {s0 : State} {D : va_G} {I : AI} {L : AL} {o : Option Nat} (hΓ : Gam l s0 D) {i m : Nat} (hi : i < m) (hm : m < 2 ^ 31) : Spc l s0 D yJ27_checkIndex 1 [.int (nI i), .int (nI m), va_rf o] I L 0 0 (pV (.int (nI i)) I L) noX := by
  refine Spc.of hΓ cJ27_checkIndex 3 (some FieldType.int) q1676 (by decide +kernel) (by decide) (by cases o <;> exact Nat.le_of_ble_eq_true rfl) (fun G GX hG => ?_)
  refine hG.iload_n dJ27_checkIndex_0 rfl ?_
  refine hG.if_lt (tgt := 9) dJ27_checkIndex_1 rfl (fun c_1 => absurd c_1 (nI_pos (by omega))) (fun c_1 => ?_)
  refine hG.iload_n dJ27_checkIndex_4 rfl ?_
  refine hG.iload_n dJ27_checkIndex_5 rfl ?_
  refine hG.icmp_lt (tgt := 16) dJ27_checkIndex_6 rfl (fun c_6 => ?_) (fun c_6 => absurd (nI_lt hi hm) c_6)
  refine hG.iload_n dJ27_checkIndex_16 rfl ?_
  refine hG.iret dJ27_checkIndex_17 rfl ?_ (by omega) (by omega) trivial
  exact ⟨rfl, rfl, rfl⟩
set_option maxHeartbeats 4000000 in
set_option maxRecDepth 100000 in
theorem sp_J27_checkFromToIndex {l : Launch} {s0 : State} {D : va_G} {I : AI} {L : AL} {o : Option Nat} (hΓ : Gam l s0 D) {i j m : Nat} (hi : i ≤ j) (hj : j ≤ m) (hm : m < 2 ^ 31) : Spc l s0 D yJ27_checkFromToIndex 1 [.int (nI i), .int (nI j), .int (nI m), va_rf o] I L 0 0 (pV (.int (nI i)) I L) noX := by
  refine Spc.of hΓ cJ27_checkFromToIndex 4 (some FieldType.int) q944 (by decide +kernel) (by decide) (by cases o <;> exact Nat.le_of_ble_eq_true rfl) (fun G GX hG => ?_)
  refine hG.iload_n dJ27_checkFromToIndex_0 rfl ?_
  refine hG.if_lt (tgt := 14) dJ27_checkFromToIndex_1 rfl (fun c_1 => absurd c_1 (nI_pos (by omega))) (fun c_1 => ?_)
  refine hG.iload_n dJ27_checkFromToIndex_4 rfl ?_
  refine hG.iload_n dJ27_checkFromToIndex_5 rfl ?_
  refine hG.icmp_gt (tgt := 14) dJ27_checkFromToIndex_6 rfl (fun c_6 => absurd c_6 (nI_nlt hi (by omega))) (fun c_6 => ?_)
  refine hG.iload_n dJ27_checkFromToIndex_9 rfl ?_
  refine hG.iload_n dJ27_checkFromToIndex_10 rfl ?_
  refine hG.icmp_le (tgt := 22) dJ27_checkFromToIndex_11 rfl (fun c_11 => ?_) (fun c_11 => absurd (nI_le hj hm) c_11)
  refine hG.iload_n dJ27_checkFromToIndex_22 rfl ?_
  refine hG.iret dJ27_checkFromToIndex_23 rfl ?_ (by omega) (by omega) trivial
  exact ⟨rfl, rfl, rfl⟩
set_option maxHeartbeats 4000000 in
set_option maxRecDepth 100000 in
theorem sp_J27_checkFromIndexSize {l : Launch} {s0 : State} {D : va_G} {I : AI} {L : AL} {o : Option Nat} (hΓ : Gam l s0 D) {i n m : Nat} (hi : i + n ≤ m) (hm : m < 2 ^ 31) : Spc l s0 D yJ27_checkFromIndexSize 1 [.int (nI i), .int (nI n), .int (nI m), va_rf o] I L 0 0 (pV (.int (nI i)) I L) noX := by
  refine Spc.of hΓ cJ27_checkFromIndexSize 4 (some FieldType.int) q983 (by decide +kernel) (by decide) (by cases o <;> exact Nat.le_of_ble_eq_true rfl) (fun G GX hG => ?_)
  refine hG.iload_n dJ27_checkFromIndexSize_0 rfl ?_
  refine hG.iload_n dJ27_checkFromIndexSize_1 rfl ?_
  refine hG.ior dJ27_checkFromIndexSize_2 ?_
  refine hG.iload_n dJ27_checkFromIndexSize_3 rfl ?_
  refine hG.ior dJ27_checkFromIndexSize_4 ?_
  refine hG.if_lt (tgt := 15) dJ27_checkFromIndexSize_5 rfl (fun c_5 => absurd c_5 (or3_pos (by omega) (by omega) (by omega))) (fun c_5 => ?_)
  refine hG.iload_n dJ27_checkFromIndexSize_8 rfl ?_
  refine hG.iload_n dJ27_checkFromIndexSize_9 rfl ?_
  refine hG.iload_n dJ27_checkFromIndexSize_10 rfl ?_
  refine hG.isub dJ27_checkFromIndexSize_11 ?_
  rw [pk_sub (by omega)]
  refine hG.icmp_le (tgt := 23) dJ27_checkFromIndexSize_12 rfl (fun c_12 => ?_) (fun c_12 => absurd (nI_le (by omega) (by omega)) c_12)
  refine hG.iload_n dJ27_checkFromIndexSize_23 rfl ?_
  refine hG.iret dJ27_checkFromIndexSize_24 rfl ?_ (by omega) (by omega) trivial
  exact ⟨rfl, rfl, rfl⟩
theorem ks_J9_1059 : LkS RJ9 1059 yJ27_checkIndex 3 := ⟨q2764, q1675, q107, by decide +kernel, by decide +kernel, by decide +kernel⟩
set_option maxHeartbeats 4000000 in
set_option maxRecDepth 100000 in
theorem sp_J9_checkIndex {l : Launch} {s0 : State} {D : va_G} {I : AI} {L : AL} {o : Option Nat} (hΓ : Gam l s0 D) (hX : StV s0 o) {i m : Nat} (hi : i < m) (hm : m < 2 ^ 31) : Spc l s0 D yJ9_checkIndex 2 [.int (nI i), .int (nI m)] I L 0 0 (p0 I L) noX := by
  refine Spc.of hΓ cJ9_checkIndex 2 none q2763 (by decide +kernel) (by decide) (Nat.le_of_ble_eq_true rfl) (fun G GX hG => ?_)
  refine hG.iload_n dJ9_checkIndex_0 rfl ?_
  refine hG.iload_n dJ9_checkIndex_1 rfl ?_
  refine hG.gets dJ9_checkIndex_2 hX.sf q940 (Or.inl rfl) ?_
  refine hG.callS dJ9_checkIndex_5 ks_J9_1059 (sp_J27_checkIndexF hΓ hi hm) rfl rfl (Nat.le_of_ble_eq_true rfl) (by decide) (by omega) (by omega) (fun r5 I5 L5 hI5 h5 => ?_) (fun _ _ _ _ _ h => h.elim)
  obtain ⟨rfl, rfl, rfl⟩ := h5
  refine hG.pop dJ9_checkIndex_8 rfl ?_
  refine hG.vret dJ9_checkIndex_9 rfl ?_ (by omega) (by omega) trivial
  exact ⟨rfl, rfl, rfl⟩
theorem ks_J9_1065 : LkS RJ9 1065 yJ27_checkFromIndexSize 4 := ⟨q981, q982, q107, by decide +kernel, by decide +kernel, by decide +kernel⟩
set_option maxHeartbeats 4000000 in
set_option maxRecDepth 100000 in
theorem sp_J9_checkBoundsOffCount {l : Launch} {s0 : State} {D : va_G} {I : AI} {L : AL} {o : Option Nat} (hΓ : Gam l s0 D) (hX : StV s0 o) {i n m : Nat} (hi : i + n ≤ m) (hm : m < 2 ^ 31) : Spc l s0 D yJ9_checkBoundsOffCount 2 [.int (nI i), .int (nI n), .int (nI m)] I L 0 0 (pV (.int (nI i)) I L) noX := by
  refine Spc.of hΓ cJ9_checkBoundsOffCount 3 (some FieldType.int) q980 (by decide +kernel) (by decide) (Nat.le_of_ble_eq_true rfl) (fun G GX hG => ?_)
  refine hG.iload_n dJ9_checkBoundsOffCount_0 rfl ?_
  refine hG.iload_n dJ9_checkBoundsOffCount_1 rfl ?_
  refine hG.iload_n dJ9_checkBoundsOffCount_2 rfl ?_
  refine hG.gets dJ9_checkBoundsOffCount_3 hX.sf q940 (Or.inl rfl) ?_
  refine hG.callS dJ9_checkBoundsOffCount_6 ks_J9_1065 (sp_J27_checkFromIndexSize hΓ hi hm) rfl rfl (Nat.le_of_ble_eq_true rfl) (by decide) (by omega) (by omega) (fun r6 I6 L6 hI6 h6 => ?_) (fun _ _ _ _ _ h => h.elim)
  obtain ⟨rfl, rfl, rfl⟩ := h6
  refine hG.iret dJ9_checkBoundsOffCount_9 rfl ?_ (by omega) (by omega) trivial
  exact ⟨rfl, rfl, rfl⟩
theorem cls_J9 : CLs ciJ9 RJ9 TJ9 4 tyJ9 := ⟨rfl, in_J9, tyJ9_ok, nmJ9⟩
theorem fg_J9_15_J9 : LkG RJ9 15 ciJ9 1 := ⟨RJ9, TJ9, 4, tyJ9, _, cls_J9, by decide, Or.inl rfl, Or.inl q1084⟩
set_option maxHeartbeats 4000000 in
set_option maxRecDepth 100000 in
theorem sp_J9_coder {l : Launch} {s0 : State} {D : va_G} {I : AI} {L : AL} {o : Option Nat} (hΓ : Gam l s0 D) (hX : StV s0 o) {a arr k : Nat} {h z : Int32} (hs : Rd I L a (ob ciJ9 [.ref arr, .int (nI k), .int h, .int z])) (hk : k ≤ 1) : Spc l s0 D yJ9_coder 1 [.ref a] I L 0 0 (pV (.int (nI k)) I L) noX := by
  refine Spc.of hΓ cJ9_coder 1 (some FieldType.byte) q955 (by decide +kernel) (by decide) (Nat.le_of_ble_eq_true rfl) (fun G GX hG => ?_)
  refine hG.gets dJ9_coder_0 hX.cs q830 (Or.inl rfl) ?_
  refine hG.if_eq (tgt := 13) dJ9_coder_3 rfl (fun c_3 => absurd c_3 (by decide)) (fun c_3 => ?_)
  refine hG.aload_n dJ9_coder_6 rfl ?_
  refine hG.get dJ9_coder_7 fg_J9_15_J9 hs rfl ?_
  refine hG.goto (tgt := 14) dJ9_coder_10 rfl ?_
  refine hG.zret dJ9_coder_14 rfl (nar_k hk) ?_ (by omega) (by omega) trivial
  exact ⟨rfl, rfl, rfl⟩
set_option maxHeartbeats 4000000 in
set_option maxRecDepth 100000 in
theorem sp_J9_isLatin1 {l : Launch} {s0 : State} {D : va_G} {I : AI} {L : AL} {o : Option Nat} (hΓ : Gam l s0 D) (hX : StV s0 o) {a arr k : Nat} {h z : Int32} (hs : Rd I L a (ob ciJ9 [.ref arr, .int (nI k), .int h, .int z])) (hk : k ≤ 1) : Spc l s0 D yJ9_isLatin1 1 [.ref a] I L 0 0 (pV (.int (b2i (decide (k = 0)))) I L) noX := by
  refine Spc.of hΓ cJ9_isLatin1 1 (some FieldType.boolean) q829 (by decide +kernel) (by decide) (Nat.le_of_ble_eq_true rfl) (fun G GX hG => ?_)
  refine hG.gets dJ9_isLatin1_0 hX.cs q830 (Or.inl rfl) ?_
  refine hG.if_eq (tgt := 17) dJ9_isLatin1_3 rfl (fun c_3 => absurd c_3 (by decide)) (fun c_3 => ?_)
  refine hG.aload_n dJ9_isLatin1_6 rfl ?_
  refine hG.get dJ9_isLatin1_7 fg_J9_15_J9 hs rfl ?_
  refine hG.if_ne (tgt := 17) dJ9_isLatin1_10 rfl (fun c_10 => ?_) (fun c_10 => ?_)
  · refine hG.iconst (v := 0) dJ9_isLatin1_17 rfl ?_
    refine hG.zret dJ9_isLatin1_18 rfl (by first | rfl | decide) ?_ (by omega) (by omega) trivial
    first
    | exact ⟨by rw [show decide (k = 0) = true from decide_eq_true ((k_eq hk).mp c_10)]; rfl, rfl, rfl⟩
    | exact ⟨by rw [show decide (k = 0) = false from decide_eq_false (fun q => c_10 ((k_eq hk).mpr q))]; rfl, rfl, rfl⟩
  · refine hG.iconst (v := 1) dJ9_isLatin1_13 rfl ?_
    refine hG.goto (tgt := 18) dJ9_isLatin1_14 rfl ?_
    refine hG.zret dJ9_isLatin1_18 rfl (by first | rfl | decide) ?_ (by omega) (by omega) trivial
    first
    | exact ⟨by rw [show decide (k = 0) = true from decide_eq_true ((k_eq hk).mp c_10)]; rfl, rfl, rfl⟩
    | exact ⟨by rw [show decide (k = 0) = false from decide_eq_false (fun q => c_10 ((k_eq hk).mpr q))]; rfl, rfl, rfl⟩
set_option maxHeartbeats 4000000 in
set_option maxRecDepth 100000 in
theorem sp_J10_length {l : Launch} {s0 : State} {D : va_G} {I : AI} {L : AL} (hΓ : Gam l s0 D) {arr n : Nat} {f : Nat → Int32} (ha : Rd I L arr (arB n f)) (hn : n < 2 ^ 29) : Spc l s0 D yJ10_length 1 [.ref arr] I L 0 0 (pV (.int (nI (n / 2))) I L) noX := by
  refine Spc.of hΓ cJ10_length 1 (some FieldType.int) q863 (by decide +kernel) (by decide) (Nat.le_of_ble_eq_true rfl) (fun G GX hG => ?_)
  refine hG.aload_n dJ10_length_0 rfl ?_
  refine hG.alen dJ10_length_1 ha ?_
  refine hG.iconst (v := 1) dJ10_length_2 rfl ?_
  refine hG.ishr dJ10_length_3 ?_
  rw [show (Int32.ofNat n >>> ((1 : Int32) &&& 31)) = nI (n / 2) from pk_shrN (n := n) (by omega) (1 &&& 31) 1 (by decide)]
  refine hG.iret dJ10_length_4 rfl ?_ (by omega) (by omega) trivial
  exact ⟨rfl, rfl, rfl⟩
set_option maxHeartbeats 4000000 in
set_option maxRecDepth 100000 in
theorem sp_J10_getChar {l : Launch} {s0 : State} {D : va_G} {I : AI} {L : AL} {o : Option Nat} (hΓ : Gam l s0 D) (hX : StV s0 o) {arr n : Nat} {f : Nat → Int32} (ha : Rd I L arr (arB n f)) (hn : n < 2 ^ 29) {i c : Nat} (hi : 2 * i + 1 < n) (h1 : f (2 * i) = byt c) (h2 : f (2 * i + 1) = hib c) (hc : c < 65536) : Spc l s0 D yJ10_getChar 1 [.ref arr, .int (nI i)] I L 0 0 (pV (.int (nI c)) I L) noX := by
  refine Spc.of hΓ cJ10_getChar 2 (some FieldType.char) q858 (by decide +kernel) (by decide) (Nat.le_of_ble_eq_true rfl) (fun G GX hG => ?_)
  refine hG.gets dJ10_getChar_0 hX.ad q859 (Or.inl rfl) ?_
  refine hG.if_ne (tgt := 28) dJ10_getChar_3 rfl (fun c_3 => ?_) (fun c_3 => absurd c_3 (by decide +kernel))
  refine hG.iload_n dJ10_getChar_28 rfl ?_
  refine hG.iconst (v := 1) dJ10_getChar_29 rfl ?_
  refine hG.ishl dJ10_getChar_30 ?_
  rw [pk_shlN (1 &&& 31) 1 (by decide) (by omega), show i * 2 ^ 1 = 2 * i by omega]
  refine hG.istore_n dJ10_getChar_31 (by decide) ?_
  refine hG.aload_n dJ10_getChar_32 rfl ?_
  refine hG.iload_n dJ10_getChar_33 rfl ?_
  refine hG.iinc dJ10_getChar_34 rfl (by decide) ?_
  refine hG.bald dJ10_getChar_37 ha (vp_in_nI (n := 2 * i) (by omega) (by omega)) ?_
  rw [nI_clamp (by omega), h1]
  refine hG.sipush (v := 255) dJ10_getChar_38 rfl ?_
  refine hG.iand dJ10_getChar_41 ?_
  rw [byt_and]
  refine hG.gets dJ10_getChar_42 hX.hs q864 (Or.inl rfl) ?_
  refine hG.ishl dJ10_getChar_45 ?_
  rw [pk_shlN (0 &&& 31) 0 (by decide) (by omega)]
  refine hG.aload_n dJ10_getChar_46 rfl ?_
  refine hG.iload_n dJ10_getChar_47 rfl ?_
  rw [show nI (2 * i) + Int32.ofInt 1 = nI (2 * i + 1) from nI_add _ 1]
  refine hG.bald dJ10_getChar_48 ha (vp_in_nI (n := 2 * i + 1) (by omega) (by omega)) ?_
  rw [nI_clamp (by omega), h2]
  refine hG.sipush (v := 255) dJ10_getChar_49 rfl ?_
  refine hG.iand dJ10_getChar_52 ?_
  rw [hib_and c hc]
  refine hG.gets dJ10_getChar_53 hX.ls q866 (Or.inl rfl) ?_
  refine hG.ishl dJ10_getChar_56 ?_
  rw [pk_shlN (8 &&& 31) 8 (by decide) (by omega)]
  refine hG.ior dJ10_getChar_57 ?_
  rw [show c % 256 * 2 ^ 0 = c % 256 by omega, show c / 256 * 2 ^ 8 = c / 256 * 256 by omega, lohi hc]
  refine hG.i2c dJ10_getChar_58 ?_
  rw [i2c_n hc]
  refine hG.zret dJ10_getChar_59 rfl (pk_charN hc).1 ?_ (by omega) (by omega) trivial
  exact ⟨rfl, rfl, rfl⟩
set_option maxHeartbeats 4000000 in
set_option maxRecDepth 100000 in
theorem sp_J10_putChar {l : Launch} {s0 : State} {D : va_G} {I : AI} {L : AL} {o : Option Nat} (hΓ : Gam l s0 D) (hX : StV s0 o) {arr n : Nat} {f : Nat → Int32} (ha : L arr = some (.inl (arB n f))) (hn : n < 2 ^ 29) {i c : Nat} (hi : 2 * i + 1 < n) (hc : c < 65536) : Spc l s0 D yJ10_putChar 1 [.ref arr, .int (nI i), .int (nI c)] I L 0 0 (pU I L arr (.inl (arB n (upd (upd f (2 * i) (byt c)) (2 * i + 1) (hib c))))) noX := by
  refine Spc.of hΓ cJ10_putChar 3 none q947 (by decide +kernel) (by decide) (Nat.le_of_ble_eq_true rfl) (fun G GX hG => ?_)
  refine hG.gets dJ10_putChar_0 hX.ad q859 (Or.inl rfl) ?_
  refine hG.if_ne (tgt := 28) dJ10_putChar_3 rfl (fun c_3 => ?_) (fun c_3 => absurd c_3 (by decide +kernel))
  refine hG.iload_n dJ10_putChar_28 rfl ?_
  refine hG.iconst (v := 1) dJ10_putChar_29 rfl ?_
  refine hG.ishl dJ10_putChar_30 ?_
  rw [pk_shlN (1 &&& 31) 1 (by decide) (by omega), show i * 2 ^ 1 = 2 * i by omega]
  refine hG.istore_n dJ10_putChar_31 (by decide) ?_
  refine hG.aload_n dJ10_putChar_32 rfl ?_
  refine hG.iload_n dJ10_putChar_33 rfl ?_
  refine hG.iinc dJ10_putChar_34 rfl (by decide) ?_
  refine hG.iload_n dJ10_putChar_37 rfl ?_
  refine hG.gets dJ10_putChar_38 hX.hs q864 (Or.inl rfl) ?_
  refine hG.ishr dJ10_putChar_41 ?_
  rw [pk_shrN (by omega) (0 &&& 31) 0 (by decide), Nat.pow_zero, Nat.div_one]
  refine hG.i2b dJ10_putChar_42 ?_
  refine hG.bast dJ10_putChar_43 ha (vp_in_nI (n := 2 * i) (by omega) (by omega)) ?_
  rw [nI_clamp (by omega), pk_vb]
  refine hG.aload_n dJ10_putChar_44 rfl ?_
  refine hG.iload_n dJ10_putChar_45 rfl ?_
  refine hG.iload_n dJ10_putChar_46 rfl ?_
  refine hG.gets dJ10_putChar_47 hX.ls q866 (Or.inl rfl) ?_
  refine hG.ishr dJ10_putChar_50 ?_
  rw [pk_shrN (by omega) (8 &&& 31) 8 (by decide), show c / 2 ^ 8 = c / 256 by omega]
  refine hG.i2b dJ10_putChar_51 ?_
  rw [show nI (2 * i) + Int32.ofInt 1 = nI (2 * i + 1) from nI_add _ 1]
  refine hG.bast dJ10_putChar_52 up1_s (vp_in_nI (n := 2 * i + 1) (by omega) (by omega)) ?_
  rw [nI_clamp (by omega), pk_vb, up1_up1]
  refine hG.vret dJ10_putChar_53 rfl ?_ (by omega) (by omega) trivial
  exact ⟨rfl, rfl, rfl⟩
theorem ks_J10_48 : LkS RJ10 48 yJ10_length 1 := ⟨q861, q862, q86, by decide +kernel, by decide +kernel, by decide +kernel⟩
theorem ks_J10_414 : LkS RJ10 414 yJ9_checkIndex 2 := ⟨q2771, q2762, q85, by decide +kernel, by decide +kernel, by decide +kernel⟩
set_option maxHeartbeats 4000000 in
set_option maxRecDepth 100000 in
theorem sp_J10_checkIndex {l : Launch} {s0 : State} {D : va_G} {I : AI} {L : AL} {o : Option Nat} (hΓ : Gam l s0 D) (hX : StV s0 o) {arr n : Nat} {f : Nat → Int32} (ha : Rd I L arr (arB n f)) (hn : n < 2 ^ 29) {i : Nat} (hi : 2 * i + 1 < n) : Spc l s0 D yJ10_checkIndex 3 [.int (nI i), .ref arr] I L 0 0 (p0 I L) noX := by
  refine Spc.of hΓ cJ10_checkIndex 2 none q2770 (by decide +kernel) (by decide) (Nat.le_of_ble_eq_true rfl) (fun G GX hG => ?_)
  refine hG.iload_n dJ10_checkIndex_0 rfl ?_
  refine hG.aload_n dJ10_checkIndex_1 rfl ?_
  refine hG.callS dJ10_checkIndex_2 ks_J10_48 (sp_J10_length hΓ ha hn) rfl rfl (Nat.le_of_ble_eq_true rfl) (by decide) (by omega) (by omega) (fun r2 I2 L2 hI2 h2 => ?_) (fun _ _ _ _ _ h => h.elim)
  obtain ⟨rfl, rfl, rfl⟩ := h2
  refine hG.callS dJ10_checkIndex_5 ks_J10_414 (sp_J9_checkIndex hΓ hX (m := n / 2) (by omega) (by omega)) rfl rfl (Nat.le_of_ble_eq_true rfl) (by decide) (by omega) (by omega) (fun r5 I5 L5 hI5 h5 => ?_) (fun _ _ _ _ _ h => h.elim)
  obtain ⟨rfl, rfl, rfl⟩ := h5
  refine hG.vret dJ10_checkIndex_8 rfl ?_ (by omega) (by omega) trivial
  exact ⟨rfl, rfl, rfl⟩
theorem ks_J10_419 : LkS RJ10 419 yJ9_checkBoundsOffCount 3 := ⟨q978, q979, q85, by decide +kernel, by decide +kernel, by decide +kernel⟩
set_option maxHeartbeats 4000000 in
set_option maxRecDepth 100000 in
theorem sp_J10_checkBoundsOffCount {l : Launch} {s0 : State} {D : va_G} {I : AI} {L : AL} {o : Option Nat} (hΓ : Gam l s0 D) (hX : StV s0 o) {arr n : Nat} {f : Nat → Int32} (ha : Rd I L arr (arB n f)) (hn : n < 2 ^ 29) {i m : Nat} (hi : 2 * (i + m) ≤ n) : Spc l s0 D yJ10_checkBoundsOffCount 3 [.int (nI i), .int (nI m), .ref arr] I L 0 0 (p0 I L) noX := by
  refine Spc.of hΓ cJ10_checkBoundsOffCount 3 none q977 (by decide +kernel) (by decide) (Nat.le_of_ble_eq_true rfl) (fun G GX hG => ?_)
  refine hG.iload_n dJ10_checkBoundsOffCount_0 rfl ?_
  refine hG.iload_n dJ10_checkBoundsOffCount_1 rfl ?_
  refine hG.aload_n dJ10_checkBoundsOffCount_2 rfl ?_
  refine hG.callS dJ10_checkBoundsOffCount_3 ks_J10_48 (sp_J10_length hΓ ha hn) rfl rfl (Nat.le_of_ble_eq_true rfl) (by decide) (by omega) (by omega) (fun r3 I3 L3 hI3 h3 => ?_) (fun _ _ _ _ _ h => h.elim)
  obtain ⟨rfl, rfl, rfl⟩ := h3
  refine hG.callS dJ10_checkBoundsOffCount_6 ks_J10_419 (sp_J9_checkBoundsOffCount hΓ hX (m := n / 2) (by omega) (by omega)) rfl rfl (Nat.le_of_ble_eq_true rfl) (by decide) (by omega) (by omega) (fun r6 I6 L6 hI6 h6 => ?_) (fun _ _ _ _ _ h => h.elim)
  obtain ⟨rfl, rfl, rfl⟩ := h6
  refine hG.pop dJ10_checkBoundsOffCount_9 rfl ?_
  refine hG.vret dJ10_checkBoundsOffCount_10 rfl ?_ (by omega) (by omega) trivial
  exact ⟨rfl, rfl, rfl⟩
theorem ks_J10_67 : LkS RJ10 67 yJ10_checkIndex 2 := ⟨q2768, q2769, q86, by decide +kernel, by decide +kernel, by decide +kernel⟩
theorem ks_J10_111 : LkS RJ10 111 yJ10_putChar 3 := ⟨q945, q946, q86, by decide +kernel, by decide +kernel, by decide +kernel⟩
set_option maxHeartbeats 4000000 in
set_option maxRecDepth 100000 in
theorem sp_J10_putCharSB {l : Launch} {s0 : State} {D : va_G} {I : AI} {L : AL} {o : Option Nat} (hΓ : Gam l s0 D) (hX : StV s0 o) {arr n : Nat} {f : Nat → Int32} (ha : L arr = some (.inl (arB n f))) (hn : n < 2 ^ 29) {i c : Nat} (hi : 2 * i + 1 < n) (hc : c < 65536) : Spc l s0 D yJ10_putCharSB 4 [.ref arr, .int (nI i), .int (nI c)] I L 0 0 (pU I L arr (.inl (arB n (upd (upd f (2 * i) (byt c)) (2 * i + 1) (hib c))))) noX := by
  refine Spc.of hΓ cJ10_putCharSB 3 none q2932 (by decide +kernel) (by decide) (Nat.le_of_ble_eq_true rfl) (fun G GX hG => ?_)
  refine hG.iload_n dJ10_putCharSB_0 rfl ?_
  refine hG.aload_n dJ10_putCharSB_1 rfl ?_
  refine hG.callS dJ10_putCharSB_2 ks_J10_67 (sp_J10_checkIndex hΓ hX (Or.inl ha) hn hi) rfl rfl (Nat.le_of_ble_eq_true rfl) (by decide) (by omega) (by omega) (fun r2 I2 L2 hI2 h2 => ?_) (fun _ _ _ _ _ h => h.elim)
  obtain ⟨rfl, rfl, rfl⟩ := h2
  refine hG.aload_n dJ10_putCharSB_5 rfl ?_
  refine hG.iload_n dJ10_putCharSB_6 rfl ?_
  refine hG.iload_n dJ10_putCharSB_7 rfl ?_
  refine hG.callS dJ10_putCharSB_8 ks_J10_111 (sp_J10_putChar hΓ hX ha hn hi hc) rfl rfl (Nat.le_of_ble_eq_true rfl) (by decide) (by omega) (by omega) (fun r8 I8 L8 hI8 h8 => ?_) (fun _ _ _ _ _ h => h.elim)
  obtain ⟨rfl, rfl, rfl⟩ := h8
  refine hG.vret dJ10_putCharSB_11 rfl ?_ (by omega) (by omega) trivial
  exact ⟨rfl, rfl, rfl⟩
theorem ks_J10_71 : LkS RJ10 71 yJ10_getChar 2 := ⟨q1078, q857, q86, by decide +kernel, by decide +kernel, by decide +kernel⟩
set_option maxHeartbeats 4000000 in
set_option maxRecDepth 100000 in
theorem sp_J10_charAt {l : Launch} {s0 : State} {D : va_G} {I : AI} {L : AL} {o : Option Nat} (hΓ : Gam l s0 D) (hX : StV s0 o) {arr n : Nat} {f : Nat → Int32} (ha : Rd I L arr (arB n f)) (hn : n < 2 ^ 29) {i c : Nat} (hi : 2 * i + 1 < n) (h1 : f (2 * i) = byt c) (h2 : f (2 * i + 1) = hib c) (hc : c < 65536) : Spc l s0 D yJ10_charAt 4 [.ref arr, .int (nI i)] I L 0 0 (pV (.int (nI c)) I L) noX := by
  refine Spc.of hΓ cJ10_charAt 2 (some FieldType.char) q2767 (by decide +kernel) (by decide) (Nat.le_of_ble_eq_true rfl) (fun G GX hG => ?_)
  refine hG.iload_n dJ10_charAt_0 rfl ?_
  refine hG.aload_n dJ10_charAt_1 rfl ?_
  refine hG.callS dJ10_charAt_2 ks_J10_67 (sp_J10_checkIndex hΓ hX ha hn hi) rfl rfl (Nat.le_of_ble_eq_true rfl) (by decide) (by omega) (by omega) (fun r2 I2 L2 hI2 h2 => ?_) (fun _ _ _ _ _ h => h.elim)
  obtain ⟨rfl, rfl, rfl⟩ := h2
  refine hG.aload_n dJ10_charAt_5 rfl ?_
  refine hG.iload_n dJ10_charAt_6 rfl ?_
  refine hG.callS dJ10_charAt_7 ks_J10_71 (sp_J10_getChar hΓ hX ha hn hi h1 h2 hc) rfl rfl (Nat.le_of_ble_eq_true rfl) (by decide) (by omega) (by omega) (fun r7 I7 L7 hI7 h7 => ?_) (fun _ _ _ _ _ h => h.elim)
  obtain ⟨rfl, rfl, rfl⟩ := h7
  refine hG.zret dJ10_charAt_10 rfl (pk_charN hc).1 ?_ (by omega) (by omega) trivial
  exact ⟨rfl, rfl, rfl⟩
theorem ks_J26_9 : LkS RJ26 9 yJ9_checkIndex 2 := ⟨q2761, q2762, q85, by decide +kernel, by decide +kernel, by decide +kernel⟩
set_option maxHeartbeats 4000000 in
set_option maxRecDepth 100000 in
theorem sp_J26_charAt {l : Launch} {s0 : State} {D : va_G} {I : AI} {L : AL} {o : Option Nat} (hΓ : Gam l s0 D) (hX : StV s0 o) {arr n : Nat} {f : Nat → Int32} (ha : Rd I L arr (arB n f)) (hn : n < 2 ^ 29) {i c : Nat} (hi : i < n) (h1 : f i = byt c) (hc : c < 256) : Spc l s0 D yJ26_charAt 3 [.ref arr, .int (nI i)] I L 0 0 (pV (.int (nI c)) I L) noX := by
  refine Spc.of hΓ cJ26_charAt 2 (some FieldType.char) q2760 (by decide +kernel) (by decide) (Nat.le_of_ble_eq_true rfl) (fun G GX hG => ?_)
  refine hG.iload_n dJ26_charAt_0 rfl ?_
  refine hG.aload_n dJ26_charAt_1 rfl ?_
  refine hG.alen dJ26_charAt_2 ha ?_
  refine hG.callS dJ26_charAt_3 ks_J26_9 (sp_J9_checkIndex hΓ hX (m := n) hi (by omega)) rfl rfl (Nat.le_of_ble_eq_true rfl) (by decide) (by omega) (by omega) (fun r3 I3 L3 hI3 h3 => ?_) (fun _ _ _ _ _ h => h.elim)
  obtain ⟨rfl, rfl, rfl⟩ := h3
  refine hG.aload_n dJ26_charAt_6 rfl ?_
  refine hG.iload_n dJ26_charAt_7 rfl ?_
  refine hG.bald dJ26_charAt_8 ha (vp_in_nI hi (by omega)) ?_
  rw [nI_clamp (by omega), h1]
  refine hG.sipush (v := 255) dJ26_charAt_9 rfl ?_
  refine hG.iand dJ26_charAt_12 ?_
  rw [byt_and, Nat.mod_eq_of_lt hc]
  refine hG.i2c dJ26_charAt_13 ?_
  rw [i2c_n (by omega)]
  refine hG.zret dJ26_charAt_14 rfl (pk_charN (by omega)).1 ?_ (by omega) (by omega) trivial
  exact ⟨rfl, rfl, rfl⟩
set_option maxHeartbeats 4000000 in
set_option maxRecDepth 100000 in
theorem sp_J26_canEncode {l : Launch} {s0 : State} {D : va_G} {I : AI} {L : AL} (hΓ : Gam l s0 D) {c : Nat} (hc : c < 65536) : Spc l s0 D yJ26_canEncode 1 [.int (nI c)] I L 0 0 (pV (.int (b2i (decide (c < 256)))) I L) noX := by
  refine Spc.of hΓ cJ26_canEncode 1 (some FieldType.boolean) q2929 (by decide +kernel) (by decide) (Nat.le_of_ble_eq_true rfl) (fun G GX hG => ?_)
  refine hG.iload_n dJ26_canEncode_0 rfl ?_
  refine hG.sipush (v := 255) dJ26_canEncode_1 rfl ?_
  refine hG.icmp_gt (tgt := 11) dJ26_canEncode_4 rfl (fun c_4 => ?_) (fun c_4 => ?_)
  · refine hG.iconst (v := 0) dJ26_canEncode_11 rfl ?_
    refine hG.zret dJ26_canEncode_12 rfl (by first | rfl | decide) ?_ (by omega) (by omega) trivial
    first
    | exact ⟨by rw [show decide (c < 256) = true from decide_eq_true (by have := mt (nI_ltI (a := 255) (b := c) (by decide) (by omega)).mpr c_4; omega)]; rfl, rfl, rfl⟩
    | exact ⟨by rw [show decide (c < 256) = false from decide_eq_false (by have := (nI_ltI (a := 255) (b := c) (by decide) (by omega)).mp c_4; omega)]; rfl, rfl, rfl⟩
  · refine hG.iconst (v := 1) dJ26_canEncode_7 rfl ?_
    refine hG.goto (tgt := 12) dJ26_canEncode_8 rfl ?_
    refine hG.zret dJ26_canEncode_12 rfl (by first | rfl | decide) ?_ (by omega) (by omega) trivial
    first
    | exact ⟨by rw [show decide (c < 256) = true from decide_eq_true (by have := mt (nI_ltI (a := 255) (b := c) (by decide) (by omega)).mpr c_4; omega)]; rfl, rfl, rfl⟩
    | exact ⟨by rw [show decide (c < 256) = false from decide_eq_false (by have := (nI_ltI (a := 255) (b := c) (by decide) (by omega)).mp c_4; omega)]; rfl, rfl, rfl⟩
theorem fg_J9_9_J9 : LkG RJ9 9 ciJ9 0 := ⟨RJ9, TJ9, 4, tyJ9, _, cls_J9, by decide, Or.inl rfl, Or.inl q1083⟩
theorem kv_J9_335 : LkV RJ9 335 yJ9_coder 0 := ⟨q952, q953, q954, q85, by decide +kernel, by decide +kernel, by decide +kernel⟩
set_option maxHeartbeats 4000000 in
set_option maxRecDepth 100000 in
theorem sp_J9_length {l : Launch} {s0 : State} {D : va_G} {I : AI} {L : AL} {o : Option Nat} (hΓ : Gam l s0 D) (hX : StV s0 o) {a k : Nat} {cs : List Nat} (hs : StrR I L a k cs) : Spc l s0 D yJ9_length 2 [.ref a] I L 0 0 (pV (.int (nI cs.length)) I L) noX := by
  refine Spc.of hΓ cJ9_length 1 (some FieldType.int) q951 (by decide +kernel) (by decide) (Nat.le_of_ble_eq_true rfl) (fun G GX hG => ?_)
  obtain ⟨arr, h, z, f, hs1, ha, hb, hc, hl⟩ := hs
  have hk := hc.le
  refine hG.aload_n dJ9_length_0 rfl ?_
  refine hG.get dJ9_length_1 fg_J9_9_J9 hs1 rfl ?_
  refine hG.alen dJ9_length_4 ha ?_
  refine hG.aload_n dJ9_length_5 rfl ?_
  refine hG.callV dJ9_length_6 kv_J9_335 (Rd.rcv hs1 cl_J9) (sp_J9_coder hΓ hX hs1 hk) rfl rfl (Nat.le_of_ble_eq_true rfl) (by decide) (by omega) (by omega) (fun r6 I6 L6 hI6 h6 => ?_) (fun _ _ _ _ _ h => h.elim)
  obtain ⟨rfl, rfl, rfl⟩ := h6
  refine hG.ishr dJ9_length_9 ?_
  rw [show (Int32.ofNat (cs.length * (k + 1)) >>> (nI k &&& 31)) = nI (cs.length * (k + 1) / (k + 1)) from shrk hk (by have : cs.length * (k + 1) ≤ cs.length * 2 := Nat.mul_le_mul_left _ (by omega); omega), Nat.mul_div_cancel _ (by omega)]
  refine hG.iret dJ9_length_10 rfl ?_ (by omega) (by omega) trivial
  exact ⟨rfl, rfl, rfl⟩
theorem kv_J9_492 : LkV RJ9 492 yJ9_isLatin1 0 := ⟨q826, q827, q828, q85, by decide +kernel, by decide +kernel, by decide +kernel⟩
theorem ks_J9_495 : LkS RJ9 495 yJ26_charAt 2 := ⟨q2758, q2759, q106, by decide +kernel, by decide +kernel, by decide +kernel⟩
set_option maxHeartbeats 4000000 in
set_option maxRecDepth 100000 in
theorem sp_J9_charAt {l : Launch} {s0 : State} {D : va_G} {I : AI} {L : AL} {o : Option Nat} (hΓ : Gam l s0 D) (hX : StV s0 o) {a : Nat} {cs : List Nat} (hs : StrR I L a 0 cs) {i c : Nat} (hi : cs[i]? = some c) : Spc l s0 D yJ9_charAt 4 [.ref a, .int (nI i)] I L 0 0 (pV (.int (nI c)) I L) noX := by
  refine Spc.of hΓ cJ9_charAt 2 (some FieldType.char) q2757 (by decide +kernel) (by decide) (Nat.le_of_ble_eq_true rfl) (fun G GX hG => ?_)
  obtain ⟨arr, h, z, f, hs1, ha, hb, hc, hl⟩ := hs
  have hk := hc.le
  have hi9 := (List.getElem?_eq_some_iff.mp hi).1
  have hbi : (enc 0 cs)[i]? = some (byt c) := by rw [enc0, hi]; rfl
  have hcc : c < 256 := by
    rcases hc with ⟨_, q⟩ | ⟨q, _⟩
    · exact q c (List.mem_of_getElem? hi)
    · cases q
  refine hG.aload_n dJ9_charAt_0 rfl ?_
  refine hG.callV dJ9_charAt_1 kv_J9_492 (Rd.rcv hs1 cl_J9) (sp_J9_isLatin1 hΓ hX hs1 hk) rfl rfl (Nat.le_of_ble_eq_true rfl) (by decide) (by omega) (by omega) (fun r1 I1 L1 hI1 h1 => ?_) (fun _ _ _ _ _ h => h.elim)
  obtain ⟨rfl, rfl, rfl⟩ := h1
  refine hG.if_eq (tgt := 16) dJ9_charAt_4 rfl (fun c_4 => absurd c_4 (by decide)) (fun c_4 => ?_)
  refine hG.aload_n dJ9_charAt_7 rfl ?_
  refine hG.get dJ9_charAt_8 fg_J9_9_J9 hs1 rfl ?_
  refine hG.iload_n dJ9_charAt_11 rfl ?_
  refine hG.callS dJ9_charAt_12 ks_J9_495 (sp_J26_charAt hΓ hX ha (by omega) (by omega) (hb i _ hbi) hcc) rfl rfl (Nat.le_of_ble_eq_true rfl) (by decide) (by omega) (by omega) (fun r12 I12 L12 hI12 h12 => ?_) (fun _ _ _ _ _ h => h.elim)
  obtain ⟨rfl, rfl, rfl⟩ := h12
  refine hG.zret dJ9_charAt_15 rfl (pk_charN (by omega)).1 ?_ (by omega) (by omega) trivial
  exact ⟨rfl, rfl, rfl⟩
