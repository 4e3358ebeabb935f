/-! byte arrays copied -/
def Fb (n : Nat) (f : Nat → Int32) : Prop := ∀ j, j < n → fits .byte (.int (f j)) = true
theorem enc_fit {k : Nat} {cs : List Nat} {b : Int32} (h : b ∈ enc k cs) : fits .byte (.int b) = true := by
  unfold enc at h
  split at h
  · obtain ⟨c, _, rfl⟩ := List.mem_map.mp h
    exact pk_fb _
  · obtain ⟨c, _, hb⟩ := List.mem_flatMap.mp h
    simp at hb
    rcases hb with rfl | rfl
    · exact pk_fb _
    · exact pk_fb _
theorem Bs.fit {f : Nat → Int32} {k : Nat} {cs : List Nat} (h : Bs f (enc k cs)) : Fb (enc k cs).length f := fun j hj => by
  rw [h j _ (List.getElem?_eq_getElem hj)]
  exact enc_fit (List.getElem_mem hj)
theorem arB_new (n : Nat) : ∀ cA : ClassId, vp_cell cA (n, .inl (fun _ => (0 : Int32))) = arrV cA n (fun _ => defaultValue .byte) := fun _ => rfl
theorem Rd.new {I : AI} {L : AL} {a q : Nat} {e : E1} (h : Rd I L a e) (hq : L q = none) (x : Option Cel) : Rd I (up1 L q x) a e := h.imp (fun h => (up1_n (ne_none h hq)).trans h) id
theorem imin {x y : Nat} (hx : x < 2 ^ 31) (hy : y < 2 ^ 31) : (if nI y < nI x then nI y else nI x) = nI (if y < x then y else x) := by
  by_cases h : y < x
  · rw [if_pos h, if_pos ((nI_ltI hy hx).mpr h)]
  · rw [if_neg h, if_neg (fun q => h ((nI_ltI hy hx).mp q))]
theorem imax {x y : Nat} (hx : x < 2 ^ 31) (hy : y < 2 ^ 31) : (if nI x < nI y then nI y else nI x) = nI (if x < y then y else x) := by
  by_cases h : x < y
  · rw [if_pos h, if_pos ((nI_ltI hx hy).mpr h)]
  · rw [if_neg h, if_neg (fun q => h ((nI_ltI hx hy).mp q))]
/-- a fresh byte array -/
def pA (I : AI) (L : AL) (n : Nat) (P : (Nat → Int32) → Prop) : Option Value → AI → AL → Prop := fun r I' L' => I = I' ∧ ∃ (q : Nat) (f : Nat → Int32), r = some (.ref q) ∧ L q = none ∧ L' = up1 L q (some (.inl (arB n f))) ∧ P f

set_option maxHeartbeats 4000000 in
set_option maxRecDepth 100000 in
theorem sp_J19_checkLength {l : Launch} {s0 : State} {D : va_G} {I : AI} {L : AL} (hΓ : Gam l s0 D) {i j : Nat} (hi : i ≤ j) (hj : j < 2 ^ 31) : Spc l s0 D yJ19_checkLength 1 [.int (nI i), .int (nI j)] I L 0 0 (p0 I L) noX := by
  refine Spc.of hΓ cJ19_checkLength 2 none q1050 (by decide +kernel) (by decide) (Nat.le_of_ble_eq_true rfl) (fun G GX hG => ?_)
  refine hG.iload_n dJ19_checkLength_0 rfl ?_
  refine hG.iload_n dJ19_checkLength_1 rfl ?_
  refine hG.icmp_ge (tgt := 37) dJ19_checkLength_2 rfl (fun c_2 => ?_) (fun c_2 => absurd (nI_le hi hj) c_2)
  refine hG.vret dJ19_checkLength_37 rfl ?_ (by omega) (by omega) trivial
  exact ⟨rfl, rfl, rfl⟩
theorem ks_J19_343 : LkS RJ19 343 yJ19_checkLength 2 := ⟨q1048, q1049, q98, by decide +kernel, by decide +kernel, by decide +kernel⟩
set_option maxHeartbeats 4000000 in
set_option maxRecDepth 100000 in
theorem sp_J19_copyOfRangeByte {l : Launch} {s0 : State} {D : va_G} {I : AI} {L : AL} (hΓ : Gam l s0 D) {arr n : Nat} {f : Nat → Int32} (ha : Rd I L arr (arB n f)) (hn : n < 2 ^ 29) {i j : Nat} (hi : i ≤ j) (hj : j ≤ n) (hF : Fb n f) : Spc l s0 D yJ19_copyOfRangeByte 2 [.ref arr, .int (nI i), .int (nI j)] I L 1 (j - i) (pA I L (j - i) (fun g => ∀ t, t < j - i → g t = f (i + t))) noX := by
  refine Spc.of hΓ cJ19_copyOfRangeByte 5 (some (FieldType.array FieldType.byte)) q1047 (by decide +kernel) (by decide) (Nat.le_of_ble_eq_true rfl) (fun G GX hG => ?_)
  refine hG.iload_n dJ19_copyOfRangeByte_0 rfl ?_
  refine hG.iload_n dJ19_copyOfRangeByte_1 rfl ?_
  refine hG.callS dJ19_copyOfRangeByte_2 ks_J19_343 (sp_J19_checkLength hΓ hi (by omega)) rfl rfl (Nat.le_of_ble_eq_true rfl) (by decide) (by omega) (by omega) (fun r2 I2 L2 hI2 h2 => ?_) (fun _ _ _ _ _ h => h.elim)
  obtain ⟨rfl, rfl, rfl⟩ := h2
  refine hG.iload_n dJ19_copyOfRangeByte_5 rfl ?_
  refine hG.iload_n dJ19_copyOfRangeByte_6 rfl ?_
  refine hG.isub dJ19_copyOfRangeByte_7 ?_
  rw [pk_sub hi]
  refine hG.istore_n dJ19_copyOfRangeByte_8 (by decide) ?_
  refine hG.iload_n dJ19_copyOfRangeByte_9 rfl ?_
  refine hG.newa .byte (j - i, .inl (fun _ => 0)) dJ19_copyOfRangeByte_10 q357 rfl (arB_new _) (nI_pos (by omega)) (nI_clamp (by omega)) (by show (j - i) * 1 ≤ _; omega) (by omega) (by show _ + (j - i) ≤ _; omega) (fun q hLq hIq => ?_)
  refine hG.astore dJ19_copyOfRangeByte_12 (by decide) ?_
  refine hG.aload_n dJ19_copyOfRangeByte_14 rfl ?_
  refine hG.iload_n dJ19_copyOfRangeByte_15 rfl ?_
  refine hG.aload dJ19_copyOfRangeByte_16 rfl ?_
  refine hG.iconst (v := 0) dJ19_copyOfRangeByte_18 rfl ?_
  refine hG.aload_n dJ19_copyOfRangeByte_19 rfl ?_
  refine hG.alen dJ19_copyOfRangeByte_20 (ha.new hLq _) ?_
  refine hG.iload_n dJ19_copyOfRangeByte_21 rfl ?_
  refine hG.isub dJ19_copyOfRangeByte_22 ?_
  refine hG.iload_n dJ19_copyOfRangeByte_23 rfl ?_
  rw [show (Int32.ofNat n - nI i) = nI (n - i) from pk_sub (by omega)]
  refine hG.mmin dJ19_copyOfRangeByte_24 q647 (Nat.le_of_ble_eq_true rfl) (by decide) ?_
  rw [imin (by omega) (by omega), show (if j - i < n - i then j - i else n - i) = j - i by split <;> omega]
  refine hG.acopyI dJ19_copyOfRangeByte_27 q650 rfl (ha.new hLq _) up1_s (nI_pos (by omega)) (by decide) (nI_pos (by omega)) (by rw [show (nI (i) : Int32).toNatClampNeg = i from nI_clamp (by omega), show (nI (j - i) : Int32).toNatClampNeg = j - i from nI_clamp (by omega)]; omega) (by rw [show (0 : Int32).toNatClampNeg = 0 from rfl, show (nI (j - i) : Int32).toNatClampNeg = j - i from nI_clamp (by omega)]; omega) (fun i_1 hi => by rw [show (nI (j - i) : Int32).toNatClampNeg = j - i from nI_clamp (by omega)] at hi; rw [show (nI (i) : Int32).toNatClampNeg = i from nI_clamp (by omega)]; exact hF (i + i_1) (by omega)) (Nat.le_of_ble_eq_true rfl) (by decide) ?_
  rw [show (nI (i) : Int32).toNatClampNeg = i from nI_clamp (by omega), show (0 : Int32).toNatClampNeg = 0 from rfl, show (nI (j - i) : Int32).toNatClampNeg = j - i from nI_clamp (by omega)]
  rw [up1_up1]
  refine hG.aload dJ19_copyOfRangeByte_30 rfl ?_
  refine hG.aret dJ19_copyOfRangeByte_32 rfl (by first | exact Or.inl ⟨_, rfl⟩ | exact Or.inr ⟨_, rfl⟩) (by first | exact Or.inr ⟨_, rfl⟩ | exact Or.inl rfl) ?_ (by omega) (by omega) trivial
  refine ⟨rfl, q, _, rfl, hLq, rfl, fun t ht => ?_⟩
  rw [pk_cpy_in (Nat.zero_le t) (by omega), Nat.sub_zero]
theorem ks_J19_339 : LkS RJ19 339 yJ19_copyOfRangeByte 3 := ⟨q1045, q1046, q98, by decide +kernel, by decide +kernel, by decide +kernel⟩
set_option maxHeartbeats 4000000 in
set_option maxRecDepth 100000 in
theorem sp_J19_copyOfRange {l : Launch} {s0 : State} {D : va_G} {I : AI} {L : AL} (hΓ : Gam l s0 D) {arr n : Nat} {f : Nat → Int32} (ha : Rd I L arr (arB n f)) (hn : n < 2 ^ 29) {i j : Nat} (hi : i ≤ j) (hj : j ≤ n) (hne : i = 0 → j ≠ n) (hF : Fb n f) : Spc l s0 D yJ19_copyOfRange 3 [.ref arr, .int (nI i), .int (nI j)] I L 1 (j - i) (pA I L (j - i) (fun g => ∀ t, t < j - i → g t = f (i + t))) noX := by
  refine Spc.of hΓ cJ19_copyOfRange 3 (some (FieldType.array FieldType.byte)) q1044 (by decide +kernel) (by decide) (Nat.le_of_ble_eq_true rfl) (fun G GX hG => ?_)
  refine hG.iload_n dJ19_copyOfRange_0 rfl ?_
  refine hG.if_ne (tgt := 10) dJ19_copyOfRange_1 rfl (fun c_1 => ?_) (fun c_1 => ?_)
  · refine hG.aload_n dJ19_copyOfRange_10 rfl ?_
    refine hG.iload_n dJ19_copyOfRange_11 rfl ?_
    refine hG.iload_n dJ19_copyOfRange_12 rfl ?_
    refine hG.callS dJ19_copyOfRange_13 ks_J19_339 (sp_J19_copyOfRangeByte hΓ ha hn hi hj hF) rfl rfl (Nat.le_of_ble_eq_true rfl) (by decide) (by omega) (by omega) (fun r13 I13 L13 hI13 h13 => ?_) (fun _ _ _ _ _ h => h.elim)
    obtain ⟨rfl, q, g, rfl, h1, rfl, h2⟩ := h13
    refine hG.aret dJ19_copyOfRange_16 rfl (by first | exact Or.inl ⟨_, rfl⟩ | exact Or.inr ⟨_, rfl⟩) (by first | exact Or.inr ⟨_, rfl⟩ | exact Or.inl rfl) ?_ (by omega) (by omega) trivial
    exact ⟨rfl, q, g, rfl, h1, rfl, h2⟩
  · refine hG.iload_n dJ19_copyOfRange_4 rfl ?_
    refine hG.aload_n dJ19_copyOfRange_5 rfl ?_
    refine hG.alen dJ19_copyOfRange_6 ha ?_
    refine hG.icmp_eq (tgt := 17) dJ19_copyOfRange_7 rfl (fun c_7 => absurd c_7 (fun e => hne ((nI_eq (b := 0) (by omega) (by decide)).mp c_1) ((nI_eq (by omega) (by omega)).mp e))) (fun c_7 => ?_)
    refine hG.aload_n dJ19_copyOfRange_10 rfl ?_
    refine hG.iload_n dJ19_copyOfRange_11 rfl ?_
    refine hG.iload_n dJ19_copyOfRange_12 rfl ?_
    refine hG.callS dJ19_copyOfRange_13 ks_J19_339 (sp_J19_copyOfRangeByte hΓ ha hn hi hj hF) rfl rfl (Nat.le_of_ble_eq_true rfl) (by decide) (by omega) (by omega) (fun r13 I13 L13 hI13 h13 => ?_) (fun _ _ _ _ _ h => h.elim)
    obtain ⟨rfl, q, g, rfl, h1, rfl, h2⟩ := h13
    refine hG.aret dJ19_copyOfRange_16 rfl (by first | exact Or.inl ⟨_, rfl⟩ | exact Or.inr ⟨_, rfl⟩) (by first | exact Or.inr ⟨_, rfl⟩ | exact Or.inl rfl) ?_ (by omega) (by omega) trivial
    exact ⟨rfl, q, g, rfl, h1, rfl, h2⟩
set_option maxHeartbeats 4000000 in
set_option maxRecDepth 100000 in
theorem sp_J19_copyOf_3 {l : Launch} {s0 : State} {D : va_G} {I : AI} {L : AL} (hΓ : Gam l s0 D) {arr n : Nat} {f : Nat → Int32} (ha : Rd I L arr (arB n f)) (hn : n < 2 ^ 29) {j : Nat} (hj : n < j) (hj2 : j < 2 ^ 28) (hF : Fb n f) : Spc l s0 D yJ19_copyOf_3 1 [.ref arr, .int (nI j)] I L 1 j (pA I L j (fun g => (∀ t, t < n → g t = f t) ∧ Fb j g)) noX := by
  refine Spc.of hΓ cJ19_copyOf_3 3 (some (FieldType.array FieldType.byte)) q918 (by decide +kernel) (by decide) (Nat.le_of_ble_eq_true rfl) (fun G GX hG => ?_)
  refine hG.iload_n dJ19_copyOf_3_0 rfl ?_
  refine hG.aload_n dJ19_copyOf_3_1 rfl ?_
  refine hG.alen dJ19_copyOf_3_2 ha ?_
  refine hG.icmp_ne (tgt := 14) dJ19_copyOf_3_3 rfl (fun c_3 => ?_) (fun c_3 => absurd c_3 (fun e => absurd ((nI_eq (by omega) (by omega)).mp e) (by omega)))
  refine hG.iload_n dJ19_copyOf_3_14 rfl ?_
  refine hG.newa .byte (j, .inl (fun _ => 0)) dJ19_copyOf_3_15 q357 rfl (arB_new _) (nI_pos (by omega)) (nI_clamp (by omega)) (by show (j) * 1 ≤ _; omega) (by omega) (by show _ + (j) ≤ _; omega) (fun q hLq hIq => ?_)
  refine hG.astore_n dJ19_copyOf_3_17 (by decide) ?_
  refine hG.aload_n dJ19_copyOf_3_18 rfl ?_
  refine hG.iconst (v := 0) dJ19_copyOf_3_19 rfl ?_
  refine hG.aload_n dJ19_copyOf_3_20 rfl ?_
  refine hG.iconst (v := 0) dJ19_copyOf_3_21 rfl ?_
  refine hG.aload_n dJ19_copyOf_3_22 rfl ?_
  refine hG.alen dJ19_copyOf_3_23 (ha.new hLq _) ?_
  refine hG.iload_n dJ19_copyOf_3_24 rfl ?_
  refine hG.mmin dJ19_copyOf_3_25 q647 (Nat.le_of_ble_eq_true rfl) (by decide) ?_
  rw [show (if nI j < Int32.ofNat n then nI j else Int32.ofNat n) = nI (if j < n then j else n) from imin (by omega) (by omega), if_neg (by omega)]
  refine hG.acopyI dJ19_copyOf_3_28 q650 rfl (ha.new hLq _) up1_s (by decide) (by decide) (nI_pos (by omega)) (by rw [show (0 : Int32).toNatClampNeg = 0 from rfl, show (nI (n) : Int32).toNatClampNeg = n from nI_clamp (by omega)]; omega) (by rw [show (0 : Int32).toNatClampNeg = 0 from rfl, show (nI (n) : Int32).toNatClampNeg = n from nI_clamp (by omega)]; omega) (fun i_1 hi => by rw [show (nI (n) : Int32).toNatClampNeg = n from nI_clamp (by omega)] at hi; rw [show (0 : Int32).toNatClampNeg = 0 from rfl]; exact hF (0 + i_1) (by omega)) (Nat.le_of_ble_eq_true rfl) (by decide) ?_
  rw [show (0 : Int32).toNatClampNeg = 0 from rfl, show (nI (n) : Int32).toNatClampNeg = n from nI_clamp (by omega)]
  rw [up1_up1]
  refine hG.aload_n dJ19_copyOf_3_31 rfl ?_
  refine hG.aret dJ19_copyOf_3_32 rfl (by first | exact Or.inl ⟨_, rfl⟩ | exact Or.inr ⟨_, rfl⟩) (by first | exact Or.inr ⟨_, rfl⟩ | exact Or.inl rfl) ?_ (by omega) (by omega) trivial
  refine ⟨rfl, q, _, rfl, hLq, rfl, fun t ht => ?_, fun t ht => ?_⟩
  · rw [pk_cpy_in (Nat.zero_le t) (by omega), Nat.sub_zero, Nat.zero_add]
  · by_cases h9 : t < n
    · rw [pk_cpy_in (Nat.zero_le t) (by omega), Nat.sub_zero, Nat.zero_add]
      exact hF t h9
    · rw [pk_cpy_out (Or.inr (by omega))]
      rfl
set_option maxHeartbeats 4000000 in
set_option maxRecDepth 100000 in
theorem sp_J17_newLength {l : Launch} {s0 : State} {D : va_G} {I : AI} {L : AL} (hΓ : Gam l s0 D) {a b c : Nat} (ha : a < 2 ^ 28) (hb : 0 < b) (hb2 : b < 2 ^ 28) (hc : c < 2 ^ 28) : Spc l s0 D yJ17_newLength 1 [.int (nI a), .int (nI b), .int (nI c)] I L 0 0 (pV (.int (nI (a + (if b < c then c else b)))) I L) noX := by
  refine Spc.of hΓ cJ17_newLength 4 (some FieldType.int) q580 (by decide +kernel) (by decide) (Nat.le_of_ble_eq_true rfl) (fun G GX hG => ?_)
  refine hG.iload_n dJ17_newLength_0 rfl ?_
  refine hG.iload_n dJ17_newLength_1 rfl ?_
  refine hG.iload_n dJ17_newLength_2 rfl ?_
  refine hG.mmax dJ17_newLength_3 q581 (Nat.le_of_ble_eq_true rfl) (by decide) ?_
  rw [imax (by omega) (by omega)]
  refine hG.iadd dJ17_newLength_6 ?_
  rw [nI_add]
  refine hG.istore_n dJ17_newLength_7 (by decide) ?_
  refine hG.iconst (v := 0) dJ17_newLength_8 rfl ?_
  refine hG.iload_n dJ17_newLength_9 rfl ?_
  refine hG.icmp_ge (tgt := 21) dJ17_newLength_10 rfl (fun c_10 => absurd c_10 (fun e => absurd ((nI_leI (a := a + (if b < c then c else b)) (b := 0) (by split <;> omega) (by decide)).mp e) (by split <;> omega))) (fun c_10 => ?_)
  refine hG.iload_n dJ17_newLength_13 rfl ?_
  refine hG.ldc dJ17_newLength_14 q584 ?_
  refine hG.icmp_gt (tgt := 21) dJ17_newLength_16 rfl (fun c_16 => absurd c_16 (fun e => absurd ((nI_ltI (a := 2147483639) (b := a + (if b < c then c else b)) (by decide) (by split <;> omega)).mp e) (by split <;> omega))) (fun c_16 => ?_)
  refine hG.iload_n dJ17_newLength_19 rfl ?_
  refine hG.iret dJ17_newLength_20 rfl ?_ (by omega) (by omega) trivial
  exact ⟨rfl, rfl, rfl⟩
set_option maxHeartbeats 4000000 in
set_option maxRecDepth 100000 in
theorem sp_J10_newBytesLength {l : Launch} {s0 : State} {D : va_G} {I : AI} {L : AL} (hΓ : Gam l s0 D) {n : Nat} (hn : n < 2 ^ 28) : Spc l s0 D yJ10_newBytesLength 1 [.int (nI n)] I L 0 0 (pV (.int (nI (2 * n))) I L) noX := by
  refine Spc.of hΓ cJ10_newBytesLength 1 (some FieldType.int) q341 (by decide +kernel) (by decide) (Nat.le_of_ble_eq_true rfl) (fun G GX hG => ?_)
  refine hG.iload_n dJ10_newBytesLength_0 rfl ?_
  refine hG.if_ge (tgt := 12) dJ10_newBytesLength_1 rfl (fun c_1 => ?_) (fun c_1 => absurd (nI_pos' (by omega)) c_1)
  refine hG.iload_n dJ10_newBytesLength_12 rfl ?_
  refine hG.ldc dJ10_newBytesLength_13 q342 ?_
  refine hG.icmp_lt (tgt := 55) dJ10_newBytesLength_15 rfl (fun c_15 => ?_) (fun c_15 => absurd (nI_lt (b := 1073741823) (by omega) (by decide)) c_15)
  refine hG.iload_n dJ10_newBytesLength_55 rfl ?_
  refine hG.iconst (v := 1) dJ10_newBytesLength_56 rfl ?_
  refine hG.ishl dJ10_newBytesLength_57 ?_
  rw [pk_shlN (1 &&& 31) 1 (by decide) (by omega), show n * 2 ^ 1 = 2 * n by omega]
  refine hG.iret dJ10_newBytesLength_58 rfl ?_ (by omega) (by omega) trivial
  exact ⟨rfl, rfl, rfl⟩
theorem ks_J10_11 : LkS RJ10 11 yJ10_newBytesLength 1 := ⟨q339, q340, q86, by decide +kernel, by decide +kernel, by decide +kernel⟩
set_option maxHeartbeats 4000000 in
set_option maxRecDepth 100000 in
theorem sp_J10_newBytesFor {l : Launch} {s0 : State} {D : va_G} {I : AI} {L : AL} (hΓ : Gam l s0 D) {n : Nat} (hn : n < 2 ^ 28) : Spc l s0 D yJ10_newBytesFor 2 [.int (nI n)] I L 1 (2 * n) (pA I L (2 * n) (fun g => g = fun _ => 0)) noX := by
  refine Spc.of hΓ cJ10_newBytesFor 1 (some (FieldType.array FieldType.byte)) q338 (by decide +kernel) (by decide) (Nat.le_of_ble_eq_true rfl) (fun G GX hG => ?_)
  refine hG.iload_n dJ10_newBytesFor_0 rfl ?_
  refine hG.callS dJ10_newBytesFor_1 ks_J10_11 (sp_J10_newBytesLength hΓ hn) rfl rfl (Nat.le_of_ble_eq_true rfl) (by decide) (by omega) (by omega) (fun r1 I1 L1 hI1 h1 => ?_) (fun _ _ _ _ _ h => h.elim)
  obtain ⟨rfl, rfl, rfl⟩ := h1
  refine hG.newa .byte (2 * n, .inl (fun _ => 0)) dJ10_newBytesFor_4 q357 rfl (arB_new _) (nI_pos (by omega)) (nI_clamp (by omega)) (by show (2 * n) * 1 ≤ _; omega) (by omega) (by show _ + (2 * n) ≤ _; omega) (fun q hLq hIq => ?_)
  refine hG.aret dJ10_newBytesFor_6 rfl (by first | exact Or.inl ⟨_, rfl⟩ | exact Or.inr ⟨_, rfl⟩) (by first | exact Or.inr ⟨_, rfl⟩ | exact Or.inl rfl) ?_ (by omega) (by omega) trivial
  exact ⟨rfl, q, _, rfl, hLq, rfl, rfl⟩
theorem fp_J9_15_J9 : LkP RJ9 "<init>" 15 ciJ9 1 (tyJ9 1) := ⟨RJ9, TJ9, 4, tyJ9, _, cls_J9, by decide, rfl, Or.inl rfl, Or.inr (Or.inr ⟨rfl, rfl, rfl, q1084⟩)⟩
theorem fit_k {k : Nat} (hk : k ≤ 1) : fits .byte (.int (nI k)) = true := by
  rcases Nat.le_one_iff_eq_zero_or_eq_one.mp hk with rfl | rfl <;> rfl
theorem fp_J9_9_J9 : LkP RJ9 "<init>" 9 ciJ9 0 (tyJ9 0) := ⟨RJ9, TJ9, 4, tyJ9, _, cls_J9, by decide, rfl, Or.inl rfl, Or.inr (Or.inr ⟨rfl, rfl, rfl, q1083⟩)⟩
set_option maxHeartbeats 4000000 in
set_option maxRecDepth 100000 in
theorem sp_J9_init_3 {l : Launch} {s0 : State} {D : va_G} {I : AI} {L : AL} (hΓ : Gam l s0 D) {a arr : Nat} {k : Nat} (hk : k ≤ 1) (h0 : L a = some (obC ciJ9 [.null, .int 0, .int 0, .int 0])) : Spc l s0 D yJ9_init_3 2 [.ref a, .ref arr, .int (nI k)] I L 0 0 (pU I L a (obC ciJ9 [.ref arr, .int (nI k), .int 0, .int 0])) noX := by
  refine Spc.of hΓ cJ9_init_3 3 none q2717 (by decide +kernel) (by decide) (Nat.le_of_ble_eq_true rfl) (fun G GX hG => ?_)
  refine hG.aload_n dJ9_init_3_0 rfl ?_
  refine hG.objI dJ9_init_3_1 q1027 (Nat.le_of_ble_eq_true rfl) (by decide) ?_
  refine hG.aload_n dJ9_init_3_4 rfl ?_
  refine hG.aload_n dJ9_init_3_5 rfl ?_
  refine hG.put dJ9_init_3_6 fp_J9_9_J9 h0 rfl rfl (Nat.le_of_ble_eq_true rfl) ?_
  refine hG.aload_n dJ9_init_3_9 rfl ?_
  refine hG.iload_n dJ9_init_3_10 rfl ?_
  refine hG.put dJ9_init_3_11 fp_J9_15_J9 up1_s (nar_k hk) (fit_k hk) (Nat.le_of_ble_eq_true rfl) ?_
  rw [up1_up1]
  refine hG.vret dJ9_init_3_14 rfl ?_ (by omega) (by omega) trivial
  exact ⟨rfl, rfl, rfl⟩
