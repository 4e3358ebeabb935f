/-! strings made of two byte characters; bytes compared -/
theorem up_fr2 {L : AL} {p q : Nat} {y z : Option Cel} (hpq : q ≠ p) (hL : L q = none) : up1 (up1 (up1 L q y) p z) q none = up1 L p z := by
  funext t
  by_cases h1 : t = q
  · subst h1
    rw [up1_s, up1_n hpq, hL]
  · rw [up1_n h1]
    by_cases h2 : t = p
    · subst h2
      rw [up1_s, up1_s]
    · rw [up1_n h2, up1_n h1, up1_n h2]
theorem byt_inj {a b : Nat} (ha : a < 256) (hb : b < 256) (h : byt a = byt b) : a = b := by
  have h1 := byt_and a
  rw [h, byt_and, Nat.mod_eq_of_lt ha, Nat.mod_eq_of_lt hb] at h1
  exact ((nI_eq (by omega) (by omega)).mp h1).symm
set_option maxHeartbeats 4000000 in
set_option maxRecDepth 100000 in
theorem sp_J10_compress_2 {l : Launch} {s0 : State} {D : va_G} {I : AI} {L : AL} {o : Option Nat} (hΓ : Gam l s0 D) (hX : StV s0 o) {src dst n m so du len : Nat} {f g0 : Nat → Int32} {ch : Nat → Nat} (hs : Rd I L src (arB n f)) (hd : L dst = some (.inl (arB m g0))) (hne : src ≠ dst) (h1 : 2 * (so + len) ≤ n) (h2 : du + len ≤ m) (hn : n < 2 ^ 28) (hm : m < 2 ^ 28) (hch : ∀ t, t < len → f (2 * (so + t)) = byt (ch t) ∧ f (2 * (so + t) + 1) = hib (ch t) ∧ ch t < 256) : Spc l s0 D yJ10_compress_2 4 [.ref src, .int (nI so), .ref dst, .int (nI du), .int (nI len)] I L 0 0 (fun r I' L' => r = some (.int (nI len)) ∧ I = I' ∧ ∃ g : Nat → Int32, L' = up1 L dst (some (.inl (arB m g))) ∧ ∀ t, t < len → g (du + t) = byt (ch t)) noX := by
  refine Spc.of hΓ cJ10_compress_2 7 (some FieldType.int) q1077 (by decide +kernel) (by decide) (Nat.le_of_ble_eq_true rfl) (fun G GX hG => ?_)
  have loop : ∀ (w i : Nat) (g : Nat → Int32) (L1 : AL), i + w = len → L1 = up1 L dst (some (.inl (arB m g))) → (∀ t, t < i → g (du + t) = byt (ch t)) → G 10 [(0, .ref src), (1, .int (nI (so + i))), (2, .ref dst), (3, .int (nI (du + i))), (4, .int (nI len)), (5, .int (nI i))] [] I L1 0 0 := by
    intro w
    induction w with
    | zero =>
      intro i g L1 hiw hL1 hg
      subst hL1
      refine hG.iload dJ10_compress_2_10 rfl ?_
      refine hG.iload dJ10_compress_2_12 rfl ?_
      refine hG.icmp_ge (tgt := 53) dJ10_compress_2_14 rfl (fun c_14 => ?_) (fun c_14 => absurd (nI_le (by omega) (by omega)) c_14)
      refine hG.iload dJ10_compress_2_53 rfl ?_
      refine hG.iret dJ10_compress_2_55 rfl ?_ (by omega) (by omega) trivial
      cases (show i = len by omega)
      exact ⟨rfl, rfl, g, rfl, hg⟩
    | succ w ih =>
      intro i g L1 hiw hL1 hg
      subst hL1
      refine hG.iload dJ10_compress_2_10 rfl ?_
      refine hG.iload dJ10_compress_2_12 rfl ?_
      refine hG.icmp_ge (tgt := 53) dJ10_compress_2_14 rfl (fun c_14 => absurd c_14 (nI_ge (by omega) (by omega))) (fun c_14 => ?_)
      refine hG.aload_n dJ10_compress_2_17 rfl ?_
      refine hG.iload_n dJ10_compress_2_18 rfl ?_
      refine hG.callS dJ10_compress_2_19 ks_J10_71 (sp_J10_getChar hΓ hX (hs.imp (fun h => (up1_n hne).trans h) id) (by omega) (by omega) (hch i (by omega)).1 (hch i (by omega)).2.1 (by have := (hch i (by omega)).2.2; omega)) rfl rfl (Nat.le_of_ble_eq_true rfl) (by decide) (by omega) (by omega) (fun r19 I19 L19 hI19 h19 => ?_) (fun _ _ _ _ _ h => h.elim)
      obtain ⟨rfl, rfl, rfl⟩ := h19
      refine hG.istore dJ10_compress_2_22 (by decide) ?_
      refine hG.iload dJ10_compress_2_24 rfl ?_
      refine hG.sipush (v := 255) dJ10_compress_2_26 rfl ?_
      refine hG.icmp_le (tgt := 35) dJ10_compress_2_29 rfl (fun c_29 => ?_) (fun c_29 => absurd (nI_le (b := 255) (by have := (hch i (by omega)).2.2; omega) (by decide)) c_29)
      refine hG.aload_n dJ10_compress_2_35 rfl ?_
      refine hG.iload_n dJ10_compress_2_36 rfl ?_
      refine hG.iload dJ10_compress_2_37 rfl ?_
      refine hG.i2b dJ10_compress_2_39 ?_
      refine hG.bast dJ10_compress_2_40 up1_s (vp_in_nI (n := du + i) (by omega) (by omega)) ?_
      rw [nI_clamp (by omega), show (nI (ch i)).toInt8.toInt32 = byt (ch i) from rfl, show vp_nar .byte (byt (ch i)) = byt (ch i) from pk_vb _, up1_up1]
      refine hG.iinc dJ10_compress_2_41 rfl (by decide) ?_
      refine hG.iinc dJ10_compress_2_44 rfl (by decide) ?_
      refine hG.iinc dJ10_compress_2_47 rfl (by decide) ?_
      refine hG.goto (tgt := 10) dJ10_compress_2_50 rfl ?_
      refine hG.lsb [(0, .ref src), (1, .int (nI (so + (i + 1)))), (2, .ref dst), (3, .int (nI (du + (i + 1)))), (4, .int (nI len)), (5, .int (nI (i + 1)))] ⟨rfl, ?_, rfl, ?_, rfl, ?_, trivial⟩ (ih (i + 1) _ _ (by omega) rfl (fun t ht => ?_))
      · show some (Value.int (nI (so + i) + Int32.ofInt 1)) = _
        rw [show nI (so + i) + Int32.ofInt 1 = nI (so + (i + 1)) from nI_add _ 1]
      · show some (Value.int (nI (du + i) + Int32.ofInt 1)) = _
        rw [show nI (du + i) + Int32.ofInt 1 = nI (du + (i + 1)) from nI_add _ 1]
      · show some (Value.int (nI i + Int32.ofInt 1)) = _
        rw [show nI i + Int32.ofInt 1 = nI (i + 1) from nI_add _ 1]
      · by_cases hti : t = i
        · subst hti
          exact pk_us
        · exact (pk_un (by omega)).trans (hg t (by omega))
  refine hG.iload_n dJ10_compress_2_0 rfl ?_
  refine hG.iload dJ10_compress_2_1 rfl ?_
  refine hG.aload_n dJ10_compress_2_3 rfl ?_
  refine hG.callS dJ10_compress_2_4 ks_J10_173 (sp_J10_checkBoundsOffCount hΓ hX hs (by omega) (by omega)) rfl rfl (Nat.le_of_ble_eq_true rfl) (by decide) (by omega) (by omega) (fun r4 I4 L4 hI4 h4 => ?_) (fun _ _ _ _ _ h => h.elim)
  obtain ⟨rfl, rfl, rfl⟩ := h4
  refine hG.iconst (v := 0) dJ10_compress_2_7 rfl ?_
  refine hG.istore dJ10_compress_2_8 (by decide) ?_
  exact hG.lsb [(0, .ref src), (1, .int (nI so)), (2, .ref dst), (3, .int (nI du)), (4, .int (nI len)), (5, .int (nI 0))] ⟨rfl, rfl, rfl, rfl, rfl, rfl, trivial⟩ (loop len 0 g0 _ (by omega) (by rw [← hd, up1_self]) (fun t ht => absurd ht (Nat.not_lt_zero t)))
theorem ks_J10_123 : LkS RJ10 123 yJ10_compress_2 5 := ⟨q1075, q1076, q86, by decide +kernel, by decide +kernel, by decide +kernel⟩
set_option maxHeartbeats 4000000 in
set_option maxRecDepth 100000 in
theorem sp_J10_compress {l : Launch} {s0 : State} {D : va_G} {I : AI} {L : AL} {o : Option Nat} (hΓ : Gam l s0 D) (hX : StV s0 o) {src n so len : Nat} {f : Nat → Int32} {ch : Nat → Nat} (hs : Rd I L src (arB n f)) (h1 : 2 * (so + len) ≤ n) (hn : n < 2 ^ 28) (hne : ∀ q, L q = none → (∀ x, ¬ I q x) → src ≠ q) (hch : ∀ t, t < len → f (2 * (so + t)) = byt (ch t) ∧ f (2 * (so + t) + 1) = hib (ch t) ∧ ch t < 256) : Spc l s0 D yJ10_compress 5 [.ref src, .int (nI so), .int (nI len)] I L 1 len (pA I L len (fun g => ∀ t, t < len → g t = byt (ch t))) noX := by
  refine Spc.of hΓ cJ10_compress 6 (some (FieldType.array FieldType.byte)) q1074 (by decide +kernel) (by decide) (Nat.le_of_ble_eq_true rfl) (fun G GX hG => ?_)
  refine hG.iload_n dJ10_compress_0 rfl ?_
  refine hG.newa .byte (len, .inl (fun _ => 0)) dJ10_compress_1 q357 rfl (arB_new _) (nI_pos (by omega)) (nI_clamp (by omega)) (by show (len) * 1 ≤ _; omega) (by omega) (by show _ + (len) ≤ _; omega) (fun q hLq hIq => ?_)
  refine hG.astore_n dJ10_compress_3 (by decide) ?_
  refine hG.aload_n dJ10_compress_4 rfl ?_
  refine hG.iload_n dJ10_compress_5 rfl ?_
  refine hG.aload_n dJ10_compress_6 rfl ?_
  refine hG.iconst (v := 0) dJ10_compress_7 rfl ?_
  refine hG.iload_n dJ10_compress_8 rfl ?_
  refine hG.callS dJ10_compress_9 ks_J10_123 (sp_J10_compress_2 (du := 0) hΓ hX (hs.new hLq _) up1_s (hne q hLq hIq) h1 (by omega) hn (by omega) hch) rfl rfl (Nat.le_of_ble_eq_true rfl) (by decide) (by omega) (by omega) (fun r9 I9 L9 hI9 h9 => ?_) (fun _ _ _ _ _ h => h.elim)
  obtain ⟨rfl, rfl, g, rfl, hg⟩ := h9
  rw [up1_up1]
  refine hG.istore dJ10_compress_12 (by decide) ?_
  refine hG.iload dJ10_compress_14 rfl ?_
  refine hG.iload_n dJ10_compress_16 rfl ?_
  refine hG.icmp_eq (tgt := 64) dJ10_compress_17 rfl (fun c_17 => ?_) (fun c_17 => absurd rfl c_17)
  refine hG.aload_n dJ10_compress_64 rfl ?_
  refine hG.aret dJ10_compress_65 rfl (by first | exact Or.inl ⟨_, rfl⟩ | exact Or.inr ⟨_, rfl⟩) (by first | exact Or.inr ⟨_, rfl⟩ | exact Or.inl rfl) ?_ (by omega) (by omega) trivial
  exact ⟨rfl, q, g, rfl, hLq, rfl, fun t ht => by have := hg t ht; rw [Nat.zero_add] at this; exact this⟩
set_option maxHeartbeats 4000000 in
set_option maxRecDepth 100000 in
theorem sp_J10_coderFromArrayLen {l : Launch} {s0 : State} {D : va_G} {I : AI} {L : AL} (hΓ : Gam l s0 D) {arr n : Nat} {f : Nat → Int32} (ha : Rd I L arr (arB n f)) (hn : n < 2 ^ 28) : Spc l s0 D yJ10_coderFromArrayLen 1 [.ref arr, .int (nI n)] I L 0 0 (pV (.int (nI 0)) I L) noX := by
  refine Spc.of hΓ cJ10_coderFromArrayLen 2 (some FieldType.byte) q1082 (by decide +kernel) (by decide) (Nat.le_of_ble_eq_true rfl) (fun G GX hG => ?_)
  refine hG.iload_n dJ10_coderFromArrayLen_0 rfl ?_
  refine hG.aload_n dJ10_coderFromArrayLen_1 rfl ?_
  refine hG.alen dJ10_coderFromArrayLen_2 ha ?_
  refine hG.isub dJ10_coderFromArrayLen_3 ?_
  rw [show nI n - Int32.ofNat (n, (Sum.inl f : (Nat → Int32) ⊕ _)).1 = 0 from Int32.sub_self _]
  refine hG.bipush (v := 31) dJ10_coderFromArrayLen_4 rfl ?_
  refine hG.iushr dJ10_coderFromArrayLen_6 ?_
  refine hG.i2b dJ10_coderFromArrayLen_7 ?_
  refine hG.zret dJ10_coderFromArrayLen_8 rfl rfl ?_ (by omega) (by omega) trivial
  exact ⟨rfl, rfl, rfl⟩
set_option maxHeartbeats 4000000 in
set_option maxRecDepth 100000 in
theorem sp_J10_newString0 {l : Launch} {s0 : State} {D : va_G} {I : AI} {L : AL} {o : Option Nat} (hΓ : Gam l s0 D) (hT : StX s0 D o) {arr i : Nat} : Spc l s0 D yJ10_newString 4 [.ref arr, .int (nI i), .int 0] I L 0 0 (fun r I' L' => ∃ q, r = some (.ref q) ∧ I = I' ∧ L = L' ∧ StrI I' q 0 []) noX := by
  refine Spc.of hΓ cJ10_newString 5 (some (FieldType.object "java/lang/String")) q2991 (by decide +kernel) (by decide) (Nat.le_of_ble_eq_true rfl) (fun G GX hG => ?_)
  have hX := hT.v
  refine hG.iload_n dJ10_newString_0 rfl ?_
  refine hG.if_ne (tgt := 8) dJ10_newString_1 rfl (fun c_1 => absurd rfl c_1) (fun c_1 => ?_)
  refine hG.ldcTW dJ10_newString_4 (hT.tx 38 rfl) (fun s4 hs4 => ?_)
  refine hG.aret dJ10_newString_7 rfl (by first | exact Or.inl ⟨_, rfl⟩ | exact Or.inr ⟨_, rfl⟩) (by first | exact Or.inr ⟨_, rfl⟩ | exact Or.inl rfl) ?_ (by omega) (by omega) trivial
  exact ⟨_, rfl, rfl, rfl, hs4⟩
theorem ks_J10_257 : LkS RJ10 257 yJ10_compress 3 := ⟨q2994, q1073, q86, by decide +kernel, by decide +kernel, by decide +kernel⟩
theorem ks_J10_259 : LkS RJ10 259 yJ10_coderFromArrayLen 2 := ⟨q2995, q1081, q86, by decide +kernel, by decide +kernel, by decide +kernel⟩
theorem nw_J10_3 : LkN RJ10 3 ciJ9 [.null, .int 0, .int 0, .int 0] 4 := ⟨RJ9, TJ9, tyJ9, cls_J9, q2996, q1020, q85, rfl, fun j hj => by
  match j, hj with
  | 0, _ => rfl
  | 1, _ => rfl
  | 2, _ => rfl
  | 3, _ => rfl
  | _ + 4, h => exact absurd h (by omega)⟩
theorem ki_J10_263 : LkI RJ10 263 yJ9_init_3 2 := ⟨q2997, q2716, q85, rfl, ⟨by decide +kernel, by decide +kernel, by decide +kernel⟩, by decide +kernel⟩
set_option maxHeartbeats 4000000 in
set_option maxRecDepth 100000 in
theorem sp_J10_newString {l : Launch} {s0 : State} {D : va_G} {I : AI} {L : AL} {o : Option Nat} (hΓ : Gam l s0 D) (hX : StV s0 o) {arr n : Nat} {f : Nat → Int32} (ha : Rd I L arr (arB n f)) (hn : n < 2 ^ 28) {i : Nat} {cs : List Nat} (hi : 2 * (i + cs.length) ≤ n) (h0 : 0 < cs.length) (hl : cs.length ≤ 1000) (hb : ∀ t c, cs[t]? = some c → f (2 * (i + t)) = byt c ∧ f (2 * (i + t) + 1) = hib c) (hc : ∀ c ∈ cs, c < 256) (hne : ∀ q, L q = none → (∀ x, ¬ I q x) → arr ≠ q) : Spc l s0 D yJ10_newString 6 [.ref arr, .int (nI i), .int (nI cs.length)] I L 2 (4 + cs.length) (fun r I' L' => ∃ q, r = some (.ref q) ∧ NewS I' L L' q 0 cs) noX := by
  refine Spc.of hΓ cJ10_newString 5 (some (FieldType.object "java/lang/String")) q2991 (by decide +kernel) (by decide) (Nat.le_of_ble_eq_true rfl) (fun G GX hG => ?_)
  refine hG.iload_n dJ10_newString_0 rfl ?_
  refine hG.if_ne (tgt := 8) dJ10_newString_1 rfl (fun c_1 => ?_) (fun c_1 => absurd c_1 (nI_ne0 h0 (by omega)))
  refine hG.gets dJ10_newString_8 hX.cs q2993 (Or.inl rfl) ?_
  refine hG.if_eq (tgt := 39) dJ10_newString_11 rfl (fun c_11 => absurd c_11 (by decide)) (fun c_11 => ?_)
  refine hG.aload_n dJ10_newString_14 rfl ?_
  refine hG.iload_n dJ10_newString_15 rfl ?_
  refine hG.iload_n dJ10_newString_16 rfl ?_
  refine hG.callS dJ10_newString_17 ks_J10_257 (sp_J10_compress (ch := fun t => cs.getD t 0) hΓ hX ha hi hn hne (fun t ht => by
      have e9 : cs[t]? = some (cs.getD t 0) := by rw [List.getD_eq_getElem?_getD, List.getElem?_eq_getElem ht]; rfl
      exact ⟨(hb t _ e9).1, (hb t _ e9).2, hc _ (List.mem_of_getElem? e9)⟩)) rfl rfl (Nat.le_of_ble_eq_true rfl) (by decide) (by omega) (by omega) (fun r17 I17 L17 hI17 h17 => ?_) (fun _ _ _ _ _ h => h.elim)
  obtain ⟨rfl, q, g, rfl, h1, rfl, h2⟩ := h17
  refine hG.astore_n dJ10_newString_20 (by decide) ?_
  refine hG.aload_n dJ10_newString_21 rfl ?_
  refine hG.iload_n dJ10_newString_22 rfl ?_
  refine hG.callS dJ10_newString_23 ks_J10_259 (sp_J10_coderFromArrayLen hΓ (Or.inl up1_s) (by omega)) rfl rfl (Nat.le_of_ble_eq_true rfl) (by decide) (by omega) (by omega) (fun r23 I23 L23 hI23 h23 => ?_) (fun _ _ _ _ _ h => h.elim)
  obtain ⟨rfl, rfl, rfl⟩ := h23
  refine hG.istore dJ10_newString_26 (by decide) ?_
  refine hG.new dJ10_newString_28 nw_J10_3 (by omega) (by omega) (fun q28 hLq28 hIq28 => ?_)
  refine hG.dup dJ10_newString_31 rfl ?_
  refine hG.aload_n dJ10_newString_32 rfl ?_
  refine hG.iload dJ10_newString_33 rfl ?_
  refine hG.callI dJ10_newString_35 ki_J10_263 (sp_J9_init_3 (k := 0) hΓ (by decide) up1_s) rfl rfl (Nat.le_of_ble_eq_true rfl) (by decide) (by omega) (by omega) (fun r35 I35 L35 hI35 h35 => ?_) (fun _ _ _ _ _ h => h.elim)
  obtain ⟨rfl, rfl, rfl⟩ := h35
  rw [up1_up1]
  have hqq : q ≠ q28 := ne_none up1_s hLq28
  refine hG.fr (a := q) (e1 := arB (cs.length) g) (by rw [up1_n hqq, up1_s]) ?_
  rw [up_fr2 hqq h1]
  refine hG.aret dJ10_newString_38 rfl (by first | exact Or.inl ⟨_, rfl⟩ | exact Or.inr ⟨_, rfl⟩) (by first | exact Or.inr ⟨_, rfl⟩ | exact Or.inl rfl) ?_ (by omega) (by omega) trivial
  refine ⟨q28, rfl, q, g, (up1_n hqq.symm).symm.trans hLq28, rfl, by rw [Nat.zero_add, Nat.mul_one]; exact frI_in, fun t b hb9 => ?_, Or.inl ⟨rfl, hc⟩, hl⟩
  rw [enc0] at hb9
  cases hct : cs[t]? with
  | none => rw [hct] at hb9; cases hb9
  | some c =>
    rw [hct] at hb9
    have ht9 := (List.getElem?_eq_some_iff.mp hct).1
    rw [h2 t ht9, List.getD_eq_getElem?_getD, hct]
    exact Option.some.inj hb9
