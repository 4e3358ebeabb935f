/-! strings put into a builder; strings out of it -/
theorem StrR.frm {I : AI} {L0 M : AL} {s k a : Nat} {ds : List Nat} {N : List Nat} (hs : StrR I L0 s k ds) (hfr : Frm L0 a N M) (ha : ∀ e, L0 a ≠ some (.inl e)) : StrR I M s k ds := by
  obtain ⟨arr, h, z, f, h1, h2, h3⟩ := hs
  exact ⟨arr, h, z, f, h1.imp (fun q => (hfr s _ q (fun e => ha _ (e ▸ q))).2) id, h2.imp (fun q => (hfr arr _ q (fun e => ha _ (e ▸ q))).2) id, h3⟩
theorem StrR.mono {I J : AI} {L : AL} {s k : Nat} {ds : List Nat} (hs : StrR I L s k ds) (hI : ile I J) : StrR J L s k ds := by
  obtain ⟨arr, h, z, f, h1, h2, h3⟩ := hs
  exact ⟨arr, h, z, f, h1.imp id (hI _ _), h2.imp id (hI _ _), h3⟩
theorem sb_nr {L : AL} {a b k : Nat} {ml : Int32} {cs : List Nat} (h : L a = some (sbC b k ml cs)) : ∀ e, L a ≠ some (.inl e) := fun e q => by
  rw [h] at q
  cases q
set_option maxHeartbeats 4000000 in
set_option maxRecDepth 100000 in
theorem sp_J9_getBytes {l : Launch} {s0 : State} {D : va_G} {I : AI} {L : AL} {o : Option Nat} (hΓ : Gam l s0 D) (hX : StV s0 o) {s dst c k n : Nat} {ds : List Nat} {g0 : Nat → Int32} (hs : StrR I L s k ds) (hd : L dst = some (.inl (arB n g0))) (hcn : (c + ds.length) * (k + 1) ≤ n) (hn : n < 2 ^ 28) : Spc l s0 D yJ9_getBytes 2 [.ref s, .ref dst, .int (nI c), .int (nI k)] I L 0 0 (fun r I' L' => r = none ∧ I = I' ∧ ∃ g : Nat → Int32, Bs g (enc k ds) ∧ L' = up1 L dst (some (.inl (arB n (va_cpy g g0 0 (c * (k + 1)) (ds.length * (k + 1))))))) noX := by
  refine Spc.of hΓ cJ9_getBytes 4 none q987 (by decide +kernel) (by decide) (Nat.le_of_ble_eq_true rfl) (fun G GX hG => ?_)
  obtain ⟨arr, h, z, f, hs1, hs2, hs3, hs4, hs5⟩ := id hs
  have hk9 := hs4.le
  have hcs : (c + ds.length) * (k + 1) = c * (k + 1) + ds.length * (k + 1) := Nat.add_mul _ _ _
  have hdl : ds.length * (k + 1) ≤ ds.length * 2 := Nat.mul_le_mul_left _ (by omega)
  have hc1 : c ≤ c * (k + 1) := Nat.le_mul_of_pos_right _ (by omega)
  have hfit : Fb (ds.length * (k + 1)) f := by
    have := hs3.fit
    rw [enc_len hk9] at this
    exact this
  refine hG.aload_n dJ9_getBytes_0 rfl ?_
  refine hG.callV dJ9_getBytes_1 kv_J9_335 (Rd.rcv hs1 cl_J9) (sp_J9_coder hΓ hX hs1 hs4.le) rfl rfl (Nat.le_of_ble_eq_true rfl) (by decide) (by omega) (by omega) (fun r1 I1 L1 hI1 h1 => ?_) (fun _ _ _ _ _ h => h.elim)
  obtain ⟨rfl, rfl, rfl⟩ := h1
  refine hG.iload_n dJ9_getBytes_4 rfl ?_
  refine hG.icmp_ne (tgt := 28) dJ9_getBytes_5 rfl (fun c_5 => absurd rfl c_5) (fun c_5 => ?_)
  refine hG.aload_n dJ9_getBytes_8 rfl ?_
  refine hG.get dJ9_getBytes_9 fg_J9_9_J9 hs1 rfl ?_
  refine hG.iconst (v := 0) dJ9_getBytes_12 rfl ?_
  refine hG.aload_n dJ9_getBytes_13 rfl ?_
  refine hG.iload_n dJ9_getBytes_14 rfl ?_
  refine hG.iload_n dJ9_getBytes_15 rfl ?_
  refine hG.ishl dJ9_getBytes_16 ?_
  rw [shlk hs4.le (by omega)]
  refine hG.aload_n dJ9_getBytes_17 rfl ?_
  refine hG.get dJ9_getBytes_18 fg_J9_9_J9 hs1 rfl ?_
  refine hG.alen dJ9_getBytes_21 hs2 ?_
  refine hG.acopyI dJ9_getBytes_22 q988 rfl hs2 hd (by decide) (nI_pos (by omega)) (nI_pos (by omega)) (by rw [show (0 : Int32).toNatClampNeg = 0 from rfl, show (Int32.ofNat (ds.length * (k + 1)) : Int32).toNatClampNeg = ds.length * (k + 1) from nI_clamp (by omega)]; omega) (by rw [show (nI (c * (k + 1)) : Int32).toNatClampNeg = c * (k + 1) from nI_clamp (by omega), show (Int32.ofNat (ds.length * (k + 1)) : Int32).toNatClampNeg = ds.length * (k + 1) from nI_clamp (by omega)]; omega) (fun i_1 hi => by rw [show (Int32.ofNat (ds.length * (k + 1)) : Int32).toNatClampNeg = ds.length * (k + 1) from nI_clamp (by omega)] at hi; rw [show (0 : Int32).toNatClampNeg = 0 from rfl]; exact hfit _ (by omega)) (Nat.le_of_ble_eq_true rfl) (by decide) ?_
  rw [show (0 : Int32).toNatClampNeg = 0 from rfl, show (nI (c * (k + 1)) : Int32).toNatClampNeg = c * (k + 1) from nI_clamp (by omega), show (Int32.ofNat (ds.length * (k + 1)) : Int32).toNatClampNeg = ds.length * (k + 1) from nI_clamp (by omega)]
  refine hG.goto (tgt := 43) dJ9_getBytes_25 rfl ?_
  refine hG.vret dJ9_getBytes_43 rfl ?_ (by omega) (by omega) trivial
  exact ⟨rfl, rfl, f, hs3, rfl⟩
theorem kv_J7_40 : LkV RJ7 40 yJ9_coder 0 := ⟨q964, q953, q954, q85, by decide +kernel, by decide +kernel, by decide +kernel⟩
set_option maxHeartbeats 4000000 in
set_option maxRecDepth 100000 in
theorem sp_J7_inflateIfNeededFor0 {l : Launch} {s0 : State} {D : va_G} {I : AI} {L : AL} {o : Option Nat} (hΓ : Gam l s0 D) (hX : StV s0 o) {L0 : AL} {a b k cn arr m : Nat} {ml : Int32} {cs : List Nat} {f : Nat → Int32} (h : SbR L0 L a b k ml cn cs arr m f) {s : Nat} {ds : List Nat} (hs : StrR I L0 s k ds) (ha0 : ∀ e, L0 a ≠ some (.inl e)) : Spc l s0 D yJ7_inflateIfNeededFor 2 [.ref a, .ref s] I L 0 0 (p0 I L) noX := by
  refine Spc.of hΓ cJ7_inflateIfNeededFor 2 none q963 (by decide +kernel) (by decide) (Nat.le_of_ble_eq_true rfl) (fun G GX hG => ?_)
  obtain ⟨h1, h2, hF, hne, hfr⟩ := id h
  obtain ⟨hbs, hfb, hco, hlm, hm16, hmb, hlb, hb4⟩ := id hF
  obtain ⟨sr, sh, sz, sf, hs1, hs2, hs3, hs4, hs5⟩ := hs.frm hfr ha0
  refine hG.gets dJ7_inflateIfNeededFor_0 hX.cs q334 (Or.inl rfl) ?_
  refine hG.if_eq (tgt := 21) dJ7_inflateIfNeededFor_3 rfl (fun c_3 => absurd c_3 (by decide)) (fun c_3 => ?_)
  refine hG.aload_n dJ7_inflateIfNeededFor_6 rfl ?_
  refine hG.get dJ7_inflateIfNeededFor_7 fg_J7_22_J8 (Or.inl h1) rfl ?_
  refine hG.aload_n dJ7_inflateIfNeededFor_10 rfl ?_
  refine hG.callV dJ7_inflateIfNeededFor_11 kv_J7_40 (Rd.rcv hs1 cl_J9) (sp_J9_coder hΓ hX hs1 hs4.le) rfl rfl (Nat.le_of_ble_eq_true rfl) (by decide) (by omega) (by omega) (fun r11 I11 L11 hI11 h11 => ?_) (fun _ _ _ _ _ h => h.elim)
  obtain ⟨rfl, rfl, rfl⟩ := h11
  refine hG.icmp_eq (tgt := 21) dJ7_inflateIfNeededFor_14 rfl (fun c_14 => ?_) (fun c_14 => absurd rfl c_14)
  refine hG.vret dJ7_inflateIfNeededFor_21 rfl ?_ (by omega) (by omega) trivial
  exact ⟨rfl, rfl, rfl⟩
set_option maxHeartbeats 4000000 in
set_option maxRecDepth 100000 in
theorem sp_J7_inflateIfNeededFor1 {l : Launch} {s0 : State} {D : va_G} {I : AI} {L : AL} {o : Option Nat} (hΓ : Gam l s0 D) (hX : StV s0 o) {L0 : AL} {a b arr m : Nat} {ml : Int32} {cs : List Nat} {f : Nat → Int32} (h : SbR L0 L a b 0 ml cs.length cs arr m f) {s : Nat} {ds : List Nat} (hs : StrR I L0 s 1 ds) (ha0 : ∀ e, L0 a ≠ some (.inl e)) : Spc l s0 D yJ7_inflateIfNeededFor 7 [.ref a, .ref s] I L 1 ((2 * b + 34) * 2) (fun r I' L' => r = none ∧ I = I' ∧ (∃ (arr' : Nat) (f' : Nat → Int32), SbR L0 L' a b 1 ml cs.length cs arr' m f')) noX := by
  refine Spc.of hΓ cJ7_inflateIfNeededFor 2 none q963 (by decide +kernel) (by decide) (Nat.le_of_ble_eq_true rfl) (fun G GX hG => ?_)
  obtain ⟨h1, h2, hF, hne, hfr⟩ := id h
  obtain ⟨hbs, hfb, hco, hlm, hm16, hmb, hlb, hb4⟩ := id hF
  obtain ⟨sr, sh, sz, sf, hs1, hs2, hs3, hs4, hs5⟩ := hs.frm hfr ha0
  refine hG.gets dJ7_inflateIfNeededFor_0 hX.cs q334 (Or.inl rfl) ?_
  refine hG.if_eq (tgt := 21) dJ7_inflateIfNeededFor_3 rfl (fun c_3 => absurd c_3 (by decide)) (fun c_3 => ?_)
  refine hG.aload_n dJ7_inflateIfNeededFor_6 rfl ?_
  refine hG.get dJ7_inflateIfNeededFor_7 fg_J7_22_J8 (Or.inl h1) rfl ?_
  refine hG.aload_n dJ7_inflateIfNeededFor_10 rfl ?_
  refine hG.callV dJ7_inflateIfNeededFor_11 kv_J7_40 (Rd.rcv hs1 cl_J9) (sp_J9_coder hΓ hX hs1 hs4.le) rfl rfl (Nat.le_of_ble_eq_true rfl) (by decide) (by omega) (by omega) (fun r11 I11 L11 hI11 h11 => ?_) (fun _ _ _ _ _ h => h.elim)
  obtain ⟨rfl, rfl, rfl⟩ := h11
  refine hG.icmp_eq (tgt := 21) dJ7_inflateIfNeededFor_14 rfl (fun c_14 => absurd c_14 (by decide)) (fun c_14 => ?_)
  refine hG.aload_n dJ7_inflateIfNeededFor_17 rfl ?_
  refine hG.callP dJ7_inflateIfNeededFor_18 kp_J7_195_J8 (Rcv.raw h1 cl_J8) (sp_J7_inflate hΓ hX h) rfl rfl (Nat.le_of_ble_eq_true rfl) (by decide) (by omega) (by omega) (fun r18 I18 L18 hI18 h18 => ?_) (fun _ _ _ _ _ h => h.elim)
  obtain ⟨rfl, rfl, arr9, f9, h9⟩ := h18
  refine hG.vret dJ7_inflateIfNeededFor_21 rfl ?_ (by omega) (by omega) trivial
  exact ⟨rfl, rfl, arr9, f9, h9⟩
theorem kp_J7_397_J8 : LkP2 RJ7 397 RJ8 yJ7_inflateIfNeededFor 1 := ⟨yJ7_isLatin1, q960, q3661, q929, rfl, q961, q962, q83, by decide +kernel, by decide +kernel, by decide +kernel⟩
theorem kv_J7_399 : LkV RJ7 399 yJ9_getBytes 3 := ⟨q984, q985, q986, q85, by decide +kernel, by decide +kernel, by decide +kernel⟩
set_option maxHeartbeats 4000000 in
set_option maxRecDepth 100000 in
theorem sp_J7_putStringAt0 {l : Launch} {s0 : State} {D : va_G} {I : AI} {L : AL} {o : Option Nat} (hΓ : Gam l s0 D) (hX : StV s0 o) {L0 : AL} {a b k arr m : Nat} {ml : Int32} {cs : List Nat} {f : Nat → Int32} (h : SbR L0 L a b k ml cs.length cs arr m f) {s : Nat} {ds : List Nat} (hs : StrR I L0 s k ds) (ha0 : ∀ e, L0 a ≠ some (.inl e)) (hlm2 : cs.length + ds.length ≤ m) (hlb2 : cs.length + ds.length ≤ b) : Spc l s0 D yJ7_putStringAt 3 [.ref a, .int (nI cs.length), .ref s] I L 0 0 (fun r I' L' => r = none ∧ I = I' ∧ ∃ (arr' : Nat) (f' : Nat → Int32), SbR L0 L' a b k ml cs.length (cs ++ ds) arr' m f') noX := by
  refine Spc.of hΓ cJ7_putStringAt 3 none q959 (by decide +kernel) (by decide) (Nat.le_of_ble_eq_true rfl) (fun G GX hG => ?_)
  obtain ⟨h1, h2, hF, hne, hfr⟩ := id h
  obtain ⟨hbs, hfb, hco, hlm, hm16, hmb, hlb, hb4⟩ := id hF
  obtain ⟨sr, sh, sz, sf, hs1, hs2, hs3, hs4, hs5⟩ := hs.frm hfr ha0
  have hmk := hF.mk2
  refine hG.aload_n dJ7_putStringAt_0 rfl ?_
  refine hG.aload_n dJ7_putStringAt_1 rfl ?_
  refine hG.callP dJ7_putStringAt_2 kp_J7_397_J8 (Rcv.raw h1 cl_J8) (sp_J7_inflateIfNeededFor0 hΓ hX h hs ha0) rfl rfl (Nat.le_of_ble_eq_true rfl) (by decide) (by omega) (by omega) (fun r2 I2 L2 hI2 h2 => ?_) (fun _ _ _ _ _ h => h.elim)
  obtain ⟨rfl, rfl, rfl⟩ := h2
  refine hG.aload_n dJ7_putStringAt_5 rfl ?_
  refine hG.aload_n dJ7_putStringAt_6 rfl ?_
  refine hG.get dJ7_putStringAt_7 fg_J7_15_J8 (Or.inl h1) rfl ?_
  refine hG.iload_n dJ7_putStringAt_10 rfl ?_
  refine hG.aload_n dJ7_putStringAt_11 rfl ?_
  refine hG.get dJ7_putStringAt_12 fg_J7_22_J8 (Or.inl h1) rfl ?_
  refine hG.callV dJ7_putStringAt_15 kv_J7_399 (Rd.rcv hs1 cl_J9) (sp_J9_getBytes hΓ hX (c := cs.length) (hs.frm hfr ha0) h2 (Nat.le_trans (Nat.mul_le_mul_right (k + 1) hlm2) (Nat.le_refl _)) (by omega)) rfl rfl (Nat.le_of_ble_eq_true rfl) (by decide) (by omega) (by omega) (fun r15 I15 L15 hI15 h15 => ?_) (fun _ _ _ _ _ h => h.elim)
  obtain ⟨rfl, rfl, g, hg, rfl⟩ := h15
  refine hG.vret dJ7_putStringAt_18 rfl ?_ (by omega) (by omega) trivial
  refine ⟨rfl, rfl, _, _, h.arr (hF.app hs4 (by rw [List.length_append]; omega) (by rw [List.length_append]; omega) (fun j hj => pk_cpy_out (Or.inl hj)) (fun i x hx => ?_) (fun j hj => ?_))⟩
  · have hi := (List.getElem?_eq_some_iff.mp hx).1
    rw [enc_len hs4.le] at hi
    rw [pk_cpy_in (Nat.le_add_right _ _) (by omega), Nat.zero_add, Nat.add_sub_cancel_left]
    exact hg i x hx
  · by_cases hz9 : cs.length * (k + 1) ≤ j ∧ j < cs.length * (k + 1) + ds.length * (k + 1)
    · rw [pk_cpy_in hz9.1 hz9.2, Nat.zero_add]
      have := hg.fit
      rw [enc_len hs4.le] at this
      exact this _ (by omega)
    · rw [pk_cpy_out (by omega)]
      exact hF.2.1 j hj
set_option maxHeartbeats 4000000 in
set_option maxRecDepth 100000 in
theorem sp_J7_putStringAt1 {l : Launch} {s0 : State} {D : va_G} {I : AI} {L : AL} {o : Option Nat} (hΓ : Gam l s0 D) (hX : StV s0 o) {L0 : AL} {a b arr m : Nat} {ml : Int32} {cs : List Nat} {f : Nat → Int32} (h : SbR L0 L a b 0 ml cs.length cs arr m f) {s : Nat} {ds : List Nat} (hs : StrR I L0 s 1 ds) (ha0 : ∀ e, L0 a ≠ some (.inl e)) (hlm2 : cs.length + ds.length ≤ m) (hlb2 : cs.length + ds.length ≤ b) : Spc l s0 D yJ7_putStringAt 8 [.ref a, .int (nI cs.length), .ref s] I L 1 ((2 * b + 34) * 2) (fun r I' L' => r = none ∧ I = I' ∧ ∃ (arr' : Nat) (f' : Nat → Int32), SbR L0 L' a b 1 ml cs.length (cs ++ ds) arr' m f') noX := by
  refine Spc.of hΓ cJ7_putStringAt 3 none q959 (by decide +kernel) (by decide) (Nat.le_of_ble_eq_true rfl) (fun G GX hG => ?_)
  obtain ⟨h1, h2, hF, hne, hfr⟩ := id h
  obtain ⟨hbs, hfb, hco, hlm, hm16, hmb, hlb, hb4⟩ := id hF
  refine hG.aload_n dJ7_putStringAt_0 rfl ?_
  refine hG.aload_n dJ7_putStringAt_1 rfl ?_
  refine hG.callP dJ7_putStringAt_2 kp_J7_397_J8 (Rcv.raw h1 cl_J8) (sp_J7_inflateIfNeededFor1 hΓ hX h hs ha0) rfl rfl (Nat.le_of_ble_eq_true rfl) (by decide) (by omega) (by omega) (fun r2' I2' L2' hI2' h2' => ?_) (fun _ _ _ _ _ h => h.elim)
  obtain ⟨rfl, rfl, arr9, f9, h9⟩ := h2'
  obtain ⟨sr, sh, sz, sf, hs1, hs2, hs3, hs4, hs5⟩ := hs.frm h9.2.2.2.2 ha0
  refine hG.aload_n dJ7_putStringAt_5 rfl ?_
  refine hG.aload_n dJ7_putStringAt_6 rfl ?_
  refine hG.get dJ7_putStringAt_7 fg_J7_15_J8 (Or.inl h9.1) rfl ?_
  refine hG.iload_n dJ7_putStringAt_10 rfl ?_
  refine hG.aload_n dJ7_putStringAt_11 rfl ?_
  refine hG.get dJ7_putStringAt_12 fg_J7_22_J8 (Or.inl h9.1) rfl ?_
  refine hG.callV dJ7_putStringAt_15 kv_J7_399 (Rd.rcv hs1 cl_J9) (sp_J9_getBytes hΓ hX (c := cs.length) (hs.frm h9.2.2.2.2 ha0) h9.2.1 (Nat.le_trans (Nat.mul_le_mul_right (1 + 1) hlm2) (Nat.le_refl _)) (by omega)) rfl rfl (Nat.le_of_ble_eq_true rfl) (by decide) (by omega) (by omega) (fun r15 I15 L15 hI15 h15 => ?_) (fun _ _ _ _ _ h => h.elim)
  obtain ⟨rfl, rfl, g, hg, rfl⟩ := h15
  refine hG.vret dJ7_putStringAt_18 rfl ?_ (by omega) (by omega) trivial
  refine ⟨rfl, rfl, _, _, h9.arr (h9.2.2.1.app hs4 (by rw [List.length_append]; omega) (by rw [List.length_append]; omega) (fun j hj => pk_cpy_out (Or.inl hj)) (fun i x hx => ?_) (fun j hj => ?_))⟩
  · have hi := (List.getElem?_eq_some_iff.mp hx).1
    rw [enc_len hs4.le] at hi
    rw [pk_cpy_in (Nat.le_add_right _ _) (by omega), Nat.zero_add, Nat.add_sub_cancel_left]
    exact hg i x hx
  · by_cases hz9 : cs.length * (1 + 1) ≤ j ∧ j < cs.length * (1 + 1) + ds.length * (1 + 1)
    · rw [pk_cpy_in hz9.1 hz9.2, Nat.zero_add]
      have := hg.fit
      rw [enc_len hs4.le] at this
      exact this _ (by omega)
    · rw [pk_cpy_out (by omega)]
      exact h9.2.2.1.2.1 j hj
theorem kv_J7_32 : LkV RJ7 32 yJ9_length 0 := ⟨q948, q949, q950, q85, by decide +kernel, by decide +kernel, by decide +kernel⟩
theorem kp_J7_208_J8 : LkP2 RJ7 208 RJ8 yJ7_putStringAt 2 := ⟨yJ7_isLatin1, q956, q3660, q929, rfl, q957, q958, q83, by decide +kernel, by decide +kernel, by decide +kernel⟩
set_option maxHeartbeats 4000000 in
set_option maxRecDepth 100000 in
theorem sp_J7_append0 {l : Launch} {s0 : State} {D : va_G} {I : AI} {L : AL} {o : Option Nat} (hΓ : Gam l s0 D) (hX : StV s0 o) {L0 : AL} {a b k arr m : Nat} {ml : Int32} {cs : List Nat} {f : Nat → Int32} (h : SbR L0 L a b k ml cs.length cs arr m f) {s : Nat} {ds : List Nat} (hs : StrR I L0 s k ds) (ha0 : ∀ e, L0 a ≠ some (.inl e)) (hb1 : cs.length + ds.length ≤ b) : Spc l s0 D yJ7_append 5 [.ref a, .ref s] I L 1 ((2 * b + 34) * 2) (fun r I' L' => r = some (.ref a) ∧ I = I' ∧ ∃ (arr' m' : Nat) (f' : Nat → Int32), SbR L0 L' a b k ml (cs ++ ds).length (cs ++ ds) arr' m' f') noX := by
  refine Spc.of hΓ cJ7_append 3 (some (FieldType.object "java/lang/AbstractStringBuilder")) q901 (by decide +kernel) (by decide) (Nat.le_of_ble_eq_true rfl) (fun G GX hG => ?_)
  obtain ⟨h1, h2, hF, hne, hfr⟩ := id h
  obtain ⟨hbs, hfb, hco, hlm, hm16, hmb, hlb, hb4⟩ := id hF
  obtain ⟨sr, sh, sz, sf, hs1, hs2, hs3, hs4, hs5⟩ := hs.frm hfr ha0
  refine hG.aload_n dJ7_append_0 rfl ?_
  refine hG.ifnonnull (tgt := 9) dJ7_append_1 rfl ?_
  refine hG.aload_n dJ7_append_9 rfl ?_
  refine hG.callV dJ7_append_10 kv_J7_32 (Rd.rcv hs1 cl_J9) (sp_J9_length hΓ hX (hs.frm hfr ha0)) rfl rfl (Nat.le_of_ble_eq_true rfl) (by decide) (by omega) (by omega) (fun r10 I10 L10 hI10 h10 => ?_) (fun _ _ _ _ _ h => h.elim)
  obtain ⟨rfl, rfl, rfl⟩ := h10
  refine hG.istore_n dJ7_append_13 (by decide) ?_
  refine hG.aload_n dJ7_append_14 rfl ?_
  refine hG.aload_n dJ7_append_15 rfl ?_
  refine hG.get dJ7_append_16 fg_J7_79_J8 (Or.inl h1) rfl ?_
  refine hG.iload_n dJ7_append_19 rfl ?_
  refine hG.iadd dJ7_append_20 ?_
  rw [show nI cs.length + nI ds.length = nI (cs.length + ds.length) from nI_add _ _]
  refine hG.callP dJ7_append_21 kp_J7_100_J8 (Rcv.raw h1 cl_J8) (sp_J7_ensureCapacityInternal hΓ (j := cs.length + ds.length) h (by omega)) rfl rfl (Nat.le_of_ble_eq_true rfl) (by decide) (by omega) (by omega) (fun r21 I21 L21 hI21 h21 => ?_) (fun _ _ _ _ _ h => h.elim)
  obtain ⟨rfl, rfl, arr, m, f, h, hjm⟩ := h21
  obtain ⟨h1, h2, hF, hne, hfr⟩ := id h
  obtain ⟨hbs, hfb, hco, hlm, hm16, hmb, hlb, hb4⟩ := id hF
  refine hG.aload_n dJ7_append_24 rfl ?_
  refine hG.aload_n dJ7_append_25 rfl ?_
  refine hG.get dJ7_append_26 fg_J7_79_J8 (Or.inl h1) rfl ?_
  refine hG.aload_n dJ7_append_29 rfl ?_
  refine hG.callP dJ7_append_30 kp_J7_208_J8 (Rcv.raw h1 cl_J8) (sp_J7_putStringAt0 hΓ hX h hs ha0 hjm hb1) rfl rfl (Nat.le_of_ble_eq_true rfl) (by decide) (by omega) (by omega) (fun r30 I30 L30 hI30 h30 => ?_) (fun _ _ _ _ _ h => h.elim)
  obtain ⟨rfl, rfl, arr9, f9, h9⟩ := h30
  refine hG.aload_n dJ7_append_33 rfl ?_
  refine hG.dup dJ7_append_34 rfl ?_
  refine hG.get dJ7_append_35 fg_J7_79_J8 (Or.inl h9.1) rfl ?_
  refine hG.iload_n dJ7_append_38 rfl ?_
  refine hG.iadd dJ7_append_39 ?_
  rw [show nI cs.length + nI ds.length = nI (cs.length + ds.length) from nI_add _ _]
  refine hG.put dJ7_append_40 fp_J7_79_J8 h9.1 rfl rfl (Nat.le_of_ble_eq_true rfl) ?_
  refine hG.aload_n dJ7_append_43 rfl ?_
  refine hG.aret dJ7_append_44 rfl (by first | exact Or.inl ⟨_, rfl⟩ | exact Or.inr ⟨_, rfl⟩) (by first | exact Or.inr ⟨_, rfl⟩ | exact Or.inl rfl) ?_ (by omega) (by omega) trivial
  refine ⟨rfl, rfl, arr9, m, f9, ?_⟩
  rw [List.length_append]
  exact h9.cnt _
set_option maxHeartbeats 4000000 in
set_option maxRecDepth 100000 in
theorem sp_J7_append1 {l : Launch} {s0 : State} {D : va_G} {I : AI} {L : AL} {o : Option Nat} (hΓ : Gam l s0 D) (hX : StV s0 o) {L0 : AL} {a b arr m : Nat} {ml : Int32} {cs : List Nat} {f : Nat → Int32} (h : SbR L0 L a b 0 ml cs.length cs arr m f) {s : Nat} {ds : List Nat} (hs : StrR I L0 s 1 ds) (ha0 : ∀ e, L0 a ≠ some (.inl e)) (hb1 : cs.length + ds.length ≤ b) : Spc l s0 D yJ7_append 9 [.ref a, .ref s] I L 2 ((2 * b + 34) * 4) (fun r I' L' => r = some (.ref a) ∧ I = I' ∧ ∃ (arr' m' : Nat) (f' : Nat → Int32), SbR L0 L' a b 1 ml (cs ++ ds).length (cs ++ ds) arr' m' f') noX := by
  refine Spc.of hΓ cJ7_append 3 (some (FieldType.object "java/lang/AbstractStringBuilder")) q901 (by decide +kernel) (by decide) (Nat.le_of_ble_eq_true rfl) (fun G GX hG => ?_)
  obtain ⟨h1, h2, hF, hne, hfr⟩ := id h
  obtain ⟨hbs, hfb, hco, hlm, hm16, hmb, hlb, hb4⟩ := id hF
  obtain ⟨sr, sh, sz, sf, hs1, hs2, hs3, hs4, hs5⟩ := hs.frm hfr ha0
  refine hG.aload_n dJ7_append_0 rfl ?_
  refine hG.ifnonnull (tgt := 9) dJ7_append_1 rfl ?_
  refine hG.aload_n dJ7_append_9 rfl ?_
  refine hG.callV dJ7_append_10 kv_J7_32 (Rd.rcv hs1 cl_J9) (sp_J9_length hΓ hX (hs.frm hfr ha0)) rfl rfl (Nat.le_of_ble_eq_true rfl) (by decide) (by omega) (by omega) (fun r10 I10 L10 hI10 h10 => ?_) (fun _ _ _ _ _ h => h.elim)
  obtain ⟨rfl, rfl, rfl⟩ := h10
  refine hG.istore_n dJ7_append_13 (by decide) ?_
  refine hG.aload_n dJ7_append_14 rfl ?_
  refine hG.aload_n dJ7_append_15 rfl ?_
  refine hG.get dJ7_append_16 fg_J7_79_J8 (Or.inl h1) rfl ?_
  refine hG.iload_n dJ7_append_19 rfl ?_
  refine hG.iadd dJ7_append_20 ?_
  rw [show nI cs.length + nI ds.length = nI (cs.length + ds.length) from nI_add _ _]
  refine hG.callP dJ7_append_21 kp_J7_100_J8 (Rcv.raw h1 cl_J8) (sp_J7_ensureCapacityInternal hΓ (j := cs.length + ds.length) h (by omega)) rfl rfl (Nat.le_of_ble_eq_true rfl) (by decide) (by omega) (by omega) (fun r21 I21 L21 hI21 h21 => ?_) (fun _ _ _ _ _ h => h.elim)
  obtain ⟨rfl, rfl, arr, m, f, h, hjm⟩ := h21
  obtain ⟨h1, h2, hF, hne, hfr⟩ := id h
  obtain ⟨hbs, hfb, hco, hlm, hm16, hmb, hlb, hb4⟩ := id hF
  refine hG.aload_n dJ7_append_24 rfl ?_
  refine hG.aload_n dJ7_append_25 rfl ?_
  refine hG.get dJ7_append_26 fg_J7_79_J8 (Or.inl h1) rfl ?_
  refine hG.aload_n dJ7_append_29 rfl ?_
  refine hG.callP dJ7_append_30 kp_J7_208_J8 (Rcv.raw h1 cl_J8) (sp_J7_putStringAt1 hΓ hX h hs ha0 hjm hb1) rfl rfl (Nat.le_of_ble_eq_true rfl) (by decide) (by omega) (by omega) (fun r30 I30 L30 hI30 h30 => ?_) (fun _ _ _ _ _ h => h.elim)
  obtain ⟨rfl, rfl, arr9, f9, h9⟩ := h30
  refine hG.aload_n dJ7_append_33 rfl ?_
  refine hG.dup dJ7_append_34 rfl ?_
  refine hG.get dJ7_append_35 fg_J7_79_J8 (Or.inl h9.1) rfl ?_
  refine hG.iload_n dJ7_append_38 rfl ?_
  refine hG.iadd dJ7_append_39 ?_
  rw [show nI cs.length + nI ds.length = nI (cs.length + ds.length) from nI_add _ _]
  refine hG.put dJ7_append_40 fp_J7_79_J8 h9.1 rfl rfl (Nat.le_of_ble_eq_true rfl) ?_
  refine hG.aload_n dJ7_append_43 rfl ?_
  refine hG.aret dJ7_append_44 rfl (by first | exact Or.inl ⟨_, rfl⟩ | exact Or.inr ⟨_, rfl⟩) (by first | exact Or.inr ⟨_, rfl⟩ | exact Or.inl rfl) ?_ (by omega) (by omega) trivial
  refine ⟨rfl, rfl, arr9, m, f9, ?_⟩
  rw [List.length_append]
  exact h9.cnt _
theorem ku_J8_29 : LkSU RJ8 29 yJ7_append 1 := ⟨q899, q3656, q356, q900, q83, by decide +kernel, by decide +kernel⟩
set_option maxHeartbeats 4000000 in
set_option maxRecDepth 100000 in
theorem sp_J8_append0 {l : Launch} {s0 : State} {D : va_G} {I : AI} {L : AL} {o : Option Nat} (hΓ : Gam l s0 D) (hX : StV s0 o) {a b k : Nat} {ml : Int32} {cs : List Nat} (h0 : L a = some (sbC b k ml cs)) {s : Nat} {ds : List Nat} (hs : StrR I L s k ds) (hb1 : cs.length + ds.length ≤ b) : Spc l s0 D yJ8_append 6 [.ref a, .ref s] I L 1 ((2 * b + 34) * 2) (pVU (.ref a) I L a (sbC b k ml (cs ++ ds))) noX := by
  refine Spc.of hΓ cJ8_append 2 (some (FieldType.object "java/lang/StringBuilder")) q898 (by decide +kernel) (by decide) (Nat.le_of_ble_eq_true rfl) (fun G GX hG => ?_)
  refine hG.opSb h0 (fun arr m f M h => ?_)
  obtain ⟨h1, h2, hF, hne, hfr⟩ := id h
  obtain ⟨hbs, hfb, hco, hlm, hm16, hmb, hlb, hb4⟩ := id hF
  have hk := hF.k
  have hmk := hF.mk2
  refine hG.aload_n dJ8_append_0 rfl ?_
  refine hG.aload_n dJ8_append_1 rfl ?_
  refine hG.callSU dJ8_append_2 ku_J8_29 (Rcv.raw h1 cl_J8) cl_J8 (sp_J7_append0 hΓ hX h hs (sb_nr h0) hb1) rfl rfl (Nat.le_of_ble_eq_true rfl) (by decide) (by omega) (by omega) (fun r2' I2' L2' hI2' h2' => ?_) (fun _ _ _ _ _ h => h.elim)
  obtain ⟨rfl, rfl, arr', m', f', h'⟩ := h2'
  refine hG.pop dJ8_append_5 rfl ?_
  refine hG.clSb L h' rfl ?_
  refine hG.aload_n dJ8_append_6 rfl ?_
  refine hG.aret dJ8_append_7 rfl (by first | exact Or.inl ⟨_, rfl⟩ | exact Or.inr ⟨_, rfl⟩) (by first | exact Or.inr ⟨_, rfl⟩ | exact Or.inl rfl) ?_ (by omega) (by omega) trivial
  exact ⟨rfl, rfl, rfl⟩
set_option maxHeartbeats 4000000 in
set_option maxRecDepth 100000 in
theorem sp_J8_append1 {l : Launch} {s0 : State} {D : va_G} {I : AI} {L : AL} {o : Option Nat} (hΓ : Gam l s0 D) (hX : StV s0 o) {a b : Nat} {ml : Int32} {cs : List Nat} (h0 : L a = some (sbC b 0 ml cs)) {s : Nat} {ds : List Nat} (hs : StrR I L s 1 ds) (hb1 : cs.length + ds.length ≤ b) : Spc l s0 D yJ8_append 10 [.ref a, .ref s] I L 2 ((2 * b + 34) * 4) (pVU (.ref a) I L a (sbC b 1 ml (cs ++ ds))) noX := by
  refine Spc.of hΓ cJ8_append 2 (some (FieldType.object "java/lang/StringBuilder")) q898 (by decide +kernel) (by decide) (Nat.le_of_ble_eq_true rfl) (fun G GX hG => ?_)
  refine hG.opSb h0 (fun arr m f M h => ?_)
  obtain ⟨h1, h2, hF, hne, hfr⟩ := id h
  obtain ⟨hbs, hfb, hco, hlm, hm16, hmb, hlb, hb4⟩ := id hF
  have hk := hF.k
  have hmk := hF.mk2
  refine hG.aload_n dJ8_append_0 rfl ?_
  refine hG.aload_n dJ8_append_1 rfl ?_
  refine hG.callSU dJ8_append_2 ku_J8_29 (Rcv.raw h1 cl_J8) cl_J8 (sp_J7_append1 hΓ hX h hs (sb_nr h0) hb1) rfl rfl (Nat.le_of_ble_eq_true rfl) (by decide) (by omega) (by omega) (fun r2' I2' L2' hI2' h2' => ?_) (fun _ _ _ _ _ h => h.elim)
  obtain ⟨rfl, rfl, arr', m', f', h'⟩ := h2'
  refine hG.pop dJ8_append_5 rfl ?_
  refine hG.clSb L h' rfl ?_
  refine hG.aload_n dJ8_append_6 rfl ?_
  refine hG.aret dJ8_append_7 rfl (by first | exact Or.inl ⟨_, rfl⟩ | exact Or.inr ⟨_, rfl⟩) (by first | exact Or.inr ⟨_, rfl⟩ | exact Or.inl rfl) ?_ (by omega) (by omega) trivial
  exact ⟨rfl, rfl, rfl⟩
theorem ks_J7_245 : LkS RJ7 245 yJ25_stringSize 1 := ⟨q997, q998, q105, by decide +kernel, by decide +kernel, by decide +kernel⟩
theorem ks_J7_248 : LkS RJ7 248 yJ25_getChars 3 := ⟨q1000, q1001, q105, by decide +kernel, by decide +kernel, by decide +kernel⟩
set_option maxHeartbeats 4000000 in
set_option maxRecDepth 100000 in
theorem sp_J7_append_2 {l : Launch} {s0 : State} {D : va_G} {I : AI} {L : AL} {o : Option Nat} (hΓ : Gam l s0 D) (hX : StV s0 o) {L0 : AL} {a b arr m : Nat} {ml : Int32} {cs : List Nat} {f : Nat → Int32} (h : SbR L0 L a b 0 ml cs.length cs arr m f) {d1 d2 n : Nat} (hD : StD s0 D d1 d2) (hn : n < 1000) (hb1 : cs.length + (dec n).length ≤ b) : Spc l s0 D yJ7_append_2 5 [.ref a, .int (nI n)] I L 1 ((2 * b + 34) * 2) (fun r I' L' => r = some (.ref a) ∧ I = I' ∧ ∃ (arr' m' : Nat) (f' : Nat → Int32), SbR L0 L' a b 0 ml (cs ++ dec n).length (cs ++ dec n) arr' m' f') noX := by
  refine Spc.of hΓ cJ7_append_2 4 (some (FieldType.object "java/lang/AbstractStringBuilder")) q996 (by decide +kernel) (by decide) (Nat.le_of_ble_eq_true rfl) (fun G GX hG => ?_)
  obtain ⟨h1, h2, hF, hne, hfr⟩ := id h
  obtain ⟨hbs, hfb, hco, hlm, hm16, hmb, hlb, hb4⟩ := id hF
  refine hG.aload_n dJ7_append_2_0 rfl ?_
  refine hG.get dJ7_append_2_1 fg_J7_79_J8 (Or.inl h1) rfl ?_
  refine hG.istore_n dJ7_append_2_4 (by decide) ?_
  refine hG.iload_n dJ7_append_2_5 rfl ?_
  refine hG.iload_n dJ7_append_2_6 rfl ?_
  refine hG.callS dJ7_append_2_7 ks_J7_245 (sp_J25_stringSize hΓ hn) rfl rfl (Nat.le_of_ble_eq_true rfl) (by decide) (by omega) (by omega) (fun r7 I7 L7 hI7 h7 => ?_) (fun _ _ _ _ _ h => h.elim)
  obtain ⟨rfl, rfl, rfl⟩ := h7
  refine hG.iadd dJ7_append_2_10 ?_
  rw [show nI cs.length + nI (dec n).length = nI (cs.length + (dec n).length) from nI_add _ _]
  refine hG.istore_n dJ7_append_2_11 (by decide) ?_
  refine hG.aload_n dJ7_append_2_12 rfl ?_
  refine hG.iload_n dJ7_append_2_13 rfl ?_
  refine hG.callP dJ7_append_2_14 kp_J7_100_J8 (Rcv.raw h1 cl_J8) (sp_J7_ensureCapacityInternal hΓ (j := cs.length + (dec n).length) h (by omega)) rfl rfl (Nat.le_of_ble_eq_true rfl) (by decide) (by omega) (by omega) (fun r14 I14 L14 hI14 h14 => ?_) (fun _ _ _ _ _ h => h.elim)
  obtain ⟨rfl, rfl, arr, m, f, h, hjm⟩ := h14
  obtain ⟨h1, h2, hF, hne, hfr⟩ := id h
  obtain ⟨hbs, hfb, hco, hlm, hm16, hmb, hlb, hb4⟩ := id hF
  refine hG.aload_n dJ7_append_2_17 rfl ?_
  refine hG.callU dJ7_append_2_18 ko_J7_83_J8 (Rcv.raw h1 cl_J8) (sp_J7_isLatin1 hΓ hX h1 (by decide)) rfl rfl (Nat.le_of_ble_eq_true rfl) (by decide) (by omega) (by omega) (fun r18 I18 L18 hI18 h18 => ?_) (fun _ _ _ _ _ h => h.elim)
  obtain ⟨rfl, rfl, rfl⟩ := h18
  refine hG.if_eq (tgt := 37) dJ7_append_2_21 rfl (fun c_21 => absurd c_21 (by decide)) (fun c_21 => ?_)
  refine hG.iload_n dJ7_append_2_24 rfl ?_
  refine hG.iload_n dJ7_append_2_25 rfl ?_
  refine hG.aload_n dJ7_append_2_26 rfl ?_
  refine hG.get dJ7_append_2_27 fg_J7_15_J8 (Or.inl h1) rfl ?_
  refine hG.callS dJ7_append_2_30 ks_J7_248 (sp_J25_getChars hΓ hD h2 hfb (by omega) (by omega) hn (Nat.le_add_left _ _)) rfl rfl (Nat.le_of_ble_eq_true rfl) (by decide) (by omega) (by omega) (fun r30 I30 L30 hI30 h30 => ?_) (fun _ _ _ _ _ h => h.elim)
  obtain ⟨rfl, rfl, g, rfl, hg1, hg2, hg3⟩ := h30
  rw [Nat.add_sub_cancel] at hg1 hg2
  refine hG.pop dJ7_append_2_33 rfl ?_
  refine hG.goto (tgt := 48) dJ7_append_2_34 rfl ?_
  refine hG.aload_n dJ7_append_2_48 rfl ?_
  refine hG.iload_n dJ7_append_2_49 rfl ?_
  refine hG.put dJ7_append_2_50 fp_J7_79_J8 ((up1_n hne.symm).trans h1) rfl rfl (Nat.le_of_ble_eq_true rfl) ?_
  refine hG.aload_n dJ7_append_2_53 rfl ?_
  refine hG.aret dJ7_append_2_54 rfl (by first | exact Or.inl ⟨_, rfl⟩ | exact Or.inr ⟨_, rfl⟩) (by first | exact Or.inr ⟨_, rfl⟩ | exact Or.inl rfl) ?_ (by omega) (by omega) trivial
  refine ⟨rfl, rfl, arr, m, g, ?_⟩
  rw [List.length_append]
  refine (h.arr (hF.app (ds := dec n) (Or.inl ⟨rfl, dec_c hn⟩) (by rw [List.length_append]; omega) (by rw [List.length_append]; omega) (fun j hj => hg2 j (Or.inl (by omega))) (fun i x hx => ?_) hg3)).cnt _
  rw [enc0] at hx
  cases hct : (dec n)[i]? with
  | none => rw [hct] at hx; cases hx
  | some c =>
    rw [hct] at hx
    rw [show cs.length * (0 + 1) + i = cs.length + i by omega, hg1 i c hct]
    exact Option.some.inj hx
theorem ku_J8_53 : LkSU RJ8 53 yJ7_append_2 1 := ⟨q994, q3663, q356, q995, q83, by decide +kernel, by decide +kernel⟩
set_option maxHeartbeats 4000000 in
set_option maxRecDepth 100000 in
theorem sp_J8_append_2 {l : Launch} {s0 : State} {D : va_G} {I : AI} {L : AL} {o : Option Nat} (hΓ : Gam l s0 D) (hX : StV s0 o) {a b : Nat} {ml : Int32} {cs : List Nat} (h0 : L a = some (sbC b 0 ml cs)) {d1 d2 n : Nat} (hD : StD s0 D d1 d2) (hn : n < 1000) (hb1 : cs.length + (dec n).length ≤ b) : Spc l s0 D yJ8_append_2 6 [.ref a, .int (nI n)] I L 1 ((2 * b + 34) * 2) (pVU (.ref a) I L a (sbC b 0 ml (cs ++ dec n))) noX := by
  refine Spc.of hΓ cJ8_append_2 2 (some (FieldType.object "java/lang/StringBuilder")) q993 (by decide +kernel) (by decide) (Nat.le_of_ble_eq_true rfl) (fun G GX hG => ?_)
  refine hG.opSb h0 (fun arr m f M h => ?_)
  obtain ⟨h1, h2, hF, hne, hfr⟩ := id h
  obtain ⟨hbs, hfb, hco, hlm, hm16, hmb, hlb, hb4⟩ := id hF
  have hk := hF.k
  have hmk := hF.mk2
  refine hG.aload_n dJ8_append_2_0 rfl ?_
  refine hG.iload_n dJ8_append_2_1 rfl ?_
  refine hG.callSU dJ8_append_2_2 ku_J8_53 (Rcv.raw h1 cl_J8) cl_J8 (sp_J7_append_2 hΓ hX h hD hn hb1) rfl rfl (Nat.le_of_ble_eq_true rfl) (by decide) (by omega) (by omega) (fun r2' I2' L2' hI2' h2' => ?_) (fun _ _ _ _ _ h => h.elim)
  obtain ⟨rfl, rfl, arr', m', f', h'⟩ := h2'
  refine hG.pop dJ8_append_2_5 rfl ?_
  refine hG.clSb L h' rfl ?_
  refine hG.aload_n dJ8_append_2_6 rfl ?_
  refine hG.aret dJ8_append_2_7 rfl (by first | exact Or.inl ⟨_, rfl⟩ | exact Or.inr ⟨_, rfl⟩) (by first | exact Or.inr ⟨_, rfl⟩ | exact Or.inl rfl) ?_ (by omega) (by omega) trivial
  exact ⟨rfl, rfl, rfl⟩
theorem SbR.both {L0 M : AL} {a b k : Nat} {ml : Int32} {cn : Nat} {cs : List Nat} {arr m : Nat} {f : Nat → Int32} (h : SbR L0 M a b k ml cn cs arr m f) {q : Nat} (hq : M q = none) (c : Option Cel) : SbR (up1 L0 q c) (up1 M q c) a b k ml cn cs arr m f := by
  obtain ⟨h1, h2, h3, h4, h5⟩ := h
  have e1 : a ≠ q := fun e => by rw [e, hq] at h1; cases h1
  have e2 : arr ≠ q := fun e => by rw [e, hq] at h2; cases h2
  exact ⟨(up1_n e1).trans h1, (up1_n e2).trans h2, h3, h4, h5.both (by simp [e1.symm, e2.symm]) c⟩
set_option maxHeartbeats 4000000 in
set_option maxRecDepth 100000 in
theorem sp_J8_lengthR {l : Launch} {s0 : State} {D : va_G} {I : AI} {L : AL} (hΓ : Gam l s0 D) {a : Nat} {arr k cn : Nat} {ml : Int32} (h1 : L a = some (obC ciJ8 [.ref arr, .int (nI k), .int ml, .int (nI cn)])) : Spc l s0 D yJ8_length 2 [.ref a] I L 0 0 (pV (.int (nI cn)) I L) noX := by
  refine Spc.of hΓ cJ8_length 1 (some FieldType.int) q1038 (by decide +kernel) (by decide) (Nat.le_of_ble_eq_true rfl) (fun G GX hG => ?_)
  refine hG.aload_n dJ8_length_0 rfl ?_
  refine hG.callSU dJ8_length_1 ku_J8_343 (Rcv.raw h1 cl_J8) cl_J8 (sp_J7_length hΓ h1) rfl rfl (Nat.le_of_ble_eq_true rfl) (by decide) (by omega) (by omega) (fun r1 I1 L1 hI1 h1 => ?_) (fun _ _ _ _ _ h => h.elim)
  obtain ⟨rfl, rfl, rfl⟩ := h1
  refine hG.iret dJ8_length_4 rfl ?_ (by omega) (by omega) trivial
  exact ⟨rfl, rfl, rfl⟩
theorem ko_J9_552_J8 : LkU RJ9 552 RJ8 yJ7_getValue yJ7_getValue 0 := ⟨_, q1028, q1030, q1031, q1029, q83, by decide +kernel, by decide +kernel, by decide +kernel, Or.inl rfl⟩
theorem ko_J9_549_J8 : LkU RJ9 549 RJ8 yJ7_length yJ8_length 0 := ⟨_, q1033, q1035, q1036, q1037, q84, by decide +kernel, by decide +kernel, by decide +kernel, Or.inr (Or.inl ⟨q1034, _, _, _, q1040⟩)⟩
theorem ko_J9_1047_J8 : LkU RJ9 1047 RJ8 yJ7_isLatin1 yJ7_isLatin1 0 := ⟨_, q1041, q928, q929, q927, q83, by decide +kernel, by decide +kernel, by decide +kernel, Or.inl rfl⟩
theorem ks_J9_54 : LkS RJ9 54 yJ19_copyOfRange 3 := ⟨q1042, q1043, q98, by decide +kernel, by decide +kernel, by decide +kernel⟩
set_option maxHeartbeats 4000000 in
set_option maxRecDepth 100000 in
theorem sp_J9_init_20 {l : Launch} {s0 : State} {D : va_G} {I : AI} {L : AL} {o : Option Nat} (hΓ : Gam l s0 D) (hX : StV s0 o) {L0 : AL} {a b arr m : Nat} {ml : Int32} {cs : List Nat} {f : Nat → Int32} (h : SbR L0 L a b 0 ml cs.length cs arr m f) {q : Nat} (hq : L q = some (obC ciJ9 [.null, .int 0, .int 0, .int 0])) (h16 : cs.length < 16) : Spc l s0 D yJ9_init_2 4 [.ref q, .ref a, .null] I L 1 32 (fun r I' L' => r = none ∧ ∃ (q' : Nat) (g : Nat → Int32), I' q' (arB (cs.length * (0 + 1)) g) ∧ Bs g (enc 0 cs) ∧ L' = up1 L q (some (obC ciJ9 [.ref q', .int (nI 0), .int 0, .int 0]))) noX := by
  refine Spc.of hΓ cJ9_init_2 5 none q1026 (by decide +kernel) (by decide) (Nat.le_of_ble_eq_true rfl) (fun G GX hG => ?_)
  obtain ⟨h1, h2, hF, hne, hfr⟩ := id h
  obtain ⟨hbs, hfb, hco, hlm, hm16, hmb, hlb, hb4⟩ := id hF
  have hqr : arr ≠ q := ne_val h2 hq (fun e => by cases e)
  refine hG.aload_n dJ9_init_2_0 rfl ?_
  refine hG.objI dJ9_init_2_1 q1027 (Nat.le_of_ble_eq_true rfl) (by decide) ?_
  refine hG.aload_n dJ9_init_2_4 rfl ?_
  refine hG.callU dJ9_init_2_5 ko_J9_552_J8 (Rcv.raw h1 cl_J8) (sp_J7_getValue hΓ h1) rfl rfl (Nat.le_of_ble_eq_true rfl) (by decide) (by omega) (by omega) (fun r5 I5 L5 hI5 h5 => ?_) (fun _ _ _ _ _ h => h.elim)
  obtain ⟨rfl, rfl, rfl⟩ := h5
  refine hG.astore_n dJ9_init_2_8 (by decide) ?_
  refine hG.aload_n dJ9_init_2_9 rfl ?_
  refine hG.callU dJ9_init_2_10 ko_J9_549_J8 (Rcv.raw h1 cl_J8) (sp_J8_lengthR hΓ h1) rfl rfl (Nat.le_of_ble_eq_true rfl) (by decide) (by omega) (by omega) (fun r10 I10 L10 hI10 h10 => ?_) (fun _ _ _ _ _ h => h.elim)
  obtain ⟨rfl, rfl, rfl⟩ := h10
  refine hG.istore dJ9_init_2_13 (by decide) ?_
  refine hG.aload_n dJ9_init_2_15 rfl ?_
  refine hG.callU dJ9_init_2_16 ko_J9_1047_J8 (Rcv.raw h1 cl_J8) (sp_J7_isLatin1 hΓ hX h1 (by decide)) rfl rfl (Nat.le_of_ble_eq_true rfl) (by decide) (by omega) (by omega) (fun r16 I16 L16 hI16 h16 => ?_) (fun _ _ _ _ _ h => h.elim)
  obtain ⟨rfl, rfl, rfl⟩ := h16
  refine hG.if_eq (tgt := 41) dJ9_init_2_19 rfl (fun c_19 => absurd c_19 (by decide)) (fun c_19 => ?_)
  refine hG.aload_n dJ9_init_2_22 rfl ?_
  refine hG.iconst (v := 0) dJ9_init_2_23 rfl ?_
  refine hG.put dJ9_init_2_24 fp_J9_15_J9 hq rfl rfl (Nat.le_of_ble_eq_true rfl) ?_
  refine hG.aload_n dJ9_init_2_27 rfl ?_
  refine hG.aload_n dJ9_init_2_28 rfl ?_
  refine hG.iconst (v := 0) dJ9_init_2_29 rfl ?_
  refine hG.iload dJ9_init_2_30 rfl ?_
  refine hG.callS dJ9_init_2_32 ks_J9_54 (sp_J19_copyOfRange hΓ (i := 0) (j := cs.length) (Or.inl ((up1_n hqr).trans h2)) (by omega) (Nat.zero_le _) (by omega) (fun _ => by omega) hfb) rfl rfl (Nat.le_of_ble_eq_true rfl) (by decide) (by omega) (by omega) (fun r32 I32 L32 hI32 h32 => ?_) (fun _ _ _ _ _ h => h.elim)
  obtain ⟨rfl, z, g, rfl, hz, rfl, hg⟩ := h32
  rw [Nat.sub_zero] at hg ⊢
  have hzq : z ≠ q := fun e => by rw [e, up1_s] at hz; cases hz
  refine hG.put dJ9_init_2_35 fp_J9_9_J9 ((up1_n hzq.symm).trans up1_s) rfl rfl (Nat.le_of_ble_eq_true rfl) ?_
  refine hG.goto (tgt := 97) dJ9_init_2_38 rfl ?_
  have hLz : L z = none := (up1_n hzq).symm.trans hz
  refine hG.fr (a := z) (e1 := arB cs.length g) ((up1_n hzq).trans up1_s) ?_
  rw [up_fr hzq hLz]
  refine hG.vret dJ9_init_2_97 rfl ?_ (by omega) (by omega) trivial
  refine ⟨rfl, z, g, by rw [show cs.length * (0 + 1) = cs.length by omega]; exact frI_in, fun i x hx => ?_, rfl⟩
  have hi := (List.getElem?_eq_some_iff.mp hx).1
  rw [enc_len (by decide)] at hi
  rw [hg i (by omega), Nat.zero_add]
  exact hbs i x hx
theorem ki_J9_489 : LkI RJ9 489 yJ9_init_2 2 := ⟨q1024, q1025, q85, rfl, ⟨by decide +kernel, by decide +kernel, by decide +kernel⟩, by decide +kernel⟩
set_option maxHeartbeats 4000000 in
set_option maxRecDepth 100000 in
theorem sp_J9_init0 {l : Launch} {s0 : State} {D : va_G} {I : AI} {L : AL} {o : Option Nat} (hΓ : Gam l s0 D) (hX : StV s0 o) {L0 : AL} {a b arr m : Nat} {ml : Int32} {cs : List Nat} {f : Nat → Int32} (h : SbR L0 L a b 0 ml cs.length cs arr m f) {q : Nat} (hq : L q = some (obC ciJ9 [.null, .int 0, .int 0, .int 0])) (h16 : cs.length < 16) : Spc l s0 D yJ9_init 5 [.ref q, .ref a] I L 1 32 (fun r I' L' => r = none ∧ ∃ (q' : Nat) (g : Nat → Int32), I' q' (arB (cs.length * (0 + 1)) g) ∧ Bs g (enc 0 cs) ∧ L' = up1 L q (some (obC ciJ9 [.ref q', .int (nI 0), .int 0, .int 0]))) noX := by
  refine Spc.of hΓ cJ9_init 2 none q1023 (by decide +kernel) (by decide) (Nat.le_of_ble_eq_true rfl) (fun G GX hG => ?_)
  refine hG.aload_n dJ9_init_0 rfl ?_
  refine hG.aload_n dJ9_init_1 rfl ?_
  refine hG.null dJ9_init_2 ?_
  refine hG.callI dJ9_init_3 ki_J9_489 (sp_J9_init_20 hΓ hX h hq h16) rfl rfl (Nat.le_of_ble_eq_true rfl) (by decide) (by omega) (by omega) (fun r3 I3 L3 hI3 h3 => ?_) (fun _ _ _ _ _ h => h.elim)
  obtain ⟨rfl, z, g, e1, e2, rfl⟩ := h3
  refine hG.vret dJ9_init_6 rfl ?_ (by omega) (by omega) trivial
  exact ⟨rfl, z, g, e1, e2, rfl⟩
theorem nw_J8_18 : LkN RJ8 18 ciJ9 [.null, .int 0, .int 0, .int 0] 4 := ⟨RJ9, TJ9, tyJ9, cls_J9, q1019, q1020, q85, rfl, fun j hj => by
  match j, hj with
  | 0, _ => rfl
  | 1, _ => rfl
  | 2, _ => rfl
  | 3, _ => rfl
  | _ + 4, h => exact absurd h (by omega)⟩
theorem ki_J8_137 : LkI RJ8 137 yJ9_init 1 := ⟨q1021, q1022, q85, rfl, ⟨by decide +kernel, by decide +kernel, by decide +kernel⟩, by decide +kernel⟩
set_option maxHeartbeats 4000000 in
set_option maxRecDepth 100000 in
theorem sp_J8_toString0 {l : Launch} {s0 : State} {D : va_G} {I : AI} {L : AL} {o : Option Nat} (hΓ : Gam l s0 D) (hX : StV s0 o) {a b : Nat} {ml : Int32} {cs : List Nat} (h0 : L a = some (sbC b 0 ml cs)) (h16 : cs.length < 16) : Spc l s0 D yJ8_toString 6 [.ref a] I L 2 40 (fun r I' L' => ∃ q, r = some (.ref q) ∧ NewS I' L L' q 0 cs) noX := by
  refine Spc.of hΓ cJ8_toString 1 (some (FieldType.object "java/lang/String")) q1018 (by decide +kernel) (by decide) (Nat.le_of_ble_eq_true rfl) (fun G GX hG => ?_)
  refine hG.opSb h0 (fun arr m f M h => ?_)
  obtain ⟨h1, h2, hF, hne, hfr⟩ := id h
  obtain ⟨hbs, hfb, hco, hlm, hm16, hmb, hlb, hb4⟩ := id hF
  have hk := hF.k
  have hmk := hF.mk2
  refine hG.new dJ8_toString_0 nw_J8_18 (by omega) (by omega) (fun q0 hLq0 hIq0 => ?_)
  have hMq := hLq0
  have haq : a ≠ q0 := fun e => by rw [e, hMq] at h1; cases h1
  refine hG.dup dJ8_toString_3 rfl ?_
  refine hG.aload_n dJ8_toString_4 rfl ?_
  refine hG.callI dJ8_toString_5 ki_J8_137 (sp_J9_init0 hΓ hX (h.both hLq0 _) up1_s h16) rfl rfl (Nat.le_of_ble_eq_true rfl) (by decide) (by omega) (by omega) (fun r5 I5 L5 hI5 h5 => ?_) (fun _ _ _ _ _ h => h.elim)
  obtain ⟨rfl, z, g, e1, e2, rfl⟩ := h5
  rw [up1_up1]
  have hLq0 := hfr.non hLq0 (by rw [h1]; exact (fun h => nomatch h))
  refine hG.clSs (up1 L q0 (some (obC ciJ9 [.ref z, .int (nI 0), .int 0, .int 0]))) ((up1_n haq).trans h0) (h.both hMq _) ?_
  refine hG.aret dJ8_toString_8 rfl (by first | exact Or.inl ⟨_, rfl⟩ | exact Or.inr ⟨_, rfl⟩) (by first | exact Or.inr ⟨_, rfl⟩ | exact Or.inl rfl) ?_ (by omega) (by omega) trivial
  exact ⟨q0, rfl, z, g, hLq0, rfl, e1, e2, hco, by omega⟩
theorem fg_J9_1048_J8 : LkG RJ9 1048 ciJ8 2 := ⟨RJ8, TJ8, 4, tyJ8, _, cls_J8, by decide, Or.inl rfl, Or.inl q346⟩
set_option maxHeartbeats 4000000 in
set_option maxRecDepth 100000 in
theorem sp_J9_init_21 {l : Launch} {s0 : State} {D : va_G} {I : AI} {L : AL} {o : Option Nat} (hΓ : Gam l s0 D) (hX : StV s0 o) {L0 : AL} {a b arr m : Nat} {ml : Int32} {cs : List Nat} {f : Nat → Int32} (h : SbR L0 L a b 1 ml cs.length cs arr m f) {q : Nat} (hq : L q = some (obC ciJ9 [.null, .int 0, .int 0, .int 0])) (h16 : cs.length < 16) (hml : ml = 0) : Spc l s0 D yJ9_init_2 4 [.ref q, .ref a, .null] I L 1 32 (fun r I' L' => r = none ∧ ∃ (q' : Nat) (g : Nat → Int32), I' q' (arB (cs.length * (1 + 1)) g) ∧ Bs g (enc 1 cs) ∧ L' = up1 L q (some (obC ciJ9 [.ref q', .int (nI 1), .int 0, .int 0]))) noX := by
  refine Spc.of hΓ cJ9_init_2 5 none q1026 (by decide +kernel) (by decide) (Nat.le_of_ble_eq_true rfl) (fun G GX hG => ?_)
  obtain ⟨h1, h2, hF, hne, hfr⟩ := id h
  obtain ⟨hbs, hfb, hco, hlm, hm16, hmb, hlb, hb4⟩ := id hF
  have hqr : arr ≠ q := ne_val h2 hq (fun e => by cases e)
  refine hG.aload_n dJ9_init_2_0 rfl ?_
  refine hG.objI dJ9_init_2_1 q1027 (Nat.le_of_ble_eq_true rfl) (by decide) ?_
  refine hG.aload_n dJ9_init_2_4 rfl ?_
  refine hG.callU dJ9_init_2_5 ko_J9_552_J8 (Rcv.raw h1 cl_J8) (sp_J7_getValue hΓ h1) rfl rfl (Nat.le_of_ble_eq_true rfl) (by decide) (by omega) (by omega) (fun r5 I5 L5 hI5 h5 => ?_) (fun _ _ _ _ _ h => h.elim)
  obtain ⟨rfl, rfl, rfl⟩ := h5
  refine hG.astore_n dJ9_init_2_8 (by decide) ?_
  refine hG.aload_n dJ9_init_2_9 rfl ?_
  refine hG.callU dJ9_init_2_10 ko_J9_549_J8 (Rcv.raw h1 cl_J8) (sp_J8_lengthR hΓ h1) rfl rfl (Nat.le_of_ble_eq_true rfl) (by decide) (by omega) (by omega) (fun r10 I10 L10 hI10 h10 => ?_) (fun _ _ _ _ _ h => h.elim)
  obtain ⟨rfl, rfl, rfl⟩ := h10
  refine hG.istore dJ9_init_2_13 (by decide) ?_
  refine hG.aload_n dJ9_init_2_15 rfl ?_
  refine hG.callU dJ9_init_2_16 ko_J9_1047_J8 (Rcv.raw h1 cl_J8) (sp_J7_isLatin1 hΓ hX h1 (by decide)) rfl rfl (Nat.le_of_ble_eq_true rfl) (by decide) (by omega) (by omega) (fun r16 I16 L16 hI16 h16 => ?_) (fun _ _ _ _ _ h => h.elim)
  obtain ⟨rfl, rfl, rfl⟩ := h16
  refine hG.if_eq (tgt := 41) dJ9_init_2_19 rfl (fun c_19 => ?_) (fun c_19 => absurd rfl c_19)
  refine hG.gets dJ9_init_2_41 hX.cs q830 (Or.inl rfl) ?_
  refine hG.if_eq (tgt := 79) dJ9_init_2_44 rfl (fun c_44 => absurd c_44 (by decide)) (fun c_44 => ?_)
  refine hG.aload_n dJ9_init_2_47 rfl ?_
  refine hG.get dJ9_init_2_48 fg_J9_1048_J8 (Or.inl h1) rfl ?_
  refine hG.if_eq (tgt := 79) dJ9_init_2_51 rfl (fun c_51 => ?_) (fun c_51 => absurd hml c_51)
  refine hG.aload_n dJ9_init_2_79 rfl ?_
  refine hG.iconst (v := 1) dJ9_init_2_80 rfl ?_
  refine hG.put dJ9_init_2_81 fp_J9_15_J9 hq rfl rfl (Nat.le_of_ble_eq_true rfl) ?_
  refine hG.aload_n dJ9_init_2_84 rfl ?_
  refine hG.aload_n dJ9_init_2_85 rfl ?_
  refine hG.iconst (v := 0) dJ9_init_2_86 rfl ?_
  refine hG.iload dJ9_init_2_87 rfl ?_
  refine hG.iconst (v := 1) dJ9_init_2_89 rfl ?_
  refine hG.ishl dJ9_init_2_90 ?_
  rw [pk_shlN (1 &&& 31) 1 (by decide) (by omega)]
  refine hG.callS dJ9_init_2_91 ks_J9_54 (sp_J19_copyOfRange hΓ (i := 0) (j := (cs.length * 2 ^ 1)) (Or.inl ((up1_n hqr).trans h2)) (by omega) (Nat.zero_le _) (by omega) (fun _ => by omega) hfb) rfl rfl (Nat.le_of_ble_eq_true rfl) (by decide) (by omega) (by omega) (fun r91 I91 L91 hI91 h91 => ?_) (fun _ _ _ _ _ h => h.elim)
  obtain ⟨rfl, z, g, rfl, hz, rfl, hg⟩ := h91
  rw [Nat.sub_zero] at hg ⊢
  have hzq : z ≠ q := fun e => by rw [e, up1_s] at hz; cases hz
  refine hG.put dJ9_init_2_94 fp_J9_9_J9 ((up1_n hzq.symm).trans up1_s) rfl rfl (Nat.le_of_ble_eq_true rfl) ?_
  have hLz : L z = none := (up1_n hzq).symm.trans hz
  refine hG.fr (a := z) (e1 := arB (cs.length * 2 ^ 1) g) ((up1_n hzq).trans up1_s) ?_
  rw [up_fr hzq hLz]
  refine hG.vret dJ9_init_2_97 rfl ?_ (by omega) (by omega) trivial
  refine ⟨rfl, z, g, by rw [show cs.length * (1 + 1) = (cs.length * 2 ^ 1) by omega]; exact frI_in, fun i x hx => ?_, rfl⟩
  have hi := (List.getElem?_eq_some_iff.mp hx).1
  rw [enc_len (by decide)] at hi
  rw [hg i (by omega), Nat.zero_add]
  exact hbs i x hx
set_option maxHeartbeats 4000000 in
set_option maxRecDepth 100000 in
theorem sp_J9_init1 {l : Launch} {s0 : State} {D : va_G} {I : AI} {L : AL} {o : Option Nat} (hΓ : Gam l s0 D) (hX : StV s0 o) {L0 : AL} {a b arr m : Nat} {ml : Int32} {cs : List Nat} {f : Nat → Int32} (h : SbR L0 L a b 1 ml cs.length cs arr m f) {q : Nat} (hq : L q = some (obC ciJ9 [.null, .int 0, .int 0, .int 0])) (h16 : cs.length < 16) (hml : ml = 0) : Spc l s0 D yJ9_init 5 [.ref q, .ref a] I L 1 32 (fun r I' L' => r = none ∧ ∃ (q' : Nat) (g : Nat → Int32), I' q' (arB (cs.length * (1 + 1)) g) ∧ Bs g (enc 1 cs) ∧ L' = up1 L q (some (obC ciJ9 [.ref q', .int (nI 1), .int 0, .int 0]))) noX := by
  refine Spc.of hΓ cJ9_init 2 none q1023 (by decide +kernel) (by decide) (Nat.le_of_ble_eq_true rfl) (fun G GX hG => ?_)
  refine hG.aload_n dJ9_init_0 rfl ?_
  refine hG.aload_n dJ9_init_1 rfl ?_
  refine hG.null dJ9_init_2 ?_
  refine hG.callI dJ9_init_3 ki_J9_489 (sp_J9_init_21 hΓ hX h hq h16 hml) rfl rfl (Nat.le_of_ble_eq_true rfl) (by decide) (by omega) (by omega) (fun r3 I3 L3 hI3 h3 => ?_) (fun _ _ _ _ _ h => h.elim)
  obtain ⟨rfl, z, g, e1, e2, rfl⟩ := h3
  refine hG.vret dJ9_init_6 rfl ?_ (by omega) (by omega) trivial
  exact ⟨rfl, z, g, e1, e2, rfl⟩
set_option maxHeartbeats 4000000 in
set_option maxRecDepth 100000 in
theorem sp_J8_toString1 {l : Launch} {s0 : State} {D : va_G} {I : AI} {L : AL} {o : Option Nat} (hΓ : Gam l s0 D) (hX : StV s0 o) {a b : Nat} {ml : Int32} {cs : List Nat} (h0 : L a = some (sbC b 1 0 cs)) (h16 : cs.length < 16) : Spc l s0 D yJ8_toString 6 [.ref a] I L 2 40 (fun r I' L' => ∃ q, r = some (.ref q) ∧ NewS I' L L' q 1 cs) noX := by
  refine Spc.of hΓ cJ8_toString 1 (some (FieldType.object "java/lang/String")) q1018 (by decide +kernel) (by decide) (Nat.le_of_ble_eq_true rfl) (fun G GX hG => ?_)
  refine hG.opSb h0 (fun arr m f M h => ?_)
  obtain ⟨h1, h2, hF, hne, hfr⟩ := id h
  obtain ⟨hbs, hfb, hco, hlm, hm16, hmb, hlb, hb4⟩ := id hF
  have hk := hF.k
  have hmk := hF.mk2
  refine hG.new dJ8_toString_0 nw_J8_18 (by omega) (by omega) (fun q0 hLq0 hIq0 => ?_)
  have hMq := hLq0
  have haq : a ≠ q0 := fun e => by rw [e, hMq] at h1; cases h1
  refine hG.dup dJ8_toString_3 rfl ?_
  refine hG.aload_n dJ8_toString_4 rfl ?_
  refine hG.callI dJ8_toString_5 ki_J8_137 (sp_J9_init1 hΓ hX (h.both hLq0 _) up1_s h16 rfl) rfl rfl (Nat.le_of_ble_eq_true rfl) (by decide) (by omega) (by omega) (fun r5 I5 L5 hI5 h5 => ?_) (fun _ _ _ _ _ h => h.elim)
  obtain ⟨rfl, z, g, e1, e2, rfl⟩ := h5
  rw [up1_up1]
  have hLq0 := hfr.non hLq0 (by rw [h1]; exact (fun h => nomatch h))
  refine hG.clSs (up1 L q0 (some (obC ciJ9 [.ref z, .int (nI 1), .int 0, .int 0]))) ((up1_n haq).trans h0) (h.both hMq _) ?_
  refine hG.aret dJ8_toString_8 rfl (by first | exact Or.inl ⟨_, rfl⟩ | exact Or.inr ⟨_, rfl⟩) (by first | exact Or.inr ⟨_, rfl⟩ | exact Or.inl rfl) ?_ (by omega) (by omega) trivial
  exact ⟨q0, rfl, z, g, hLq0, rfl, e1, e2, hco, by omega⟩
theorem ks_J7_161 : LkS RJ7 161 yJ27_checkFromToIndex 4 := ⟨q2981, q943, q107, by decide +kernel, by decide +kernel, by decide +kernel⟩
theorem ks_J7_304 : LkS RJ7 304 yJ26_newString 3 := ⟨q2982, q2983, q106, by decide +kernel, by decide +kernel, by decide +kernel⟩
set_option maxHeartbeats 4000000 in
set_option maxRecDepth 100000 in
theorem sp_J7_substring0 {l : Launch} {s0 : State} {D : va_G} {I : AI} {L : AL} {o : Option Nat} (hΓ : Gam l s0 D) (hX : StV s0 o) {L0 : AL} {a b arr m : Nat} {ml : Int32} {cs : List Nat} {f : Nat → Int32} (h : SbR L0 L a b 0 ml cs.length cs arr m f) {i : Nat} {ds : List Nat} (hds : ∀ t, t < ds.length → cs[i + t]? = ds[t]?) (hil : i + ds.length ≤ cs.length) (h0 : 0 < ds.length) (hdc : ∀ c ∈ ds, c < 256) (h16 : i = 0 → ds.length < 16) : Spc l s0 D yJ7_substring 7 [.ref a, .int (nI i), .int (nI (i + ds.length))] I L 2 (4 + ds.length) (fun r I' L' => ∃ q, r = some (.ref q) ∧ NewS I' L L' q 0 ds) noX := by
  refine Spc.of hΓ cJ7_substring 3 (some (FieldType.object "java/lang/String")) q2979 (by decide +kernel) (by decide) (Nat.le_of_ble_eq_true rfl) (fun G GX hG => ?_)
  obtain ⟨h1, h2, hF, hne, hfr⟩ := id h
  obtain ⟨hbs, hfb, hco, hlm, hm16, hmb, hlb, hb4⟩ := id hF
  refine hG.iload_n dJ7_substring_0 rfl ?_
  refine hG.iload_n dJ7_substring_1 rfl ?_
  refine hG.aload_n dJ7_substring_2 rfl ?_
  refine hG.get dJ7_substring_3 fg_J7_79_J8 (Or.inl h1) rfl ?_
  refine hG.gets dJ7_substring_6 hX.sf q2980 (Or.inl rfl) ?_
  refine hG.callS dJ7_substring_9 ks_J7_161 (sp_J27_checkFromToIndex hΓ (i := i) (j := i + ds.length) (m := cs.length) (by omega) (by omega) (by omega)) rfl rfl (Nat.le_of_ble_eq_true rfl) (by decide) (by omega) (by omega) (fun r9 I9 L9 hI9 h9 => ?_) (fun _ _ _ _ _ h => h.elim)
  obtain ⟨rfl, rfl, rfl⟩ := h9
  refine hG.pop dJ7_substring_12 rfl ?_
  refine hG.aload_n dJ7_substring_13 rfl ?_
  refine hG.callU dJ7_substring_14 ko_J7_83_J8 (Rcv.raw h1 cl_J8) (sp_J7_isLatin1 hΓ hX h1 (by decide)) rfl rfl (Nat.le_of_ble_eq_true rfl) (by decide) (by omega) (by omega) (fun r14 I14 L14 hI14 h14 => ?_) (fun _ _ _ _ _ h => h.elim)
  obtain ⟨rfl, rfl, rfl⟩ := h14
  refine hG.if_eq (tgt := 32) dJ7_substring_17 rfl (fun c_17 => absurd c_17 (by decide)) (fun c_17 => ?_)
  refine hG.aload_n dJ7_substring_20 rfl ?_
  refine hG.get dJ7_substring_21 fg_J7_15_J8 (Or.inl h1) rfl ?_
  refine hG.iload_n dJ7_substring_24 rfl ?_
  refine hG.iload_n dJ7_substring_25 rfl ?_
  refine hG.iload_n dJ7_substring_26 rfl ?_
  refine hG.isub dJ7_substring_27 ?_
  rw [show nI (i + ds.length) - nI i = nI ds.length from by rw [pk_sub (Nat.le_add_right _ _), Nat.add_sub_cancel_left]]
  refine hG.callS dJ7_substring_28 ks_J7_304 (sp_J26_newString hΓ hX (Or.inl h2) (by omega) (cs := ds) hfb (by omega) (fun e => by have := h16 e; omega) h0 (by omega) (fun t c hc => hbs _ _ (by rw [enc0, hds t (List.getElem?_eq_some_iff.mp hc).1, hc]; rfl)) hdc) rfl rfl (Nat.le_of_ble_eq_true rfl) (by decide) (by omega) (by omega) (fun r28 I28 L28 hI28 h28 => ?_) (fun _ _ _ _ _ h => h.elim)
  obtain ⟨q, rfl, hN⟩ := h28
  refine hG.aret dJ7_substring_31 rfl (by first | exact Or.inl ⟨_, rfl⟩ | exact Or.inr ⟨_, rfl⟩) (by first | exact Or.inr ⟨_, rfl⟩ | exact Or.inl rfl) ?_ (by omega) (by omega) trivial
  exact ⟨q, rfl, hN⟩
set_option maxHeartbeats 4000000 in
set_option maxRecDepth 100000 in
theorem sp_J7_substringE0 {l : Launch} {s0 : State} {D : va_G} {I : AI} {L : AL} {o : Option Nat} (hΓ : Gam l s0 D) (hT : StX s0 D o) {L0 : AL} {a b arr m : Nat} {ml : Int32} {cs : List Nat} {f : Nat → Int32} (h : SbR L0 L a b 0 ml cs.length cs arr m f) {i : Nat} (hil : i ≤ cs.length) : Spc l s0 D yJ7_substring 7 [.ref a, .int (nI i), .int (nI i)] I L 0 0 (fun r I' L' => ∃ q, r = some (.ref q) ∧ I = I' ∧ L = L' ∧ StrI I' q 0 []) noX := by
  refine Spc.of hΓ cJ7_substring 3 (some (FieldType.object "java/lang/String")) q2979 (by decide +kernel) (by decide) (Nat.le_of_ble_eq_true rfl) (fun G GX hG => ?_)
  have hX := hT.v
  obtain ⟨h1, h2, hF, hne, hfr⟩ := id h
  obtain ⟨hbs, hfb, hco, hlm, hm16, hmb, hlb, hb4⟩ := id hF
  refine hG.iload_n dJ7_substring_0 rfl ?_
  refine hG.iload_n dJ7_substring_1 rfl ?_
  refine hG.aload_n dJ7_substring_2 rfl ?_
  refine hG.get dJ7_substring_3 fg_J7_79_J8 (Or.inl h1) rfl ?_
  refine hG.gets dJ7_substring_6 hX.sf q2980 (Or.inl rfl) ?_
  refine hG.callS dJ7_substring_9 ks_J7_161 (sp_J27_checkFromToIndex hΓ (i := i) (j := i) (m := cs.length) (by omega) (by omega) (by omega)) rfl rfl (Nat.le_of_ble_eq_true rfl) (by decide) (by omega) (by omega) (fun r9 I9 L9 hI9 h9 => ?_) (fun _ _ _ _ _ h => h.elim)
  obtain ⟨rfl, rfl, rfl⟩ := h9
  refine hG.pop dJ7_substring_12 rfl ?_
  refine hG.aload_n dJ7_substring_13 rfl ?_
  refine hG.callU dJ7_substring_14 ko_J7_83_J8 (Rcv.raw h1 cl_J8) (sp_J7_isLatin1 hΓ hX h1 (by decide)) rfl rfl (Nat.le_of_ble_eq_true rfl) (by decide) (by omega) (by omega) (fun r14 I14 L14 hI14 h14 => ?_) (fun _ _ _ _ _ h => h.elim)
  obtain ⟨rfl, rfl, rfl⟩ := h14
  refine hG.if_eq (tgt := 32) dJ7_substring_17 rfl (fun c_17 => absurd c_17 (by decide)) (fun c_17 => ?_)
  refine hG.aload_n dJ7_substring_20 rfl ?_
  refine hG.get dJ7_substring_21 fg_J7_15_J8 (Or.inl h1) rfl ?_
  refine hG.iload_n dJ7_substring_24 rfl ?_
  refine hG.iload_n dJ7_substring_25 rfl ?_
  refine hG.iload_n dJ7_substring_26 rfl ?_
  refine hG.isub dJ7_substring_27 ?_
  rw [show nI i - nI i = 0 from by rw [pk_sub (Nat.le_refl _), Nat.sub_self]; rfl]
  refine hG.callS dJ7_substring_28 ks_J7_304 (sp_J26_newString0 hΓ hT) rfl rfl (Nat.le_of_ble_eq_true rfl) (by decide) (by omega) (by omega) (fun r28 I28 L28 hI28 h28 => ?_) (fun _ _ _ _ _ h => h.elim)
  obtain ⟨q, rfl, rfl, rfl, hS⟩ := h28
  refine hG.aret dJ7_substring_31 rfl (by first | exact Or.inl ⟨_, rfl⟩ | exact Or.inr ⟨_, rfl⟩) (by first | exact Or.inr ⟨_, rfl⟩ | exact Or.inl rfl) ?_ (by omega) (by omega) trivial
  exact ⟨q, rfl, rfl, rfl, hS⟩
theorem ku_J8_252 : LkSU RJ8 252 yJ7_substring 2 := ⟨q2977, q3669, q356, q2978, q83, by decide +kernel, by decide +kernel⟩
set_option maxHeartbeats 4000000 in
set_option maxRecDepth 100000 in
theorem sp_J8_substring0 {l : Launch} {s0 : State} {D : va_G} {I : AI} {L : AL} {o : Option Nat} (hΓ : Gam l s0 D) (hX : StV s0 o) {a b : Nat} {ml : Int32} {cs : List Nat} (h0 : L a = some (sbC b 0 ml cs)) {i : Nat} {ds : List Nat} (hds : ∀ t, t < ds.length → cs[i + t]? = ds[t]?) (hil : i + ds.length ≤ cs.length) (h9 : 0 < ds.length) (hdc : ∀ c ∈ ds, c < 256) (h16 : i = 0 → ds.length < 16) : Spc l s0 D yJ8_substring 8 [.ref a, .int (nI i), .int (nI (i + ds.length))] I L 2 (4 + ds.length) (fun r I' L' => ∃ q, r = some (.ref q) ∧ NewS I' L L' q 0 ds) noX := by
  refine Spc.of hΓ cJ8_substring 3 (some (FieldType.object "java/lang/String")) q2976 (by decide +kernel) (by decide) (Nat.le_of_ble_eq_true rfl) (fun G GX hG => ?_)
  refine hG.opSb h0 (fun arr m f M h => ?_)
  obtain ⟨h1, h2, hF, hne, hfr⟩ := id h
  obtain ⟨hbs, hfb, hco, hlm, hm16, hmb, hlb, hb4⟩ := id hF
  have hk := hF.k
  have hmk := hF.mk2
  refine hG.aload_n dJ8_substring_0 rfl ?_
  refine hG.iload_n dJ8_substring_1 rfl ?_
  refine hG.iload_n dJ8_substring_2 rfl ?_
  refine hG.callSU dJ8_substring_3 ku_J8_252 (Rcv.raw h1 cl_J8) cl_J8 (sp_J7_substring0 hΓ hX h hds hil h9 hdc h16) rfl rfl (Nat.le_of_ble_eq_true rfl) (by decide) (by omega) (by omega) (fun r3 I3 L3 hI3 h3 => ?_) (fun _ _ _ _ _ h => h.elim)
  obtain ⟨q, rfl, hN⟩ := h3
  obtain ⟨z, g, n1, rfl, n3, n4, n5, n6⟩ := hN
  have hLq := hfr.non n1 (by rw [h1]; exact (fun h => nomatch h))
  have haq : a ≠ q := fun e => by rw [e, n1] at h1; cases h1
  refine hG.clSs (up1 L q (some (obC ciJ9 [.ref z, .int (nI 0), .int 0, .int 0]))) ((up1_n haq).trans h0) (h.both n1 _) ?_
  refine hG.aret dJ8_substring_6 rfl (by first | exact Or.inl ⟨_, rfl⟩ | exact Or.inr ⟨_, rfl⟩) (by first | exact Or.inr ⟨_, rfl⟩ | exact Or.inl rfl) ?_ (by omega) (by omega) trivial
  exact ⟨q, rfl, z, g, hLq, rfl, n3, n4, n5, n6⟩
set_option maxHeartbeats 4000000 in
set_option maxRecDepth 100000 in
theorem sp_J8_substringE0 {l : Launch} {s0 : State} {D : va_G} {I : AI} {L : AL} {o : Option Nat} (hΓ : Gam l s0 D) (hT : StX s0 D o) {a b : Nat} {ml : Int32} {cs : List Nat} (h0 : L a = some (sbC b 0 ml cs)) {i : Nat} (hil : i ≤ cs.length) : Spc l s0 D yJ8_substring 8 [.ref a, .int (nI i), .int (nI i)] I L 0 0 (fun r I' L' => ∃ q, r = some (.ref q) ∧ I = I' ∧ L = L' ∧ StrI I' q 0 []) noX := by
  refine Spc.of hΓ cJ8_substring 3 (some (FieldType.object "java/lang/String")) q2976 (by decide +kernel) (by decide) (Nat.le_of_ble_eq_true rfl) (fun G GX hG => ?_)
  have hX := hT.v
  refine hG.opSb h0 (fun arr m f M h => ?_)
  obtain ⟨h1, h2, hF, hne, hfr⟩ := id h
  obtain ⟨hbs, hfb, hco, hlm, hm16, hmb, hlb, hb4⟩ := id hF
  have hk := hF.k
  have hmk := hF.mk2
  refine hG.aload_n dJ8_substring_0 rfl ?_
  refine hG.iload_n dJ8_substring_1 rfl ?_
  refine hG.iload_n dJ8_substring_2 rfl ?_
  refine hG.callSU dJ8_substring_3 ku_J8_252 (Rcv.raw h1 cl_J8) cl_J8 (sp_J7_substringE0 hΓ hT h hil) rfl rfl (Nat.le_of_ble_eq_true rfl) (by decide) (by omega) (by omega) (fun r3 I3 L3 hI3 h3 => ?_) (fun _ _ _ _ _ h => h.elim)
  obtain ⟨q, rfl, rfl, rfl, hS⟩ := h3
  refine hG.clSs L h0 h ?_
  refine hG.aret dJ8_substring_6 rfl (by first | exact Or.inl ⟨_, rfl⟩ | exact Or.inr ⟨_, rfl⟩) (by first | exact Or.inr ⟨_, rfl⟩ | exact Or.inl rfl) ?_ (by omega) (by omega) trivial
  exact ⟨q, rfl, rfl, rfl, hS⟩
theorem ks_J7_308 : LkS RJ7 308 yJ10_newString 3 := ⟨q2989, q2990, q86, by decide +kernel, by decide +kernel, by decide +kernel⟩
set_option maxHeartbeats 4000000 in
set_option maxRecDepth 100000 in
theorem sp_J7_substring1 {l : Launch} {s0 : State} {D : va_G} {I : AI} {L : AL} {o : Option Nat} (hΓ : Gam l s0 D) (hX : StV s0 o) {L0 : AL} {a b arr m : Nat} {ml : Int32} {cs : List Nat} {f : Nat → Int32} (h : SbR L0 L a b 1 ml cs.length cs arr m f) {i : Nat} {ds : List Nat} (hds : ∀ t, t < ds.length → cs[i + t]? = ds[t]?) (hil : i + ds.length ≤ cs.length) (h0 : 0 < ds.length) (hdc : ∀ c ∈ ds, c < 256) (h16 : i = 0 → ds.length < 16) : Spc l s0 D yJ7_substring 7 [.ref a, .int (nI i), .int (nI (i + ds.length))] I L 2 (4 + ds.length) (fun r I' L' => ∃ q, r = some (.ref q) ∧ NewS I' L L' q 0 ds) noX := by
  refine Spc.of hΓ cJ7_substring 3 (some (FieldType.object "java/lang/String")) q2979 (by decide +kernel) (by decide) (Nat.le_of_ble_eq_true rfl) (fun G GX hG => ?_)
  obtain ⟨h1, h2, hF, hne, hfr⟩ := id h
  obtain ⟨hbs, hfb, hco, hlm, hm16, hmb, hlb, hb4⟩ := id hF
  refine hG.iload_n dJ7_substring_0 rfl ?_
  refine hG.iload_n dJ7_substring_1 rfl ?_
  refine hG.aload_n dJ7_substring_2 rfl ?_
  refine hG.get dJ7_substring_3 fg_J7_79_J8 (Or.inl h1) rfl ?_
  refine hG.gets dJ7_substring_6 hX.sf q2980 (Or.inl rfl) ?_
  refine hG.callS dJ7_substring_9 ks_J7_161 (sp_J27_checkFromToIndex hΓ (i := i) (j := i + ds.length) (m := cs.length) (by omega) (by omega) (by omega)) rfl rfl (Nat.le_of_ble_eq_true rfl) (by decide) (by omega) (by omega) (fun r9 I9 L9 hI9 h9 => ?_) (fun _ _ _ _ _ h => h.elim)
  obtain ⟨rfl, rfl, rfl⟩ := h9
  refine hG.pop dJ7_substring_12 rfl ?_
  refine hG.aload_n dJ7_substring_13 rfl ?_
  refine hG.callU dJ7_substring_14 ko_J7_83_J8 (Rcv.raw h1 cl_J8) (sp_J7_isLatin1 hΓ hX h1 (by decide)) rfl rfl (Nat.le_of_ble_eq_true rfl) (by decide) (by omega) (by omega) (fun r14 I14 L14 hI14 h14 => ?_) (fun _ _ _ _ _ h => h.elim)
  obtain ⟨rfl, rfl, rfl⟩ := h14
  refine hG.if_eq (tgt := 32) dJ7_substring_17 rfl (fun c_17 => ?_) (fun c_17 => absurd rfl c_17)
  refine hG.aload_n dJ7_substring_32 rfl ?_
  refine hG.get dJ7_substring_33 fg_J7_15_J8 (Or.inl h1) rfl ?_
  refine hG.iload_n dJ7_substring_36 rfl ?_
  refine hG.iload_n dJ7_substring_37 rfl ?_
  refine hG.iload_n dJ7_substring_38 rfl ?_
  refine hG.isub dJ7_substring_39 ?_
  rw [show nI (i + ds.length) - nI i = nI ds.length from by rw [pk_sub (Nat.le_add_right _ _), Nat.add_sub_cancel_left]]
  refine hG.callS dJ7_substring_40 ks_J7_308 (sp_J10_newString hΓ hX (Or.inl h2) (by omega) (cs := ds) (by omega) h0 (by omega) (fun t c hc => ⟨hbs _ _ (by rw [(enc1 cs (i + t)).1, hds t (List.getElem?_eq_some_iff.mp hc).1, hc]; rfl), hbs _ _ (by rw [(enc1 cs (i + t)).2, hds t (List.getElem?_eq_some_iff.mp hc).1, hc]; rfl)⟩) hdc (fun q hq _ e => by rw [← e, h2] at hq; cases hq)) rfl rfl (Nat.le_of_ble_eq_true rfl) (by decide) (by omega) (by omega) (fun r40 I40 L40 hI40 h40 => ?_) (fun _ _ _ _ _ h => h.elim)
  obtain ⟨q, rfl, hN⟩ := h40
  refine hG.aret dJ7_substring_43 rfl (by first | exact Or.inl ⟨_, rfl⟩ | exact Or.inr ⟨_, rfl⟩) (by first | exact Or.inr ⟨_, rfl⟩ | exact Or.inl rfl) ?_ (by omega) (by omega) trivial
  exact ⟨q, rfl, hN⟩
set_option maxHeartbeats 4000000 in
set_option maxRecDepth 100000 in
theorem sp_J7_substringE1 {l : Launch} {s0 : State} {D : va_G} {I : AI} {L : AL} {o : Option Nat} (hΓ : Gam l s0 D) (hT : StX s0 D o) {L0 : AL} {a b arr m : Nat} {ml : Int32} {cs : List Nat} {f : Nat → Int32} (h : SbR L0 L a b 1 ml cs.length cs arr m f) {i : Nat} (hil : i ≤ cs.length) : Spc l s0 D yJ7_substring 7 [.ref a, .int (nI i), .int (nI i)] I L 0 0 (fun r I' L' => ∃ q, r = some (.ref q) ∧ I = I' ∧ L = L' ∧ StrI I' q 0 []) noX := by
  refine Spc.of hΓ cJ7_substring 3 (some (FieldType.object "java/lang/String")) q2979 (by decide +kernel) (by decide) (Nat.le_of_ble_eq_true rfl) (fun G GX hG => ?_)
  have hX := hT.v
  obtain ⟨h1, h2, hF, hne, hfr⟩ := id h
  obtain ⟨hbs, hfb, hco, hlm, hm16, hmb, hlb, hb4⟩ := id hF
  refine hG.iload_n dJ7_substring_0 rfl ?_
  refine hG.iload_n dJ7_substring_1 rfl ?_
  refine hG.aload_n dJ7_substring_2 rfl ?_
  refine hG.get dJ7_substring_3 fg_J7_79_J8 (Or.inl h1) rfl ?_
  refine hG.gets dJ7_substring_6 hX.sf q2980 (Or.inl rfl) ?_
  refine hG.callS dJ7_substring_9 ks_J7_161 (sp_J27_checkFromToIndex hΓ (i := i) (j := i) (m := cs.length) (by omega) (by omega) (by omega)) rfl rfl (Nat.le_of_ble_eq_true rfl) (by decide) (by omega) (by omega) (fun r9 I9 L9 hI9 h9 => ?_) (fun _ _ _ _ _ h => h.elim)
  obtain ⟨rfl, rfl, rfl⟩ := h9
  refine hG.pop dJ7_substring_12 rfl ?_
  refine hG.aload_n dJ7_substring_13 rfl ?_
  refine hG.callU dJ7_substring_14 ko_J7_83_J8 (Rcv.raw h1 cl_J8) (sp_J7_isLatin1 hΓ hX h1 (by decide)) rfl rfl (Nat.le_of_ble_eq_true rfl) (by decide) (by omega) (by omega) (fun r14 I14 L14 hI14 h14 => ?_) (fun _ _ _ _ _ h => h.elim)
  obtain ⟨rfl, rfl, rfl⟩ := h14
  refine hG.if_eq (tgt := 32) dJ7_substring_17 rfl (fun c_17 => ?_) (fun c_17 => absurd rfl c_17)
  refine hG.aload_n dJ7_substring_32 rfl ?_
  refine hG.get dJ7_substring_33 fg_J7_15_J8 (Or.inl h1) rfl ?_
  refine hG.iload_n dJ7_substring_36 rfl ?_
  refine hG.iload_n dJ7_substring_37 rfl ?_
  refine hG.iload_n dJ7_substring_38 rfl ?_
  refine hG.isub dJ7_substring_39 ?_
  rw [show nI i - nI i = 0 from by rw [pk_sub (Nat.le_refl _), Nat.sub_self]; rfl]
  refine hG.callS dJ7_substring_40 ks_J7_308 (sp_J10_newString0 hΓ hT) rfl rfl (Nat.le_of_ble_eq_true rfl) (by decide) (by omega) (by omega) (fun r40 I40 L40 hI40 h40 => ?_) (fun _ _ _ _ _ h => h.elim)
  obtain ⟨q, rfl, rfl, rfl, hS⟩ := h40
  refine hG.aret dJ7_substring_43 rfl (by first | exact Or.inl ⟨_, rfl⟩ | exact Or.inr ⟨_, rfl⟩) (by first | exact Or.inr ⟨_, rfl⟩ | exact Or.inl rfl) ?_ (by omega) (by omega) trivial
  exact ⟨q, rfl, rfl, rfl, hS⟩
set_option maxHeartbeats 4000000 in
set_option maxRecDepth 100000 in
theorem sp_J8_substring1 {l : Launch} {s0 : State} {D : va_G} {I : AI} {L : AL} {o : Option Nat} (hΓ : Gam l s0 D) (hX : StV s0 o) {a b : Nat} {ml : Int32} {cs : List Nat} (h0 : L a = some (sbC b 1 ml cs)) {i : Nat} {ds : List Nat} (hds : ∀ t, t < ds.length → cs[i + t]? = ds[t]?) (hil : i + ds.length ≤ cs.length) (h9 : 0 < ds.length) (hdc : ∀ c ∈ ds, c < 256) (h16 : i = 0 → ds.length < 16) : Spc l s0 D yJ8_substring 8 [.ref a, .int (nI i), .int (nI (i + ds.length))] I L 2 (4 + ds.length) (fun r I' L' => ∃ q, r = some (.ref q) ∧ NewS I' L L' q 0 ds) noX := by
  refine Spc.of hΓ cJ8_substring 3 (some (FieldType.object "java/lang/String")) q2976 (by decide +kernel) (by decide) (Nat.le_of_ble_eq_true rfl) (fun G GX hG => ?_)
  refine hG.opSb h0 (fun arr m f M h => ?_)
  obtain ⟨h1, h2, hF, hne, hfr⟩ := id h
  obtain ⟨hbs, hfb, hco, hlm, hm16, hmb, hlb, hb4⟩ := id hF
  have hk := hF.k
  have hmk := hF.mk2
  refine hG.aload_n dJ8_substring_0 rfl ?_
  refine hG.iload_n dJ8_substring_1 rfl ?_
  refine hG.iload_n dJ8_substring_2 rfl ?_
  refine hG.callSU dJ8_substring_3 ku_J8_252 (Rcv.raw h1 cl_J8) cl_J8 (sp_J7_substring1 hΓ hX h hds hil h9 hdc h16) rfl rfl (Nat.le_of_ble_eq_true rfl) (by decide) (by omega) (by omega) (fun r3 I3 L3 hI3 h3 => ?_) (fun _ _ _ _ _ h => h.elim)
  obtain ⟨q, rfl, hN⟩ := h3
  obtain ⟨z, g, n1, rfl, n3, n4, n5, n6⟩ := hN
  have hLq := hfr.non n1 (by rw [h1]; exact (fun h => nomatch h))
  have haq : a ≠ q := fun e => by rw [e, n1] at h1; cases h1
  refine hG.clSs (up1 L q (some (obC ciJ9 [.ref z, .int (nI 0), .int 0, .int 0]))) ((up1_n haq).trans h0) (h.both n1 _) ?_
  refine hG.aret dJ8_substring_6 rfl (by first | exact Or.inl ⟨_, rfl⟩ | exact Or.inr ⟨_, rfl⟩) (by first | exact Or.inr ⟨_, rfl⟩ | exact Or.inl rfl) ?_ (by omega) (by omega) trivial
  exact ⟨q, rfl, z, g, hLq, rfl, n3, n4, n5, n6⟩
set_option maxHeartbeats 4000000 in
set_option maxRecDepth 100000 in
theorem sp_J8_substringE1 {l : Launch} {s0 : State} {D : va_G} {I : AI} {L : AL} {o : Option Nat} (hΓ : Gam l s0 D) (hT : StX s0 D o) {a b : Nat} {ml : Int32} {cs : List Nat} (h0 : L a = some (sbC b 1 ml cs)) {i : Nat} (hil : i ≤ cs.length) : Spc l s0 D yJ8_substring 8 [.ref a, .int (nI i), .int (nI i)] I L 0 0 (fun r I' L' => ∃ q, r = some (.ref q) ∧ I = I' ∧ L = L' ∧ StrI I' q 0 []) noX := by
  refine Spc.of hΓ cJ8_substring 3 (some (FieldType.object "java/lang/String")) q2976 (by decide +kernel) (by decide) (Nat.le_of_ble_eq_true rfl) (fun G GX hG => ?_)
  have hX := hT.v
  refine hG.opSb h0 (fun arr m f M h => ?_)
  obtain ⟨h1, h2, hF, hne, hfr⟩ := id h
  obtain ⟨hbs, hfb, hco, hlm, hm16, hmb, hlb, hb4⟩ := id hF
  have hk := hF.k
  have hmk := hF.mk2
  refine hG.aload_n dJ8_substring_0 rfl ?_
  refine hG.iload_n dJ8_substring_1 rfl ?_
  refine hG.iload_n dJ8_substring_2 rfl ?_
  refine hG.callSU dJ8_substring_3 ku_J8_252 (Rcv.raw h1 cl_J8) cl_J8 (sp_J7_substringE1 hΓ hT h hil) rfl rfl (Nat.le_of_ble_eq_true rfl) (by decide) (by omega) (by omega) (fun r3 I3 L3 hI3 h3 => ?_) (fun _ _ _ _ _ h => h.elim)
  obtain ⟨q, rfl, rfl, rfl, hS⟩ := h3
  refine hG.clSs L h0 h ?_
  refine hG.aret dJ8_substring_6 rfl (by first | exact Or.inl ⟨_, rfl⟩ | exact Or.inr ⟨_, rfl⟩) (by first | exact Or.inr ⟨_, rfl⟩ | exact Or.inl rfl) ?_ (by omega) (by omega) trivial
  exact ⟨q, rfl, rfl, rfl, hS⟩
theorem ks_J25_72 : LkS RJ25 72 yJ25_stringSize 1 := ⟨q2711, q998, q105, by decide +kernel, by decide +kernel, by decide +kernel⟩
theorem ks_J25_75 : LkS RJ25 75 yJ25_getChars 3 := ⟨q2713, q1001, q105, by decide +kernel, by decide +kernel, by decide +kernel⟩
theorem nw_J25_5 : LkN RJ25 5 ciJ9 [.null, .int 0, .int 0, .int 0] 4 := ⟨RJ9, TJ9, tyJ9, cls_J9, q2714, q1020, q85, rfl, fun j hj => by
  match j, hj with
  | 0, _ => rfl
  | 1, _ => rfl
  | 2, _ => rfl
  | 3, _ => rfl
  | _ + 4, h => exact absurd h (by omega)⟩
theorem ki_J25_65 : LkI RJ25 65 yJ9_init_3 2 := ⟨q2715, q2716, q85, rfl, ⟨by decide +kernel, by decide +kernel, by decide +kernel⟩, by decide +kernel⟩
set_option maxHeartbeats 4000000 in
set_option maxRecDepth 100000 in
theorem sp_J25_toString_2 {l : Launch} {s0 : State} {D : va_G} {I : AI} {L : AL} {o : Option Nat} (hΓ : Gam l s0 D) (hX : StV s0 o) {d1 d2 n : Nat} (hD : StD s0 D d1 d2) (hn : n < 1000) : Spc l s0 D yJ25_toString_2 3 [.int (nI n)] I L 2 7 (fun r I' L' => ∃ q, r = some (.ref q) ∧ NewS I' L L' q 0 (dec n)) noX := by
  refine Spc.of hΓ cJ25_toString_2 3 (some (FieldType.object "java/lang/String")) q2710 (by decide +kernel) (by decide) (Nat.le_of_ble_eq_true rfl) (fun G GX hG => ?_)
  have hln := dec_len n
  refine hG.iload_n dJ25_toString_2_0 rfl ?_
  refine hG.callS dJ25_toString_2_1 ks_J25_72 (sp_J25_stringSize hΓ hn) rfl rfl (Nat.le_of_ble_eq_true rfl) (by decide) (by omega) (by omega) (fun r1 I1 L1 hI1 h1 => ?_) (fun _ _ _ _ _ h => h.elim)
  obtain ⟨rfl, rfl, rfl⟩ := h1
  refine hG.istore_n dJ25_toString_2_4 (by decide) ?_
  refine hG.gets dJ25_toString_2_5 hX.cs q2712 (Or.inl rfl) ?_
  refine hG.if_eq (tgt := 32) dJ25_toString_2_8 rfl (fun c_8 => absurd c_8 (by decide)) (fun c_8 => ?_)
  refine hG.iload_n dJ25_toString_2_11 rfl ?_
  refine hG.newa .byte ((dec n).length, .inl (fun _ => 0)) dJ25_toString_2_12 q357 rfl (arB_new _) (nI_pos (by omega)) (nI_clamp (by omega)) (by show (dec n).length * 1 ≤ _; omega) (by omega) (by show _ + (dec n).length ≤ _; omega) (fun z hLz hIz => ?_)
  refine hG.astore_n dJ25_toString_2_14 (by decide) ?_
  refine hG.iload_n dJ25_toString_2_15 rfl ?_
  refine hG.iload_n dJ25_toString_2_16 rfl ?_
  refine hG.aload_n dJ25_toString_2_17 rfl ?_
  refine hG.callS dJ25_toString_2_18 ks_J25_75 (sp_J25_getChars hΓ hD (n := n) (i := (dec n).length) up1_s (fun j _ => rfl) (Nat.le_refl _) (by omega) hn (Nat.le_refl _)) rfl rfl (Nat.le_of_ble_eq_true rfl) (by decide) (by omega) (by omega) (fun r18 I18 L18 hI18 h18 => ?_) (fun _ _ _ _ _ h => h.elim)
  obtain ⟨rfl, rfl, g, rfl, hg1, hg2, hg3⟩ := h18
  rw [up1_up1]
  rw [Nat.sub_self] at hg1
  refine hG.pop dJ25_toString_2_21 rfl ?_
  refine hG.new dJ25_toString_2_22 nw_J25_5 (by omega) (by omega) (fun q22 hLq22 hIq22 => ?_)
  refine hG.dup dJ25_toString_2_25 rfl ?_
  refine hG.aload_n dJ25_toString_2_26 rfl ?_
  refine hG.iconst (v := 0) dJ25_toString_2_27 rfl ?_
  refine hG.callI dJ25_toString_2_28 ki_J25_65 (sp_J9_init_3 (k := 0) hΓ (by decide) up1_s) rfl rfl (Nat.le_of_ble_eq_true rfl) (by decide) (by omega) (by omega) (fun r28 I28 L28 hI28 h28 => ?_) (fun _ _ _ _ _ h => h.elim)
  obtain ⟨rfl, rfl, rfl⟩ := h28
  rw [up1_up1]
  have hzq : z ≠ q22 := fun e => by rw [← e, up1_s] at hLq22; cases hLq22
  have hLq : L q22 = none := (up1_n hzq.symm).symm.trans hLq22
  refine hG.fr (a := z) (e1 := arB (dec n).length g) ((up1_n hzq).trans up1_s) ?_
  rw [up_fr2 hzq hLz]
  refine hG.aret dJ25_toString_2_31 rfl (by first | exact Or.inl ⟨_, rfl⟩ | exact Or.inr ⟨_, rfl⟩) (by first | exact Or.inr ⟨_, rfl⟩ | exact Or.inl rfl) ?_ (by omega) (by omega) trivial
  refine ⟨q22, rfl, z, g, hLq, rfl, by rw [Nat.zero_add, Nat.mul_one]; exact frI_in, fun i x hx => ?_, Or.inl ⟨rfl, dec_c hn⟩, by omega⟩
  rw [enc0] at hx
  cases hct : (dec n)[i]? with
  | none => rw [hct] at hx; cases hx
  | some c =>
    rw [hct] at hx
    have := hg1 i c hct
    rw [Nat.zero_add] at this
    rw [this]
    exact Option.some.inj hx
theorem ks_J25_9 : LkS RJ25 9 yJ25_toString_2 1 := ⟨q2708, q2709, q105, by decide +kernel, by decide +kernel, by decide +kernel⟩
set_option maxHeartbeats 4000000 in
set_option maxRecDepth 100000 in
theorem sp_J25_toString {l : Launch} {s0 : State} {D : va_G} {I : AI} {L : AL} {o : Option Nat} (hΓ : Gam l s0 D) (hX : StV s0 o) {d1 d2 n : Nat} (hD : StD s0 D d1 d2) (hn : n < 1000) {a : Nat} (ha : I a (ob ciJ25 [.int (nI n)])) : Spc l s0 D yJ25_toString 4 [.ref a] I L 2 7 (fun r I' L' => ∃ q, r = some (.ref q) ∧ NewS I' L L' q 0 (dec n)) noX := by
  refine Spc.of hΓ cJ25_toString 1 (some (FieldType.object "java/lang/String")) q2707 (by decide +kernel) (by decide) (Nat.le_of_ble_eq_true rfl) (fun G GX hG => ?_)
  refine hG.aload_n dJ25_toString_0 rfl ?_
  refine hG.get dJ25_toString_1 fg_J25_205_J25 (Or.inr ha) rfl ?_
  refine hG.callS dJ25_toString_4 ks_J25_9 (sp_J25_toString_2 hΓ hX hD hn) rfl rfl (Nat.le_of_ble_eq_true rfl) (by decide) (by omega) (by omega) (fun r4 I4 L4 hI4 h4 => ?_) (fun _ _ _ _ _ h => h.elim)
  obtain ⟨q, rfl, hN⟩ := h4
  refine hG.aret dJ25_toString_7 rfl (by first | exact Or.inl ⟨_, rfl⟩ | exact Or.inr ⟨_, rfl⟩) (by first | exact Or.inr ⟨_, rfl⟩ | exact Or.inl rfl) ?_ (by omega) (by omega) trivial
  exact ⟨q, rfl, hN⟩
theorem ko_J9_1007_J25 : LkU RJ9 1007 RJ25 ⟨"java/lang/Object", "toString", "()Ljava/lang/String;"⟩ yJ25_toString 0 := ⟨_, q2635, q2637, q2705, q2706, q105, by decide +kernel, by decide +kernel, by decide +kernel, Or.inr (Or.inr q2634)⟩
set_option maxHeartbeats 4000000 in
set_option maxRecDepth 100000 in
theorem sp_J9_valueOf {l : Launch} {s0 : State} {D : va_G} {I : AI} {L : AL} {o : Option Nat} (hΓ : Gam l s0 D) (hX : StV s0 o) {d1 d2 n : Nat} (hD : StD s0 D d1 d2) (hn : n < 1000) {a : Nat} (ha : I a (ob ciJ25 [.int (nI n)])) : Spc l s0 D yJ9_valueOf 5 [.ref a] I L 2 7 (fun r I' L' => ∃ q, r = some (.ref q) ∧ NewS I' L L' q 0 (dec n)) noX := by
  refine Spc.of hΓ cJ9_valueOf 1 (some (FieldType.object "java/lang/String")) q2632 (by decide +kernel) (by decide) (Nat.le_of_ble_eq_true rfl) (fun G GX hG => ?_)
  refine hG.aload_n dJ9_valueOf_0 rfl ?_
  refine hG.ifnonnull (tgt := 10) dJ9_valueOf_1 rfl ?_
  refine hG.aload_n dJ9_valueOf_10 rfl ?_
  refine hG.callU dJ9_valueOf_11 ko_J9_1007_J25 (Rcv.imm ha cl_J25) (sp_J25_toString hΓ hX hD hn ha) rfl rfl (Nat.le_of_ble_eq_true rfl) (by decide) (by omega) (by omega) (fun r11 I11 L11 hI11 h11 => ?_) (fun _ _ _ _ _ h => h.elim)
  obtain ⟨q, rfl, hN⟩ := h11
  refine hG.aret dJ9_valueOf_14 rfl (by first | exact Or.inl ⟨_, rfl⟩ | exact Or.inr ⟨_, rfl⟩) (by first | exact Or.inr ⟨_, rfl⟩ | exact Or.inl rfl) ?_ (by omega) (by omega) trivial
  exact ⟨q, rfl, hN⟩
theorem ks_J8_17 : LkS RJ8 17 yJ9_valueOf 1 := ⟨q2630, q2631, q85, by decide +kernel, by decide +kernel, by decide +kernel⟩
theorem kv_J8_23 : LkV RJ8 23 yJ8_append 1 := ⟨q2727, q896, q897, q84, by decide +kernel, by decide +kernel, by decide +kernel⟩
set_option maxHeartbeats 4000000 in
set_option maxRecDepth 100000 in
theorem sp_J8_append_3 {l : Launch} {s0 : State} {D : va_G} {I : AI} {L : AL} {o : Option Nat} (hΓ : Gam l s0 D) (hX : StV s0 o) {a b : Nat} {ml : Int32} {cs : List Nat} (h0 : L a = some (sbC b 0 ml cs)) {d1 d2 n : Nat} (hD : StD s0 D d1 d2) (hn : n < 1000) {x : Nat} (ha : I x (ob ciJ25 [.int (nI n)])) (hb1 : cs.length + (dec n).length ≤ b) : Spc l s0 D yJ8_append_3 7 [.ref a, .ref x] I L 3 ((2 * b + 34) * 2 + 7) (fun r I' L' => r = some (.ref a) ∧ L' = up1 L a (some (sbC b 0 ml (cs ++ dec n)))) noX := by
  refine Spc.of hΓ cJ8_append_3 2 (some (FieldType.object "java/lang/StringBuilder")) q2629 (by decide +kernel) (by decide) (Nat.le_of_ble_eq_true rfl) (fun G GX hG => ?_)
  refine hG.aload_n dJ8_append_3_0 rfl ?_
  refine hG.aload_n dJ8_append_3_1 rfl ?_
  refine hG.callS dJ8_append_3_2 ks_J8_17 (sp_J9_valueOf hΓ hX hD hn ha) rfl rfl (Nat.le_of_ble_eq_true rfl) (by decide) (by omega) (by omega) (fun r2 I2 L2 hI2 h2 => ?_) (fun _ _ _ _ _ h => h.elim)
  obtain ⟨q, rfl, hN⟩ := h2
  have hR := hN.r
  obtain ⟨z, g, n1, rfl, n3, n4, n5, n6⟩ := hN
  have haq : a ≠ q := fun e => by rw [← e, h0] at n1; cases n1
  have h09 : up1 L q (some (obC ciJ9 [.ref z, .int (nI 0), .int 0, .int 0])) a = _ := (up1_n haq).trans h0
  refine hG.callV dJ8_append_3_5 kv_J8_23 (Rcv.sb h09) (sp_J8_append0 (k := 0) hΓ hX h09 hR hb1) rfl rfl (Nat.le_of_ble_eq_true rfl) (by decide) (by omega) (by omega) (fun r5 I5 L5 hI5 h5 => ?_) (fun _ _ _ _ _ h => h.elim)
  obtain ⟨rfl, rfl, rfl⟩ := h5
  refine hG.sub (S := up1 L a (some (sbC b 0 ml (cs ++ dec n)))) (fun q9 x hx => ?_) ?_
  · by_cases e : q9 = a
    · subst e; rw [up1_s] at hx ⊢; exact hx
    · rw [up1_n e] at hx ⊢
      exact (up1_n (fun e2 => by rw [e2, n1] at hx; cases hx)).trans hx
  refine hG.aret dJ8_append_3_8 rfl (by first | exact Or.inl ⟨_, rfl⟩ | exact Or.inr ⟨_, rfl⟩) (by first | exact Or.inr ⟨_, rfl⟩ | exact Or.inl rfl) ?_ (by omega) (by omega) trivial
  exact ⟨rfl, rfl⟩
