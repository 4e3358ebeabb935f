/-! java.lang.StringBuilder: what is done with it -/
theorem ku_J8_343 : LkSU RJ8 343 yJ7_length 0 := ⟨q1039, q1035, q356, q1034, q83, by decide +kernel, by decide +kernel⟩
set_option maxHeartbeats 4000000 in
set_option maxRecDepth 100000 in
theorem sp_J8_length {l : Launch} {s0 : State} {D : va_G} {I : AI} {L : AL} (hΓ : Gam l s0 D) {a b k : Nat} {ml : Int32} {cs : List Nat} (h0 : L a = some (sbC b k ml cs)) : Spc l s0 D yJ8_length 2 [.ref a] I L 0 0 (pV (.int (nI cs.length)) I L) noX := by
  refine Spc.of hΓ cJ8_length 1 (some FieldType.int) q1038 (by decide +kernel) (by decide) (Nat.le_of_ble_eq_true rfl) (fun G GX hG => ?_)
  refine hG.opSb h0 (fun arr m f M h => ?_)
  obtain ⟨h1, h2, hF, hne, hfr⟩ := id h
  obtain ⟨hbs, hfb, hco, hlm, hm16, hmb, hlb, hb4⟩ := id hF
  have hk := hF.k
  have hmk := hF.mk2
  refine hG.aload_n dJ8_length_0 rfl ?_
  refine hG.callSU dJ8_length_1 ku_J8_343 (Rcv.raw h1 cl_J8) cl_J8 (sp_J7_length hΓ h1) rfl rfl (Nat.le_of_ble_eq_true rfl) (by decide) (by omega) (by omega) (fun r1 I1 L1 hI1 h1 => ?_) (fun _ _ _ _ _ h => h.elim)
  obtain ⟨rfl, rfl, rfl⟩ := h1
  refine hG.clSs L h0 h ?_
  refine hG.iret dJ8_length_4 rfl ?_ (by omega) (by omega) trivial
  exact ⟨rfl, rfl, rfl⟩
theorem ks_J7_144 : LkS RJ7 144 yJ9_checkIndex 2 := ⟨q2781, q2762, q85, by decide +kernel, by decide +kernel, by decide +kernel⟩
set_option maxHeartbeats 4000000 in
set_option maxRecDepth 100000 in
theorem sp_J7_charAt0 {l : Launch} {s0 : State} {D : va_G} {I : AI} {L : AL} {o : Option Nat} (hΓ : Gam l s0 D) (hX : StV s0 o) {L0 : AL} {a b arr m : Nat} {ml : Int32} {cs : List Nat} {f : Nat → Int32} (h : SbR L0 L a b 0 ml cs.length cs arr m f) {i c : Nat} (hi : cs[i]? = some c) : Spc l s0 D yJ7_charAt 3 [.ref a, .int (nI i)] I L 0 0 (pV (.int (nI c)) I L) noX := by
  refine Spc.of hΓ cJ7_charAt 5 (some FieldType.char) q2779 (by decide +kernel) (by decide) (Nat.le_of_ble_eq_true rfl) (fun G GX hG => ?_)
  obtain ⟨h1, h2, hF, hne, hfr⟩ := id h
  obtain ⟨hbs, hfb, hco, hlm, hm16, hmb, hlb, hb4⟩ := id hF
  have hcs : ∀ c ∈ cs, c < 256 := by
    rcases hco with ⟨_, q⟩ | ⟨q, _⟩
    · exact q
    · cases q
  have hil := (List.getElem?_eq_some_iff.mp hi).1
  have hcc := hcs c (List.mem_of_getElem? hi)
  refine hG.aload_n dJ7_charAt_0 rfl ?_
  refine hG.get dJ7_charAt_1 fg_J7_22_J8 (Or.inl h1) rfl ?_
  refine hG.istore_n dJ7_charAt_4 (by decide) ?_
  refine hG.aload_n dJ7_charAt_5 rfl ?_
  refine hG.get dJ7_charAt_6 fg_J7_15_J8 (Or.inl h1) rfl ?_
  refine hG.astore_n dJ7_charAt_9 (by decide) ?_
  refine hG.aload_n dJ7_charAt_10 rfl ?_
  refine hG.get dJ7_charAt_11 fg_J7_79_J8 (Or.inl h1) rfl ?_
  refine hG.aload_n dJ7_charAt_14 rfl ?_
  refine hG.alen dJ7_charAt_15 (Or.inl h2) ?_
  refine hG.iload_n dJ7_charAt_16 rfl ?_
  refine hG.ishr dJ7_charAt_17 ?_
  rw [show (Int32.ofNat (m * (0 + 1)) >>> (nI 0 &&& 31)) = nI m from by rw [show Int32.ofNat (m * (0 + 1)) = nI (m * (0 + 1)) from rfl, shrk (by decide) (by omega), Nat.mul_div_cancel _ (by decide)]]
  refine hG.mmin dJ7_charAt_18 q2780 (Nat.le_of_ble_eq_true rfl) (by decide) ?_
  rw [imin (by omega) (by omega), show (if m < cs.length then m else cs.length) = cs.length from if_neg (by omega)]
  refine hG.istore dJ7_charAt_21 (by decide) ?_
  refine hG.iload_n dJ7_charAt_23 rfl ?_
  refine hG.iload dJ7_charAt_24 rfl ?_
  refine hG.callS dJ7_charAt_26 ks_J7_144 (sp_J9_checkIndex hΓ hX (m := cs.length) hil (by omega)) rfl rfl (Nat.le_of_ble_eq_true rfl) (by decide) (by omega) (by omega) (fun r26 I26 L26 hI26 h26 => ?_) (fun _ _ _ _ _ h => h.elim)
  obtain ⟨rfl, rfl, rfl⟩ := h26
  refine hG.iload_n dJ7_charAt_29 rfl ?_
  refine hG.if_ne (tgt := 42) dJ7_charAt_30 rfl (fun c_30 => absurd rfl c_30) (fun c_30 => ?_)
  refine hG.aload_n dJ7_charAt_33 rfl ?_
  refine hG.iload_n dJ7_charAt_34 rfl ?_
  refine hG.bald dJ7_charAt_35 (Or.inl h2) (vp_in_nI (n := i) (by omega) (by omega)) ?_
  rw [nI_clamp (by omega), hbs i (byt c) (by rw [enc0, hi]; rfl)]
  refine hG.sipush (v := 255) dJ7_charAt_36 rfl ?_
  refine hG.iand dJ7_charAt_39 ?_
  rw [byt_and, Nat.mod_eq_of_lt hcc]
  refine hG.i2c dJ7_charAt_40 ?_
  rw [i2c_n (by omega)]
  refine hG.zret dJ7_charAt_41 rfl (pk_charN (by omega)).1 ?_ (by omega) (by omega) trivial
  exact ⟨rfl, rfl, rfl⟩
theorem ks_J7_148 : LkS RJ7 148 yJ10_getChar 2 := ⟨q2782, q857, q86, by decide +kernel, by decide +kernel, by decide +kernel⟩
set_option maxHeartbeats 4000000 in
set_option maxRecDepth 100000 in
theorem sp_J7_charAt1 {l : Launch} {s0 : State} {D : va_G} {I : AI} {L : AL} {o : Option Nat} (hΓ : Gam l s0 D) (hX : StV s0 o) {L0 : AL} {a b arr m : Nat} {ml : Int32} {cs : List Nat} {f : Nat → Int32} (h : SbR L0 L a b 1 ml cs.length cs arr m f) {i c : Nat} (hi : cs[i]? = some c) : Spc l s0 D yJ7_charAt 3 [.ref a, .int (nI i)] I L 0 0 (pV (.int (nI c)) I L) noX := by
  refine Spc.of hΓ cJ7_charAt 5 (some FieldType.char) q2779 (by decide +kernel) (by decide) (Nat.le_of_ble_eq_true rfl) (fun G GX hG => ?_)
  obtain ⟨h1, h2, hF, hne, hfr⟩ := id h
  obtain ⟨hbs, hfb, hco, hlm, hm16, hmb, hlb, hb4⟩ := id hF
  have hcs : ∀ c ∈ cs, c < 65536 := hco.big
  have hil := (List.getElem?_eq_some_iff.mp hi).1
  have hcc := hcs c (List.mem_of_getElem? hi)
  refine hG.aload_n dJ7_charAt_0 rfl ?_
  refine hG.get dJ7_charAt_1 fg_J7_22_J8 (Or.inl h1) rfl ?_
  refine hG.istore_n dJ7_charAt_4 (by decide) ?_
  refine hG.aload_n dJ7_charAt_5 rfl ?_
  refine hG.get dJ7_charAt_6 fg_J7_15_J8 (Or.inl h1) rfl ?_
  refine hG.astore_n dJ7_charAt_9 (by decide) ?_
  refine hG.aload_n dJ7_charAt_10 rfl ?_
  refine hG.get dJ7_charAt_11 fg_J7_79_J8 (Or.inl h1) rfl ?_
  refine hG.aload_n dJ7_charAt_14 rfl ?_
  refine hG.alen dJ7_charAt_15 (Or.inl h2) ?_
  refine hG.iload_n dJ7_charAt_16 rfl ?_
  refine hG.ishr dJ7_charAt_17 ?_
  rw [show (Int32.ofNat (m * (1 + 1)) >>> (nI 1 &&& 31)) = nI m from by rw [show Int32.ofNat (m * (1 + 1)) = nI (m * (1 + 1)) from rfl, shrk (by decide) (by omega), Nat.mul_div_cancel _ (by decide)]]
  refine hG.mmin dJ7_charAt_18 q2780 (Nat.le_of_ble_eq_true rfl) (by decide) ?_
  rw [imin (by omega) (by omega), show (if m < cs.length then m else cs.length) = cs.length from if_neg (by omega)]
  refine hG.istore dJ7_charAt_21 (by decide) ?_
  refine hG.iload_n dJ7_charAt_23 rfl ?_
  refine hG.iload dJ7_charAt_24 rfl ?_
  refine hG.callS dJ7_charAt_26 ks_J7_144 (sp_J9_checkIndex hΓ hX (m := cs.length) hil (by omega)) rfl rfl (Nat.le_of_ble_eq_true rfl) (by decide) (by omega) (by omega) (fun r26 I26 L26 hI26 h26 => ?_) (fun _ _ _ _ _ h => h.elim)
  obtain ⟨rfl, rfl, rfl⟩ := h26
  refine hG.iload_n dJ7_charAt_29 rfl ?_
  refine hG.if_ne (tgt := 42) dJ7_charAt_30 rfl (fun c_30 => ?_) (fun c_30 => absurd c_30 (by decide))
  refine hG.aload_n dJ7_charAt_42 rfl ?_
  refine hG.iload_n dJ7_charAt_43 rfl ?_
  refine hG.callS dJ7_charAt_44 ks_J7_148 (sp_J10_getChar hΓ hX (c := c) (Or.inl h2) (by omega) (by omega) (hbs _ _ (by rw [(enc1 cs i).1, hi]; rfl)) (hbs _ _ (by rw [(enc1 cs i).2, hi]; rfl)) hcc) rfl rfl (Nat.le_of_ble_eq_true rfl) (by decide) (by omega) (by omega) (fun r44 I44 L44 hI44 h44 => ?_) (fun _ _ _ _ _ h => h.elim)
  obtain ⟨rfl, rfl, rfl⟩ := h44
  refine hG.zret dJ7_charAt_47 rfl (pk_charN (by omega)).1 ?_ (by omega) (by omega) trivial
  exact ⟨rfl, rfl, rfl⟩
theorem ku_J8_329 : LkSU RJ8 329 yJ7_charAt 1 := ⟨q2777, q3667, q356, q2778, q83, by decide +kernel, by decide +kernel⟩
set_option maxHeartbeats 4000000 in
set_option maxRecDepth 100000 in
theorem sp_J8_charAt0 {l : Launch} {s0 : State} {D : va_G} {I : AI} {L : AL} {o : Option Nat} (hΓ : Gam l s0 D) (hX : StV s0 o) {a b : Nat} {ml : Int32} {cs : List Nat} (h0 : L a = some (sbC b 0 ml cs)) {i c : Nat} (hi : cs[i]? = some c) : Spc l s0 D yJ8_charAt 4 [.ref a, .int (nI i)] I L 0 0 (pV (.int (nI c)) I L) noX := by
  refine Spc.of hΓ cJ8_charAt 2 (some FieldType.char) q2776 (by decide +kernel) (by decide) (Nat.le_of_ble_eq_true rfl) (fun G GX hG => ?_)
  refine hG.opSb h0 (fun arr m f M h => ?_)
  obtain ⟨h1, h2, hF, hne, hfr⟩ := id h
  obtain ⟨hbs, hfb, hco, hlm, hm16, hmb, hlb, hb4⟩ := id hF
  have hk := hF.k
  have hmk := hF.mk2
  have hcc := hco.big c (List.mem_of_getElem? hi)
  refine hG.aload_n dJ8_charAt_0 rfl ?_
  refine hG.iload_n dJ8_charAt_1 rfl ?_
  refine hG.callSU dJ8_charAt_2 ku_J8_329 (Rcv.raw h1 cl_J8) cl_J8 (sp_J7_charAt0 hΓ hX h hi) rfl rfl (Nat.le_of_ble_eq_true rfl) (by decide) (by omega) (by omega) (fun r2 I2 L2 hI2 h2 => ?_) (fun _ _ _ _ _ h => h.elim)
  obtain ⟨rfl, rfl, rfl⟩ := h2
  refine hG.clSs L h0 h ?_
  refine hG.zret dJ8_charAt_5 rfl (pk_charN hcc).1 ?_ (by omega) (by omega) trivial
  exact ⟨rfl, rfl, rfl⟩
set_option maxHeartbeats 4000000 in
set_option maxRecDepth 100000 in
theorem sp_J8_charAt1 {l : Launch} {s0 : State} {D : va_G} {I : AI} {L : AL} {o : Option Nat} (hΓ : Gam l s0 D) (hX : StV s0 o) {a b : Nat} {ml : Int32} {cs : List Nat} (h0 : L a = some (sbC b 1 ml cs)) {i c : Nat} (hi : cs[i]? = some c) : Spc l s0 D yJ8_charAt 4 [.ref a, .int (nI i)] I L 0 0 (pV (.int (nI c)) I L) noX := by
  refine Spc.of hΓ cJ8_charAt 2 (some FieldType.char) q2776 (by decide +kernel) (by decide) (Nat.le_of_ble_eq_true rfl) (fun G GX hG => ?_)
  refine hG.opSb h0 (fun arr m f M h => ?_)
  obtain ⟨h1, h2, hF, hne, hfr⟩ := id h
  obtain ⟨hbs, hfb, hco, hlm, hm16, hmb, hlb, hb4⟩ := id hF
  have hk := hF.k
  have hmk := hF.mk2
  have hcc := hco.big c (List.mem_of_getElem? hi)
  refine hG.aload_n dJ8_charAt_0 rfl ?_
  refine hG.iload_n dJ8_charAt_1 rfl ?_
  refine hG.callSU dJ8_charAt_2 ku_J8_329 (Rcv.raw h1 cl_J8) cl_J8 (sp_J7_charAt1 hΓ hX h hi) rfl rfl (Nat.le_of_ble_eq_true rfl) (by decide) (by omega) (by omega) (fun r2 I2 L2 hI2 h2 => ?_) (fun _ _ _ _ _ h => h.elim)
  obtain ⟨rfl, rfl, rfl⟩ := h2
  refine hG.clSs L h0 h ?_
  refine hG.zret dJ8_charAt_5 rfl (pk_charN hcc).1 ?_ (by omega) (by omega) trivial
  exact ⟨rfl, rfl, rfl⟩
theorem sp_J8_charAt {l : Launch} {s0 : State} {D : va_G} {I : AI} {L : AL} {o : Option Nat} (hΓ : Gam l s0 D) (hX : StV s0 o) {a b k : Nat} {ml : Int32} {cs : List Nat} (h0 : L a = some (sbC b k ml cs)) (hk : k ≤ 1) {i c : Nat} (hi : cs[i]? = some c) : Spc l s0 D yJ8_charAt 4 [.ref a, .int (nI i)] I L 0 0 (pV (.int (nI c)) I L) noX := by
  rcases kcase hk with rfl | rfl
  · exact sp_J8_charAt0 hΓ hX h0 hi
  · exact sp_J8_charAt1 hΓ hX h0 hi
theorem IsG.kSb {l : Launch} {s0 : State} {D : va_G} {own nm : String} {cc : ByteArray} {nL : Nat} {ret : Option FieldType} {tab : List ExceptionTableEntry} {d mc ms : Nat} {Ib : AI} {post : Option Value → AI → AL → Prop} {xp : String → Nat → AI → AL → Prop} {md : Prop} {G : Gt} {GX : GXt} {pc : Nat} {ls : List (Nat × Value)} {st : List Value} {I : AI} {L : AL} {k n : Nat} (hG : IsG l s0 D own nm cc nL ret tab d mc ms Ib post xp md G GX) {a b kd : Nat} {ml : Int32} {cs : List Nat} (ha : L a = some (sbC b kd ml cs)) (kk : kd ≤ 1 → (∀ c ∈ cs, c < 65536) → cs.length ≤ b → b ≤ 400 → G pc ls st I L k n) : G pc ls st I L k n :=
  hG.peek ha (fun J S _ h => by
    obtain ⟨arr, m, f, -, -, h3, -⟩ := h
    exact kk h3.k h3.2.2.1.big h3.2.2.2.2.2.2.1 h3.2.2.2.2.2.2.2)
theorem kp_J7_100_J8 : LkP2 RJ7 100 RJ8 yJ7_ensureCapacityInternal 1 := ⟨yJ7_isLatin1, q906, q3658, q929, rfl, q907, q908, q83, by decide +kernel, by decide +kernel, by decide +kernel⟩
theorem fp_J7_79_J8 {nm : String} : LkP RJ7 nm 79 ciJ8 3 (tyJ8 3) := ⟨RJ8, TJ8, 4, tyJ8, _, cls_J8, by decide, rfl, Or.inl rfl, Or.inl ⟨rfl, q347⟩⟩
theorem fp_J7_73_J8 {nm : String} : LkP RJ7 nm 73 ciJ8 2 (tyJ8 2) := ⟨RJ8, TJ8, 4, tyJ8, _, cls_J8, by decide, rfl, Or.inl rfl, Or.inl ⟨rfl, q345⟩⟩
set_option maxHeartbeats 4000000 in
set_option maxRecDepth 100000 in
theorem sp_J7_setLength {l : Launch} {s0 : State} {D : va_G} {I : AI} {L : AL} (hΓ : Gam l s0 D) {L0 : AL} {a b k arr m : Nat} {ml : Int32} {cs : List Nat} {f : Nat → Int32} (h : SbR L0 L a b k ml cs.length cs arr m f) : Spc l s0 D yJ7_setLength 4 [.ref a, .int 0] I L 1 ((2 * b + 34) * 2) (fun r I' L' => r = none ∧ I = I' ∧ ∃ (ml' : Int32) (arr' m' : Nat) (f' : Nat → Int32), SbR L0 L' a b k ml' 0 [] arr' m' f') noX := by
  refine Spc.of hΓ cJ7_setLength 2 none q3153 (by decide +kernel) (by decide) (Nat.le_of_ble_eq_true rfl) (fun G GX hG => ?_)
  obtain ⟨h1, h2, hF, hne, hfr⟩ := id h
  obtain ⟨hbs, hfb, hco, hlm, hm16, hmb, hlb, hb4⟩ := id hF
  refine hG.iload_n dJ7_setLength_0 rfl ?_
  refine hG.if_ge (tgt := 13) dJ7_setLength_1 rfl (fun c_1 => ?_) (fun c_1 => absurd (by decide) c_1)
  refine hG.aload_n dJ7_setLength_13 rfl ?_
  refine hG.iload_n dJ7_setLength_14 rfl ?_
  refine hG.callP dJ7_setLength_15 kp_J7_100_J8 (Rcv.raw h1 cl_J8) (sp_J7_ensureCapacityInternal hΓ (j := 0) h (Nat.zero_le _)) rfl rfl (Nat.le_of_ble_eq_true rfl) (by decide) (by omega) (by omega) (fun r15 I15 L15 hI15 h15 => ?_) (fun _ _ _ _ _ h => h.elim)
  obtain ⟨rfl, rfl, arr', m', f', h', -⟩ := h15
  obtain ⟨h1, h2, hF, hne, hfr⟩ := id h'
  obtain ⟨hbs, hfb, hco, hlm, hm16, hmb, hlb, hb4⟩ := id hF
  refine hG.aload_n dJ7_setLength_18 rfl ?_
  refine hG.get dJ7_setLength_19 fg_J7_79_J8 (Or.inl h1) rfl ?_
  refine hG.iload_n dJ7_setLength_22 rfl ?_
  refine hG.icmp_ge (tgt := 63) dJ7_setLength_23 rfl (fun c_23 => ?_) (fun c_23 => absurd (nI_pos' (by omega)) c_23)
  refine hG.aload_n dJ7_setLength_63 rfl ?_
  refine hG.get dJ7_setLength_64 fg_J7_79_J8 (Or.inl h1) rfl ?_
  refine hG.iload_n dJ7_setLength_67 rfl ?_
  refine hG.icmp_le (tgt := 76) dJ7_setLength_68 rfl (fun c_68 => ?_) (fun c_68 => ?_)
  · refine hG.aload_n dJ7_setLength_76 rfl ?_
    refine hG.iload_n dJ7_setLength_77 rfl ?_
    refine hG.put dJ7_setLength_78 fp_J7_79_J8 h1 rfl rfl (Nat.le_of_ble_eq_true rfl) ?_
    refine hG.vret dJ7_setLength_81 rfl ?_ (by omega) (by omega) trivial
    exact ⟨rfl, rfl, _, _, _, _, up1_s, (up1_n hne).trans h2, ⟨(fun i x hx => by (unfold enc at hx; split at hx <;> cases hx)), hfb, (by rcases hco with ⟨e, _⟩ | ⟨e, _⟩; exact Or.inl ⟨e, fun c hc => (nomatch hc)⟩; exact Or.inr ⟨e, fun c hc => (nomatch hc)⟩), Nat.zero_le _, hm16, hmb, Nat.zero_le _, hb4⟩, hne, hfr.up (by simp) _⟩
  · refine hG.aload_n dJ7_setLength_71 rfl ?_
    refine hG.iconst (v := 1) dJ7_setLength_72 rfl ?_
    refine hG.put dJ7_setLength_73 fp_J7_73_J8 h1 rfl rfl (Nat.le_of_ble_eq_true rfl) ?_
    refine hG.aload_n dJ7_setLength_76 rfl ?_
    refine hG.iload_n dJ7_setLength_77 rfl ?_
    refine hG.put dJ7_setLength_78 fp_J7_79_J8 up1_s rfl rfl (Nat.le_of_ble_eq_true rfl) ?_
    rw [up1_up1]
    refine hG.vret dJ7_setLength_81 rfl ?_ (by omega) (by omega) trivial
    exact ⟨rfl, rfl, _, _, _, _, up1_s, (up1_n hne).trans h2, ⟨(fun i x hx => by (unfold enc at hx; split at hx <;> cases hx)), hfb, (by rcases hco with ⟨e, _⟩ | ⟨e, _⟩; exact Or.inl ⟨e, fun c hc => (nomatch hc)⟩; exact Or.inr ⟨e, fun c hc => (nomatch hc)⟩), Nat.zero_le _, hm16, hmb, Nat.zero_le _, hb4⟩, hne, hfr.up (by simp) _⟩
theorem ku_J8_333 : LkSU RJ8 333 yJ7_setLength 1 := ⟨q3151, q3673, q356, q3152, q83, by decide +kernel, by decide +kernel⟩
set_option maxHeartbeats 4000000 in
set_option maxRecDepth 100000 in
theorem sp_J8_setLength {l : Launch} {s0 : State} {D : va_G} {I : AI} {L : AL} (hΓ : Gam l s0 D) {a b k : Nat} {ml : Int32} {cs : List Nat} (h0 : L a = some (sbC b k ml cs)) : Spc l s0 D yJ8_setLength 5 [.ref a, .int 0] I L 1 ((2 * b + 34) * 2) (fun r I' L' => r = none ∧ I = I' ∧ ∃ ml' : Int32, L' = up1 L a (some (sbC b k ml' []))) noX := by
  refine Spc.of hΓ cJ8_setLength 2 none q3150 (by decide +kernel) (by decide) (Nat.le_of_ble_eq_true rfl) (fun G GX hG => ?_)
  refine hG.opSb h0 (fun arr m f M h => ?_)
  obtain ⟨h1, h2, hF, hne, hfr⟩ := id h
  obtain ⟨hbs, hfb, hco, hlm, hm16, hmb, hlb, hb4⟩ := id hF
  have hk := hF.k
  have hmk := hF.mk2
  refine hG.aload_n dJ8_setLength_0 rfl ?_
  refine hG.iload_n dJ8_setLength_1 rfl ?_
  refine hG.callSU dJ8_setLength_2 ku_J8_333 (Rcv.raw h1 cl_J8) cl_J8 (sp_J7_setLength hΓ h) rfl rfl (Nat.le_of_ble_eq_true rfl) (by decide) (by omega) (by omega) (fun r2 I2 L2 hI2 h2 => ?_) (fun _ _ _ _ _ h => h.elim)
  obtain ⟨rfl, rfl, ml', arr', m', f', h'⟩ := h2
  refine hG.clSb L h' rfl ?_
  refine hG.vret dJ8_setLength_5 rfl ?_ (by omega) (by omega) trivial
  exact ⟨rfl, rfl, ml', rfl⟩
theorem ks_J7_191 : LkS RJ7 191 yJ26_canEncode 1 := ⟨q2927, q2928, q106, by decide +kernel, by decide +kernel, by decide +kernel⟩
set_option maxHeartbeats 4000000 in
set_option maxRecDepth 100000 in
theorem sp_J7_append_30 {l : Launch} {s0 : State} {D : va_G} {I : AI} {L : AL} {o : Option Nat} (hΓ : Gam l s0 D) (hX : StV s0 o) {L0 : AL} {a b arr m : Nat} {ml : Int32} {cs : List Nat} {f : Nat → Int32} (h : SbR L0 L a b 0 ml cs.length cs arr m f) {c : Nat} (hc : c < 256) (hb1 : cs.length + 1 ≤ b) : Spc l s0 D yJ7_append_3 5 [.ref a, .int (nI c)] I L 1 ((2 * b + 34) * 2) (fun r I' L' => r = some (.ref a) ∧ I = I' ∧ ∃ (arr' m' : Nat) (f' : Nat → Int32), SbR L0 L' a b 0 ml (cs.length + 1) (cs ++ [c]) arr' m' f') noX := by
  refine Spc.of hΓ cJ7_append_3 2 (some (FieldType.object "java/lang/AbstractStringBuilder")) q2926 (by decide +kernel) (by decide) (Nat.le_of_ble_eq_true rfl) (fun G GX hG => ?_)
  obtain ⟨h1, h2, hF, hne, hfr⟩ := id h
  obtain ⟨hbs, hfb, hco, hlm, hm16, hmb, hlb, hb4⟩ := id hF
  refine hG.aload_n dJ7_append_3_0 rfl ?_
  refine hG.aload_n dJ7_append_3_1 rfl ?_
  refine hG.get dJ7_append_3_2 fg_J7_79_J8 (Or.inl h1) rfl ?_
  refine hG.iconst (v := 1) dJ7_append_3_5 rfl ?_
  refine hG.iadd dJ7_append_3_6 ?_
  rw [show nI cs.length + 1 = nI (cs.length + 1) from nI_1 _]
  refine hG.callP dJ7_append_3_7 kp_J7_100_J8 (Rcv.raw h1 cl_J8) (sp_J7_ensureCapacityInternal hΓ (j := cs.length + 1) h (by omega)) rfl rfl (Nat.le_of_ble_eq_true rfl) (by decide) (by omega) (by omega) (fun r7 I7 L7 hI7 h7 => ?_) (fun _ _ _ _ _ h => h.elim)
  obtain ⟨rfl, rfl, arr, m, f, h, hjm⟩ := h7
  obtain ⟨h1, h2, hF, hne, hfr⟩ := id h
  obtain ⟨hbs, hfb, hco, hlm, hm16, hmb, hlb, hb4⟩ := id hF
  refine hG.aload_n dJ7_append_3_10 rfl ?_
  refine hG.callU dJ7_append_3_11 ko_J7_83_J8 (Rcv.raw h1 cl_J8) (sp_J7_isLatin1 hΓ hX h1 (by decide)) rfl rfl (Nat.le_of_ble_eq_true rfl) (by decide) (by omega) (by omega) (fun r11 I11 L11 hI11 h11 => ?_) (fun _ _ _ _ _ h => h.elim)
  obtain ⟨rfl, rfl, rfl⟩ := h11
  refine hG.if_eq (tgt := 45) dJ7_append_3_14 rfl (fun c_14 => absurd c_14 (by decide)) (fun c_14 => ?_)
  refine hG.iload_n dJ7_append_3_17 rfl ?_
  refine hG.callS dJ7_append_3_18 ks_J7_191 (sp_J26_canEncode hΓ (c := c) (by omega)) rfl rfl (Nat.le_of_ble_eq_true rfl) (by decide) (by omega) (by omega) (fun r18 I18 L18 hI18 h18 => ?_) (fun _ _ _ _ _ h => h.elim)
  obtain ⟨rfl, rfl, rfl⟩ := h18
  refine hG.if_eq (tgt := 45) dJ7_append_3_21 rfl (fun c_21 => absurd c_21 (by rw [decide_eq_true hc]; decide)) (fun c_21 => ?_)
  refine hG.aload_n dJ7_append_3_24 rfl ?_
  refine hG.get dJ7_append_3_25 fg_J7_15_J8 (Or.inl h1) rfl ?_
  refine hG.aload_n dJ7_append_3_28 rfl ?_
  refine hG.dup dJ7_append_3_29 rfl ?_
  refine hG.get dJ7_append_3_30 fg_J7_79_J8 (Or.inl h1) rfl ?_
  refine hG.dup_x1 dJ7_append_3_33 rfl rfl ?_
  refine hG.iconst (v := 1) dJ7_append_3_34 rfl ?_
  refine hG.iadd dJ7_append_3_35 ?_
  rw [show nI cs.length + 1 = nI (cs.length + 1) from nI_1 _]
  refine hG.put dJ7_append_3_36 fp_J7_79_J8 h1 rfl rfl (Nat.le_of_ble_eq_true rfl) ?_
  refine hG.iload_n dJ7_append_3_39 rfl ?_
  refine hG.i2b dJ7_append_3_40 ?_
  refine hG.bast dJ7_append_3_41 ((up1_n hne).trans h2) (vp_in_nI (n := cs.length) (by omega) (by omega)) ?_
  rw [nI_clamp (by omega), show (nI c).toInt8.toInt32 = byt c from rfl, show vp_nar .byte (byt c) = byt c from pk_vb _]
  refine hG.goto (tgt := 75) dJ7_append_3_42 rfl ?_
  refine hG.aload_n dJ7_append_3_75 rfl ?_
  refine hG.aret dJ7_append_3_76 rfl (by first | exact Or.inl ⟨_, rfl⟩ | exact Or.inr ⟨_, rfl⟩) (by first | exact Or.inr ⟨_, rfl⟩ | exact Or.inl rfl) ?_ (by omega) (by omega) trivial
  refine ⟨rfl, rfl, arr, m, _, (h.cnt (cs.length + 1)).arr (hF.app (ds := [c]) (Or.inl ⟨rfl, fun x hx => by rw [List.mem_singleton.mp hx]; exact hc⟩) (by simp; omega) (by simp; omega) (fun j hj => pk_un (by omega)) (fun i x hx => ?_) (hfb.up _ _))⟩
  match i, hx with
  | 0, hx =>
    have e9 : x = byt c := (Option.some.inj hx).symm
    rw [e9, show cs.length * (0 + 1) + 0 = cs.length by omega]
    exact pk_us
  | i + 1, hx => cases hx
theorem ks_J7_197 : LkS RJ7 197 yJ10_putCharSB 3 := ⟨q2930, q2931, q86, by decide +kernel, by decide +kernel, by decide +kernel⟩
set_option maxHeartbeats 4000000 in
set_option maxRecDepth 100000 in
theorem sp_J7_append_31 {l : Launch} {s0 : State} {D : va_G} {I : AI} {L : AL} {o : Option Nat} (hΓ : Gam l s0 D) (hX : StV s0 o) {L0 : AL} {a b arr m : Nat} {ml : Int32} {cs : List Nat} {f : Nat → Int32} (h : SbR L0 L a b 1 ml cs.length cs arr m f) {c : Nat} (hc : c < 65536) (hb1 : cs.length + 1 ≤ b) : Spc l s0 D yJ7_append_3 5 [.ref a, .int (nI c)] I L 1 ((2 * b + 34) * 2) (fun r I' L' => r = some (.ref a) ∧ I = I' ∧ ∃ (arr' m' : Nat) (f' : Nat → Int32), SbR L0 L' a b 1 ml (cs.length + 1) (cs ++ [c]) arr' m' f') noX := by
  refine Spc.of hΓ cJ7_append_3 2 (some (FieldType.object "java/lang/AbstractStringBuilder")) q2926 (by decide +kernel) (by decide) (Nat.le_of_ble_eq_true rfl) (fun G GX hG => ?_)
  obtain ⟨h1, h2, hF, hne, hfr⟩ := id h
  obtain ⟨hbs, hfb, hco, hlm, hm16, hmb, hlb, hb4⟩ := id hF
  refine hG.aload_n dJ7_append_3_0 rfl ?_
  refine hG.aload_n dJ7_append_3_1 rfl ?_
  refine hG.get dJ7_append_3_2 fg_J7_79_J8 (Or.inl h1) rfl ?_
  refine hG.iconst (v := 1) dJ7_append_3_5 rfl ?_
  refine hG.iadd dJ7_append_3_6 ?_
  rw [show nI cs.length + 1 = nI (cs.length + 1) from nI_1 _]
  refine hG.callP dJ7_append_3_7 kp_J7_100_J8 (Rcv.raw h1 cl_J8) (sp_J7_ensureCapacityInternal hΓ (j := cs.length + 1) h (by omega)) rfl rfl (Nat.le_of_ble_eq_true rfl) (by decide) (by omega) (by omega) (fun r7 I7 L7 hI7 h7 => ?_) (fun _ _ _ _ _ h => h.elim)
  obtain ⟨rfl, rfl, arr, m, f, h, hjm⟩ := h7
  obtain ⟨h1, h2, hF, hne, hfr⟩ := id h
  obtain ⟨hbs, hfb, hco, hlm, hm16, hmb, hlb, hb4⟩ := id hF
  refine hG.aload_n dJ7_append_3_10 rfl ?_
  refine hG.callU dJ7_append_3_11 ko_J7_83_J8 (Rcv.raw h1 cl_J8) (sp_J7_isLatin1 hΓ hX h1 (by decide)) rfl rfl (Nat.le_of_ble_eq_true rfl) (by decide) (by omega) (by omega) (fun r11 I11 L11 hI11 h11 => ?_) (fun _ _ _ _ _ h => h.elim)
  obtain ⟨rfl, rfl, rfl⟩ := h11
  refine hG.if_eq (tgt := 45) dJ7_append_3_14 rfl (fun c_14 => ?_) (fun c_14 => absurd rfl c_14)
  refine hG.aload_n dJ7_append_3_45 rfl ?_
  refine hG.callU dJ7_append_3_46 ko_J7_83_J8 (Rcv.raw h1 cl_J8) (sp_J7_isLatin1 hΓ hX h1 (by decide)) rfl rfl (Nat.le_of_ble_eq_true rfl) (by decide) (by omega) (by omega) (fun r46 I46 L46 hI46 h46 => ?_) (fun _ _ _ _ _ h => h.elim)
  obtain ⟨rfl, rfl, rfl⟩ := h46
  refine hG.if_eq (tgt := 56) dJ7_append_3_49 rfl (fun c_49 => ?_) (fun c_49 => absurd rfl c_49)
  refine hG.aload_n dJ7_append_3_56 rfl ?_
  refine hG.get dJ7_append_3_57 fg_J7_15_J8 (Or.inl h1) rfl ?_
  refine hG.aload_n dJ7_append_3_60 rfl ?_
  refine hG.dup dJ7_append_3_61 rfl ?_
  refine hG.get dJ7_append_3_62 fg_J7_79_J8 (Or.inl h1) rfl ?_
  refine hG.dup_x1 dJ7_append_3_65 rfl rfl ?_
  refine hG.iconst (v := 1) dJ7_append_3_66 rfl ?_
  refine hG.iadd dJ7_append_3_67 ?_
  rw [show nI cs.length + 1 = nI (cs.length + 1) from nI_1 _]
  refine hG.put dJ7_append_3_68 fp_J7_79_J8 h1 rfl rfl (Nat.le_of_ble_eq_true rfl) ?_
  refine hG.iload_n dJ7_append_3_71 rfl ?_
  refine hG.callS dJ7_append_3_72 ks_J7_197 (sp_J10_putCharSB hΓ hX (c := c) ((up1_n h.2.2.2.1).trans h.2.1) (by omega) (i := cs.length) (by omega) hc) rfl rfl (Nat.le_of_ble_eq_true rfl) (by decide) (by omega) (by omega) (fun r72 I72 L72 hI72 h72 => ?_) (fun _ _ _ _ _ h => h.elim)
  obtain ⟨rfl, rfl, rfl⟩ := h72
  have hF9 := hF
  refine hG.aload_n dJ7_append_3_75 rfl ?_
  refine hG.aret dJ7_append_3_76 rfl (by first | exact Or.inl ⟨_, rfl⟩ | exact Or.inr ⟨_, rfl⟩) (by first | exact Or.inr ⟨_, rfl⟩ | exact Or.inl rfl) ?_ (by omega) (by omega) trivial
  refine ⟨rfl, rfl, _, _, _, (h.cnt (cs.length + 1)).arr (hF9.app (ds := [c]) (Or.inr ⟨rfl, fun x hx => by rw [List.mem_singleton.mp hx]; exact hc⟩) (by simp; omega) (by simp; omega) (fun j hj => (pk_un (by omega)).trans (pk_un (by omega))) (fun i x hx => ?_) (fun j hj => ?_))⟩
  · match i, hx with
    | 0, hx =>
      have e9 : x = byt c := (Option.some.inj hx).symm
      rw [e9, show cs.length * (1 + 1) + 0 = 2 * cs.length by omega]
      exact (pk_un (by omega)).trans pk_us
    | 1, hx =>
      have e9 : x = hib c := (Option.some.inj hx).symm
      rw [e9, show cs.length * (1 + 1) + 1 = 2 * cs.length + 1 by omega]
      exact pk_us
    | i + 2, hx => cases hx
  · by_cases e1 : j = 2 * cs.length + 1
    · subst e1
      rw [pk_us]
      exact pk_fb _
    · rw [pk_un e1]
      by_cases e2 : j = 2 * cs.length
      · subst e2
        rw [pk_us]
        exact pk_fb _
      · rw [pk_un e2]
        exact hF9.2.1 j hj
theorem kp_J7_195_J8 : LkP2 RJ7 195 RJ8 yJ7_inflate 0 := ⟨yJ7_isLatin1, q965, q3662, q929, rfl, q966, q967, q83, by decide +kernel, by decide +kernel, by decide +kernel⟩
set_option maxHeartbeats 4000000 in
set_option maxRecDepth 100000 in
theorem sp_J7_append_32 {l : Launch} {s0 : State} {D : va_G} {I : AI} {L : AL} {o : Option Nat} (hΓ : Gam l s0 D) (hX : StV s0 o) {L0 : AL} {a b arr m : Nat} {ml : Int32} {cs : List Nat} {f : Nat → Int32} (h : SbR L0 L a b 0 ml cs.length cs arr m f) {c : Nat} (hc9 : 256 ≤ c) (hc : c < 65536) (hb1 : cs.length + 1 ≤ b) : Spc l s0 D yJ7_append_3 7 [.ref a, .int (nI c)] I L 2 ((2 * b + 34) * 4) (fun r I' L' => r = some (.ref a) ∧ I = I' ∧ ∃ (arr' m' : Nat) (f' : Nat → Int32), SbR L0 L' a b 1 ml (cs.length + 1) (cs ++ [c]) arr' m' f') noX := by
  refine Spc.of hΓ cJ7_append_3 2 (some (FieldType.object "java/lang/AbstractStringBuilder")) q2926 (by decide +kernel) (by decide) (Nat.le_of_ble_eq_true rfl) (fun G GX hG => ?_)
  obtain ⟨h1, h2, hF, hne, hfr⟩ := id h
  obtain ⟨hbs, hfb, hco, hlm, hm16, hmb, hlb, hb4⟩ := id hF
  refine hG.aload_n dJ7_append_3_0 rfl ?_
  refine hG.aload_n dJ7_append_3_1 rfl ?_
  refine hG.get dJ7_append_3_2 fg_J7_79_J8 (Or.inl h1) rfl ?_
  refine hG.iconst (v := 1) dJ7_append_3_5 rfl ?_
  refine hG.iadd dJ7_append_3_6 ?_
  rw [show nI cs.length + 1 = nI (cs.length + 1) from nI_1 _]
  refine hG.callP dJ7_append_3_7 kp_J7_100_J8 (Rcv.raw h1 cl_J8) (sp_J7_ensureCapacityInternal hΓ (j := cs.length + 1) h (by omega)) rfl rfl (Nat.le_of_ble_eq_true rfl) (by decide) (by omega) (by omega) (fun r7 I7 L7 hI7 h7 => ?_) (fun _ _ _ _ _ h => h.elim)
  obtain ⟨rfl, rfl, arr, m, f, h, hjm⟩ := h7
  obtain ⟨h1, h2, hF, hne, hfr⟩ := id h
  obtain ⟨hbs, hfb, hco, hlm, hm16, hmb, hlb, hb4⟩ := id hF
  refine hG.aload_n dJ7_append_3_10 rfl ?_
  refine hG.callU dJ7_append_3_11 ko_J7_83_J8 (Rcv.raw h1 cl_J8) (sp_J7_isLatin1 hΓ hX h1 (by decide)) rfl rfl (Nat.le_of_ble_eq_true rfl) (by decide) (by omega) (by omega) (fun r11 I11 L11 hI11 h11 => ?_) (fun _ _ _ _ _ h => h.elim)
  obtain ⟨rfl, rfl, rfl⟩ := h11
  refine hG.if_eq (tgt := 45) dJ7_append_3_14 rfl (fun c_14 => absurd c_14 (by decide)) (fun c_14 => ?_)
  refine hG.iload_n dJ7_append_3_17 rfl ?_
  refine hG.callS dJ7_append_3_18 ks_J7_191 (sp_J26_canEncode hΓ (c := c) hc) rfl rfl (Nat.le_of_ble_eq_true rfl) (by decide) (by omega) (by omega) (fun r18 I18 L18 hI18 h18 => ?_) (fun _ _ _ _ _ h => h.elim)
  obtain ⟨rfl, rfl, rfl⟩ := h18
  refine hG.if_eq (tgt := 45) dJ7_append_3_21 rfl (fun c_21 => ?_) (fun c_21 => absurd (by rw [decide_eq_false (by omega)]; rfl) c_21)
  refine hG.aload_n dJ7_append_3_45 rfl ?_
  refine hG.callU dJ7_append_3_46 ko_J7_83_J8 (Rcv.raw h1 cl_J8) (sp_J7_isLatin1 hΓ hX h1 (by decide)) rfl rfl (Nat.le_of_ble_eq_true rfl) (by decide) (by omega) (by omega) (fun r46 I46 L46 hI46 h46 => ?_) (fun _ _ _ _ _ h => h.elim)
  obtain ⟨rfl, rfl, rfl⟩ := h46
  refine hG.if_eq (tgt := 56) dJ7_append_3_49 rfl (fun c_49 => absurd c_49 (by decide)) (fun c_49 => ?_)
  refine hG.aload_n dJ7_append_3_52 rfl ?_
  refine hG.callP dJ7_append_3_53 kp_J7_195_J8 (Rcv.raw h1 cl_J8) (sp_J7_inflate hΓ hX h) rfl rfl (Nat.le_of_ble_eq_true rfl) (by decide) (by omega) (by omega) (fun r53 I53 L53 hI53 h53 => ?_) (fun _ _ _ _ _ h => h.elim)
  obtain ⟨rfl, rfl, arr9, f9, h9⟩ := h53
  refine hG.aload_n dJ7_append_3_56 rfl ?_
  refine hG.get dJ7_append_3_57 fg_J7_15_J8 (Or.inl h9.1) rfl ?_
  refine hG.aload_n dJ7_append_3_60 rfl ?_
  refine hG.dup dJ7_append_3_61 rfl ?_
  refine hG.get dJ7_append_3_62 fg_J7_79_J8 (Or.inl h9.1) rfl ?_
  refine hG.dup_x1 dJ7_append_3_65 rfl rfl ?_
  refine hG.iconst (v := 1) dJ7_append_3_66 rfl ?_
  refine hG.iadd dJ7_append_3_67 ?_
  rw [show nI cs.length + 1 = nI (cs.length + 1) from nI_1 _]
  refine hG.put dJ7_append_3_68 fp_J7_79_J8 h9.1 rfl rfl (Nat.le_of_ble_eq_true rfl) ?_
  refine hG.iload_n dJ7_append_3_71 rfl ?_
  refine hG.callS dJ7_append_3_72 ks_J7_197 (sp_J10_putCharSB hΓ hX (c := c) ((up1_n h9.2.2.2.1).trans h9.2.1) (by omega) (i := cs.length) (by omega) hc) rfl rfl (Nat.le_of_ble_eq_true rfl) (by decide) (by omega) (by omega) (fun r72 I72 L72 hI72 h72 => ?_) (fun _ _ _ _ _ h => h.elim)
  obtain ⟨rfl, rfl, rfl⟩ := h72
  have hF9 := h9.2.2.1
  refine hG.aload_n dJ7_append_3_75 rfl ?_
  refine hG.aret dJ7_append_3_76 rfl (by first | exact Or.inl ⟨_, rfl⟩ | exact Or.inr ⟨_, rfl⟩) (by first | exact Or.inr ⟨_, rfl⟩ | exact Or.inl rfl) ?_ (by omega) (by omega) trivial
  refine ⟨rfl, rfl, _, _, _, (h9.cnt (cs.length + 1)).arr (hF9.app (ds := [c]) (Or.inr ⟨rfl, fun x hx => by rw [List.mem_singleton.mp hx]; exact hc⟩) (by simp; omega) (by simp; omega) (fun j hj => (pk_un (by omega)).trans (pk_un (by omega))) (fun i x hx => ?_) (fun j hj => ?_))⟩
  · match i, hx with
    | 0, hx =>
      have e9 : x = byt c := (Option.some.inj hx).symm
      rw [e9, show cs.length * (1 + 1) + 0 = 2 * cs.length by omega]
      exact (pk_un (by omega)).trans pk_us
    | 1, hx =>
      have e9 : x = hib c := (Option.some.inj hx).symm
      rw [e9, show cs.length * (1 + 1) + 1 = 2 * cs.length + 1 by omega]
      exact pk_us
    | i + 2, hx => cases hx
  · by_cases e1 : j = 2 * cs.length + 1
    · subst e1
      rw [pk_us]
      exact pk_fb _
    · rw [pk_un e1]
      by_cases e2 : j = 2 * cs.length
      · subst e2
        rw [pk_us]
        exact pk_fb _
      · rw [pk_un e2]
        exact hF9.2.1 j hj
theorem ku_J8_50 : LkSU RJ8 50 yJ7_append_3 1 := ⟨q2924, q3668, q356, q2925, q83, by decide +kernel, by decide +kernel⟩
set_option maxHeartbeats 4000000 in
set_option maxRecDepth 100000 in
theorem sp_J8_append_40 {l : Launch} {s0 : State} {D : va_G} {I : AI} {L : AL} {o : Option Nat} (hΓ : Gam l s0 D) (hX : StV s0 o) {a b : Nat} {ml : Int32} {cs : List Nat} (h0 : L a = some (sbC b 0 ml cs)) {c : Nat} (hc : c < 256) (hb1 : cs.length + 1 ≤ b) : Spc l s0 D yJ8_append_4 6 [.ref a, .int (nI c)] I L 1 ((2 * b + 34) * 2) (pVU (.ref a) I L a (sbC b 0 ml (cs ++ [c]))) noX := by
  refine Spc.of hΓ cJ8_append_4 2 (some (FieldType.object "java/lang/StringBuilder")) q2923 (by decide +kernel) (by decide) (Nat.le_of_ble_eq_true rfl) (fun G GX hG => ?_)
  refine hG.opSb h0 (fun arr m f M h => ?_)
  obtain ⟨h1, h2, hF, hne, hfr⟩ := id h
  obtain ⟨hbs, hfb, hco, hlm, hm16, hmb, hlb, hb4⟩ := id hF
  have hk := hF.k
  have hmk := hF.mk2
  refine hG.aload_n dJ8_append_4_0 rfl ?_
  refine hG.iload_n dJ8_append_4_1 rfl ?_
  refine hG.callSU dJ8_append_4_2 ku_J8_50 (Rcv.raw h1 cl_J8) cl_J8 (sp_J7_append_30 hΓ hX h hc hb1) rfl rfl (Nat.le_of_ble_eq_true rfl) (by decide) (by omega) (by omega) (fun r2 I2 L2 hI2 h2 => ?_) (fun _ _ _ _ _ h => h.elim)
  obtain ⟨rfl, rfl, arr', m', f', h'⟩ := h2
  refine hG.pop dJ8_append_4_5 rfl ?_
  refine hG.clSb L h' (by simp) ?_
  refine hG.aload_n dJ8_append_4_6 rfl ?_
  refine hG.aret dJ8_append_4_7 rfl (by first | exact Or.inl ⟨_, rfl⟩ | exact Or.inr ⟨_, rfl⟩) (by first | exact Or.inr ⟨_, rfl⟩ | exact Or.inl rfl) ?_ (by omega) (by omega) trivial
  exact ⟨rfl, rfl, rfl⟩
set_option maxHeartbeats 4000000 in
set_option maxRecDepth 100000 in
theorem sp_J8_append_41 {l : Launch} {s0 : State} {D : va_G} {I : AI} {L : AL} {o : Option Nat} (hΓ : Gam l s0 D) (hX : StV s0 o) {a b : Nat} {ml : Int32} {cs : List Nat} (h0 : L a = some (sbC b 1 ml cs)) {c : Nat} (hc : c < 65536) (hb1 : cs.length + 1 ≤ b) : Spc l s0 D yJ8_append_4 6 [.ref a, .int (nI c)] I L 1 ((2 * b + 34) * 2) (pVU (.ref a) I L a (sbC b 1 ml (cs ++ [c]))) noX := by
  refine Spc.of hΓ cJ8_append_4 2 (some (FieldType.object "java/lang/StringBuilder")) q2923 (by decide +kernel) (by decide) (Nat.le_of_ble_eq_true rfl) (fun G GX hG => ?_)
  refine hG.opSb h0 (fun arr m f M h => ?_)
  obtain ⟨h1, h2, hF, hne, hfr⟩ := id h
  obtain ⟨hbs, hfb, hco, hlm, hm16, hmb, hlb, hb4⟩ := id hF
  have hk := hF.k
  have hmk := hF.mk2
  refine hG.aload_n dJ8_append_4_0 rfl ?_
  refine hG.iload_n dJ8_append_4_1 rfl ?_
  refine hG.callSU dJ8_append_4_2 ku_J8_50 (Rcv.raw h1 cl_J8) cl_J8 (sp_J7_append_31 hΓ hX h hc hb1) rfl rfl (Nat.le_of_ble_eq_true rfl) (by decide) (by omega) (by omega) (fun r2 I2 L2 hI2 h2 => ?_) (fun _ _ _ _ _ h => h.elim)
  obtain ⟨rfl, rfl, arr', m', f', h'⟩ := h2
  refine hG.pop dJ8_append_4_5 rfl ?_
  refine hG.clSb L h' (by simp) ?_
  refine hG.aload_n dJ8_append_4_6 rfl ?_
  refine hG.aret dJ8_append_4_7 rfl (by first | exact Or.inl ⟨_, rfl⟩ | exact Or.inr ⟨_, rfl⟩) (by first | exact Or.inr ⟨_, rfl⟩ | exact Or.inl rfl) ?_ (by omega) (by omega) trivial
  exact ⟨rfl, rfl, rfl⟩
set_option maxHeartbeats 4000000 in
set_option maxRecDepth 100000 in
theorem sp_J8_append_42 {l : Launch} {s0 : State} {D : va_G} {I : AI} {L : AL} {o : Option Nat} (hΓ : Gam l s0 D) (hX : StV s0 o) {a b : Nat} {ml : Int32} {cs : List Nat} (h0 : L a = some (sbC b 0 ml cs)) {c : Nat} (hc9 : 256 ≤ c) (hc : c < 65536) (hb1 : cs.length + 1 ≤ b) : Spc l s0 D yJ8_append_4 8 [.ref a, .int (nI c)] I L 2 ((2 * b + 34) * 4) (pVU (.ref a) I L a (sbC b 1 ml (cs ++ [c]))) noX := by
  refine Spc.of hΓ cJ8_append_4 2 (some (FieldType.object "java/lang/StringBuilder")) q2923 (by decide +kernel) (by decide) (Nat.le_of_ble_eq_true rfl) (fun G GX hG => ?_)
  refine hG.opSb h0 (fun arr m f M h => ?_)
  obtain ⟨h1, h2, hF, hne, hfr⟩ := id h
  obtain ⟨hbs, hfb, hco, hlm, hm16, hmb, hlb, hb4⟩ := id hF
  have hk := hF.k
  have hmk := hF.mk2
  refine hG.aload_n dJ8_append_4_0 rfl ?_
  refine hG.iload_n dJ8_append_4_1 rfl ?_
  refine hG.callSU dJ8_append_4_2 ku_J8_50 (Rcv.raw h1 cl_J8) cl_J8 (sp_J7_append_32 hΓ hX h hc9 hc hb1) rfl rfl (Nat.le_of_ble_eq_true rfl) (by decide) (by omega) (by omega) (fun r2 I2 L2 hI2 h2 => ?_) (fun _ _ _ _ _ h => h.elim)
  obtain ⟨rfl, rfl, arr', m', f', h'⟩ := h2
  refine hG.pop dJ8_append_4_5 rfl ?_
  refine hG.clSb L h' (by simp) ?_
  refine hG.aload_n dJ8_append_4_6 rfl ?_
  refine hG.aret dJ8_append_4_7 rfl (by first | exact Or.inl ⟨_, rfl⟩ | exact Or.inr ⟨_, rfl⟩) (by first | exact Or.inr ⟨_, rfl⟩ | exact Or.inl rfl) ?_ (by omega) (by omega) trivial
  exact ⟨rfl, rfl, rfl⟩
