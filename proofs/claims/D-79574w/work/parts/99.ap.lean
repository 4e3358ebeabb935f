/-! the parser: its cell; digits and numbers -/
abbrev ppC (p x : Nat) : Cel := obC ciX26 [.int (nI p), .ref x]
def PaS (L : AL) (pa x inp b k : Nat) (ml : Int32) (t : List Nat) (p : Nat) : Prop := L pa = some (ppC p x) ∧ (∃ r0 r1 r3 r4 r5 r6 r7 : Value, L x = some (obC ciX1 [r0, r1, .ref inp, r3, r4, r5, r6, r7])) ∧ L inp = some (sbC b k ml t) ∧ p ≤ t.length ∧ k ≤ 1 ∧ (∀ c ∈ t, c < 65536) ∧ t.length ≤ 100
abbrev xF {α : Type} (y : PR α) (L : AL) (pa x : Nat) : String → Nat → AI → AL → Prop := fun E q I' L' => E = RX27 ∧ ∃ p' : Nat, y = .inl p' ∧ I' q (faE (nI p')) ∧ L' = up1 L pa (some (ppC p' x))
theorem PaS.ne {L : AL} {pa x inp b k : Nat} {ml : Int32} {t : List Nat} {p : Nat} (h : PaS L pa x inp b k ml t p) : x ≠ pa ∧ inp ≠ pa := by
  obtain ⟨h1, ⟨_, _, _, _, _, _, _, h2⟩, h3, -⟩ := h
  exact ⟨ne_val h2 h1 (ne_cls (by decide)), ne_val h3 h1 (fun e => by cases e)⟩
theorem PaS.to {L : AL} {pa x inp b k : Nat} {ml : Int32} {t : List Nat} {p : Nat} (h : PaS L pa x inp b k ml t p) {q : Nat} (hq : q ≤ t.length) : PaS (up1 L pa (some (ppC q x))) pa x inp b k ml t q := by
  obtain ⟨n1, n2⟩ := h.ne
  obtain ⟨h1, ⟨r0, r1, r3, r4, r5, r6, r7, h2⟩, h3, h4, h5⟩ := h
  exact ⟨up1_s, ⟨r0, r1, r3, r4, r5, r6, r7, (up1_n n1).trans h2⟩, (up1_n n2).trans h3, hq, h5⟩
theorem PaS.self {L : AL} {pa x inp b k : Nat} {ml : Int32} {t : List Nat} {p : Nat} (h : PaS L pa x inp b k ml t p) : up1 L pa (some (ppC p x)) = L := by rw [← h.1, up1_self]
theorem PaS.sub {L S : AL} {pa x inp b k : Nat} {ml : Int32} {t : List Nat} {p : Nat} (h : PaS L pa x inp b k ml t p) (hs : ∀ q y, L q = some y → S q = some y) : PaS S pa x inp b k ml t p := by
  obtain ⟨h1, ⟨r0, r1, r3, r4, r5, r6, r7, h2⟩, h3, h4⟩ := h
  exact ⟨hs _ _ h1, ⟨r0, r1, r3, r4, r5, r6, r7, hs _ _ h2⟩, hs _ _ h3, h4⟩
theorem mo_s {t : List Nat} {j n q c : Nat} (h : t[q]? = some c) (h2 : 48 ≤ c ∧ c ≤ 57) : moF t (j + 1) n q = moF t j (10 * n + (c - 48)) (q + 1) := by
  rw [show moF t (j + 1) n q = (match t[q]? with
    | some c => if 48 ≤ c ∧ c ≤ 57 then moF t j (10 * n + (c - 48)) (q + 1) else (n, q)
    | none => (n, q)) from rfl, h]
  exact if_pos h2
theorem inR_n {c lo hi : Nat} (h1 : c < 65536) (h2 : lo < 65536) (h3 : hi < 65536) : inR (nI c) (nI lo) (nI hi) = true ↔ lo ≤ c ∧ c ≤ hi := by
  rw [inR_iff, nI_leI (by omega) (by omega), nI_leI (by omega) (by omega)]
theorem cls_X26 : CLs ciX26 RX26 TX26 2 tyX26 := ⟨rfl, in_X26, tyX26_ok, nmX26⟩
theorem cls_X1 : CLs ciX1 RX1 TX1 8 tyX1 := ⟨rfl, in_X1, tyX1_ok, nmX1⟩
theorem fg_X26_13_X26 : LkG RX26 13 ciX26 0 := ⟨RX26, TX26, 2, tyX26, _, cls_X26, by decide, Or.inl rfl, Or.inl q2951⟩
theorem fg_X26_1_X26 : LkG RX26 1 ciX26 1 := ⟨RX26, TX26, 2, tyX26, _, cls_X26, by decide, Or.inl rfl, Or.inl q2952⟩
theorem fg_X26_17_X1 : LkG RX26 17 ciX1 2 := ⟨RX1, TX1, 8, tyX1, _, cls_X1, by decide, Or.inl rfl, Or.inr ⟨_, q361⟩⟩
theorem kv_X26_23 : LkV RX26 23 yJ8_length 0 := ⟨q3052, q1037, q3666, q84, by decide +kernel, by decide +kernel, by decide +kernel⟩
theorem nw_X26_37 : LkN RX26 37 ciX27 [.null, .null, .null, .null, .null, .int 0, .int 0] 7 := ⟨RX27, TX27, tyX27, cls_X27, q3055, q3056, q142, rfl, fun j hj => by
  match j, hj with
  | 0, _ => rfl
  | 1, _ => rfl
  | 2, _ => rfl
  | 3, _ => rfl
  | 4, _ => rfl
  | 5, _ => rfl
  | 6, _ => rfl
  | _ + 7, h => exact absurd h (by omega)⟩
theorem ki_X26_39 : LkI RX26 39 yX27_init 1 := ⟨q3064, q3065, q142, rfl, ⟨by decide +kernel, by decide +kernel, by decide +kernel⟩, by decide +kernel⟩
theorem kv_X26_29 : LkV RX26 29 yJ8_charAt 1 := ⟨q3053, q2774, q3670, q84, by decide +kernel, by decide +kernel, by decide +kernel⟩
theorem ks_X26_33 : LkNS RX26 33 yX1_inRange 3 := ⟨⟨_, q3090⟩, q1642, q73, by decide +kernel, by decide +kernel, by decide +kernel⟩
theorem fp_X26_13_X26 {nm : String} : LkP RX26 nm 13 ciX26 0 (tyX26 0) := ⟨RX26, TX26, 2, tyX26, _, cls_X26, by decide, rfl, Or.inl rfl, Or.inl ⟨rfl, q2951⟩⟩
set_option maxHeartbeats 4000000 in
set_option maxRecDepth 100000 in
theorem sp_X26_take {l : Launch} {s0 : State} {D : va_G} {I : AI} {L : AL} {o : Option Nat} (hΓ : Gam l s0 D) (hX : StV s0 o) {pa x inp b k : Nat} {ml : Int32} {t : List Nat} {p : Nat} (h : PaS L pa x inp b k ml t p) {lo hi : Nat} (hlo : lo < 65536) (hhi : hi < 65536) : Spc l s0 D yX26_take 6 [.ref pa, .int (nI lo), .int (nI hi)] I L 1 7 (fun r I' L' => ∃ (v q : Nat), tkF t lo hi p = .inr (v, q) ∧ r = some (.int (nI v)) ∧ I = I' ∧ L' = up1 L pa (some (ppC q x))) (xF (tkF t lo hi p) L pa x) := by
  refine Spc.of hΓ cX26_take 3 (some FieldType.char) q3089 (by decide +kernel) (by decide) (Nat.le_of_ble_eq_true rfl) (fun G GX hG => ?_)
  obtain ⟨hp, ⟨r0, r1, r3, r4, r5, r6, r7, hx⟩, hin, hpl, hk, htc, htl⟩ := id h
  obtain ⟨nx, ni⟩ := h.ne
  refine hG.aload_n dX26_take_0 rfl ?_
  refine hG.get dX26_take_1 fg_X26_13_X26 (Or.inl hp) rfl ?_
  refine hG.aload_n dX26_take_4 rfl ?_
  refine hG.get dX26_take_5 fg_X26_1_X26 (Or.inl hp) rfl ?_
  refine hG.get dX26_take_8 fg_X26_17_X1 (Or.inl hx) rfl ?_
  refine hG.callV dX26_take_11 kv_X26_23 (Rcv.sb hin) (sp_J8_length hΓ hin) rfl rfl (Nat.le_of_ble_eq_true rfl) (by decide) (by omega) (by omega) (fun r11 I11 L11 hI11 h11 => ?_) (fun _ _ _ _ _ h => h.elim)
  obtain ⟨rfl, rfl, rfl⟩ := h11
  refine hG.icmp_eq (tgt := 39) dX26_take_14 rfl (fun c_14 => ?_) (fun c_14 => ?_)
  · refine hG.new dX26_take_39 nw_X26_37 (by omega) (by omega) (fun qn hLqn hIqn => ?_)
    refine hG.dup dX26_take_42 rfl ?_
    refine hG.aload_n dX26_take_43 rfl ?_
    refine hG.get dX26_take_44 fg_X26_13_X26 (Or.inl ((up1_n (ne_none hp hLqn)).trans hp)) rfl ?_
    refine hG.callI dX26_take_47 ki_X26_39 (sp_X27_init hΓ up1_s) rfl rfl (Nat.le_of_ble_eq_true rfl) (by decide) (by omega) (by omega) (fun r47 I47 L47 hI47 h47 => ?_) (fun _ _ _ _ _ h => h.elim)
    obtain ⟨rfl, rfl, rfl⟩ := h47
    rw [up1_up1]
    refine hG.fr up1_s ?_
    rw [up1_up1, show up1 L qn none = L by rw [← hLqn, up1_self]]
    refine hG.athrow dX26_take_50 (Rcv.imm frI_s cl_X27) ?_
    first
    | exact hG.out (by simp) ⟨rfl, p, tk_e (Nat.le_of_eq ((nI_eq (by omega) (by omega)).mp c_14).symm), frI_s, h.self.symm⟩ (by omega) (by omega) trivial
    | exact hG.out (by simp) ⟨rfl, p, tk_n hc (fun e => bFT (b2i_0 c_36) ((inR_n hcc hlo hhi).mpr e)), frI_s, h.self.symm⟩ (by omega) (by omega) trivial
  · obtain ⟨c, hc, hcm⟩ := get_lt (show p < t.length by have := mt (nI_eq (a := p) (b := t.length) (by omega) (by omega)).mpr c_14; omega)
    have hcc := htc c hcm
    refine hG.aload_n dX26_take_17 rfl ?_
    refine hG.get dX26_take_18 fg_X26_1_X26 (Or.inl hp) rfl ?_
    refine hG.get dX26_take_21 fg_X26_17_X1 (Or.inl hx) rfl ?_
    refine hG.aload_n dX26_take_24 rfl ?_
    refine hG.get dX26_take_25 fg_X26_13_X26 (Or.inl hp) rfl ?_
    refine hG.callV dX26_take_28 kv_X26_29 (Rcv.sb hin) (sp_J8_charAt hΓ hX hin hk hc) rfl rfl (Nat.le_of_ble_eq_true rfl) (by decide) (by omega) (by omega) (fun r28 I28 L28 hI28 h28 => ?_) (fun _ _ _ _ _ h => h.elim)
    obtain ⟨rfl, rfl, rfl⟩ := h28
    refine hG.iload_n dX26_take_31 rfl ?_
    refine hG.iload_n dX26_take_32 rfl ?_
    refine hG.callNS dX26_take_33 ks_X26_33 (sp_X1_inRange hΓ) rfl rfl (Nat.le_of_ble_eq_true rfl) (by decide) (by omega) (by omega) (fun r33 I33 L33 hI33 h33 => ?_) (fun _ _ _ _ _ h => h.elim)
    obtain ⟨rfl, rfl, rfl⟩ := h33
    refine hG.if_ne (tgt := 51) dX26_take_36 rfl (fun c_36 => ?_) (fun c_36 => ?_)
    · have hr := (inR_n hcc hlo hhi).mp (b2i_1 c_36)
      refine hG.aload_n dX26_take_51 rfl ?_
      refine hG.dup dX26_take_52 rfl ?_
      refine hG.get dX26_take_53 fg_X26_13_X26 (Or.inl hp) rfl ?_
      refine hG.iconst (v := 1) dX26_take_56 rfl ?_
      refine hG.iadd dX26_take_57 ?_
      rw [nI_1]
      refine hG.put dX26_take_58 fp_X26_13_X26 hp rfl rfl (Nat.le_of_ble_eq_true rfl) ?_
      refine hG.aload_n dX26_take_61 rfl ?_
      refine hG.get dX26_take_62 fg_X26_1_X26 (Or.inl up1_s) rfl ?_
      refine hG.get dX26_take_65 fg_X26_17_X1 (Or.inl ((up1_n nx).trans hx)) rfl ?_
      refine hG.aload_n dX26_take_68 rfl ?_
      refine hG.get dX26_take_69 fg_X26_13_X26 (Or.inl up1_s) rfl ?_
      refine hG.iconst (v := 1) dX26_take_72 rfl ?_
      refine hG.isub dX26_take_73 ?_
      rw [nI_pred]
      refine hG.callV dX26_take_74 kv_X26_29 (Rcv.sb ((up1_n ni).trans hin)) (sp_J8_charAt hΓ hX ((up1_n ni).trans hin) hk hc) rfl rfl (Nat.le_of_ble_eq_true rfl) (by decide) (by omega) (by omega) (fun r74 I74 L74 hI74 h74 => ?_) (fun _ _ _ _ _ h => h.elim)
      obtain ⟨rfl, rfl, rfl⟩ := h74
      refine hG.zret dX26_take_77 rfl (pk_charN hcc).1 ?_ (by omega) (by omega) trivial
      exact ⟨c, p + 1, tk_s hc hr, rfl, rfl, rfl⟩
    · refine hG.new dX26_take_39 nw_X26_37 (by omega) (by omega) (fun qn hLqn hIqn => ?_)
      refine hG.dup dX26_take_42 rfl ?_
      refine hG.aload_n dX26_take_43 rfl ?_
      refine hG.get dX26_take_44 fg_X26_13_X26 (Or.inl ((up1_n (ne_none hp hLqn)).trans hp)) rfl ?_
      refine hG.callI dX26_take_47 ki_X26_39 (sp_X27_init hΓ up1_s) rfl rfl (Nat.le_of_ble_eq_true rfl) (by decide) (by omega) (by omega) (fun r47 I47 L47 hI47 h47 => ?_) (fun _ _ _ _ _ h => h.elim)
      obtain ⟨rfl, rfl, rfl⟩ := h47
      rw [up1_up1]
      refine hG.fr up1_s ?_
      rw [up1_up1, show up1 L qn none = L by rw [← hLqn, up1_self]]
      refine hG.athrow dX26_take_50 (Rcv.imm frI_s cl_X27) ?_
      first
      | exact hG.out (by simp) ⟨rfl, p, tk_e (Nat.le_of_eq ((nI_eq (by omega) (by omega)).mp c_14).symm), frI_s, h.self.symm⟩ (by omega) (by omega) trivial
      | exact hG.out (by simp) ⟨rfl, p, tk_n hc (fun e => bFT (b2i_0 c_36) ((inR_n hcc hlo hhi).mpr e)), frI_s, h.self.symm⟩ (by omega) (by omega) trivial
theorem kv_X26_42 : LkV RX26 42 yX26_take 2 := ⟨q3086, q3088, qs25, q141, by decide +kernel, by decide +kernel, by decide +kernel⟩
set_option maxHeartbeats 4000000 in
set_option maxRecDepth 100000 in
theorem sp_X26_digit {l : Launch} {s0 : State} {D : va_G} {I : AI} {L : AL} {o : Option Nat} (hΓ : Gam l s0 D) (hX : StV s0 o) {pa x inp b k : Nat} {ml : Int32} {t : List Nat} {p : Nat} (h : PaS L pa x inp b k ml t p) : Spc l s0 D yX26_digit 7 [.ref pa] I L 1 7 (fun r I' L' => ∃ (v q : Nat), dgF t p = .inr (v, q) ∧ r = some (.int (nI v)) ∧ I = I' ∧ L' = up1 L pa (some (ppC q x))) (xF (dgF t p) L pa x) := by
  refine Spc.of hΓ cX26_digit 1 (some FieldType.int) q3107 (by decide +kernel) (by decide) (Nat.le_of_ble_eq_true rfl) (fun G GX hG => ?_)
  obtain ⟨hp, ⟨r0, r1, r3, r4, r5, r6, r7, hx⟩, hin, hpl, hk, htc, htl⟩ := id h
  obtain ⟨nx, ni⟩ := h.ne
  refine hG.aload_n dX26_digit_0 rfl ?_
  refine hG.bipush (v := 48) dX26_digit_1 rfl ?_
  refine hG.bipush (v := 57) dX26_digit_3 rfl ?_
  refine hG.callV dX26_digit_5 kv_X26_42 (Rcv.raw hp cl_X26) (sp_X26_take (lo := 48) (hi := 57) hΓ hX h (by decide) (by decide)) rfl rfl (Nat.le_of_ble_eq_true rfl) (by decide) (by omega) (by omega) (fun r5 I5 L5 hI5 h5 => ?_) (fun E q I' L' hI ⟨e1, p', e2, e3, e4⟩ => hG.out (by simp) ⟨e1, p', bd_f e2, e3, e4⟩ (by omega) (by omega) trivial)
  obtain ⟨c5, q5, e5, rfl, rfl, rfl⟩ := h5
  obtain ⟨rfl, f5, g5, i5, j5⟩ := tk_i e5
  refine hG.bipush (v := 48) dX26_digit_8 rfl ?_
  refine hG.isub dX26_digit_10 ?_
  rw [show nI c5 - 48 = nI (c5 - 48) from pk_sub (b := 48) g5]
  refine hG.iret dX26_digit_11 rfl ?_ (by omega) (by omega) trivial
  exact ⟨c5 - 48, _, bd_s e5, rfl, rfl, rfl⟩
theorem kv_X26_46 : LkV RX26 46 yX26_digit 0 := ⟨q3104, q3106, qs28, q141, by decide +kernel, by decide +kernel, by decide +kernel⟩
set_option maxHeartbeats 4000000 in
set_option maxRecDepth 100000 in
theorem sp_X26_digitBehind {l : Launch} {s0 : State} {D : va_G} {I : AI} {L : AL} {o : Option Nat} (hΓ : Gam l s0 D) (hX : StV s0 o) {pa x inp b k : Nat} {ml : Int32} {t : List Nat} {p : Nat} (h : PaS L pa x inp b k ml t p) : Spc l s0 D yX26_digitBehind 8 [.ref pa] I L 2 14 (fun r I' L' => ∃ (v q : Nat), bkF t (dgF t) p = .inr (v, q) ∧ r = some (.int (nI v)) ∧ I = I' ∧ L' = up1 L pa (some (ppC q x))) (xF (bkF t (dgF t) p) L pa x) := by
  refine Spc.of hΓ cX26_digitBehind 2 (some FieldType.int) q3128 (by decide +kernel) (by decide) (Nat.le_of_ble_eq_true rfl) (fun G GX hG => ?_)
  obtain ⟨hp, ⟨r0, r1, r3, r4, r5, r6, r7, hx⟩, hin, hpl, hk, htc, htl⟩ := id h
  obtain ⟨nx, ni⟩ := h.ne
  refine hG.aload_n dX26_digitBehind_0 rfl ?_
  refine hG.bipush (v := 32) dX26_digitBehind_1 rfl ?_
  refine hG.bipush (v := 32) dX26_digitBehind_3 rfl ?_
  refine hG.callV dX26_digitBehind_5 kv_X26_42 (Rcv.raw hp cl_X26) (sp_X26_take (lo := 32) (hi := 32) hΓ hX h (by decide) (by decide)) rfl rfl (Nat.le_of_ble_eq_true rfl) (by decide) (by omega) (by omega) (fun r5 I5 L5 hI5 h5 => ?_) (fun E q I' L' hI ⟨e1, p', e2, e3, e4⟩ => hG.out (by simp) ⟨e1, p', bd_f e2, e3, e4⟩ (by omega) (by omega) trivial)
  obtain ⟨c5, q5, e5, rfl, rfl, rfl⟩ := h5
  obtain ⟨rfl, f5, g5, i5, j5⟩ := tk_i e5
  refine hG.istore_n dX26_digitBehind_8 (by decide) ?_
  refine hG.aload_n dX26_digitBehind_9 rfl ?_
  refine hG.callV dX26_digitBehind_10 kv_X26_46 (Rcv.raw up1_s cl_X26) (sp_X26_digit hΓ hX (h.to j5)) rfl rfl (Nat.le_of_ble_eq_true rfl) (by decide) (by omega) (by omega) (fun r10 I10 L10 hI10 h10 => ?_) (fun E q I' L' hI ⟨e1, p', e2, e3, e4⟩ => hG.out (by simp) ⟨e1, p', (bd_s e5).trans e2, e3, e4.trans up1_up1⟩ (by omega) (by omega) trivial)
  obtain ⟨v, z, e10, rfl, rfl, rfl⟩ := h10
  rw [up1_up1]
  refine hG.iret dX26_digitBehind_13 rfl ?_ (by omega) (by omega) trivial
  exact ⟨v, z, (bd_s e5).trans e10, rfl, rfl, rfl⟩
set_option maxHeartbeats 4000000 in
set_option maxRecDepth 100000 in
theorem sp_X26_number {l : Launch} {s0 : State} {D : va_G} {I : AI} {L : AL} {o : Option Nat} (hΓ : Gam l s0 D) (hX : StV s0 o) {pa x inp b k : Nat} {ml : Int32} {t : List Nat} {p : Nat} (h : PaS L pa x inp b k ml t p) : Spc l s0 D yX26_number 8 [.ref pa] I L 3 21 (fun r I' L' => ∃ (v q : Nat), nmF t 2 p = .inr (v, q) ∧ r = some (.int (nI v)) ∧ I = I' ∧ L' = up1 L pa (some (ppC q x))) (xF (nmF t 2 p) L pa x) := by
  refine Spc.of hΓ cX26_number 3 (some FieldType.int) q3103 (by decide +kernel) (by decide) (Nat.le_of_ble_eq_true rfl) (fun G GX hG => ?_)
  obtain ⟨hp, ⟨r0, r1, r3, r4, r5, r6, r7, hx⟩, hin, hpl, hk, htc, htl⟩ := id h
  obtain ⟨nx, ni⟩ := h.ne
  have loop : ∀ (j n q : Nat) (L1 : AL), j ≤ 2 → PaS L1 pa x inp b k ml t q → nmF t 2 p = .inr (moF t j n q) → L1 = up1 L pa (some (ppC q x)) → G 7 [(0, .ref pa), (1, .int (nI n)), (2, .int (nI (3 - j)))] [] I L1 (3 - j) (7 * (3 - j)) := by
    intro j
    induction j with
    | zero =>
      intro n q L1 hj h1 hnm hL1
      refine hG.iload_n dX26_number_7 rfl ?_
      refine hG.iconst (v := 3) dX26_number_8 rfl ?_
      refine hG.icmp_ge (tgt := 69) dX26_number_9 rfl (fun c_9 => ?_) (fun c_9 => absurd (nI_le (a := 3) (b := 3 - 0) (by omega) (by decide)) c_9)
      refine hG.iload_n dX26_number_69 rfl ?_
      refine hG.iret dX26_number_70 rfl ?_ (by omega) (by omega) trivial
      exact ⟨n, q, hnm, rfl, rfl, hL1⟩
    | succ j ih =>
      intro n q L1 hj h1 hnm hL1
      obtain ⟨hp, ⟨r0, r1, r3, r4, r5, r6, r7, hx⟩, hin, hpl, hk, htc, htl⟩ := id h1
      refine hG.iload_n dX26_number_7 rfl ?_
      refine hG.iconst (v := 3) dX26_number_8 rfl ?_
      refine hG.icmp_ge (tgt := 69) dX26_number_9 rfl (fun c_9 => absurd c_9 (nI_ge (a := 3 - (j + 1)) (b := 3) (by omega) (by decide))) (fun c_9 => ?_)
      refine hG.aload_n dX26_number_12 rfl ?_
      refine hG.get dX26_number_13 fg_X26_13_X26 (Or.inl hp) rfl ?_
      refine hG.aload_n dX26_number_16 rfl ?_
      refine hG.get dX26_number_17 fg_X26_1_X26 (Or.inl hp) rfl ?_
      refine hG.get dX26_number_20 fg_X26_17_X1 (Or.inl hx) rfl ?_
      refine hG.callV dX26_number_23 kv_X26_23 (Rcv.sb hin) (sp_J8_length hΓ hin) rfl rfl (Nat.le_of_ble_eq_true rfl) (by decide) (by omega) (by omega) (fun r23 I23 L23 hI23 h23 => ?_) (fun _ _ _ _ _ h => h.elim)
      obtain ⟨rfl, rfl, rfl⟩ := h23
      refine hG.icmp_ge (tgt := 69) dX26_number_26 rfl (fun c_26 => ?_) (fun c_26 => ?_)
      · refine hG.iload_n dX26_number_69 rfl ?_
        refine hG.iret dX26_number_70 rfl ?_ (by omega) (by omega) trivial
        first
        | (exact ⟨n, q, hnm.trans (congrArg Sum.inr (by unfold moF; rw [List.getElem?_eq_none ((nI_leI (by omega) (by omega)).mp c_26)])), rfl, rfl, hL1⟩)
        | (exact ⟨n, q, hnm.trans (congrArg Sum.inr (by unfold moF; rw [hc]; exact if_neg (fun e => bFT (b2i_0 c_50) ((inR_n (lo := 48) (hi := 57) hcc (by decide) (by decide)).mpr e)))), rfl, rfl, hL1⟩)
      · obtain ⟨c, hc, hcm⟩ := get_lt (show q < t.length by have := mt (nI_leI (a := t.length) (b := q) (by omega) (by omega)).mpr c_26; omega)
        have hcc := htc c hcm
        refine hG.aload_n dX26_number_29 rfl ?_
        refine hG.get dX26_number_30 fg_X26_1_X26 (Or.inl hp) rfl ?_
        refine hG.get dX26_number_33 fg_X26_17_X1 (Or.inl hx) rfl ?_
        refine hG.aload_n dX26_number_36 rfl ?_
        refine hG.get dX26_number_37 fg_X26_13_X26 (Or.inl hp) rfl ?_
        refine hG.callV dX26_number_40 kv_X26_29 (Rcv.sb hin) (sp_J8_charAt hΓ hX hin hk hc) rfl rfl (Nat.le_of_ble_eq_true rfl) (by decide) (by omega) (by omega) (fun r40 I40 L40 hI40 h40 => ?_) (fun _ _ _ _ _ h => h.elim)
        obtain ⟨rfl, rfl, rfl⟩ := h40
        refine hG.bipush (v := 48) dX26_number_43 rfl ?_
        refine hG.bipush (v := 57) dX26_number_45 rfl ?_
        refine hG.callNS dX26_number_47 ks_X26_33 (sp_X1_inRange hΓ (v := nI c)) rfl rfl (Nat.le_of_ble_eq_true rfl) (by decide) (by omega) (by omega) (fun r47 I47 L47 hI47 h47 => ?_) (fun _ _ _ _ _ h => h.elim)
        obtain ⟨rfl, rfl, rfl⟩ := h47
        refine hG.if_eq (tgt := 69) dX26_number_50 rfl (fun c_50 => ?_) (fun c_50 => ?_)
        · refine hG.iload_n dX26_number_69 rfl ?_
          refine hG.iret dX26_number_70 rfl ?_ (by omega) (by omega) trivial
          first
          | (exact ⟨n, q, hnm.trans (congrArg Sum.inr (by unfold moF; rw [List.getElem?_eq_none ((nI_leI (by omega) (by omega)).mp c_26)])), rfl, rfl, hL1⟩)
          | (exact ⟨n, q, hnm.trans (congrArg Sum.inr (by unfold moF; rw [hc]; exact if_neg (fun e => bFT (b2i_0 c_50) ((inR_n (lo := 48) (hi := 57) hcc (by decide) (by decide)).mpr e)))), rfl, rfl, hL1⟩)
        · have hr := (inR_n (lo := 48) (hi := 57) hcc (by decide) (by decide)).mp (b2i_1 c_50)
          have hdg : dgF t q = .inr (c - 48, q + 1) := bd_s (tk_s hc hr)
          refine hG.bipush (v := 10) dX26_number_53 rfl ?_
          refine hG.iload_n dX26_number_55 rfl ?_
          refine hG.imul dX26_number_56 ?_
          rw [show (10 : Int32) * nI n = nI (10 * n) from pk_mul 10 n]
          refine hG.aload_n dX26_number_57 rfl ?_
          refine hG.callV dX26_number_58 kv_X26_46 (Rcv.raw hp cl_X26) (sp_X26_digit hΓ hX h1) rfl rfl (Nat.le_of_ble_eq_true rfl) (by decide) (by omega) (by omega) (fun r58 I58 L58 hI58 h58 => ?_) (fun E q9 I' L' hI ⟨e1, p', e2, e3, e4⟩ => by rw [hdg] at e2; cases e2)
          obtain ⟨v, z, e58, rfl, rfl, rfl⟩ := h58
          rw [hdg] at e58
          cases e58
          refine hG.iadd dX26_number_61 ?_
          rw [nI_add]
          refine hG.istore_n dX26_number_62 (by decide) ?_
          refine hG.iinc dX26_number_63 rfl (by decide) ?_
          refine hG.goto (tgt := 7) dX26_number_66 rfl ?_
          subst hL1
          rw [up1_up1]
          refine hG.lsb [(0, .ref pa), (1, .int (nI (10 * n + (c - 48)))), (2, .int (nI (3 - j)))] ⟨rfl, rfl, ?_, trivial⟩ (hG.wid (k' := 3 - j) (n' := 7 * (3 - j)) (by omega) (by omega) (ih (10 * n + (c - 48)) (q + 1) _ (by omega) ?_ ?_ rfl))
          · show some (Value.int (nI (3 - (j + 1)) + Int32.ofInt 1)) = _
            rw [show nI (3 - (j + 1)) + Int32.ofInt 1 = nI (3 - (j + 1) + 1) from nI_add _ 1, show 3 - (j + 1) + 1 = 3 - j by omega]
          · have := h.to (q := q + 1) (by have := (List.getElem?_eq_some_iff.mp hc).1; omega)
            exact this
          · rw [hnm, show moF t (j + 1) n q = moF t j (10 * n + (c - 48)) (q + 1) from mo_s hc hr]
  refine hG.aload_n dX26_number_0 rfl ?_
  refine hG.callV dX26_number_1 kv_X26_46 (Rcv.raw hp cl_X26) (sp_X26_digit hΓ hX h) rfl rfl (Nat.le_of_ble_eq_true rfl) (by decide) (by omega) (by omega) (fun r1 I1 L1 hI1 h1 => ?_) (fun E q I' L' hI ⟨e1, p', e2, e3, e4⟩ => hG.out (by simp) ⟨e1, p', bd_f e2, e3, e4⟩ (by omega) (by omega) trivial)
  obtain ⟨v, z, e1, rfl, rfl, rfl⟩ := h1
  refine hG.istore_n dX26_number_4 (by decide) ?_
  refine hG.iconst (v := 1) dX26_number_5 rfl ?_
  refine hG.istore_n dX26_number_6 (by decide) ?_
  exact hG.lsb [(0, .ref pa), (1, .int (nI v)), (2, .int (nI (3 - 2)))] ⟨rfl, rfl, rfl, trivial⟩ (loop 2 v z _ (Nat.le_refl _) (h.to (go_dg v z e1).2) (bd_s e1) rfl)
theorem kv_X26_49 : LkV RX26 49 yX26_number 0 := ⟨q3100, q3102, qs27, q141, by decide +kernel, by decide +kernel, by decide +kernel⟩
set_option maxHeartbeats 4000000 in
set_option maxRecDepth 100000 in
theorem sp_X26_numberBehind {l : Launch} {s0 : State} {D : va_G} {I : AI} {L : AL} {o : Option Nat} (hΓ : Gam l s0 D) (hX : StV s0 o) {pa x inp b k : Nat} {ml : Int32} {t : List Nat} {p : Nat} (h : PaS L pa x inp b k ml t p) : Spc l s0 D yX26_numberBehind 9 [.ref pa] I L 4 28 (fun r I' L' => ∃ (v q : Nat), bkF t (nmF t 2) p = .inr (v, q) ∧ r = some (.int (nI v)) ∧ I = I' ∧ L' = up1 L pa (some (ppC q x))) (xF (bkF t (nmF t 2) p) L pa x) := by
  refine Spc.of hΓ cX26_numberBehind 2 (some FieldType.int) q3099 (by decide +kernel) (by decide) (Nat.le_of_ble_eq_true rfl) (fun G GX hG => ?_)
  obtain ⟨hp, ⟨r0, r1, r3, r4, r5, r6, r7, hx⟩, hin, hpl, hk, htc, htl⟩ := id h
  obtain ⟨nx, ni⟩ := h.ne
  refine hG.aload_n dX26_numberBehind_0 rfl ?_
  refine hG.bipush (v := 32) dX26_numberBehind_1 rfl ?_
  refine hG.bipush (v := 32) dX26_numberBehind_3 rfl ?_
  refine hG.callV dX26_numberBehind_5 kv_X26_42 (Rcv.raw hp cl_X26) (sp_X26_take (lo := 32) (hi := 32) hΓ hX h (by decide) (by decide)) rfl rfl (Nat.le_of_ble_eq_true rfl) (by decide) (by omega) (by omega) (fun r5 I5 L5 hI5 h5 => ?_) (fun E q I' L' hI ⟨e1, p', e2, e3, e4⟩ => hG.out (by simp) ⟨e1, p', bd_f e2, e3, e4⟩ (by omega) (by omega) trivial)
  obtain ⟨c5, q5, e5, rfl, rfl, rfl⟩ := h5
  obtain ⟨rfl, f5, g5, i5, j5⟩ := tk_i e5
  refine hG.istore_n dX26_numberBehind_8 (by decide) ?_
  refine hG.aload_n dX26_numberBehind_9 rfl ?_
  refine hG.callV dX26_numberBehind_10 kv_X26_49 (Rcv.raw up1_s cl_X26) (sp_X26_number hΓ hX (h.to j5)) rfl rfl (Nat.le_of_ble_eq_true rfl) (by decide) (by omega) (by omega) (fun r10 I10 L10 hI10 h10 => ?_) (fun E q I' L' hI ⟨e1, p', e2, e3, e4⟩ => hG.out (by simp) ⟨e1, p', (bd_s e5).trans e2, e3, e4.trans up1_up1⟩ (by omega) (by omega) trivial)
  obtain ⟨v, z, e10, rfl, rfl, rfl⟩ := h10
  rw [up1_up1]
  refine hG.iret dX26_numberBehind_13 rfl ?_ (by omega) (by omega) trivial
  exact ⟨v, z, (bd_s e5).trans e10, rfl, rfl, rfl⟩
