/-! the parser: commands -/
theorem up_mid {L : AL} {p q : Nat} {x y z : Option Cel} (h : p ≠ q) : up1 (up1 (up1 L p x) q y) p z = up1 (up1 L p z) q y := by
  rw [up1_comm h.symm, up1_up1]
theorem up_nn {L : AL} {q : Nat} (h : L q = none) : up1 L q none = L := by rw [← h, up1_self]
theorem PaS.nw {L : AL} {pa x inp b k : Nat} {ml : Int32} {t : List Nat} {p : Nat} (h : PaS L pa x inp b k ml t p) {q : Nat} (hq : L q = none) (c : Option Cel) : PaS (up1 L q c) pa x inp b k ml t p := h.sub (fun z y hz => (up1_n (ne_none hz hq)).trans hz)
theorem le_db {t : List Nat} {p v z : Nat} (h : bkF t (dgF t) p = .inr (v, z)) : z ≤ t.length := (Go.bkk (m := 1) (fun _ _ => go_dg) v z h).2
theorem le_nb {t : List Nat} {p v z : Nat} (h : bkF t (nmF t 2) p = .inr (v, z)) : z ≤ t.length := (Go.bkk (m := 1) (fun _ _ => go_nm) v z h).2
theorem le_kd {t : List Nat} {p v z : Nat} (h : kdF t p = .inr (v, z)) : z ≤ t.length := (go_kd v z h).2
theorem kv_X26_82 : LkV RX26 82 yX26_word 1 := ⟨q2969, q2971, qs23, q141, by decide +kernel, by decide +kernel, by decide +kernel⟩
theorem ks_X26_86 : LkS RX26 86 yX10_kindOf 1 := ⟨q3120, q3121, q120, by decide +kernel, by decide +kernel, by decide +kernel⟩
set_option maxHeartbeats 4000000 in
set_option maxRecDepth 100000 in
theorem sp_X26_kind {l : Launch} {s0 : State} {D : va_G} {I : AI} {L : AL} {o : Option Nat} (hΓ : Gam l s0 D) (hT : StX s0 D o) {pa x inp b k : Nat} {ml : Int32} {t : List Nat} {p : Nat} (h : PaS L pa x inp b k ml t p) : Spc l s0 D yX26_kind 12 [.ref pa] I L 241 11007 (fun r I' L' => ∃ (v q : Nat), kdF t p = .inr (v, q) ∧ r = some (.int (nI v)) ∧ L' = up1 L pa (some (ppC q x))) (xF (kdF t p) L pa x) := by
  refine Spc.of hΓ cX26_kind 2 (some FieldType.int) q3118 (by decide +kernel) (by decide) (Nat.le_of_ble_eq_true rfl) (fun G GX hG => ?_)
  have hX := hT.v
  obtain ⟨hp, -⟩ := id h
  refine hG.aload_n dX26_kind_0 rfl ?_
  refine hG.bipush (v := 32) dX26_kind_1 rfl ?_
  refine hG.bipush (v := 32) dX26_kind_3 rfl ?_
  refine hG.callV dX26_kind_5 kv_X26_42 (Rcv.raw hp cl_X26) (sp_X26_take (lo := 32) (hi := 32) hΓ hX h (by decide) (by decide)) rfl rfl (Nat.le_of_ble_eq_true rfl) (by decide) (by omega) (by omega) (fun r5 I5 L5 hI5 h5 => ?_) (fun E q I' L' hI ⟨x1, p', x2, x3, x4⟩ => hG.out (by simp) ⟨x1, p', bd_f (bd_f x2), x3, x4⟩ (by omega) (by omega) trivial)
  obtain ⟨c5, q5, e5, rfl, rfl, rfl⟩ := h5
  obtain ⟨rfl, f5, g5, i5, j5⟩ := tk_i e5
  refine hG.istore_n dX26_kind_8 (by decide) ?_
  refine hG.aload_n dX26_kind_9 rfl ?_
  refine hG.ldcT dX26_kind_10 (hT.tx 6 rfl) (fun s10 hs10 => ?_)
  refine hG.callV dX26_kind_12 kv_X26_82 (Rcv.raw up1_s cl_X26) (sp_X26_word hΓ hT (h.to j5) hs10 wok3) rfl rfl (Nat.le_of_ble_eq_true rfl) (by decide) (by omega) (by omega) (fun r12 I12 L12 hI12 h12 => ?_) (fun E q I' L' hI ⟨x1, p', x2, x3, x4⟩ => hG.out (by simp) ⟨x1, p', bd_f ((bd_s e5).trans x2), x3, x4.trans up1_up1⟩ (by omega) (by omega) trivial)
  obtain ⟨qw, told, z, e12, rfl, hN⟩ := h12
  have hwz := wd_i j5 e12
  rw [up1_up1] at hN
  obtain ⟨arr, f, n1, rfl, n3, n4, n5, n6⟩ := hN
  refine hG.callS dX26_kind_15 ks_X26_86 (sp_X10_kindOf hΓ hT up1_s n3 n4 n5 hwz.1) rfl rfl (Nat.le_of_ble_eq_true rfl) (by decide) (by omega) (by omega) (fun r15 I15 L15 hI15 h15 => ?_) (fun _ _ _ _ _ h => h.elim)
  obtain ⟨rfl, rfl, cc9, rfl⟩ := h15
  rw [up1_up1]
  refine hG.sub (S := up1 L pa (some (ppC z x))) (fun w y hw => (up1_n (ne_none hw n1)).trans hw) ?_
  refine hG.iret dX26_kind_18 rfl ?_ (by omega) (by omega) trivial
  exact ⟨kdN told, z, bd_s ((bd_s e5).trans e12), rfl, rfl⟩
theorem up1_no {L : AL} {p q : Nat} {x y : Option Cel} (h : up1 L p x q = none) (hx : x ≠ none) : up1 L p y q = none := by
  have e : q ≠ p := fun e => by subst e; rw [up1_s] at h; exact hx h
  rw [up1_n e] at h ⊢
  exact h
theorem kv_X26_92 : LkV RX26 92 yX26_kind 0 := ⟨q3115, q3117, qs30, q141, by decide +kernel, by decide +kernel, by decide +kernel⟩
theorem kv_X26_95 : LkV RX26 95 yX26_digitBehind 0 := ⟨q3125, q3127, qs31, q141, by decide +kernel, by decide +kernel, by decide +kernel⟩
theorem nw_X26_98 : LkN RX26 98 ciX19 [.int 0, .int 0, .int 0, .int 0] 4 := ⟨RX19, TX19, tyX19, cls_X19, q3129, q2538, q133, rfl, fun j hj => by
  match j, hj with
  | 0, _ => rfl
  | 1, _ => rfl
  | 2, _ => rfl
  | 3, _ => rfl
  | _ + 4, h => exact absurd h (by omega)⟩
theorem kv_X26_100 : LkV RX26 100 yX26_numberBehind 0 := ⟨q3096, q3098, qs26, q141, by decide +kernel, by decide +kernel, by decide +kernel⟩
theorem ki_X26_103 : LkI RX26 103 yX19_init 4 := ⟨q3130, q2540, q133, rfl, ⟨by decide +kernel, by decide +kernel, by decide +kernel⟩, by decide +kernel⟩
set_option maxHeartbeats 4000000 in
set_option maxRecDepth 100000 in
theorem sp_X26_coming {l : Launch} {s0 : State} {D : va_G} {I : AI} {L : AL} {o : Option Nat} (hΓ : Gam l s0 D) (hT : StX s0 D o) {pa x inp b k : Nat} {ml : Int32} {t : List Nat} {p : Nat} (h : PaS L pa x inp b k ml t p) : Spc l s0 D yX26_coming 13 [.ref pa] I L 250 11071 (fun r I' L' => ∃ (c : Cm) (y q : Nat), comF t p = .inr (c, q) ∧ r = some (.ref y) ∧ DeedAt I' y c ∧ L' = up1 L pa (some (ppC q x))) (xF (comF t p) L pa x) := by
  refine Spc.of hΓ cX26_coming 4 (some (FieldType.object "BraidedFerry$Deed")) q3114 (by decide +kernel) (by decide) (Nat.le_of_ble_eq_true rfl) (fun G GX hG => ?_)
  have hX := hT.v
  obtain ⟨hp, -⟩ := id h
  refine hG.aload_n dX26_coming_0 rfl ?_
  refine hG.callV dX26_coming_1 kv_X26_92 (Rcv.raw hp cl_X26) (sp_X26_kind hΓ hT h) rfl rfl (Nat.le_of_ble_eq_true rfl) (by decide) (by omega) (by omega) (fun r1 I1 L1 hI1 h1 => ?_) (fun E q I' L' hI ⟨x1, p', x2, x3, x4⟩ => hG.out (by simp) ⟨x1, p', bd_f x2, x3, x4⟩ (by omega) (by omega) trivial)
  obtain ⟨v1, z1, e1, rfl, rfl⟩ := h1
  have l1 := le_kd e1
  refine hG.istore_n dX26_coming_4 (by decide) ?_
  refine hG.aload_n dX26_coming_5 rfl ?_
  refine hG.callV dX26_coming_6 kv_X26_95 (Rcv.raw up1_s cl_X26) (sp_X26_digitBehind hΓ hX (h.to l1)) rfl rfl (Nat.le_of_ble_eq_true rfl) (by decide) (by omega) (by omega) (fun r6 I6 L6 hI6 h6 => ?_) (fun E q I' L' hI ⟨x1, p', x2, x3, x4⟩ => hG.out (by simp) ⟨x1, p', (bd_s e1).trans (bd_f x2), x3, x4.trans up1_up1⟩ (by omega) (by omega) trivial)
  obtain ⟨v6, z6, e6, rfl, rfl, rfl⟩ := h6
  rw [up1_up1]
  have l6 := le_db e6
  refine hG.istore_n dX26_coming_9 (by decide) ?_
  refine hG.aload_n dX26_coming_10 rfl ?_
  refine hG.callV dX26_coming_11 kv_X26_95 (Rcv.raw up1_s cl_X26) (sp_X26_digitBehind hΓ hX (h.to l6)) rfl rfl (Nat.le_of_ble_eq_true rfl) (by decide) (by omega) (by omega) (fun r11 I11 L11 hI11 h11 => ?_) (fun E q I' L' hI ⟨x1, p', x2, x3, x4⟩ => hG.out (by simp) ⟨x1, p', (bd_s e1).trans ((bd_s e6).trans (bd_f x2)), x3, x4.trans up1_up1⟩ (by omega) (by omega) trivial)
  obtain ⟨v11, z11, e11, rfl, rfl, rfl⟩ := h11
  rw [up1_up1]
  have l11 := le_db e11
  refine hG.istore_n dX26_coming_14 (by decide) ?_
  refine hG.new dX26_coming_15 nw_X26_98 (by omega) (by omega) (fun q hLq hIq => ?_)
  refine hG.dup dX26_coming_18 rfl ?_
  refine hG.iload_n dX26_coming_19 rfl ?_
  refine hG.iload_n dX26_coming_20 rfl ?_
  refine hG.iload_n dX26_coming_21 rfl ?_
  refine hG.aload_n dX26_coming_22 rfl ?_
  refine hG.callV dX26_coming_23 kv_X26_100 (Rcv.raw ((up1_n (ne_none up1_s hLq)).trans up1_s) cl_X26) (sp_X26_numberBehind hΓ hX ((h.to l11).nw hLq _)) rfl rfl (Nat.le_of_ble_eq_true rfl) (by decide) (by omega) (by omega) (fun r23 I23 L23 hI23 h23 => ?_) (fun E q9 I' L' hI ⟨x1, p', x2, x3, x4⟩ => hG.subX (S := up1 L pa (some (ppC p' x))) (fun w y hw => by
    rw [x4]
    by_cases ew : w = pa
    · subst ew; rw [up1_s] at hw ⊢; exact hw
    · rw [up1_n ew] at hw ⊢
      have h9 : up1 L pa (some (ppC z11 x)) w = some y := (up1_n ew).trans hw
      exact (up1_n (ne_none h9 hLq)).trans h9) (hG.out (by simp) ⟨x1, p', (bd_s e1).trans ((bd_s e6).trans ((bd_s e11).trans (bd_f x2))), x3, rfl⟩ (by omega) (by omega) trivial))
  obtain ⟨v23, z23, e23, rfl, rfl, rfl⟩ := h23
  rw [up_mid (ne_none up1_s hLq)]
  have l23 := le_nb e23
  refine hG.callI dX26_coming_26 ki_X26_103 (sp_X19_init hΓ up1_s) rfl rfl (Nat.le_of_ble_eq_true rfl) (by decide) (by omega) (by omega) (fun r26 I26 L26 hI26 h26 => ?_) (fun _ _ _ _ _ h => h.elim)
  obtain ⟨rfl, rfl, rfl⟩ := h26
  rw [up1_up1]
  refine hG.fr up1_s ?_
  rw [up1_up1, up_nn (up1_no hLq (fun h => nomatch h))]
  refine hG.aret dX26_coming_29 rfl (by first | exact Or.inl ⟨_, rfl⟩ | exact Or.inr ⟨_, rfl⟩) (by first | exact Or.inr ⟨_, rfl⟩ | exact Or.inl rfl) ?_ (by omega) (by omega) trivial
  exact ⟨(3, v1, v6, v11, v23), q, z23, (bd_s e1).trans ((bd_s e6).trans ((bd_s e11).trans (bd_s e23))), rfl, frI_s, rfl⟩
theorem nw_X26_106 : LkN RX26 106 ciX20 [.int 0, .int 0, .int 0, .int 0] 4 := ⟨RX20, TX20, tyX20, cls_X20, q3135, q2571, q134, rfl, fun j hj => by
  match j, hj with
  | 0, _ => rfl
  | 1, _ => rfl
  | 2, _ => rfl
  | 3, _ => rfl
  | _ + 4, h => exact absurd h (by omega)⟩
theorem ki_X26_108 : LkI RX26 108 yX20_init 4 := ⟨q3136, q2573, q134, rfl, ⟨by decide +kernel, by decide +kernel, by decide +kernel⟩, by decide +kernel⟩
set_option maxHeartbeats 4000000 in
set_option maxRecDepth 100000 in
theorem sp_X26_boarding {l : Launch} {s0 : State} {D : va_G} {I : AI} {L : AL} {o : Option Nat} (hΓ : Gam l s0 D) (hT : StX s0 D o) {pa x inp b k : Nat} {ml : Int32} {t : List Nat} {p : Nat} (h : PaS L pa x inp b k ml t p) : Spc l s0 D yX26_boarding 13 [.ref pa] I L 250 11071 (fun r I' L' => ∃ (c : Cm) (y q : Nat), boaF t p = .inr (c, q) ∧ r = some (.ref y) ∧ DeedAt I' y c ∧ L' = up1 L pa (some (ppC q x))) (xF (boaF t p) L pa x) := by
  refine Spc.of hΓ cX26_boarding 4 (some (FieldType.object "BraidedFerry$Deed")) q3134 (by decide +kernel) (by decide) (Nat.le_of_ble_eq_true rfl) (fun G GX hG => ?_)
  have hX := hT.v
  obtain ⟨hp, -⟩ := id h
  refine hG.aload_n dX26_boarding_0 rfl ?_
  refine hG.callV dX26_boarding_1 kv_X26_92 (Rcv.raw hp cl_X26) (sp_X26_kind hΓ hT h) rfl rfl (Nat.le_of_ble_eq_true rfl) (by decide) (by omega) (by omega) (fun r1 I1 L1 hI1 h1 => ?_) (fun E q I' L' hI ⟨x1, p', x2, x3, x4⟩ => hG.out (by simp) ⟨x1, p', bd_f x2, x3, x4⟩ (by omega) (by omega) trivial)
  obtain ⟨v1, z1, e1, rfl, rfl⟩ := h1
  have l1 := le_kd e1
  refine hG.istore_n dX26_boarding_4 (by decide) ?_
  refine hG.aload_n dX26_boarding_5 rfl ?_
  refine hG.callV dX26_boarding_6 kv_X26_95 (Rcv.raw up1_s cl_X26) (sp_X26_digitBehind hΓ hX (h.to l1)) rfl rfl (Nat.le_of_ble_eq_true rfl) (by decide) (by omega) (by omega) (fun r6 I6 L6 hI6 h6 => ?_) (fun E q I' L' hI ⟨x1, p', x2, x3, x4⟩ => hG.out (by simp) ⟨x1, p', (bd_s e1).trans (bd_f x2), x3, x4.trans up1_up1⟩ (by omega) (by omega) trivial)
  obtain ⟨v6, z6, e6, rfl, rfl, rfl⟩ := h6
  rw [up1_up1]
  have l6 := le_db e6
  refine hG.istore_n dX26_boarding_9 (by decide) ?_
  refine hG.aload_n dX26_boarding_10 rfl ?_
  refine hG.callV dX26_boarding_11 kv_X26_100 (Rcv.raw up1_s cl_X26) (sp_X26_numberBehind hΓ hX (h.to l6)) rfl rfl (Nat.le_of_ble_eq_true rfl) (by decide) (by omega) (by omega) (fun r11 I11 L11 hI11 h11 => ?_) (fun E q I' L' hI ⟨x1, p', x2, x3, x4⟩ => hG.out (by simp) ⟨x1, p', (bd_s e1).trans ((bd_s e6).trans (bd_f x2)), x3, x4.trans up1_up1⟩ (by omega) (by omega) trivial)
  obtain ⟨v11, z11, e11, rfl, rfl, rfl⟩ := h11
  rw [up1_up1]
  have l11 := le_nb e11
  refine hG.istore_n dX26_boarding_14 (by decide) ?_
  refine hG.new dX26_boarding_15 nw_X26_106 (by omega) (by omega) (fun q hLq hIq => ?_)
  refine hG.dup dX26_boarding_18 rfl ?_
  refine hG.iload_n dX26_boarding_19 rfl ?_
  refine hG.iload_n dX26_boarding_20 rfl ?_
  refine hG.iload_n dX26_boarding_21 rfl ?_
  refine hG.aload_n dX26_boarding_22 rfl ?_
  refine hG.callV dX26_boarding_23 kv_X26_95 (Rcv.raw ((up1_n (ne_none up1_s hLq)).trans up1_s) cl_X26) (sp_X26_digitBehind hΓ hX ((h.to l11).nw hLq _)) rfl rfl (Nat.le_of_ble_eq_true rfl) (by decide) (by omega) (by omega) (fun r23 I23 L23 hI23 h23 => ?_) (fun E q9 I' L' hI ⟨x1, p', x2, x3, x4⟩ => hG.subX (S := up1 L pa (some (ppC p' x))) (fun w y hw => by
    rw [x4]
    by_cases ew : w = pa
    · subst ew; rw [up1_s] at hw ⊢; exact hw
    · rw [up1_n ew] at hw ⊢
      have h9 : up1 L pa (some (ppC z11 x)) w = some y := (up1_n ew).trans hw
      exact (up1_n (ne_none h9 hLq)).trans h9) (hG.out (by simp) ⟨x1, p', (bd_s e1).trans ((bd_s e6).trans ((bd_s e11).trans (bd_f x2))), x3, rfl⟩ (by omega) (by omega) trivial))
  obtain ⟨v23, z23, e23, rfl, rfl, rfl⟩ := h23
  rw [up_mid (ne_none up1_s hLq)]
  have l23 := le_db e23
  refine hG.callI dX26_boarding_26 ki_X26_108 (sp_X20_init hΓ up1_s) rfl rfl (Nat.le_of_ble_eq_true rfl) (by decide) (by omega) (by omega) (fun r26 I26 L26 hI26 h26 => ?_) (fun _ _ _ _ _ h => h.elim)
  obtain ⟨rfl, rfl, rfl⟩ := h26
  rw [up1_up1]
  refine hG.fr up1_s ?_
  rw [up1_up1, up_nn (up1_no hLq (fun h => nomatch h))]
  refine hG.aret dX26_boarding_29 rfl (by first | exact Or.inl ⟨_, rfl⟩ | exact Or.inr ⟨_, rfl⟩) (by first | exact Or.inr ⟨_, rfl⟩ | exact Or.inl rfl) ?_ (by omega) (by omega) trivial
  exact ⟨(4, v1, v6, v11, v23), q, z23, (bd_s e1).trans ((bd_s e6).trans ((bd_s e11).trans (bd_s e23))), rfl, frI_s, rfl⟩
theorem nw_X26_122 : LkN RX26 122 ciX16 [.int 0, .int 0] 2 := ⟨RX16, TX16, tyX16, cls_X16, q3141, q2459, q130, rfl, fun j hj => by
  match j, hj with
  | 0, _ => rfl
  | 1, _ => rfl
  | _ + 2, h => exact absurd h (by omega)⟩
theorem ki_X26_124 : LkI RX26 124 yX16_init 2 := ⟨q3142, q2461, q130, rfl, ⟨by decide +kernel, by decide +kernel, by decide +kernel⟩, by decide +kernel⟩
set_option maxHeartbeats 4000000 in
set_option maxRecDepth 100000 in
theorem sp_X26_anchoring {l : Launch} {s0 : State} {D : va_G} {I : AI} {L : AL} {o : Option Nat} (hΓ : Gam l s0 D) (hT : StX s0 D o) {pa x inp b k : Nat} {ml : Int32} {t : List Nat} {p : Nat} (h : PaS L pa x inp b k ml t p) : Spc l s0 D yX26_anchoring 13 [.ref pa] I L 5 32 (fun r I' L' => ∃ (c : Cm) (y q : Nat), anrF t p = .inr (c, q) ∧ r = some (.ref y) ∧ DeedAt I' y c ∧ L' = up1 L pa (some (ppC q x))) (xF (anrF t p) L pa x) := by
  refine Spc.of hΓ cX26_anchoring 2 (some (FieldType.object "BraidedFerry$Deed")) q3140 (by decide +kernel) (by decide) (Nat.le_of_ble_eq_true rfl) (fun G GX hG => ?_)
  have hX := hT.v
  obtain ⟨hp, -⟩ := id h
  refine hG.aload_n dX26_anchoring_0 rfl ?_
  refine hG.callV dX26_anchoring_1 kv_X26_95 (Rcv.raw hp cl_X26) (sp_X26_digitBehind hΓ hX (h)) rfl rfl (Nat.le_of_ble_eq_true rfl) (by decide) (by omega) (by omega) (fun r1 I1 L1 hI1 h1 => ?_) (fun E q I' L' hI ⟨x1, p', x2, x3, x4⟩ => hG.out (by simp) ⟨x1, p', bd_f x2, x3, x4⟩ (by omega) (by omega) trivial)
  obtain ⟨v1, z1, e1, rfl, rfl, rfl⟩ := h1
  have l1 := le_db e1
  refine hG.istore_n dX26_anchoring_4 (by decide) ?_
  refine hG.new dX26_anchoring_5 nw_X26_122 (by omega) (by omega) (fun q hLq hIq => ?_)
  refine hG.dup dX26_anchoring_8 rfl ?_
  refine hG.iload_n dX26_anchoring_9 rfl ?_
  refine hG.aload_n dX26_anchoring_10 rfl ?_
  refine hG.callV dX26_anchoring_11 kv_X26_95 (Rcv.raw ((up1_n (ne_none up1_s hLq)).trans up1_s) cl_X26) (sp_X26_digitBehind hΓ hX ((h.to l1).nw hLq _)) rfl rfl (Nat.le_of_ble_eq_true rfl) (by decide) (by omega) (by omega) (fun r11 I11 L11 hI11 h11 => ?_) (fun E q9 I' L' hI ⟨x1, p', x2, x3, x4⟩ => hG.subX (S := up1 L pa (some (ppC p' x))) (fun w y hw => by
    rw [x4]
    by_cases ew : w = pa
    · subst ew; rw [up1_s] at hw ⊢; exact hw
    · rw [up1_n ew] at hw ⊢
      have h9 : up1 L pa (some (ppC z1 x)) w = some y := (up1_n ew).trans hw
      exact (up1_n (ne_none h9 hLq)).trans h9) (hG.out (by simp) ⟨x1, p', (bd_s e1).trans (bd_f x2), x3, rfl⟩ (by omega) (by omega) trivial))
  obtain ⟨v11, z11, e11, rfl, rfl, rfl⟩ := h11
  rw [up_mid (ne_none up1_s hLq)]
  have l11 := le_db e11
  refine hG.callI dX26_anchoring_14 ki_X26_124 (sp_X16_init hΓ up1_s) rfl rfl (Nat.le_of_ble_eq_true rfl) (by decide) (by omega) (by omega) (fun r14 I14 L14 hI14 h14 => ?_) (fun _ _ _ _ _ h => h.elim)
  obtain ⟨rfl, rfl, rfl⟩ := h14
  rw [up1_up1]
  refine hG.fr up1_s ?_
  rw [up1_up1, up_nn (up1_no hLq (fun h => nomatch h))]
  refine hG.aret dX26_anchoring_17 rfl (by first | exact Or.inl ⟨_, rfl⟩ | exact Or.inr ⟨_, rfl⟩) (by first | exact Or.inr ⟨_, rfl⟩ | exact Or.inl rfl) ?_ (by omega) (by omega) trivial
  exact ⟨(5, v1, v11, 0, 0), q, z11, (bd_s e1).trans (bd_s e11), rfl, frI_s, rfl⟩
theorem nw_X26_109 : LkN RX26 109 ciX24 [.int 0] 1 := ⟨RX24, TX24, tyX24, cls_X24, q3091, q2834, q138, rfl, fun j hj => by
  match j, hj with
  | 0, _ => rfl
  | _ + 1, h => exact absurd h (by omega)⟩
theorem kv_X26_115 : LkV RX26 115 yJ9_equals 1 := ⟨q3076, q1149, q3672, q85, by decide +kernel, by decide +kernel, by decide +kernel⟩
theorem ki_X26_119 : LkI RX26 119 yX24_init 1 := ⟨q3094, q2836, q138, rfl, ⟨by decide +kernel, by decide +kernel, by decide +kernel⟩, by decide +kernel⟩
set_option maxHeartbeats 4000000 in
set_option maxRecDepth 100000 in
theorem sp_X26_crossing {l : Launch} {s0 : State} {D : va_G} {I : AI} {L : AL} {o : Option Nat} (hΓ : Gam l s0 D) (hT : StX s0 D o) {pa x inp b k : Nat} {ml : Int32} {t : List Nat} {p : Nat} (h : PaS L pa x inp b k ml t p) : Spc l s0 D yX26_crossing 12 [.ref pa] I L 242 11008 (fun r I' L' => ∃ (c : Cm) (y q : Nat), crsF t p = .inr (c, q) ∧ r = some (.ref y) ∧ DeedAt I' y c ∧ L' = up1 L pa (some (ppC q x))) (xF (crsF t p) L pa x) := by
  refine Spc.of hΓ cX26_crossing 2 (some (FieldType.object "BraidedFerry$Deed")) q3085 (by decide +kernel) (by decide) (Nat.le_of_ble_eq_true rfl) (fun G GX hG => ?_)
  have hX := hT.v
  obtain ⟨hp, -⟩ := id h
  refine hG.aload_n dX26_crossing_0 rfl ?_
  refine hG.bipush (v := 32) dX26_crossing_1 rfl ?_
  refine hG.bipush (v := 32) dX26_crossing_3 rfl ?_
  refine hG.callV dX26_crossing_5 kv_X26_42 (Rcv.raw hp cl_X26) (sp_X26_take (lo := 32) (hi := 32) hΓ hX h (by decide) (by decide)) rfl rfl (Nat.le_of_ble_eq_true rfl) (by decide) (by omega) (by omega) (fun r5 I5 L5 hI5 h5 => ?_) (fun E q I' L' hI ⟨x1, p', x2, x3, x4⟩ => hG.out (by simp) ⟨x1, p', bd_f (bd_f x2), x3, x4⟩ (by omega) (by omega) trivial)
  obtain ⟨c5, q5, e5, rfl, rfl, rfl⟩ := h5
  obtain ⟨rfl, f5, g5, i5, j5⟩ := tk_i e5
  refine hG.istore_n dX26_crossing_8 (by decide) ?_
  refine hG.new dX26_crossing_9 nw_X26_109 (by omega) (by omega) (fun q hLq hIq => ?_)
  refine hG.dup dX26_crossing_12 rfl ?_
  refine hG.aload_n dX26_crossing_13 rfl ?_
  refine hG.ldcT dX26_crossing_14 (hT.tx 7 rfl) (fun s14 hs14 => ?_)
  refine hG.callV dX26_crossing_16 kv_X26_82 (Rcv.raw ((up1_n (ne_none up1_s hLq)).trans up1_s) cl_X26) (sp_X26_word hΓ hT ((h.to j5).nw hLq _) hs14 wok2) rfl rfl (Nat.le_of_ble_eq_true rfl) (by decide) (by omega) (by omega) (fun r16 I16 L16 hI16 h16 => ?_) (fun E q9 I' L' hI ⟨x1, p', x2, x3, x4⟩ => hG.subX (S := up1 L pa (some (ppC p' x))) (fun w y hw => by
    rw [x4]
    by_cases ew : w = pa
    · subst ew; rw [up1_s] at hw ⊢; exact hw
    · rw [up1_n ew] at hw ⊢
      have h9 : up1 L pa (some (ppC (p + 1) x)) w = some y := (up1_n ew).trans hw
      exact (up1_n (ne_none h9 hLq)).trans h9) (hG.out (by simp) ⟨x1, p', bd_f ((bd_s e5).trans x2), x3, rfl⟩ (by omega) (by omega) trivial))
  obtain ⟨qw, told, z, e16, rfl, hN⟩ := h16
  rw [up_mid (ne_none up1_s hLq)] at hN
  obtain ⟨arr, f, n1, rfl, n3, n4, n5, n6⟩ := hN
  have nqw : q ≠ qw := fun e => by rw [← e, up1_s] at n1; cases n1
  refine hG.ldcT dX26_crossing_19 (hT.tx 8 rfl) (fun s19 hs19 => ?_)
  by_cases e9 : qw = s19
  · subst e9
    obtain ⟨sa, sh, sz, sf, g1, -⟩ := hs19
    exact hG.dis up1_s g1
  refine hG.callV dX26_crossing_21 kv_X26_115 (Rcv.raw up1_s cl_J9) (sp_J9_equals hΓ hX ⟨arr, 0, 0, f, Or.inl up1_s, Or.inr n3, n4, n5, n6⟩ (hs19.r _) (fun e => absurd e e9)) rfl rfl (Nat.le_of_ble_eq_true rfl) (by decide) (by omega) (by omega) (fun r21 I21 L21 hI21 h21 => ?_) (fun _ _ _ _ _ h => h.elim)
  obtain ⟨rfl, rfl, rfl⟩ := h21
  refine hG.callI dX26_crossing_24 ki_X26_119 (sp_X24_init hΓ ((up1_n nqw).trans up1_s)) rfl rfl (Nat.le_of_ble_eq_true rfl) (by decide) (by omega) (by omega) (fun r24 I24 L24 hI24 h24 => ?_) (fun _ _ _ _ _ h => h.elim)
  obtain ⟨rfl, rfl, rfl⟩ := h24
  refine hG.fr (a := q) up1_s ?_
  refine hG.sub (S := up1 L pa (some (ppC z x))) (fun w y hw => ?_) ?_
  · have ewq : w ≠ q := ne_none hw (up1_no hLq (fun h => nomatch h))
    have h8 : up1 (up1 L pa (some (ppC z x))) q (some (obC ciX24 [.int 0])) w = some y := (up1_n ewq).trans hw
    rw [up1_n ewq, up1_n ewq]
    exact (up1_n (ne_none h8 n1)).trans h8
  refine hG.aret dX26_crossing_27 rfl (by first | exact Or.inl ⟨_, rfl⟩ | exact Or.inr ⟨_, rfl⟩) (by first | exact Or.inr ⟨_, rfl⟩ | exact Or.inl rfl) ?_ (by omega) (by omega) trivial
  exact ⟨(0, if told = wF then 1 else 0, 0, 0, 0), q, z, bd_s ((bd_s e5).trans e16), rfl, by show frI _ _ _ q (ob ciX24 [.int (b2i (decide ((if told = wF then 1 else 0) = 1)))]); rw [show decide ((if told = wF then 1 else 0) = 1) = decide (told = wF) by by_cases h : told = wF <;> simp [h]]; exact frI_s, rfl⟩
theorem c1_0 {t : List Nat} {p : Nat} : c1F t [99, 114, 111, 115, 115] p = crsF t p := by
  unfold c1F
  rw [if_pos rfl]
theorem c1_1 {t : List Nat} {p : Nat} : c1F t [119, 97, 105, 116] p = waiF t p := by
  unfold c1F
  rw [if_neg (by decide), if_pos rfl]
theorem c1_2 {t : List Nat} {p : Nat} : c1F t [108, 97, 110, 100] p = .inr ((2, 0, 0, 0, 0), p) := by
  unfold c1F
  rw [if_neg (by decide), if_neg (by decide), if_pos rfl]
theorem c1_3 {t : List Nat} {p : Nat} : c1F t [99, 111, 109, 101] p = comF t p := by
  unfold c1F
  rw [if_neg (by decide), if_neg (by decide), if_neg (by decide), if_pos rfl]
theorem c1_4 {t : List Nat} {p : Nat} : c1F t [98, 111, 97, 114, 100] p = boaF t p := by
  unfold c1F
  rw [if_neg (by decide), if_neg (by decide), if_neg (by decide), if_neg (by decide), if_pos rfl]
theorem c1_5 {t : List Nat} {p : Nat} : c1F t [97, 110, 99, 104, 111, 114] p = anrF t p := by
  unfold c1F
  rw [if_neg (by decide), if_neg (by decide), if_neg (by decide), if_neg (by decide), if_neg (by decide), if_pos rfl]
theorem c1_6 {t : List Nat} {p : Nat} : c1F t [119, 101, 105, 103, 104] p = weiF t p := by
  unfold c1F
  rw [if_neg (by decide), if_neg (by decide), if_neg (by decide), if_neg (by decide), if_neg (by decide), if_neg (by decide)]
theorem cls_X21 : CLs ciX21 RX21 TX21 0 tyX21 := ⟨rfl, in_X21, tyX21_ok, nmX21⟩
theorem kv_X26_129 : LkV RX26 129 yJ9_hashCode 0 := ⟨q3074, q824, q3671, q85, by decide +kernel, by decide +kernel, by decide +kernel⟩
theorem kv_X26_144 : LkV RX26 144 yX26_crossing 0 := ⟨q3082, q3084, qs24, q141, by decide +kernel, by decide +kernel, by decide +kernel⟩
theorem nw_X26_148 : LkN RX26 148 ciX25 [.int 0] 1 := ⟨RX25, TX25, tyX25, cls_X25, q3095, q2851, q139, rfl, fun j hj => by
  match j, hj with
  | 0, _ => rfl
  | _ + 1, h => exact absurd h (by omega)⟩
theorem ki_X26_150 : LkI RX26 150 yX25_init 1 := ⟨q3108, q2853, q139, rfl, ⟨by decide +kernel, by decide +kernel, by decide +kernel⟩, by decide +kernel⟩
theorem nw_X26_151 : LkN RX26 151 ciX21 [] 0 := ⟨RX21, TX21, tyX21, cls_X21, q3109, q390, q135, rfl, fun j hj => absurd hj (Nat.not_lt_zero j)⟩
theorem ki_X26_153 : LkNI RX26 153 yX21_init 0 := ⟨⟨_, q3110⟩, q392, q135, rfl, ⟨by decide +kernel, by decide +kernel, by decide +kernel⟩, by decide +kernel⟩
theorem kv_X26_154 : LkV RX26 154 yX26_coming 0 := ⟨q3111, q3113, qs29, q141, by decide +kernel, by decide +kernel, by decide +kernel⟩
theorem kv_X26_157 : LkV RX26 157 yX26_boarding 0 := ⟨q3131, q3133, qs32, q141, by decide +kernel, by decide +kernel, by decide +kernel⟩
theorem kv_X26_160 : LkV RX26 160 yX26_anchoring 0 := ⟨q3137, q3139, qs33, q141, by decide +kernel, by decide +kernel, by decide +kernel⟩
theorem nw_X26_163 : LkN RX26 163 ciX18 [.int 0] 1 := ⟨RX18, TX18, tyX18, cls_X18, q3143, q2475, q132, rfl, fun j hj => by
  match j, hj with
  | 0, _ => rfl
  | _ + 1, h => exact absurd h (by omega)⟩
theorem ki_X26_165 : LkI RX26 165 yX18_init 1 := ⟨q3144, q2477, q132, rfl, ⟨by decide +kernel, by decide +kernel, by decide +kernel⟩, by decide +kernel⟩
set_option maxHeartbeats 4000000 in
set_option maxRecDepth 100000 in
theorem sp_X26_command {l : Launch} {s0 : State} {D : va_G} {I : AI} {L : AL} {o : Option Nat} (hΓ : Gam l s0 D) (hT : StX s0 D o) {pa x inp b k : Nat} {ml : Int32} {t : List Nat} {p : Nat} (h : PaS L pa x inp b k ml t p) : Spc l s0 D yX26_command 14 [.ref pa] I L 500 22200 (fun r I' L' => ∃ (c : Cm) (y q : Nat), cmdF t p = .inr (c, q) ∧ r = some (.ref y) ∧ DeedAt I' y c ∧ L' = up1 L pa (some (ppC q x))) (xF (cmdF t p) L pa x) := by
  refine Spc.of hΓ cX26_command 3 (some (FieldType.object "BraidedFerry$Deed")) q2967 (by decide +kernel) (by decide) (Nat.le_of_ble_eq_true rfl) (fun G GX hG => ?_)
  have hX := hT.v
  obtain ⟨hp, -⟩ := id h
  have hpl := h.2.2.2.1
  refine hG.aload_n dX26_command_0 rfl ?_
  refine hG.ldcT dX26_command_1 (hT.tx 9 rfl) (fun s1 hs1 => ?_)
  refine hG.callV dX26_command_3 kv_X26_82 (Rcv.raw hp cl_X26) (sp_X26_word hΓ hT (h) hs1 wok7) rfl rfl (Nat.le_of_ble_eq_true rfl) (by decide) (by omega) (by omega) (fun r3 I3 L3 hI3 h3 => ?_) (fun E q I' L' hI ⟨x1, p', x2, x3, x4⟩ => hG.out (by simp) ⟨x1, p', bd_f x2, x3, x4⟩ (by omega) (by omega) trivial)
  obtain ⟨qw, told, z, e3, rfl, hN⟩ := h3
  have hwz := wd_i hpl e3
  obtain ⟨arr, f, n1, rfl, n3, n4, n5, n6⟩ := hN
  have n31 := n3
  rw [Nat.zero_add, Nat.mul_one] at n31
  have hw := hwz.1
  simp only [List.mem_cons, List.not_mem_nil, or_false] at hw
  rcases hw with rfl | rfl | rfl | rfl | rfl | rfl | rfl
  · refine hG.astore_n dX26_command_6 (by decide) ?_
    refine hG.iconst (v := -1) dX26_command_7 rfl ?_
    refine hG.istore_n dX26_command_8 (by decide) ?_
    refine hG.aload_n dX26_command_9 rfl ?_
    refine hG.callV dX26_command_10 kv_X26_129 (Rcv.raw up1_s cl_J9) (sp_J9_hashCode hΓ hX up1_s (Or.inr n31) n4 n5 n6 (by decide)) rfl rfl (Nat.le_of_ble_eq_true rfl) (by decide) (by omega) (by omega) (fun r10 I10 L10 hI10 h10 => ?_) (fun _ _ _ _ _ h => h.elim)
    obtain ⟨rfl, rfl, hh, hz, rfl⟩ := h10
    rw [up1_up1]
    refine hG.lookup (off := 59) (tgt := 72) dX26_command_13 (by decide +kernel) (by decide +kernel) rfl ?_
    refine hG.aload_n dX26_command_72 rfl ?_
    refine hG.ldcT dX26_command_73 (hT.tx 10 rfl) (fun s73 hs73 => ?_)
    refine hG.callV dX26_command_75 kv_X26_115 (Rcv.raw up1_s cl_J9) (sp_J9_equals hΓ hX ⟨arr, hh, hz, f, Or.inl up1_s, Or.inr n3, n4, n5, n6⟩ (hs73.r _) (fun _ => rfl)) rfl rfl (Nat.le_of_ble_eq_true rfl) (by decide) (by omega) (by omega) (fun r75 I75 L75 hI75 h75 => ?_) (fun _ _ _ _ _ h => h.elim)
    obtain ⟨rfl, rfl, rfl⟩ := h75
    refine hG.if_eq (tgt := 153) dX26_command_78 rfl (fun c_78 => absurd c_78 (by decide)) (fun c_78 => ?_)
    refine hG.iconst (v := 0) dX26_command_81 rfl ?_
    refine hG.istore_n dX26_command_82 (by decide) ?_
    refine hG.goto (tgt := 153) dX26_command_83 rfl ?_
    refine hG.iload_n dX26_command_153 rfl ?_
    refine hG.tabIn (off := 38) (tgt := 192) dX26_command_154 (by decide +kernel) (by decide +kernel) (by decide +kernel) rfl ?_
    refine hG.sub (S := up1 L pa (some (ppC z x))) (fun w y hw => (up1_n (ne_none hw n1)).trans hw) ?_
    refine hG.aload_n dX26_command_192 rfl ?_
    refine hG.callV dX26_command_193 kv_X26_144 (Rcv.raw up1_s cl_X26) (sp_X26_crossing hΓ hT (h.to hwz.2.2)) rfl rfl (Nat.le_of_ble_eq_true rfl) (by decide) (by omega) (by omega) (fun r193 I193 L193 hI193 h193 => ?_) (fun E q I' L' hI ⟨x1, p', x2, x3, x4⟩ => hG.out (by simp) ⟨x1, p', (bd_s e3).trans (c1_0.trans x2), x3, x4.trans up1_up1⟩ (by omega) (by omega) trivial)
    obtain ⟨cm, y, zz, e193, rfl, hD, rfl⟩ := h193
    rw [up1_up1]
    refine hG.aret dX26_command_196 rfl (by first | exact Or.inl ⟨_, rfl⟩ | exact Or.inr ⟨_, rfl⟩) (by first | exact Or.inr ⟨_, rfl⟩ | exact Or.inl rfl) ?_ (by omega) (by omega) trivial
    exact ⟨cm, y, zz, (bd_s e3).trans (c1_0.trans e193), rfl, hD, rfl⟩
  · refine hG.astore_n dX26_command_6 (by decide) ?_
    refine hG.iconst (v := -1) dX26_command_7 rfl ?_
    refine hG.istore_n dX26_command_8 (by decide) ?_
    refine hG.aload_n dX26_command_9 rfl ?_
    refine hG.callV dX26_command_10 kv_X26_129 (Rcv.raw up1_s cl_J9) (sp_J9_hashCode hΓ hX up1_s (Or.inr n31) n4 n5 n6 (by decide)) rfl rfl (Nat.le_of_ble_eq_true rfl) (by decide) (by omega) (by omega) (fun r10 I10 L10 hI10 h10 => ?_) (fun _ _ _ _ _ h => h.elim)
    obtain ⟨rfl, rfl, hh, hz, rfl⟩ := h10
    rw [up1_up1]
    refine hG.lookup (off := 73) (tgt := 86) dX26_command_13 (by decide +kernel) (by decide +kernel) rfl ?_
    refine hG.aload_n dX26_command_86 rfl ?_
    refine hG.ldcT dX26_command_87 (hT.tx 11 rfl) (fun s87 hs87 => ?_)
    refine hG.callV dX26_command_89 kv_X26_115 (Rcv.raw up1_s cl_J9) (sp_J9_equals hΓ hX ⟨arr, hh, hz, f, Or.inl up1_s, Or.inr n3, n4, n5, n6⟩ (hs87.r _) (fun _ => rfl)) rfl rfl (Nat.le_of_ble_eq_true rfl) (by decide) (by omega) (by omega) (fun r89 I89 L89 hI89 h89 => ?_) (fun _ _ _ _ _ h => h.elim)
    obtain ⟨rfl, rfl, rfl⟩ := h89
    refine hG.if_eq (tgt := 153) dX26_command_92 rfl (fun c_92 => absurd c_92 (by decide)) (fun c_92 => ?_)
    refine hG.iconst (v := 1) dX26_command_95 rfl ?_
    refine hG.istore_n dX26_command_96 (by decide) ?_
    refine hG.goto (tgt := 153) dX26_command_97 rfl ?_
    refine hG.iload_n dX26_command_153 rfl ?_
    refine hG.tabIn (off := 43) (tgt := 197) dX26_command_154 (by decide +kernel) (by decide +kernel) (by decide +kernel) rfl ?_
    refine hG.sub (S := up1 L pa (some (ppC z x))) (fun w y hw => (up1_n (ne_none hw n1)).trans hw) ?_
    refine hG.new dX26_command_197 nw_X26_148 (by omega) (by omega) (fun q hLq hIq => ?_)
    refine hG.dup dX26_command_200 rfl ?_
    refine hG.aload_n dX26_command_201 rfl ?_
    refine hG.callV dX26_command_202 kv_X26_100 (Rcv.raw ((up1_n (ne_none up1_s hLq)).trans up1_s) cl_X26) (sp_X26_numberBehind hΓ hX ((h.to hwz.2.2).nw hLq _)) rfl rfl (Nat.le_of_ble_eq_true rfl) (by decide) (by omega) (by omega) (fun r202 I202 L202 hI202 h202 => ?_) (fun E q9 I' L' hI ⟨x1, p', x2, x3, x4⟩ => hG.subX (S := up1 L pa (some (ppC p' x))) (fun w y hw => by
    rw [x4]
    by_cases ew : w = pa
    · subst ew; rw [up1_s] at hw ⊢; exact hw
    · rw [up1_n ew] at hw ⊢
      have h9 : up1 L pa (some (ppC z x)) w = some y := (up1_n ew).trans hw
      exact (up1_n (ne_none h9 hLq)).trans h9) (hG.out (by simp) ⟨x1, p', (bd_s e3).trans (c1_1.trans (bd_f x2)), x3, rfl⟩ (by omega) (by omega) trivial))
    obtain ⟨v202, z202, e202, rfl, rfl, rfl⟩ := h202
    rw [up_mid (ne_none up1_s hLq)]
    have l202 := le_nb e202
    refine hG.callI dX26_command_205 ki_X26_150 (sp_X25_init hΓ up1_s) rfl rfl (Nat.le_of_ble_eq_true rfl) (by decide) (by omega) (by omega) (fun r205 I205 L205 hI205 h205 => ?_) (fun _ _ _ _ _ h => h.elim)
    obtain ⟨rfl, rfl, rfl⟩ := h205
    rw [up1_up1]
    refine hG.fr up1_s ?_
    rw [up1_up1, up_nn (up1_no hLq (fun h => nomatch h))]
    refine hG.aret dX26_command_208 rfl (by first | exact Or.inl ⟨_, rfl⟩ | exact Or.inr ⟨_, rfl⟩) (by first | exact Or.inr ⟨_, rfl⟩ | exact Or.inl rfl) ?_ (by omega) (by omega) trivial
    exact ⟨(1, v202, 0, 0, 0), q, z202, (bd_s e3).trans (c1_1.trans (bd_s e202)), rfl, frI_s, rfl⟩
  · refine hG.astore_n dX26_command_6 (by decide) ?_
    refine hG.iconst (v := -1) dX26_command_7 rfl ?_
    refine hG.istore_n dX26_command_8 (by decide) ?_
    refine hG.aload_n dX26_command_9 rfl ?_
    refine hG.callV dX26_command_10 kv_X26_129 (Rcv.raw up1_s cl_J9) (sp_J9_hashCode hΓ hX up1_s (Or.inr n31) n4 n5 n6 (by decide)) rfl rfl (Nat.le_of_ble_eq_true rfl) (by decide) (by omega) (by omega) (fun r10 I10 L10 hI10 h10 => ?_) (fun _ _ _ _ _ h => h.elim)
    obtain ⟨rfl, rfl, hh, hz, rfl⟩ := h10
    rw [up1_up1]
    refine hG.lookup (off := 87) (tgt := 100) dX26_command_13 (by decide +kernel) (by decide +kernel) rfl ?_
    refine hG.aload_n dX26_command_100 rfl ?_
    refine hG.ldcT dX26_command_101 (hT.tx 12 rfl) (fun s101 hs101 => ?_)
    refine hG.callV dX26_command_103 kv_X26_115 (Rcv.raw up1_s cl_J9) (sp_J9_equals hΓ hX ⟨arr, hh, hz, f, Or.inl up1_s, Or.inr n3, n4, n5, n6⟩ (hs101.r _) (fun _ => rfl)) rfl rfl (Nat.le_of_ble_eq_true rfl) (by decide) (by omega) (by omega) (fun r103 I103 L103 hI103 h103 => ?_) (fun _ _ _ _ _ h => h.elim)
    obtain ⟨rfl, rfl, rfl⟩ := h103
    refine hG.if_eq (tgt := 153) dX26_command_106 rfl (fun c_106 => absurd c_106 (by decide)) (fun c_106 => ?_)
    refine hG.iconst (v := 2) dX26_command_109 rfl ?_
    refine hG.istore_n dX26_command_110 (by decide) ?_
    refine hG.goto (tgt := 153) dX26_command_111 rfl ?_
    refine hG.iload_n dX26_command_153 rfl ?_
    refine hG.tabIn (off := 55) (tgt := 209) dX26_command_154 (by decide +kernel) (by decide +kernel) (by decide +kernel) rfl ?_
    refine hG.sub (S := up1 L pa (some (ppC z x))) (fun w y hw => (up1_n (ne_none hw n1)).trans hw) ?_
    refine hG.new dX26_command_209 nw_X26_151 (by omega) (by omega) (fun q hLq hIq => ?_)
    refine hG.dup dX26_command_212 rfl ?_
    refine hG.callNI dX26_command_213 ki_X26_153 (sp_X21_init hΓ) rfl rfl (Nat.le_of_ble_eq_true rfl) (by decide) (by omega) (by omega) (fun r213 I213 L213 hI213 h213 => ?_) (fun _ _ _ _ _ h => h.elim)
    obtain ⟨rfl, rfl, rfl⟩ := h213
    refine hG.fr up1_s ?_
    rw [up1_up1, up_nn hLq]
    refine hG.aret dX26_command_216 rfl (by first | exact Or.inl ⟨_, rfl⟩ | exact Or.inr ⟨_, rfl⟩) (by first | exact Or.inr ⟨_, rfl⟩ | exact Or.inl rfl) ?_ (by omega) (by omega) trivial
    exact ⟨(2, 0, 0, 0, 0), q, z, (bd_s e3).trans (c1_2.trans rfl), rfl, frI_s, rfl⟩
  · refine hG.astore_n dX26_command_6 (by decide) ?_
    refine hG.iconst (v := -1) dX26_command_7 rfl ?_
    refine hG.istore_n dX26_command_8 (by decide) ?_
    refine hG.aload_n dX26_command_9 rfl ?_
    refine hG.callV dX26_command_10 kv_X26_129 (Rcv.raw up1_s cl_J9) (sp_J9_hashCode hΓ hX up1_s (Or.inr n31) n4 n5 n6 (by decide)) rfl rfl (Nat.le_of_ble_eq_true rfl) (by decide) (by omega) (by omega) (fun r10 I10 L10 hI10 h10 => ?_) (fun _ _ _ _ _ h => h.elim)
    obtain ⟨rfl, rfl, hh, hz, rfl⟩ := h10
    rw [up1_up1]
    refine hG.lookup (off := 101) (tgt := 114) dX26_command_13 (by decide +kernel) (by decide +kernel) rfl ?_
    refine hG.aload_n dX26_command_114 rfl ?_
    refine hG.ldcT dX26_command_115 (hT.tx 13 rfl) (fun s115 hs115 => ?_)
    refine hG.callV dX26_command_117 kv_X26_115 (Rcv.raw up1_s cl_J9) (sp_J9_equals hΓ hX ⟨arr, hh, hz, f, Or.inl up1_s, Or.inr n3, n4, n5, n6⟩ (hs115.r _) (fun _ => rfl)) rfl rfl (Nat.le_of_ble_eq_true rfl) (by decide) (by omega) (by omega) (fun r117 I117 L117 hI117 h117 => ?_) (fun _ _ _ _ _ h => h.elim)
    obtain ⟨rfl, rfl, rfl⟩ := h117
    refine hG.if_eq (tgt := 153) dX26_command_120 rfl (fun c_120 => absurd c_120 (by decide)) (fun c_120 => ?_)
    refine hG.iconst (v := 3) dX26_command_123 rfl ?_
    refine hG.istore_n dX26_command_124 (by decide) ?_
    refine hG.goto (tgt := 153) dX26_command_125 rfl ?_
    refine hG.iload_n dX26_command_153 rfl ?_
    refine hG.tabIn (off := 63) (tgt := 217) dX26_command_154 (by decide +kernel) (by decide +kernel) (by decide +kernel) rfl ?_
    refine hG.sub (S := up1 L pa (some (ppC z x))) (fun w y hw => (up1_n (ne_none hw n1)).trans hw) ?_
    refine hG.aload_n dX26_command_217 rfl ?_
    refine hG.callV dX26_command_218 kv_X26_154 (Rcv.raw up1_s cl_X26) (sp_X26_coming hΓ hT (h.to hwz.2.2)) rfl rfl (Nat.le_of_ble_eq_true rfl) (by decide) (by omega) (by omega) (fun r218 I218 L218 hI218 h218 => ?_) (fun E q I' L' hI ⟨x1, p', x2, x3, x4⟩ => hG.out (by simp) ⟨x1, p', (bd_s e3).trans (c1_3.trans x2), x3, x4.trans up1_up1⟩ (by omega) (by omega) trivial)
    obtain ⟨cm, y, zz, e218, rfl, hD, rfl⟩ := h218
    rw [up1_up1]
    refine hG.aret dX26_command_221 rfl (by first | exact Or.inl ⟨_, rfl⟩ | exact Or.inr ⟨_, rfl⟩) (by first | exact Or.inr ⟨_, rfl⟩ | exact Or.inl rfl) ?_ (by omega) (by omega) trivial
    exact ⟨cm, y, zz, (bd_s e3).trans (c1_3.trans e218), rfl, hD, rfl⟩
  · refine hG.astore_n dX26_command_6 (by decide) ?_
    refine hG.iconst (v := -1) dX26_command_7 rfl ?_
    refine hG.istore_n dX26_command_8 (by decide) ?_
    refine hG.aload_n dX26_command_9 rfl ?_
    refine hG.callV dX26_command_10 kv_X26_129 (Rcv.raw up1_s cl_J9) (sp_J9_hashCode hΓ hX up1_s (Or.inr n31) n4 n5 n6 (by decide)) rfl rfl (Nat.le_of_ble_eq_true rfl) (by decide) (by omega) (by omega) (fun r10 I10 L10 hI10 h10 => ?_) (fun _ _ _ _ _ h => h.elim)
    obtain ⟨rfl, rfl, hh, hz, rfl⟩ := h10
    rw [up1_up1]
    refine hG.lookup (off := 115) (tgt := 128) dX26_command_13 (by decide +kernel) (by decide +kernel) rfl ?_
    refine hG.aload_n dX26_command_128 rfl ?_
    refine hG.ldcT dX26_command_129 (hT.tx 14 rfl) (fun s129 hs129 => ?_)
    refine hG.callV dX26_command_131 kv_X26_115 (Rcv.raw up1_s cl_J9) (sp_J9_equals hΓ hX ⟨arr, hh, hz, f, Or.inl up1_s, Or.inr n3, n4, n5, n6⟩ (hs129.r _) (fun _ => rfl)) rfl rfl (Nat.le_of_ble_eq_true rfl) (by decide) (by omega) (by omega) (fun r131 I131 L131 hI131 h131 => ?_) (fun _ _ _ _ _ h => h.elim)
    obtain ⟨rfl, rfl, rfl⟩ := h131
    refine hG.if_eq (tgt := 153) dX26_command_134 rfl (fun c_134 => absurd c_134 (by decide)) (fun c_134 => ?_)
    refine hG.iconst (v := 4) dX26_command_137 rfl ?_
    refine hG.istore_n dX26_command_138 (by decide) ?_
    refine hG.goto (tgt := 153) dX26_command_139 rfl ?_
    refine hG.iload_n dX26_command_153 rfl ?_
    refine hG.tabIn (off := 68) (tgt := 222) dX26_command_154 (by decide +kernel) (by decide +kernel) (by decide +kernel) rfl ?_
    refine hG.sub (S := up1 L pa (some (ppC z x))) (fun w y hw => (up1_n (ne_none hw n1)).trans hw) ?_
    refine hG.aload_n dX26_command_222 rfl ?_
    refine hG.callV dX26_command_223 kv_X26_157 (Rcv.raw up1_s cl_X26) (sp_X26_boarding hΓ hT (h.to hwz.2.2)) rfl rfl (Nat.le_of_ble_eq_true rfl) (by decide) (by omega) (by omega) (fun r223 I223 L223 hI223 h223 => ?_) (fun E q I' L' hI ⟨x1, p', x2, x3, x4⟩ => hG.out (by simp) ⟨x1, p', (bd_s e3).trans (c1_4.trans x2), x3, x4.trans up1_up1⟩ (by omega) (by omega) trivial)
    obtain ⟨cm, y, zz, e223, rfl, hD, rfl⟩ := h223
    rw [up1_up1]
    refine hG.aret dX26_command_226 rfl (by first | exact Or.inl ⟨_, rfl⟩ | exact Or.inr ⟨_, rfl⟩) (by first | exact Or.inr ⟨_, rfl⟩ | exact Or.inl rfl) ?_ (by omega) (by omega) trivial
    exact ⟨cm, y, zz, (bd_s e3).trans (c1_4.trans e223), rfl, hD, rfl⟩
  · refine hG.astore_n dX26_command_6 (by decide) ?_
    refine hG.iconst (v := -1) dX26_command_7 rfl ?_
    refine hG.istore_n dX26_command_8 (by decide) ?_
    refine hG.aload_n dX26_command_9 rfl ?_
    refine hG.callV dX26_command_10 kv_X26_129 (Rcv.raw up1_s cl_J9) (sp_J9_hashCode hΓ hX up1_s (Or.inr n31) n4 n5 n6 (by decide)) rfl rfl (Nat.le_of_ble_eq_true rfl) (by decide) (by omega) (by omega) (fun r10 I10 L10 hI10 h10 => ?_) (fun _ _ _ _ _ h => h.elim)
    obtain ⟨rfl, rfl, hh, hz, rfl⟩ := h10
    rw [up1_up1]
    refine hG.lookup (off := 129) (tgt := 142) dX26_command_13 (by decide +kernel) (by decide +kernel) rfl ?_
    refine hG.aload_n dX26_command_142 rfl ?_
    refine hG.ldcT dX26_command_143 (hT.tx 15 rfl) (fun s143 hs143 => ?_)
    refine hG.callV dX26_command_145 kv_X26_115 (Rcv.raw up1_s cl_J9) (sp_J9_equals hΓ hX ⟨arr, hh, hz, f, Or.inl up1_s, Or.inr n3, n4, n5, n6⟩ (hs143.r _) (fun _ => rfl)) rfl rfl (Nat.le_of_ble_eq_true rfl) (by decide) (by omega) (by omega) (fun r145 I145 L145 hI145 h145 => ?_) (fun _ _ _ _ _ h => h.elim)
    obtain ⟨rfl, rfl, rfl⟩ := h145
    refine hG.if_eq (tgt := 153) dX26_command_148 rfl (fun c_148 => absurd c_148 (by decide)) (fun c_148 => ?_)
    refine hG.iconst (v := 5) dX26_command_151 rfl ?_
    refine hG.istore_n dX26_command_152 (by decide) ?_
    refine hG.iload_n dX26_command_153 rfl ?_
    refine hG.tabIn (off := 73) (tgt := 227) dX26_command_154 (by decide +kernel) (by decide +kernel) (by decide +kernel) rfl ?_
    refine hG.sub (S := up1 L pa (some (ppC z x))) (fun w y hw => (up1_n (ne_none hw n1)).trans hw) ?_
    refine hG.aload_n dX26_command_227 rfl ?_
    refine hG.callV dX26_command_228 kv_X26_160 (Rcv.raw up1_s cl_X26) (sp_X26_anchoring hΓ hT (h.to hwz.2.2)) rfl rfl (Nat.le_of_ble_eq_true rfl) (by decide) (by omega) (by omega) (fun r228 I228 L228 hI228 h228 => ?_) (fun E q I' L' hI ⟨x1, p', x2, x3, x4⟩ => hG.out (by simp) ⟨x1, p', (bd_s e3).trans (c1_5.trans x2), x3, x4.trans up1_up1⟩ (by omega) (by omega) trivial)
    obtain ⟨cm, y, zz, e228, rfl, hD, rfl⟩ := h228
    rw [up1_up1]
    refine hG.aret dX26_command_231 rfl (by first | exact Or.inl ⟨_, rfl⟩ | exact Or.inr ⟨_, rfl⟩) (by first | exact Or.inr ⟨_, rfl⟩ | exact Or.inl rfl) ?_ (by omega) (by omega) trivial
    exact ⟨cm, y, zz, (bd_s e3).trans (c1_5.trans e228), rfl, hD, rfl⟩
  · refine hG.astore_n dX26_command_6 (by decide) ?_
    refine hG.iconst (v := -1) dX26_command_7 rfl ?_
    refine hG.istore_n dX26_command_8 (by decide) ?_
    refine hG.aload_n dX26_command_9 rfl ?_
    refine hG.callV dX26_command_10 kv_X26_129 (Rcv.raw up1_s cl_J9) (sp_J9_hashCode hΓ hX up1_s (Or.inr n31) n4 n5 n6 (by decide)) rfl rfl (Nat.le_of_ble_eq_true rfl) (by decide) (by omega) (by omega) (fun r10 I10 L10 hI10 h10 => ?_) (fun _ _ _ _ _ h => h.elim)
    obtain ⟨rfl, rfl, hh, hz, rfl⟩ := h10
    rw [up1_up1]
    refine hG.lookup (off := 140) (tgt := 153) dX26_command_13 (by decide +kernel) (by decide +kernel) rfl ?_
    refine hG.iload_n dX26_command_153 rfl ?_
    refine hG.tabOut (tgt := 232) dX26_command_154 (by decide +kernel) rfl ?_
    refine hG.sub (S := up1 L pa (some (ppC z x))) (fun w y hw => (up1_n (ne_none hw n1)).trans hw) ?_
    refine hG.new dX26_command_232 nw_X26_163 (by omega) (by omega) (fun q hLq hIq => ?_)
    refine hG.dup dX26_command_235 rfl ?_
    refine hG.aload_n dX26_command_236 rfl ?_
    refine hG.callV dX26_command_237 kv_X26_95 (Rcv.raw ((up1_n (ne_none up1_s hLq)).trans up1_s) cl_X26) (sp_X26_digitBehind hΓ hX ((h.to hwz.2.2).nw hLq _)) rfl rfl (Nat.le_of_ble_eq_true rfl) (by decide) (by omega) (by omega) (fun r237 I237 L237 hI237 h237 => ?_) (fun E q9 I' L' hI ⟨x1, p', x2, x3, x4⟩ => hG.subX (S := up1 L pa (some (ppC p' x))) (fun w y hw => by
    rw [x4]
    by_cases ew : w = pa
    · subst ew; rw [up1_s] at hw ⊢; exact hw
    · rw [up1_n ew] at hw ⊢
      have h9 : up1 L pa (some (ppC z x)) w = some y := (up1_n ew).trans hw
      exact (up1_n (ne_none h9 hLq)).trans h9) (hG.out (by simp) ⟨x1, p', (bd_s e3).trans (c1_6.trans (bd_f x2)), x3, rfl⟩ (by omega) (by omega) trivial))
    obtain ⟨v237, z237, e237, rfl, rfl, rfl⟩ := h237
    rw [up_mid (ne_none up1_s hLq)]
    have l237 := le_db e237
    refine hG.callI dX26_command_240 ki_X26_165 (sp_X18_init hΓ up1_s) rfl rfl (Nat.le_of_ble_eq_true rfl) (by decide) (by omega) (by omega) (fun r240 I240 L240 hI240 h240 => ?_) (fun _ _ _ _ _ h => h.elim)
    obtain ⟨rfl, rfl, rfl⟩ := h240
    rw [up1_up1]
    refine hG.fr up1_s ?_
    rw [up1_up1, up_nn (up1_no hLq (fun h => nomatch h))]
    refine hG.aret dX26_command_243 rfl (by first | exact Or.inl ⟨_, rfl⟩ | exact Or.inr ⟨_, rfl⟩) (by first | exact Or.inr ⟨_, rfl⟩ | exact Or.inl rfl) ?_ (by omega) (by omega) trivial
    exact ⟨(6, v237, 0, 0, 0), q, z237, (bd_s e3).trans (c1_6.trans (bd_s e237)), rfl, frI_s, rfl⟩
