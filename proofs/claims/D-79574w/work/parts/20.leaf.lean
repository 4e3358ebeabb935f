theorem cls_X8 : CLs ciX8 RX8 TX8 3 tyX8 := ⟨rfl, in_X8, tyX8_ok, nmX8⟩
theorem fg_X8_18_X8 : LkG RX8 18 ciX8 2 := ⟨RX8, TX8, 3, tyX8, _, cls_X8, by decide, Or.inl rfl, Or.inl q1735⟩
set_option maxHeartbeats 4000000 in
set_option maxRecDepth 100000 in
theorem sp_X8_holds {l : Launch} {s0 : State} {D : va_G} {I : AI} {L : AL} (hΓ : Gam l s0 D) {a : Nat} {ch sc dr : Int32} (h0 : Rd I L a (ob ciX8 [.int ch, .int sc, .int dr])) : Spc l s0 D yX8_holds 1 [.ref a] I L 0 0 (pV (.int (b2i (decide (dr < 50)))) I L) noX := by
  refine Spc.of hΓ cX8_holds 1 (some FieldType.boolean) q1879 (by decide +kernel) (by decide) (Nat.le_of_ble_eq_true rfl) (fun G GX hG => ?_)
  refine hG.aload_n dX8_holds_0 rfl ?_
  refine hG.get dX8_holds_1 fg_X8_18_X8 h0 rfl ?_
  refine hG.bipush (v := 50) dX8_holds_4 rfl ?_
  refine hG.icmp_ge (tgt := 13) dX8_holds_6 rfl (fun c_6 => ?_) (fun c_6 => ?_)
  · refine hG.iconst (v := 0) dX8_holds_13 rfl ?_
    refine hG.zret dX8_holds_14 rfl rfl ?_ (by omega) (by omega) trivial
    exact ⟨by simp [b2i] <;> simpa using c_6, rfl, rfl⟩
  · refine hG.iconst (v := 1) dX8_holds_9 rfl ?_
    refine hG.goto (tgt := 14) dX8_holds_10 rfl ?_
    refine hG.zret dX8_holds_14 rfl rfl ?_ (by omega) (by omega) trivial
    exact ⟨by simp [b2i] <;> simpa using c_6, rfl, rfl⟩
theorem fp_X8_9_X8 : LkP RX8 "<init>" 9 ciX8 0 (tyX8 0) := ⟨RX8, TX8, 3, tyX8, _, cls_X8, by decide, rfl, Or.inl rfl, Or.inr (Or.inr ⟨rfl, rfl, rfl, q1729⟩)⟩
theorem fp_X8_15_X8 : LkP RX8 "<init>" 15 ciX8 1 (tyX8 1) := ⟨RX8, TX8, 3, tyX8, _, cls_X8, by decide, rfl, Or.inl rfl, Or.inr (Or.inr ⟨rfl, rfl, rfl, q1732⟩)⟩
theorem fp_X8_18_X8 : LkP RX8 "<init>" 18 ciX8 2 (tyX8 2) := ⟨RX8, TX8, 3, tyX8, _, cls_X8, by decide, rfl, Or.inl rfl, Or.inr (Or.inr ⟨rfl, rfl, rfl, q1735⟩)⟩
set_option maxHeartbeats 4000000 in
set_option maxRecDepth 100000 in
theorem sp_X8_init {l : Launch} {s0 : State} {D : va_G} {I : AI} {L : AL} (hΓ : Gam l s0 D) {a : Nat} {x y z : Value} {ch sc dr : Int32} (h0 : L a = some (obC ciX8 [x, y, z])) : Spc l s0 D yX8_init 2 [.ref a, .int ch, .int sc, .int dr] I L 0 0 (pU I L a (obC ciX8 [.int ch, .int sc, .int dr])) noX := by
  refine Spc.of hΓ cX8_init 4 none q1727 (by decide +kernel) (by decide) (Nat.le_of_ble_eq_true rfl) (fun G GX hG => ?_)
  refine hG.aload_n dX8_init_0 rfl ?_
  refine hG.objI dX8_init_1 q1728 (Nat.le_of_ble_eq_true rfl) (by decide) ?_
  refine hG.aload_n dX8_init_4 rfl ?_
  refine hG.iload_n dX8_init_5 rfl ?_
  refine hG.put dX8_init_6 fp_X8_9_X8 h0 rfl rfl (Nat.le_of_ble_eq_true rfl) ?_
  refine hG.aload_n dX8_init_9 rfl ?_
  refine hG.iload_n dX8_init_10 rfl ?_
  refine hG.put dX8_init_11 fp_X8_15_X8 up1_s rfl rfl (Nat.le_of_ble_eq_true rfl) ?_
  refine hG.aload_n dX8_init_14 rfl ?_
  refine hG.iload_n dX8_init_15 rfl ?_
  refine hG.put dX8_init_16 fp_X8_18_X8 up1_s rfl rfl (Nat.le_of_ble_eq_true rfl) ?_
  refine hG.vret dX8_init_19 rfl ?_ (by omega) (by omega) trivial
  exact ⟨rfl, rfl, by rw [up1_up1, up1_up1]; rfl⟩
theorem cls_X6 : CLs ciX6 RX6 TX6 3 tyX6 := ⟨rfl, in_X6, tyX6_ok, nmX6⟩
theorem fp_X6_7_X6 : LkP RX6 "<init>" 7 ciX6 0 (tyX6 0) := ⟨RX6, TX6, 3, tyX6, _, cls_X6, by decide, rfl, Or.inl rfl, Or.inr (Or.inr ⟨rfl, rfl, rfl, q2117⟩)⟩
theorem fp_X6_13_X6 : LkP RX6 "<init>" 13 ciX6 1 (tyX6 1) := ⟨RX6, TX6, 3, tyX6, _, cls_X6, by decide, rfl, Or.inl rfl, Or.inr (Or.inr ⟨rfl, rfl, rfl, q2120⟩)⟩
theorem fp_X6_16_X6 : LkP RX6 "<init>" 16 ciX6 2 (tyX6 2) := ⟨RX6, TX6, 3, tyX6, _, cls_X6, by decide, rfl, Or.inl rfl, Or.inr (Or.inr ⟨rfl, rfl, rfl, q2123⟩)⟩
set_option maxHeartbeats 4000000 in
set_option maxRecDepth 100000 in
theorem sp_X6_init {l : Launch} {s0 : State} {D : va_G} {I : AI} {L : AL} (hΓ : Gam l s0 D) {a : Nat} {x y z : Value} {w f b : Int32} (h0 : L a = some (obC ciX6 [x, y, z])) : Spc l s0 D yX6_init 2 [.ref a, .int w, .int f, .int b] I L 0 0 (pU I L a (obC ciX6 [.int w, .int f, .int b])) noX := by
  refine Spc.of hΓ cX6_init 4 none q2115 (by decide +kernel) (by decide) (Nat.le_of_ble_eq_true rfl) (fun G GX hG => ?_)
  refine hG.aload_n dX6_init_0 rfl ?_
  refine hG.objI dX6_init_1 q2116 (Nat.le_of_ble_eq_true rfl) (by decide) ?_
  refine hG.aload_n dX6_init_4 rfl ?_
  refine hG.iload_n dX6_init_5 rfl ?_
  refine hG.put dX6_init_6 fp_X6_7_X6 h0 rfl rfl (Nat.le_of_ble_eq_true rfl) ?_
  refine hG.aload_n dX6_init_9 rfl ?_
  refine hG.iload_n dX6_init_10 rfl ?_
  refine hG.put dX6_init_11 fp_X6_13_X6 up1_s rfl rfl (Nat.le_of_ble_eq_true rfl) ?_
  refine hG.aload_n dX6_init_14 rfl ?_
  refine hG.iload_n dX6_init_15 rfl ?_
  refine hG.put dX6_init_16 fp_X6_16_X6 up1_s rfl rfl (Nat.le_of_ble_eq_true rfl) ?_
  refine hG.vret dX6_init_19 rfl ?_ (by omega) (by omega) trivial
  exact ⟨rfl, rfl, by rw [up1_up1, up1_up1]; rfl⟩
theorem cls_X9 : CLs ciX9 RX9 TX9 3 tyX9 := ⟨rfl, in_X9, tyX9_ok, nmX9⟩
theorem fp_X9_7_X9 : LkP RX9 "<init>" 7 ciX9 0 (tyX9 0) := ⟨RX9, TX9, 3, tyX9, _, cls_X9, by decide, rfl, Or.inl rfl, Or.inr (Or.inr ⟨rfl, rfl, rfl, q1763⟩)⟩
theorem fp_X9_13_X9 : LkP RX9 "<init>" 13 ciX9 1 (tyX9 1) := ⟨RX9, TX9, 3, tyX9, _, cls_X9, by decide, rfl, Or.inl rfl, Or.inr (Or.inr ⟨rfl, rfl, rfl, q1766⟩)⟩
theorem fp_X9_16_X9 : LkP RX9 "<init>" 16 ciX9 2 (tyX9 2) := ⟨RX9, TX9, 3, tyX9, _, cls_X9, by decide, rfl, Or.inl rfl, Or.inr (Or.inr ⟨rfl, rfl, rfl, q1769⟩)⟩
set_option maxHeartbeats 4000000 in
set_option maxRecDepth 100000 in
theorem sp_X9_init {l : Launch} {s0 : State} {D : va_G} {I : AI} {L : AL} (hΓ : Gam l s0 D) {a : Nat} {x y z : Value} {k0 f0 t0 : Int32} (h0 : L a = some (obC ciX9 [x, y, z])) : Spc l s0 D yX9_init 2 [.ref a, .int k0, .int f0, .int t0] I L 0 0 (pU I L a (obC ciX9 [.int k0, .int f0, .int t0])) noX := by
  refine Spc.of hΓ cX9_init 4 none q1761 (by decide +kernel) (by decide) (Nat.le_of_ble_eq_true rfl) (fun G GX hG => ?_)
  refine hG.aload_n dX9_init_0 rfl ?_
  refine hG.objI dX9_init_1 q1762 (Nat.le_of_ble_eq_true rfl) (by decide) ?_
  refine hG.aload_n dX9_init_4 rfl ?_
  refine hG.iload_n dX9_init_5 rfl ?_
  refine hG.put dX9_init_6 fp_X9_7_X9 h0 rfl rfl (Nat.le_of_ble_eq_true rfl) ?_
  refine hG.aload_n dX9_init_9 rfl ?_
  refine hG.iload_n dX9_init_10 rfl ?_
  refine hG.put dX9_init_11 fp_X9_13_X9 up1_s rfl rfl (Nat.le_of_ble_eq_true rfl) ?_
  refine hG.aload_n dX9_init_14 rfl ?_
  refine hG.iload_n dX9_init_15 rfl ?_
  refine hG.put dX9_init_16 fp_X9_16_X9 up1_s rfl rfl (Nat.le_of_ble_eq_true rfl) ?_
  refine hG.vret dX9_init_19 rfl ?_ (by omega) (by omega) trivial
  exact ⟨rfl, rfl, by rw [up1_up1, up1_up1]; rfl⟩
