/-! the ferry: the calls that change it -/
theorem nw_X1_158 : LkN RX1 158 ciX13 [.int 0, .int 0] 2 := ⟨RX13, TX13, tyX13, cls_X13, q2347, q2348, q127, rfl, fun j hj => by
  match j, hj with
  | 0, _ => rfl
  | 1, _ => rfl
  | _ + 2, h => exact absurd h (by omega)⟩
theorem ki_X1_160 : LkI RX1 160 yX13_init 2 := ⟨q2349, q2350, q127, rfl, ⟨by decide +kernel, by decide +kernel, by decide +kernel⟩, by decide +kernel⟩
theorem kv_X1_154 : LkV RX1 154 yX1_change 1 := ⟨q396, q398, qs0, q73, by decide +kernel, by decide +kernel, by decide +kernel⟩
set_option maxHeartbeats 4000000 in
set_option maxRecDepth 100000 in
theorem sp_X1_split {l : Launch} {s0 : State} {D : va_G} {I : AI} {L : AL} {dE ca : Nat} {ad : Nat → Nat} (hΓ : Gam l s0 D) (hZ : Std s0 D dE ca ad) (hNc : NcX s0) {x N : Nat} {F : Fy} {A : FA} (hF : FeO dE I L x F A) (hW : WfF N F) (hN : N ≤ 22) {n w : Int32} : Spc l s0 D yX1_split 17 [.ref x, .int n, .int w] I L 4025 16510 (pC dE (splO F.rv n w) x F L) (xC dE (splO F.rv n w) x F L) := by
  refine Spc.of hΓ cX1_split 3 (some FieldType.int) q2346 (by decide +kernel) (by decide) (Nat.le_of_ble_eq_true rfl) (fun G GX hG => ?_)
  refine hG.aload_n dX1_split_0 rfl ?_
  refine hG.new dX1_split_1 nw_X1_158 (by omega) (by omega) (fun q hLq hIq => ?_)
  refine hG.dup dX1_split_4 rfl ?_
  refine hG.iload_n dX1_split_5 rfl ?_
  refine hG.iload_n dX1_split_6 rfl ?_
  refine hG.callI dX1_split_7 ki_X1_160 (sp_X13_init hΓ up1_s) rfl rfl (Nat.le_of_ble_eq_true rfl) (by decide) (by omega) (by omega) (fun r7 I7 L7 hI7 h7 => ?_) (fun _ _ _ _ _ h => h.elim)
  obtain ⟨rfl, rfl, rfl⟩ := h7
  rw [up1_up1]
  refine hG.fr up1_s ?_
  rw [up1_up1, show up1 L q none = L by rw [← hLq, up1_self]]
  have hF1 := FeO.mono (J := frI I q (ob ciX13 [.int n, .int w])) hF (frI_le) (fun _ _ h => h)
  refine hG.callVW dX1_split_10 kv_X1_154 (Rcv.raw hF.1 cl_X1) (sp_X1_change_X13 hΓ hZ hNc hF1 hW hN frI_s) rfl rfl (Nat.le_of_ble_eq_true rfl) (by decide) (by omega) (by omega) (fun r10 I10 L10 hI10 h10 => ?_) (fun E q9 I' L' hI9 hx9 => hG.out (by simp) (hx9) (by omega) (by omega) trivial)
  obtain ⟨v9, R9, A9, o9, rfl, g9, f9⟩ := h10
  refine hG.iret dX1_split_13 rfl ?_ (by omega) (by omega) trivial
  exact ⟨v9, R9, A9, o9, rfl, g9, f9⟩
theorem nw_X1_161 : LkN RX1 161 ciX14 [.int 0, .int 0] 2 := ⟨RX14, TX14, tyX14, cls_X14, q2398, q2399, q128, rfl, fun j hj => by
  match j, hj with
  | 0, _ => rfl
  | 1, _ => rfl
  | _ + 2, h => exact absurd h (by omega)⟩
theorem ki_X1_163 : LkI RX1 163 yX14_init 2 := ⟨q2400, q2401, q128, rfl, ⟨by decide +kernel, by decide +kernel, by decide +kernel⟩, by decide +kernel⟩
set_option maxHeartbeats 4000000 in
set_option maxRecDepth 100000 in
theorem sp_X1_shift {l : Launch} {s0 : State} {D : va_G} {I : AI} {L : AL} {dE ca : Nat} {ad : Nat → Nat} (hΓ : Gam l s0 D) (hZ : Std s0 D dE ca ad) (hNc : NcX s0) {x N : Nat} {F : Fy} {A : FA} (hF : FeO dE I L x F A) (hW : WfF N F) (hN : N ≤ 22) {n b : Int32} : Spc l s0 D yX1_shift 17 [.ref x, .int n, .int b] I L 4025 16510 (pC dE (shfO F.rv n b) x F L) (xC dE (shfO F.rv n b) x F L) := by
  refine Spc.of hΓ cX1_shift 3 (some FieldType.int) q2397 (by decide +kernel) (by decide) (Nat.le_of_ble_eq_true rfl) (fun G GX hG => ?_)
  refine hG.aload_n dX1_shift_0 rfl ?_
  refine hG.new dX1_shift_1 nw_X1_161 (by omega) (by omega) (fun q hLq hIq => ?_)
  refine hG.dup dX1_shift_4 rfl ?_
  refine hG.iload_n dX1_shift_5 rfl ?_
  refine hG.iload_n dX1_shift_6 rfl ?_
  refine hG.callI dX1_shift_7 ki_X1_163 (sp_X14_init hΓ up1_s) rfl rfl (Nat.le_of_ble_eq_true rfl) (by decide) (by omega) (by omega) (fun r7 I7 L7 hI7 h7 => ?_) (fun _ _ _ _ _ h => h.elim)
  obtain ⟨rfl, rfl, rfl⟩ := h7
  rw [up1_up1]
  refine hG.fr up1_s ?_
  rw [up1_up1, show up1 L q none = L by rw [← hLq, up1_self]]
  have hF1 := FeO.mono (J := frI I q (ob ciX14 [.int n, .int b])) hF (frI_le) (fun _ _ h => h)
  refine hG.callVW dX1_shift_10 kv_X1_154 (Rcv.raw hF.1 cl_X1) (sp_X1_change_X14 hΓ hZ hNc hF1 hW hN frI_s) rfl rfl (Nat.le_of_ble_eq_true rfl) (by decide) (by omega) (by omega) (fun r10 I10 L10 hI10 h10 => ?_) (fun E q9 I' L' hI9 hx9 => hG.out (by simp) (hx9) (by omega) (by omega) trivial)
  obtain ⟨v9, R9, A9, o9, rfl, g9, f9⟩ := h10
  refine hG.iret dX1_shift_13 rfl ?_ (by omega) (by omega) trivial
  exact ⟨v9, R9, A9, o9, rfl, g9, f9⟩
theorem nw_X1_196 : LkN RX1 196 ciX16 [.int 0, .int 0] 2 := ⟨RX16, TX16, tyX16, cls_X16, q2458, q2459, q130, rfl, fun j hj => by
  match j, hj with
  | 0, _ => rfl
  | 1, _ => rfl
  | _ + 2, h => exact absurd h (by omega)⟩
theorem ki_X1_198 : LkI RX1 198 yX16_init 2 := ⟨q2460, q2461, q130, rfl, ⟨by decide +kernel, by decide +kernel, by decide +kernel⟩, by decide +kernel⟩
set_option maxHeartbeats 4000000 in
set_option maxRecDepth 100000 in
theorem sp_X1_anchor {l : Launch} {s0 : State} {D : va_G} {I : AI} {L : AL} {dE ca : Nat} {ad : Nat → Nat} (hΓ : Gam l s0 D) (hZ : Std s0 D dE ca ad) (hNc : NcX s0) {x N : Nat} {F : Fy} {A : FA} (hF : FeO dE I L x F A) (hW : WfF N F) (hN : N ≤ 22) {c s : Int32} : Spc l s0 D yX1_anchor 17 [.ref x, .int c, .int s] I L 4025 16510 (pC dE (ancO c s F.rv) x F L) (xC dE (ancO c s F.rv) x F L) := by
  refine Spc.of hΓ cX1_anchor 3 (some FieldType.int) q2457 (by decide +kernel) (by decide) (Nat.le_of_ble_eq_true rfl) (fun G GX hG => ?_)
  refine hG.aload_n dX1_anchor_0 rfl ?_
  refine hG.new dX1_anchor_1 nw_X1_196 (by omega) (by omega) (fun q hLq hIq => ?_)
  refine hG.dup dX1_anchor_4 rfl ?_
  refine hG.iload_n dX1_anchor_5 rfl ?_
  refine hG.iload_n dX1_anchor_6 rfl ?_
  refine hG.callI dX1_anchor_7 ki_X1_198 (sp_X16_init hΓ up1_s) rfl rfl (Nat.le_of_ble_eq_true rfl) (by decide) (by omega) (by omega) (fun r7 I7 L7 hI7 h7 => ?_) (fun _ _ _ _ _ h => h.elim)
  obtain ⟨rfl, rfl, rfl⟩ := h7
  rw [up1_up1]
  refine hG.fr up1_s ?_
  rw [up1_up1, show up1 L q none = L by rw [← hLq, up1_self]]
  have hF1 := FeO.mono (J := frI I q (ob ciX16 [.int c, .int s])) hF (frI_le) (fun _ _ h => h)
  refine hG.callVW dX1_anchor_10 kv_X1_154 (Rcv.raw hF.1 cl_X1) (sp_X1_change_X16 hΓ hZ hNc hF1 hW hN frI_s) rfl rfl (Nat.le_of_ble_eq_true rfl) (by decide) (by omega) (by omega) (fun r10 I10 L10 hI10 h10 => ?_) (fun E q9 I' L' hI9 hx9 => hG.out (by simp) (hx9) (by omega) (by omega) trivial)
  obtain ⟨v9, R9, A9, o9, rfl, g9, f9⟩ := h10
  refine hG.iret dX1_anchor_13 rfl ?_ (by omega) (by omega) trivial
  exact ⟨v9, R9, A9, o9, rfl, g9, f9⟩
theorem nw_X1_199 : LkN RX1 199 ciX18 [.int 0] 1 := ⟨RX18, TX18, tyX18, cls_X18, q2474, q2475, q132, rfl, fun j hj => by
  match j, hj with
  | 0, _ => rfl
  | _ + 1, h => exact absurd h (by omega)⟩
theorem ki_X1_201 : LkI RX1 201 yX18_init 1 := ⟨q2476, q2477, q132, rfl, ⟨by decide +kernel, by decide +kernel, by decide +kernel⟩, by decide +kernel⟩
set_option maxHeartbeats 4000000 in
set_option maxRecDepth 100000 in
theorem sp_X1_weigh {l : Launch} {s0 : State} {D : va_G} {I : AI} {L : AL} {dE ca : Nat} {ad : Nat → Nat} (hΓ : Gam l s0 D) (hZ : Std s0 D dE ca ad) (hNc : NcX s0) {x N : Nat} {F : Fy} {A : FA} (hF : FeO dE I L x F A) (hW : WfF N F) (hN : N ≤ 22) {n : Int32} : Spc l s0 D yX1_weigh 17 [.ref x, .int n] I L 4025 16510 (pC dE (weiO n F.rv) x F L) (xC dE (weiO n F.rv) x F L) := by
  refine Spc.of hΓ cX1_weigh 2 (some FieldType.int) q2473 (by decide +kernel) (by decide) (Nat.le_of_ble_eq_true rfl) (fun G GX hG => ?_)
  refine hG.aload_n dX1_weigh_0 rfl ?_
  refine hG.new dX1_weigh_1 nw_X1_199 (by omega) (by omega) (fun q hLq hIq => ?_)
  refine hG.dup dX1_weigh_4 rfl ?_
  refine hG.iload_n dX1_weigh_5 rfl ?_
  refine hG.callI dX1_weigh_6 ki_X1_201 (sp_X18_init hΓ up1_s) rfl rfl (Nat.le_of_ble_eq_true rfl) (by decide) (by omega) (by omega) (fun r6 I6 L6 hI6 h6 => ?_) (fun _ _ _ _ _ h => h.elim)
  obtain ⟨rfl, rfl, rfl⟩ := h6
  rw [up1_up1]
  refine hG.fr up1_s ?_
  rw [up1_up1, show up1 L q none = L by rw [← hLq, up1_self]]
  have hF1 := FeO.mono (J := frI I q (ob ciX18 [.int n])) hF (frI_le) (fun _ _ h => h)
  refine hG.callVW dX1_weigh_9 kv_X1_154 (Rcv.raw hF.1 cl_X1) (sp_X1_change_X18 hΓ hZ hNc hF1 hW hN frI_s) rfl rfl (Nat.le_of_ble_eq_true rfl) (by decide) (by omega) (by omega) (fun r9 I9 L9 hI9 h9 => ?_) (fun E q9 I' L' hI9 hx9 => hG.out (by simp) (hx9) (by omega) (by omega) trivial)
  obtain ⟨v9, R9, A9, o9, rfl, g9, f9⟩ := h9
  refine hG.iret dX1_weigh_12 rfl ?_ (by omega) (by omega) trivial
  exact ⟨v9, R9, A9, o9, rfl, g9, f9⟩
theorem nw_X1_235 : LkN RX1 235 ciX19 [.int 0, .int 0, .int 0, .int 0] 4 := ⟨RX19, TX19, tyX19, cls_X19, q2537, q2538, q133, rfl, fun j hj => by
  match j, hj with
  | 0, _ => rfl
  | 1, _ => rfl
  | 2, _ => rfl
  | 3, _ => rfl
  | _ + 4, h => exact absurd h (by omega)⟩
theorem ki_X1_237 : LkI RX1 237 yX19_init 4 := ⟨q2539, q2540, q133, rfl, ⟨by decide +kernel, by decide +kernel, by decide +kernel⟩, by decide +kernel⟩
set_option maxHeartbeats 4000000 in
set_option maxRecDepth 100000 in
theorem sp_X1_come {l : Launch} {s0 : State} {D : va_G} {I : AI} {L : AL} {dE ca : Nat} {ad : Nat → Nat} (hΓ : Gam l s0 D) (hZ : Std s0 D dE ca ad) (hNc : NcX s0) {x N : Nat} {F : Fy} {A : FA} (hF : FeO dE I L x F A) (hW : WfF N F) (hN : N ≤ 22) {u f t n : Int32} : Spc l s0 D yX1_come 17 [.ref x, .int u, .int f, .int t, .int n] I L 4025 16510 (pC dE (comO u f t n F.rv) x F L) (xC dE (comO u f t n F.rv) x F L) := by
  refine Spc.of hΓ cX1_come 5 (some FieldType.int) q2536 (by decide +kernel) (by decide) (Nat.le_of_ble_eq_true rfl) (fun G GX hG => ?_)
  refine hG.aload_n dX1_come_0 rfl ?_
  refine hG.new dX1_come_1 nw_X1_235 (by omega) (by omega) (fun q hLq hIq => ?_)
  refine hG.dup dX1_come_4 rfl ?_
  refine hG.iload_n dX1_come_5 rfl ?_
  refine hG.iload_n dX1_come_6 rfl ?_
  refine hG.iload_n dX1_come_7 rfl ?_
  refine hG.iload dX1_come_8 rfl ?_
  refine hG.callI dX1_come_10 ki_X1_237 (sp_X19_init hΓ up1_s) rfl rfl (Nat.le_of_ble_eq_true rfl) (by decide) (by omega) (by omega) (fun r10 I10 L10 hI10 h10 => ?_) (fun _ _ _ _ _ h => h.elim)
  obtain ⟨rfl, rfl, rfl⟩ := h10
  rw [up1_up1]
  refine hG.fr up1_s ?_
  rw [up1_up1, show up1 L q none = L by rw [← hLq, up1_self]]
  have hF1 := FeO.mono (J := frI I q (ob ciX19 [.int f, .int t, .int u, .int n])) hF (frI_le) (fun _ _ h => h)
  refine hG.callVW dX1_come_13 kv_X1_154 (Rcv.raw hF.1 cl_X1) (sp_X1_change_X19 hΓ hZ hNc hF1 hW hN frI_s) rfl rfl (Nat.le_of_ble_eq_true rfl) (by decide) (by omega) (by omega) (fun r13 I13 L13 hI13 h13 => ?_) (fun E q9 I' L' hI9 hx9 => hG.out (by simp) (hx9) (by omega) (by omega) trivial)
  obtain ⟨v9, R9, A9, o9, rfl, g9, f9⟩ := h13
  refine hG.iret dX1_come_16 rfl ?_ (by omega) (by omega) trivial
  exact ⟨v9, R9, A9, o9, rfl, g9, f9⟩
theorem nw_X1_265 : LkN RX1 265 ciX21 [] 0 := ⟨RX21, TX21, tyX21, cls_X21, q389, q390, q135, rfl, fun j hj => absurd hj (Nat.not_lt_zero j)⟩
theorem ki_X1_267 : LkNI RX1 267 yX21_init 0 := ⟨⟨_, q391⟩, q392, q135, rfl, ⟨by decide +kernel, by decide +kernel, by decide +kernel⟩, by decide +kernel⟩
set_option maxHeartbeats 4000000 in
set_option maxRecDepth 100000 in
theorem sp_X1_land {l : Launch} {s0 : State} {D : va_G} {I : AI} {L : AL} {dE ca : Nat} {ad : Nat → Nat} (hΓ : Gam l s0 D) (hZ : Std s0 D dE ca ad) (hNc : NcX s0) {x N : Nat} {F : Fy} {A : FA} (hF : FeO dE I L x F A) (hW : WfF N F) (hN : N ≤ 22)  : Spc l s0 D yX1_land 17 [.ref x] I L 4025 16510 (pC dE (lndO F.rv) x F L) (xC dE (lndO F.rv) x F L) := by
  refine Spc.of hΓ cX1_land 1 (some FieldType.int) q388 (by decide +kernel) (by decide) (Nat.le_of_ble_eq_true rfl) (fun G GX hG => ?_)
  refine hG.aload_n dX1_land_0 rfl ?_
  refine hG.new dX1_land_1 nw_X1_265 (by omega) (by omega) (fun q hLq hIq => ?_)
  refine hG.dup dX1_land_4 rfl ?_
  refine hG.callNI dX1_land_5 ki_X1_267 (sp_X21_init hΓ) rfl rfl (Nat.le_of_ble_eq_true rfl) (by decide) (by omega) (by omega) (fun r5 I5 L5 hI5 h5 => ?_) (fun _ _ _ _ _ h => h.elim)
  obtain ⟨rfl, rfl, rfl⟩ := h5
  refine hG.fr up1_s ?_
  rw [up1_up1, show up1 L q none = L by rw [← hLq, up1_self]]
  have hF1 := FeO.mono (J := frI I q (ob ciX21 [])) hF (frI_le) (fun _ _ h => h)
  refine hG.callVW dX1_land_8 kv_X1_154 (Rcv.raw hF.1 cl_X1) (sp_X1_change_X21 hΓ hZ hNc hF1 hW hN frI_s) rfl rfl (Nat.le_of_ble_eq_true rfl) (by decide) (by omega) (by omega) (fun r8 I8 L8 hI8 h8 => ?_) (fun E q9 I' L' hI9 hx9 => hG.out (by simp) (hx9) (by omega) (by omega) trivial)
  obtain ⟨v9, R9, A9, o9, rfl, g9, f9⟩ := h8
  refine hG.iret dX1_land_11 rfl ?_ (by omega) (by omega) trivial
  exact ⟨v9, R9, A9, o9, rfl, g9, f9⟩
theorem nw_X1_352 : LkN RX1 352 ciX24 [.int 0] 1 := ⟨RX24, TX24, tyX24, cls_X24, q2833, q2834, q138, rfl, fun j hj => by
  match j, hj with
  | 0, _ => rfl
  | _ + 1, h => exact absurd h (by omega)⟩
theorem ki_X1_354 : LkI RX1 354 yX24_init 1 := ⟨q2835, q2836, q138, rfl, ⟨by decide +kernel, by decide +kernel, by decide +kernel⟩, by decide +kernel⟩
set_option maxHeartbeats 4000000 in
set_option maxRecDepth 100000 in
theorem sp_X1_cross {l : Launch} {s0 : State} {D : va_G} {I : AI} {L : AL} {dE ca : Nat} {ad : Nat → Nat} (hΓ : Gam l s0 D) (hZ : Std s0 D dE ca ad) (hNc : NcX s0) {x N : Nat} {F : Fy} {A : FA} (hF : FeO dE I L x F A) (hW : WfF N F) (hN : N ≤ 22) {w : Bool} : Spc l s0 D yX1_cross 17 [.ref x, .int (b2i w)] I L 4025 16510 (pC dE (crsO F.rv w) x F L) (xC dE (crsO F.rv w) x F L) := by
  refine Spc.of hΓ cX1_cross 2 (some FieldType.int) q2832 (by decide +kernel) (by decide) (Nat.le_of_ble_eq_true rfl) (fun G GX hG => ?_)
  refine hG.aload_n dX1_cross_0 rfl ?_
  refine hG.new dX1_cross_1 nw_X1_352 (by omega) (by omega) (fun q hLq hIq => ?_)
  refine hG.dup dX1_cross_4 rfl ?_
  refine hG.iload_n dX1_cross_5 rfl ?_
  refine hG.callI dX1_cross_6 ki_X1_354 (sp_X24_init hΓ up1_s) rfl rfl (Nat.le_of_ble_eq_true rfl) (by decide) (by omega) (by omega) (fun r6 I6 L6 hI6 h6 => ?_) (fun _ _ _ _ _ h => h.elim)
  obtain ⟨rfl, rfl, rfl⟩ := h6
  rw [up1_up1]
  refine hG.fr up1_s ?_
  rw [up1_up1, show up1 L q none = L by rw [← hLq, up1_self]]
  have hF1 := FeO.mono (J := frI I q (ob ciX24 [.int (b2i w)])) hF (frI_le) (fun _ _ h => h)
  refine hG.callVW dX1_cross_9 kv_X1_154 (Rcv.raw hF.1 cl_X1) (sp_X1_change_X24 hΓ hZ hNc hF1 hW hN frI_s) rfl rfl (Nat.le_of_ble_eq_true rfl) (by decide) (by omega) (by omega) (fun r9 I9 L9 hI9 h9 => ?_) (fun E q9 I' L' hI9 hx9 => hG.out (by simp) (hx9) (by omega) (by omega) trivial)
  obtain ⟨v9, R9, A9, o9, rfl, g9, f9⟩ := h9
  refine hG.iret dX1_cross_12 rfl ?_ (by omega) (by omega) trivial
  exact ⟨v9, R9, A9, o9, rfl, g9, f9⟩
theorem nw_X1_359 : LkN RX1 359 ciX25 [.int 0] 1 := ⟨RX25, TX25, tyX25, cls_X25, q2850, q2851, q139, rfl, fun j hj => by
  match j, hj with
  | 0, _ => rfl
  | _ + 1, h => exact absurd h (by omega)⟩
theorem ki_X1_361 : LkI RX1 361 yX25_init 1 := ⟨q2852, q2853, q139, rfl, ⟨by decide +kernel, by decide +kernel, by decide +kernel⟩, by decide +kernel⟩
set_option maxHeartbeats 4000000 in
set_option maxRecDepth 100000 in
theorem sp_X1_pass {l : Launch} {s0 : State} {D : va_G} {I : AI} {L : AL} {dE ca : Nat} {ad : Nat → Nat} (hΓ : Gam l s0 D) (hZ : Std s0 D dE ca ad) (hNc : NcX s0) {x N : Nat} {F : Fy} {A : FA} (hF : FeO dE I L x F A) (hW : WfF N F) (hN : N ≤ 22) {n : Int32} : Spc l s0 D yX1_pass 17 [.ref x, .int n] I L 4025 16510 (pC dE (pasO n F.rv) x F L) (xC dE (pasO n F.rv) x F L) := by
  refine Spc.of hΓ cX1_pass 2 (some FieldType.int) q2849 (by decide +kernel) (by decide) (Nat.le_of_ble_eq_true rfl) (fun G GX hG => ?_)
  refine hG.aload_n dX1_pass_0 rfl ?_
  refine hG.new dX1_pass_1 nw_X1_359 (by omega) (by omega) (fun q hLq hIq => ?_)
  refine hG.dup dX1_pass_4 rfl ?_
  refine hG.iload_n dX1_pass_5 rfl ?_
  refine hG.callI dX1_pass_6 ki_X1_361 (sp_X25_init hΓ up1_s) rfl rfl (Nat.le_of_ble_eq_true rfl) (by decide) (by omega) (by omega) (fun r6 I6 L6 hI6 h6 => ?_) (fun _ _ _ _ _ h => h.elim)
  obtain ⟨rfl, rfl, rfl⟩ := h6
  rw [up1_up1]
  refine hG.fr up1_s ?_
  rw [up1_up1, show up1 L q none = L by rw [← hLq, up1_self]]
  have hF1 := FeO.mono (J := frI I q (ob ciX25 [.int n])) hF (frI_le) (fun _ _ h => h)
  refine hG.callVW dX1_pass_9 kv_X1_154 (Rcv.raw hF.1 cl_X1) (sp_X1_change_X25 hΓ hZ hNc hF1 hW hN frI_s) rfl rfl (Nat.le_of_ble_eq_true rfl) (by decide) (by omega) (by omega) (fun r9 I9 L9 hI9 h9 => ?_) (fun E q9 I' L' hI9 hx9 => hG.out (by simp) (hx9) (by omega) (by omega) trivial)
  obtain ⟨v9, R9, A9, o9, rfl, g9, f9⟩ := h9
  refine hG.iret dX1_pass_12 rfl ?_ (by omega) (by omega) trivial
  exact ⟨v9, R9, A9, o9, rfl, g9, f9⟩
theorem nw_X1_262 : LkN RX1 262 ciX20 [.int 0, .int 0, .int 0, .int 0] 4 := ⟨RX20, TX20, tyX20, cls_X20, q2570, q2571, q134, rfl, fun j hj => by
  match j, hj with
  | 0, _ => rfl
  | 1, _ => rfl
  | 2, _ => rfl
  | 3, _ => rfl
  | _ + 4, h => exact absurd h (by omega)⟩
theorem ki_X1_264 : LkI RX1 264 yX20_init 4 := ⟨q2572, q2573, q134, rfl, ⟨by decide +kernel, by decide +kernel, by decide +kernel⟩, by decide +kernel⟩
set_option maxHeartbeats 4000000 in
set_option maxRecDepth 100000 in
theorem sp_X1_board {l : Launch} {s0 : State} {D : va_G} {I : AI} {L : AL} {dE ca : Nat} {ad : Nat → Nat} (hΓ : Gam l s0 D) (hZ : Std s0 D dE ca ad) (hNc : NcX s0) {x N : Nat} {F : Fy} {A : FA} (hF : FeO dE I L x F A) (hW : WfF N F) (hN : N ≤ 22) {u t n : Int32} {w : Bool} : Spc l s0 D yX1_board 17 [.ref x, .int u, .int t, .int n, .int (b2i w)] I L 4025 16510 (pC dE (boaO u t n (b2i w) F.rv) x F L) (xC dE (boaO u t n (b2i w) F.rv) x F L) := by
  refine Spc.of hΓ cX1_board 5 (some FieldType.int) q2569 (by decide +kernel) (by decide) (Nat.le_of_ble_eq_true rfl) (fun G GX hG => ?_)
  rcases w with _ | _
  · refine hG.aload_n dX1_board_0 rfl ?_
    refine hG.new dX1_board_1 nw_X1_262 (by omega) (by omega) (fun q hLq hIq => ?_)
    refine hG.dup dX1_board_4 rfl ?_
    refine hG.iload_n dX1_board_5 rfl ?_
    refine hG.iload_n dX1_board_6 rfl ?_
    refine hG.iload_n dX1_board_7 rfl ?_
    refine hG.iload dX1_board_8 rfl ?_
    refine hG.if_eq (tgt := 17) dX1_board_10 rfl (fun c_10 => ?_) (fun c_10 => absurd rfl c_10)
    refine hG.iconst (v := 0) dX1_board_17 rfl ?_
    refine hG.callI dX1_board_18 ki_X1_264 (sp_X20_init hΓ up1_s) rfl rfl (Nat.le_of_ble_eq_true rfl) (by decide) (by omega) (by omega) (fun r18 I18 L18 hI18 h18 => ?_) (fun _ _ _ _ _ h => h.elim)
    obtain ⟨rfl, rfl, rfl⟩ := h18
    rw [up1_up1]
    refine hG.fr up1_s ?_
    rw [up1_up1, show up1 L q none = L by rw [← hLq, up1_self]]
    have hF1 := FeO.mono (J := frI I q (ob ciX20 [.int u, .int t, .int n, .int (b2i false)])) hF (frI_le) (fun _ _ h => h)
    refine hG.callVW dX1_board_21 kv_X1_154 (Rcv.raw hF.1 cl_X1) (sp_X1_change_X20 hΓ hZ hNc hF1 hW hN frI_s) rfl rfl (Nat.le_of_ble_eq_true rfl) (by decide) (by omega) (by omega) (fun r21 I21 L21 hI21 h21 => ?_) (fun E q9 I' L' hI9 hx9 => hG.out (by simp) (hx9) (by omega) (by omega) trivial)
    obtain ⟨v9, R9, A9, o9, rfl, g9, f9⟩ := h21
    refine hG.iret dX1_board_24 rfl ?_ (by omega) (by omega) trivial
    exact ⟨v9, R9, A9, o9, rfl, g9, f9⟩
  · refine hG.aload_n dX1_board_0 rfl ?_
    refine hG.new dX1_board_1 nw_X1_262 (by omega) (by omega) (fun q hLq hIq => ?_)
    refine hG.dup dX1_board_4 rfl ?_
    refine hG.iload_n dX1_board_5 rfl ?_
    refine hG.iload_n dX1_board_6 rfl ?_
    refine hG.iload_n dX1_board_7 rfl ?_
    refine hG.iload dX1_board_8 rfl ?_
    refine hG.if_eq (tgt := 17) dX1_board_10 rfl (fun c_10 => absurd c_10 (by decide)) (fun c_10 => ?_)
    refine hG.iconst (v := 1) dX1_board_13 rfl ?_
    refine hG.goto (tgt := 18) dX1_board_14 rfl ?_
    refine hG.callI dX1_board_18 ki_X1_264 (sp_X20_init hΓ up1_s) rfl rfl (Nat.le_of_ble_eq_true rfl) (by decide) (by omega) (by omega) (fun r18 I18 L18 hI18 h18 => ?_) (fun _ _ _ _ _ h => h.elim)
    obtain ⟨rfl, rfl, rfl⟩ := h18
    rw [up1_up1]
    refine hG.fr up1_s ?_
    rw [up1_up1, show up1 L q none = L by rw [← hLq, up1_self]]
    have hF1 := FeO.mono (J := frI I q (ob ciX20 [.int u, .int t, .int n, .int (b2i true)])) hF (frI_le) (fun _ _ h => h)
    refine hG.callVW dX1_board_21 kv_X1_154 (Rcv.raw hF.1 cl_X1) (sp_X1_change_X20 hΓ hZ hNc hF1 hW hN frI_s) rfl rfl (Nat.le_of_ble_eq_true rfl) (by decide) (by omega) (by omega) (fun r21 I21 L21 hI21 h21 => ?_) (fun E q9 I' L' hI9 hx9 => hG.out (by simp) (hx9) (by omega) (by omega) trivial)
    obtain ⟨v9, R9, A9, o9, rfl, g9, f9⟩ := h21
    refine hG.iret dX1_board_24 rfl ?_ (by omega) (by omega) trivial
    exact ⟨v9, R9, A9, o9, rfl, g9, f9⟩
theorem nw_X1_349 : LkN RX1 349 ciX23 [.int 0] 1 := ⟨RX23, TX23, tyX23, cls_X23, q2816, q2817, q137, rfl, fun j hj => by
  match j, hj with
  | 0, _ => rfl
  | _ + 1, h => exact absurd h (by omega)⟩
theorem ki_X1_351 : LkI RX1 351 yX23_init 1 := ⟨q2818, q2819, q137, rfl, ⟨by decide +kernel, by decide +kernel, by decide +kernel⟩, by decide +kernel⟩
set_option maxHeartbeats 4000000 in
set_option maxRecDepth 100000 in
theorem sp_X1_rope {l : Launch} {s0 : State} {D : va_G} {I : AI} {L : AL} {dE ca : Nat} {ad : Nat → Nat} (hΓ : Gam l s0 D) (hZ : Std s0 D dE ca ad) (hNc : NcX s0) {x N : Nat} {F : Fy} {A : FA} (hF : FeO dE I L x F A) (hW : WfF N F) (hN : N ≤ 22) {n : Int32} : Spc l s0 D yX1_rope 17 [.ref x, .int n] I L 4025 16510 (pC dE (ropeT n F.rv) x F L) (xC dE (ropeT n F.rv) x F L) := by
  refine Spc.of hΓ cX1_rope 2 (some FieldType.int) q2815 (by decide +kernel) (by decide) (Nat.le_of_ble_eq_true rfl) (fun G GX hG => ?_)
  refine hG.aload_n dX1_rope_0 rfl ?_
  refine hG.new dX1_rope_1 nw_X1_349 (by omega) (by omega) (fun q hLq hIq => ?_)
  refine hG.dup dX1_rope_4 rfl ?_
  refine hG.iload_n dX1_rope_5 rfl ?_
  refine hG.callI dX1_rope_6 ki_X1_351 (sp_X23_init hΓ up1_s) rfl rfl (Nat.le_of_ble_eq_true rfl) (by decide) (by omega) (by omega) (fun r6 I6 L6 hI6 h6 => ?_) (fun E q9 I' L' hI9 ⟨x1, x2, c9, x3⟩ => hG.subX (S := L) (fun z y hz => by rw [x3]; exact (up1_n (ne_none hz hLq)).trans ((up1_n (ne_none hz hLq)).trans hz)) (hG.out (by simp) ⟨Or.inl ⟨true, (if_neg (bFT x2)), x1⟩, A, by rw [show ropeT n F.rv = .inr (.inl true) from (if_neg (bFT x2))]; exact hF.mono hI9 (fun _ _ h => h), FrX.rf⟩ (by omega) (by omega) trivial))
  obtain ⟨hb, rfl, rfl, rfl⟩ := h6
  have ho : ropeT n F.rv = ropO n F.rv := if_pos hb
  rw [up1_up1]
  refine hG.fr up1_s ?_
  rw [up1_up1, show up1 L q none = L by rw [← hLq, up1_self]]
  have hF1 := FeO.mono (J := frI I q (ob ciX23 [.int n])) hF (frI_le) (fun _ _ h => h)
  refine hG.callVW dX1_rope_9 kv_X1_154 (Rcv.raw hF.1 cl_X1) (sp_X1_change_X23 hΓ hZ hNc hF1 hW hN frI_s) rfl rfl (Nat.le_of_ble_eq_true rfl) (by decide) (by omega) (by omega) (fun r9 I9 L9 hI9 h9 => ?_) (fun E q9 I' L' hI9 hx9 => hG.out (by simp) (by rw [ho]; exact hx9) (by omega) (by omega) trivial)
  obtain ⟨v9, R9, A9, o9, rfl, g9, f9⟩ := h9
  refine hG.iret dX1_rope_12 rfl ?_ (by omega) (by omega) trivial
  rw [ho]
  exact ⟨v9, R9, A9, o9, rfl, g9, f9⟩
theorem nw_X1_268 : LkN RX1 268 ciX22 [.int 0, .int 0] 2 := ⟨RX22, TX22, tyX22, cls_X22, q2592, q2593, q136, rfl, fun j hj => by
  match j, hj with
  | 0, _ => rfl
  | 1, _ => rfl
  | _ + 2, h => exact absurd h (by omega)⟩
theorem ki_X1_270 : LkI RX1 270 yX22_init 2 := ⟨q2594, q2595, q136, rfl, ⟨by decide +kernel, by decide +kernel, by decide +kernel⟩, by decide +kernel⟩
set_option maxHeartbeats 4000000 in
set_option maxRecDepth 100000 in
theorem sp_X1_fare {l : Launch} {s0 : State} {D : va_G} {I : AI} {L : AL} {dE ca : Nat} {ad : Nat → Nat} (hΓ : Gam l s0 D) (hZ : Std s0 D dE ca ad) (hNc : NcX s0) {x N : Nat} {F : Fy} {A : FA} (hF : FeO dE I L x F A) (hW : WfF N F) (hN : N ≤ 22) {u n : Int32} : Spc l s0 D yX1_fare 17 [.ref x, .int u, .int n] I L 4025 16510 (pC dE (fareT u n F.rv) x F L) (xC dE (fareT u n F.rv) x F L) := by
  refine Spc.of hΓ cX1_fare 3 (some FieldType.int) q2591 (by decide +kernel) (by decide) (Nat.le_of_ble_eq_true rfl) (fun G GX hG => ?_)
  refine hG.aload_n dX1_fare_0 rfl ?_
  refine hG.new dX1_fare_1 nw_X1_268 (by omega) (by omega) (fun q hLq hIq => ?_)
  refine hG.dup dX1_fare_4 rfl ?_
  refine hG.iload_n dX1_fare_5 rfl ?_
  refine hG.iload_n dX1_fare_6 rfl ?_
  refine hG.callI dX1_fare_7 ki_X1_270 (sp_X22_init hΓ up1_s) rfl rfl (Nat.le_of_ble_eq_true rfl) (by decide) (by omega) (by omega) (fun r7 I7 L7 hI7 h7 => ?_) (fun E q9 I' L' hI9 ⟨x1, x2, c9, x3⟩ => hG.subX (S := L) (fun z y hz => by rw [x3]; exact (up1_n (ne_none hz hLq)).trans ((up1_n (ne_none hz hLq)).trans hz)) (hG.out (by simp) ⟨Or.inl ⟨true, (if_neg x2), x1⟩, A, by rw [show fareT u n F.rv = .inr (.inl true) from (if_neg x2)]; exact hF.mono hI9 (fun _ _ h => h), FrX.rf⟩ (by omega) (by omega) trivial))
  obtain ⟨hb, rfl, rfl, rfl⟩ := h7
  obtain ⟨i9, hi9, rfl⟩ := idx_le (m := 2) (by decide) hb.1
  have ho : fareT (nI i9) n F.rv = farO i9 n F.rv := by
    rw [show fareT (nI i9) n F.rv = farO (nI i9).toNatClampNeg n F.rv from if_pos hb, nI_clamp (by omega)]
  rw [up1_up1]
  refine hG.fr up1_s ?_
  rw [up1_up1, show up1 L q none = L by rw [← hLq, up1_self]]
  have hF1 := FeO.mono (J := frI I q (ob ciX22 [.int (nI i9), .int n])) hF (frI_le) (fun _ _ h => h)
  refine hG.callVW dX1_fare_10 kv_X1_154 (Rcv.raw hF.1 cl_X1) (sp_X1_change_X22 hΓ hZ hNc hF1 hW hN (show i9 < 3 by omega) frI_s) rfl rfl (Nat.le_of_ble_eq_true rfl) (by decide) (by omega) (by omega) (fun r10 I10 L10 hI10 h10 => ?_) (fun E q9 I' L' hI9 hx9 => hG.out (by simp) (by rw [ho]; exact hx9) (by omega) (by omega) trivial)
  obtain ⟨v9, R9, A9, o9, rfl, g9, f9⟩ := h10
  refine hG.iret dX1_fare_13 rfl ?_ (by omega) (by omega) trivial
  rw [ho]
  exact ⟨v9, R9, A9, o9, rfl, g9, f9⟩
theorem nw_X1_193 : LkN RX1 193 ciX15 [.int 0, .int 0, .int 0] 3 := ⟨RX15, TX15, tyX15, cls_X15, q2430, q2431, q129, rfl, fun j hj => by
  match j, hj with
  | 0, _ => rfl
  | 1, _ => rfl
  | 2, _ => rfl
  | _ + 3, h => exact absurd h (by omega)⟩
theorem ki_X1_195 : LkI RX1 195 yX15_init 3 := ⟨q2432, q2433, q129, rfl, ⟨by decide +kernel, by decide +kernel, by decide +kernel⟩, by decide +kernel⟩
set_option maxHeartbeats 4000000 in
set_option maxRecDepth 100000 in
theorem sp_X1_flood {l : Launch} {s0 : State} {D : va_G} {I : AI} {L : AL} {dE ca : Nat} {ad : Nat → Nat} (hΓ : Gam l s0 D) (hZ : Std s0 D dE ca ad) (hNc : NcX s0) {x N : Nat} {F : Fy} {A : FA} (hF : FeO dE I L x F A) (hW : WfF N F) (hN : N ≤ 22) {u v w : Int32} : Spc l s0 D yX1_flood 17 [.ref x, .int u, .int v, .int w] I L 4025 16510 (pC dE (floT u v w F.rv) x F L) (xC dE (floT u v w F.rv) x F L) := by
  refine Spc.of hΓ cX1_flood 4 (some FieldType.int) q2429 (by decide +kernel) (by decide) (Nat.le_of_ble_eq_true rfl) (fun G GX hG => ?_)
  refine hG.aload_n dX1_flood_0 rfl ?_
  refine hG.new dX1_flood_1 nw_X1_193 (by omega) (by omega) (fun q hLq hIq => ?_)
  refine hG.dup dX1_flood_4 rfl ?_
  refine hG.iload_n dX1_flood_5 rfl ?_
  refine hG.iload_n dX1_flood_6 rfl ?_
  refine hG.iload_n dX1_flood_7 rfl ?_
  refine hG.callI dX1_flood_8 ki_X1_195 (sp_X15_init hΓ up1_s) rfl rfl (Nat.le_of_ble_eq_true rfl) (by decide) (by omega) (by omega) (fun r8 I8 L8 hI8 h8 => ?_) (fun E q9 I' L' hI9 ⟨x1, x2, c9, x3⟩ => hG.subX (S := L) (fun z y hz => by rw [x3]; exact (up1_n (ne_none hz hLq)).trans ((up1_n (ne_none hz hLq)).trans hz)) (hG.out (by simp) ⟨Or.inl ⟨true, (if_neg x2), x1⟩, A, by rw [show floT u v w F.rv = .inr (.inl true) from (if_neg x2)]; exact hF.mono hI9 (fun _ _ h => h), FrX.rf⟩ (by omega) (by omega) trivial))
  obtain ⟨hb, rfl, rfl, rfl⟩ := h8
  have ho : floT u v w F.rv = floO u v w F.rv := if_pos hb
  rw [up1_up1]
  refine hG.fr up1_s ?_
  rw [up1_up1, show up1 L q none = L by rw [← hLq, up1_self]]
  have hF1 := FeO.mono (J := frI I q (ob ciX15 [.int u, .int v, .int w])) hF (frI_le) (fun _ _ h => h)
  refine hG.callVW dX1_flood_11 kv_X1_154 (Rcv.raw hF.1 cl_X1) (sp_X1_change_X15 hΓ hZ hNc hF1 hW hN frI_s) rfl rfl (Nat.le_of_ble_eq_true rfl) (by decide) (by omega) (by omega) (fun r11 I11 L11 hI11 h11 => ?_) (fun E q9 I' L' hI9 hx9 => hG.out (by simp) (by rw [ho]; exact hx9) (by omega) (by omega) trivial)
  obtain ⟨v9, R9, A9, o9, rfl, g9, f9⟩ := h11
  refine hG.iret dX1_flood_14 rfl ?_ (by omega) (by omega) trivial
  rw [ho]
  exact ⟨v9, R9, A9, o9, rfl, g9, f9⟩
theorem nw_X1_149 : LkN RX1 149 ciX5 [.null] 1 := ⟨RX5, TX5, tyX5, cls_X5, q2310, q2311, q88, rfl, fun j hj => by
  match j, hj with
  | 0, _ => rfl
  | _ + 1, h => exact absurd h (by omega)⟩
theorem ki_X1_151 : LkI RX1 151 yX5_init 3 := ⟨q2312, q2313, q88, rfl, ⟨by decide +kernel, by decide +kernel, by decide +kernel⟩, by decide +kernel⟩
set_option maxHeartbeats 4000000 in
set_option maxRecDepth 100000 in
theorem sp_X1_channel {l : Launch} {s0 : State} {D : va_G} {I : AI} {L : AL} {dE ca : Nat} {ad : Nat → Nat} (hΓ : Gam l s0 D) (hZ : Std s0 D dE ca ad) (hNc : NcX s0) {x N : Nat} {F : Fy} {A : FA} (hF : FeO dE I L x F A) (hW : WfF N F) (hN : N ≤ 22) {u v w : Int32} : Spc l s0 D yX1_channel 17 [.ref x, .int u, .int v, .int w] I L 4025 16510 (pC dE (digT u v w F.rv) x F L) (xC dE (digT u v w F.rv) x F L) := by
  refine Spc.of hΓ cX1_channel 4 (some FieldType.int) q2309 (by decide +kernel) (by decide) (Nat.le_of_ble_eq_true rfl) (fun G GX hG => ?_)
  refine hG.aload_n dX1_channel_0 rfl ?_
  refine hG.new dX1_channel_1 nw_X1_149 (by omega) (by omega) (fun q hLq hIq => ?_)
  refine hG.dup dX1_channel_4 rfl ?_
  refine hG.iload_n dX1_channel_5 rfl ?_
  refine hG.iload_n dX1_channel_6 rfl ?_
  refine hG.iload_n dX1_channel_7 rfl ?_
  refine hG.callI dX1_channel_8 ki_X1_151 (sp_X5_init hΓ up1_s) rfl rfl (Nat.le_of_ble_eq_true rfl) (by decide) (by omega) (by omega) (fun r8 I8 L8 hI8 h8 => ?_) (fun E q9 I' L' hI9 ⟨x1, x2, c9, x3⟩ => hG.subX (S := L) (fun z y hz => by rw [x3]; exact (up1_n (ne_none hz hLq)).trans ((up1_n (ne_none hz hLq)).trans hz)) (hG.out (by simp) ⟨Or.inl ⟨true, (if_neg x2), x1⟩, A, by rw [show digT u v w F.rv = .inr (.inl true) from (if_neg x2)]; exact hF.mono hI9 (fun _ _ h => h), FrX.rf⟩ (by omega) (by omega) trivial))
  obtain ⟨hb, rfl, y9, hy9, rfl⟩ := h8
  have ho : digT u v w F.rv = digO (u, v, w) F.rv := if_pos hb
  rw [up1_up1]
  refine hG.fr up1_s ?_
  rw [up1_up1, show up1 L q none = L by rw [← hLq, up1_self]]
  have hF1 := FeO.mono (J := frI I8 q (ob ciX5 [.ref y9])) hF (ile_tr hI8 frI_le) (fun _ _ h => h)
  refine hG.callVW dX1_channel_11 kv_X1_154 (Rcv.raw hF.1 cl_X1) (sp_X1_change_X5 hΓ hZ hNc hF1 hW hN frI_s (frI_le _ _ hy9)) rfl rfl (Nat.le_of_ble_eq_true rfl) (by decide) (by omega) (by omega) (fun r11 I11 L11 hI11 h11 => ?_) (fun E q9 I' L' hI9 hx9 => hG.out (by simp) (by rw [ho]; exact hx9) (by omega) (by omega) trivial)
  obtain ⟨v9, R9, A9, o9, rfl, g9, f9⟩ := h11
  refine hG.iret dX1_channel_14 rfl ?_ (by omega) (by omega) trivial
  rw [ho]
  exact ⟨v9, R9, A9, o9, rfl, g9, f9⟩
