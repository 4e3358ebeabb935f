/-! deeds made; names and kinds -/
def DeedAt (I : AI) (x : Nat) (c : Cm) : Prop := match c with
  | (0, a, _) => I x (ob ciX24 [.int (b2i (decide (a = 1)))])
  | (1, a, _) => I x (ob ciX25 [.int (nI a)])
  | (2, _) => I x (ob ciX21 [])
  | (3, k, f, g, n) => I x (ob ciX19 [.int (nI f), .int (nI g), .int (nI k), .int (nI n)])
  | (4, k, g, n, s) => I x (ob ciX20 [.int (nI k), .int (nI g), .int (nI n), .int (nI s)])
  | (5, a, s, _) => I x (ob ciX16 [.int (nI a), .int (nI s)])
  | (_, a, _) => I x (ob ciX18 [.int (nI a)])
def outC (c : Cm) (R : Rv) : Out := match c with
  | (0, a, _) => crsO R (decide (a = 1))
  | (1, a, _) => pasO (nI a) R
  | (2, _) => lndO R
  | (3, k, f, g, n) => comO (nI k) (nI f) (nI g) (nI n) R
  | (4, k, g, n, s) => boaO (nI k) (nI g) (nI n) (nI s) R
  | (5, a, s, _) => ancO (nI a) (nI s) R
  | (_, a, _) => weiO (nI a) R
abbrev xEu (E0 : String) (P : Prop) (L : AL) (a : Nat) : String → Nat → AI → AL → Prop := fun E q I' L' => E = E0 ∧ P ∧ ∃ c : Cel, L' = up1 L a (some c)
theorem fp_X12_7_X13 : LkP RX12 "<init>" 7 ciX13 0 (tyX13 0) := ⟨RX13, TX13, 2, tyX13, _, cls_X13, by decide, rfl, Or.inl rfl, Or.inr (Or.inr ⟨rfl, rfl, rfl, q2356⟩)⟩
theorem fp_X12_13_X13 : LkP RX12 "<init>" 13 ciX13 1 (tyX13 1) := ⟨RX13, TX13, 2, tyX13, _, cls_X13, by decide, rfl, Or.inl rfl, Or.inr (Or.inr ⟨rfl, rfl, rfl, q2371⟩)⟩
set_option maxHeartbeats 4000000 in
set_option maxRecDepth 100000 in
theorem sp_X12_init_X13 {l : Launch} {s0 : State} {D : va_G} {I : AI} {L : AL} (hΓ : Gam l s0 D) {a : Nat} {u v : Int32} {z0 z1 : Value} (h0 : L a = some (obC ciX13 [z0, z1])) : Spc l s0 D yX12_init 2 [.ref a, .int u, .int v] I L 0 0 (pU I L a (obC ciX13 [.int u, .int v])) noX := by
  refine Spc.of hΓ cX12_init 3 none q2354 (by decide +kernel) (by decide) (Nat.le_of_ble_eq_true rfl) (fun G GX hG => ?_)
  refine hG.aload_n dX12_init_0 rfl ?_
  refine hG.objI dX12_init_1 q2355 (Nat.le_of_ble_eq_true rfl) (by decide) ?_
  refine hG.aload_n dX12_init_4 rfl ?_
  refine hG.iload_n dX12_init_5 rfl ?_
  refine hG.put dX12_init_6 fp_X12_7_X13 h0 rfl rfl (Nat.le_of_ble_eq_true rfl) ?_
  refine hG.aload_n dX12_init_9 rfl ?_
  refine hG.iload_n dX12_init_10 rfl ?_
  refine hG.put dX12_init_11 fp_X12_13_X13 up1_s rfl rfl (Nat.le_of_ble_eq_true rfl) ?_
  rw [up1_up1]
  refine hG.vret dX12_init_14 rfl ?_ (by omega) (by omega) trivial
  exact ⟨rfl, rfl, rfl⟩
theorem fp_X12_7_X14 : LkP RX12 "<init>" 7 ciX14 0 (tyX14 0) := ⟨RX14, TX14, 2, tyX14, _, cls_X14, by decide, rfl, Or.inl rfl, Or.inr (Or.inr ⟨rfl, rfl, rfl, q2356⟩)⟩
theorem fp_X12_13_X14 : LkP RX12 "<init>" 13 ciX14 1 (tyX14 1) := ⟨RX14, TX14, 2, tyX14, _, cls_X14, by decide, rfl, Or.inl rfl, Or.inr (Or.inr ⟨rfl, rfl, rfl, q2371⟩)⟩
set_option maxHeartbeats 4000000 in
set_option maxRecDepth 100000 in
theorem sp_X12_init_X14 {l : Launch} {s0 : State} {D : va_G} {I : AI} {L : AL} (hΓ : Gam l s0 D) {a : Nat} {u v : Int32} {z0 z1 : Value} (h0 : L a = some (obC ciX14 [z0, z1])) : Spc l s0 D yX12_init 2 [.ref a, .int u, .int v] I L 0 0 (pU I L a (obC ciX14 [.int u, .int v])) noX := by
  refine Spc.of hΓ cX12_init 3 none q2354 (by decide +kernel) (by decide) (Nat.le_of_ble_eq_true rfl) (fun G GX hG => ?_)
  refine hG.aload_n dX12_init_0 rfl ?_
  refine hG.objI dX12_init_1 q2355 (Nat.le_of_ble_eq_true rfl) (by decide) ?_
  refine hG.aload_n dX12_init_4 rfl ?_
  refine hG.iload_n dX12_init_5 rfl ?_
  refine hG.put dX12_init_6 fp_X12_7_X14 h0 rfl rfl (Nat.le_of_ble_eq_true rfl) ?_
  refine hG.aload_n dX12_init_9 rfl ?_
  refine hG.iload_n dX12_init_10 rfl ?_
  refine hG.put dX12_init_11 fp_X12_13_X14 up1_s rfl rfl (Nat.le_of_ble_eq_true rfl) ?_
  rw [up1_up1]
  refine hG.vret dX12_init_14 rfl ?_ (by omega) (by omega) trivial
  exact ⟨rfl, rfl, rfl⟩
theorem fp_X12_7_X15 : LkP RX12 "<init>" 7 ciX15 0 (tyX15 0) := ⟨RX15, TX15, 3, tyX15, _, cls_X15, by decide, rfl, Or.inl rfl, Or.inr (Or.inr ⟨rfl, rfl, rfl, q2356⟩)⟩
theorem fp_X12_13_X15 : LkP RX12 "<init>" 13 ciX15 1 (tyX15 1) := ⟨RX15, TX15, 3, tyX15, _, cls_X15, by decide, rfl, Or.inl rfl, Or.inr (Or.inr ⟨rfl, rfl, rfl, q2371⟩)⟩
set_option maxHeartbeats 4000000 in
set_option maxRecDepth 100000 in
theorem sp_X12_init_X15 {l : Launch} {s0 : State} {D : va_G} {I : AI} {L : AL} (hΓ : Gam l s0 D) {a : Nat} {u v : Int32} {z0 z1 z2 : Value} (h0 : L a = some (obC ciX15 [z0, z1, z2])) : Spc l s0 D yX12_init 2 [.ref a, .int u, .int v] I L 0 0 (pU I L a (obC ciX15 [.int u, .int v, z2])) noX := by
  refine Spc.of hΓ cX12_init 3 none q2354 (by decide +kernel) (by decide) (Nat.le_of_ble_eq_true rfl) (fun G GX hG => ?_)
  refine hG.aload_n dX12_init_0 rfl ?_
  refine hG.objI dX12_init_1 q2355 (Nat.le_of_ble_eq_true rfl) (by decide) ?_
  refine hG.aload_n dX12_init_4 rfl ?_
  refine hG.iload_n dX12_init_5 rfl ?_
  refine hG.put dX12_init_6 fp_X12_7_X15 h0 rfl rfl (Nat.le_of_ble_eq_true rfl) ?_
  refine hG.aload_n dX12_init_9 rfl ?_
  refine hG.iload_n dX12_init_10 rfl ?_
  refine hG.put dX12_init_11 fp_X12_13_X15 up1_s rfl rfl (Nat.le_of_ble_eq_true rfl) ?_
  rw [up1_up1]
  refine hG.vret dX12_init_14 rfl ?_ (by omega) (by omega) trivial
  exact ⟨rfl, rfl, rfl⟩
theorem fp_X12_7_X16 : LkP RX12 "<init>" 7 ciX16 0 (tyX16 0) := ⟨RX16, TX16, 2, tyX16, _, cls_X16, by decide, rfl, Or.inl rfl, Or.inr (Or.inr ⟨rfl, rfl, rfl, q2356⟩)⟩
theorem fp_X12_13_X16 : LkP RX12 "<init>" 13 ciX16 1 (tyX16 1) := ⟨RX16, TX16, 2, tyX16, _, cls_X16, by decide, rfl, Or.inl rfl, Or.inr (Or.inr ⟨rfl, rfl, rfl, q2371⟩)⟩
set_option maxHeartbeats 4000000 in
set_option maxRecDepth 100000 in
theorem sp_X12_init_X16 {l : Launch} {s0 : State} {D : va_G} {I : AI} {L : AL} (hΓ : Gam l s0 D) {a : Nat} {u v : Int32} {z0 z1 : Value} (h0 : L a = some (obC ciX16 [z0, z1])) : Spc l s0 D yX12_init 2 [.ref a, .int u, .int v] I L 0 0 (pU I L a (obC ciX16 [.int u, .int v])) noX := by
  refine Spc.of hΓ cX12_init 3 none q2354 (by decide +kernel) (by decide) (Nat.le_of_ble_eq_true rfl) (fun G GX hG => ?_)
  refine hG.aload_n dX12_init_0 rfl ?_
  refine hG.objI dX12_init_1 q2355 (Nat.le_of_ble_eq_true rfl) (by decide) ?_
  refine hG.aload_n dX12_init_4 rfl ?_
  refine hG.iload_n dX12_init_5 rfl ?_
  refine hG.put dX12_init_6 fp_X12_7_X16 h0 rfl rfl (Nat.le_of_ble_eq_true rfl) ?_
  refine hG.aload_n dX12_init_9 rfl ?_
  refine hG.iload_n dX12_init_10 rfl ?_
  refine hG.put dX12_init_11 fp_X12_13_X16 up1_s rfl rfl (Nat.le_of_ble_eq_true rfl) ?_
  rw [up1_up1]
  refine hG.vret dX12_init_14 rfl ?_ (by omega) (by omega) trivial
  exact ⟨rfl, rfl, rfl⟩
theorem fp_X12_7_X19 : LkP RX12 "<init>" 7 ciX19 0 (tyX19 0) := ⟨RX19, TX19, 4, tyX19, _, cls_X19, by decide, rfl, Or.inl rfl, Or.inr (Or.inr ⟨rfl, rfl, rfl, q2356⟩)⟩
theorem fp_X12_13_X19 : LkP RX12 "<init>" 13 ciX19 1 (tyX19 1) := ⟨RX19, TX19, 4, tyX19, _, cls_X19, by decide, rfl, Or.inl rfl, Or.inr (Or.inr ⟨rfl, rfl, rfl, q2371⟩)⟩
set_option maxHeartbeats 4000000 in
set_option maxRecDepth 100000 in
theorem sp_X12_init_X19 {l : Launch} {s0 : State} {D : va_G} {I : AI} {L : AL} (hΓ : Gam l s0 D) {a : Nat} {u v : Int32} {z0 z1 z2 z3 : Value} (h0 : L a = some (obC ciX19 [z0, z1, z2, z3])) : Spc l s0 D yX12_init 2 [.ref a, .int u, .int v] I L 0 0 (pU I L a (obC ciX19 [.int u, .int v, z2, z3])) noX := by
  refine Spc.of hΓ cX12_init 3 none q2354 (by decide +kernel) (by decide) (Nat.le_of_ble_eq_true rfl) (fun G GX hG => ?_)
  refine hG.aload_n dX12_init_0 rfl ?_
  refine hG.objI dX12_init_1 q2355 (Nat.le_of_ble_eq_true rfl) (by decide) ?_
  refine hG.aload_n dX12_init_4 rfl ?_
  refine hG.iload_n dX12_init_5 rfl ?_
  refine hG.put dX12_init_6 fp_X12_7_X19 h0 rfl rfl (Nat.le_of_ble_eq_true rfl) ?_
  refine hG.aload_n dX12_init_9 rfl ?_
  refine hG.iload_n dX12_init_10 rfl ?_
  refine hG.put dX12_init_11 fp_X12_13_X19 up1_s rfl rfl (Nat.le_of_ble_eq_true rfl) ?_
  rw [up1_up1]
  refine hG.vret dX12_init_14 rfl ?_ (by omega) (by omega) trivial
  exact ⟨rfl, rfl, rfl⟩
theorem fp_X12_7_X20 : LkP RX12 "<init>" 7 ciX20 0 (tyX20 0) := ⟨RX20, TX20, 4, tyX20, _, cls_X20, by decide, rfl, Or.inl rfl, Or.inr (Or.inr ⟨rfl, rfl, rfl, q2356⟩)⟩
theorem fp_X12_13_X20 : LkP RX12 "<init>" 13 ciX20 1 (tyX20 1) := ⟨RX20, TX20, 4, tyX20, _, cls_X20, by decide, rfl, Or.inl rfl, Or.inr (Or.inr ⟨rfl, rfl, rfl, q2371⟩)⟩
set_option maxHeartbeats 4000000 in
set_option maxRecDepth 100000 in
theorem sp_X12_init_X20 {l : Launch} {s0 : State} {D : va_G} {I : AI} {L : AL} (hΓ : Gam l s0 D) {a : Nat} {u v : Int32} {z0 z1 z2 z3 : Value} (h0 : L a = some (obC ciX20 [z0, z1, z2, z3])) : Spc l s0 D yX12_init 2 [.ref a, .int u, .int v] I L 0 0 (pU I L a (obC ciX20 [.int u, .int v, z2, z3])) noX := by
  refine Spc.of hΓ cX12_init 3 none q2354 (by decide +kernel) (by decide) (Nat.le_of_ble_eq_true rfl) (fun G GX hG => ?_)
  refine hG.aload_n dX12_init_0 rfl ?_
  refine hG.objI dX12_init_1 q2355 (Nat.le_of_ble_eq_true rfl) (by decide) ?_
  refine hG.aload_n dX12_init_4 rfl ?_
  refine hG.iload_n dX12_init_5 rfl ?_
  refine hG.put dX12_init_6 fp_X12_7_X20 h0 rfl rfl (Nat.le_of_ble_eq_true rfl) ?_
  refine hG.aload_n dX12_init_9 rfl ?_
  refine hG.iload_n dX12_init_10 rfl ?_
  refine hG.put dX12_init_11 fp_X12_13_X20 up1_s rfl rfl (Nat.le_of_ble_eq_true rfl) ?_
  rw [up1_up1]
  refine hG.vret dX12_init_14 rfl ?_ (by omega) (by omega) trivial
  exact ⟨rfl, rfl, rfl⟩
theorem fp_X12_7_X22 : LkP RX12 "<init>" 7 ciX22 0 (tyX22 0) := ⟨RX22, TX22, 2, tyX22, _, cls_X22, by decide, rfl, Or.inl rfl, Or.inr (Or.inr ⟨rfl, rfl, rfl, q2356⟩)⟩
theorem fp_X12_13_X22 : LkP RX12 "<init>" 13 ciX22 1 (tyX22 1) := ⟨RX22, TX22, 2, tyX22, _, cls_X22, by decide, rfl, Or.inl rfl, Or.inr (Or.inr ⟨rfl, rfl, rfl, q2371⟩)⟩
set_option maxHeartbeats 4000000 in
set_option maxRecDepth 100000 in
theorem sp_X12_init_X22 {l : Launch} {s0 : State} {D : va_G} {I : AI} {L : AL} (hΓ : Gam l s0 D) {a : Nat} {u v : Int32} {z0 z1 : Value} (h0 : L a = some (obC ciX22 [z0, z1])) : Spc l s0 D yX12_init 2 [.ref a, .int u, .int v] I L 0 0 (pU I L a (obC ciX22 [.int u, .int v])) noX := by
  refine Spc.of hΓ cX12_init 3 none q2354 (by decide +kernel) (by decide) (Nat.le_of_ble_eq_true rfl) (fun G GX hG => ?_)
  refine hG.aload_n dX12_init_0 rfl ?_
  refine hG.objI dX12_init_1 q2355 (Nat.le_of_ble_eq_true rfl) (by decide) ?_
  refine hG.aload_n dX12_init_4 rfl ?_
  refine hG.iload_n dX12_init_5 rfl ?_
  refine hG.put dX12_init_6 fp_X12_7_X22 h0 rfl rfl (Nat.le_of_ble_eq_true rfl) ?_
  refine hG.aload_n dX12_init_9 rfl ?_
  refine hG.iload_n dX12_init_10 rfl ?_
  refine hG.put dX12_init_11 fp_X12_13_X22 up1_s rfl rfl (Nat.le_of_ble_eq_true rfl) ?_
  rw [up1_up1]
  refine hG.vret dX12_init_14 rfl ?_ (by omega) (by omega) trivial
  exact ⟨rfl, rfl, rfl⟩
theorem fp_X17_7_X18 : LkP RX17 "<init>" 7 ciX18 0 (tyX18 0) := ⟨RX18, TX18, 1, tyX18, _, cls_X18, by decide, rfl, Or.inl rfl, Or.inr (Or.inr ⟨rfl, rfl, rfl, q2483⟩)⟩
set_option maxHeartbeats 4000000 in
set_option maxRecDepth 100000 in
theorem sp_X17_init_X18 {l : Launch} {s0 : State} {D : va_G} {I : AI} {L : AL} (hΓ : Gam l s0 D) {a : Nat} {u : Int32} {z0 : Value} (h0 : L a = some (obC ciX18 [z0])) : Spc l s0 D yX17_init 2 [.ref a, .int u] I L 0 0 (pU I L a (obC ciX18 [.int u])) noX := by
  refine Spc.of hΓ cX17_init 2 none q2481 (by decide +kernel) (by decide) (Nat.le_of_ble_eq_true rfl) (fun G GX hG => ?_)
  refine hG.aload_n dX17_init_0 rfl ?_
  refine hG.objI dX17_init_1 q2482 (Nat.le_of_ble_eq_true rfl) (by decide) ?_
  refine hG.aload_n dX17_init_4 rfl ?_
  refine hG.iload_n dX17_init_5 rfl ?_
  refine hG.put dX17_init_6 fp_X17_7_X18 h0 rfl rfl (Nat.le_of_ble_eq_true rfl) ?_
  refine hG.vret dX17_init_9 rfl ?_ (by omega) (by omega) trivial
  exact ⟨rfl, rfl, rfl⟩
theorem fp_X17_7_X23 : LkP RX17 "<init>" 7 ciX23 0 (tyX23 0) := ⟨RX23, TX23, 1, tyX23, _, cls_X23, by decide, rfl, Or.inl rfl, Or.inr (Or.inr ⟨rfl, rfl, rfl, q2483⟩)⟩
set_option maxHeartbeats 4000000 in
set_option maxRecDepth 100000 in
theorem sp_X17_init_X23 {l : Launch} {s0 : State} {D : va_G} {I : AI} {L : AL} (hΓ : Gam l s0 D) {a : Nat} {u : Int32} {z0 : Value} (h0 : L a = some (obC ciX23 [z0])) : Spc l s0 D yX17_init 2 [.ref a, .int u] I L 0 0 (pU I L a (obC ciX23 [.int u])) noX := by
  refine Spc.of hΓ cX17_init 2 none q2481 (by decide +kernel) (by decide) (Nat.le_of_ble_eq_true rfl) (fun G GX hG => ?_)
  refine hG.aload_n dX17_init_0 rfl ?_
  refine hG.objI dX17_init_1 q2482 (Nat.le_of_ble_eq_true rfl) (by decide) ?_
  refine hG.aload_n dX17_init_4 rfl ?_
  refine hG.iload_n dX17_init_5 rfl ?_
  refine hG.put dX17_init_6 fp_X17_7_X23 h0 rfl rfl (Nat.le_of_ble_eq_true rfl) ?_
  refine hG.vret dX17_init_9 rfl ?_ (by omega) (by omega) trivial
  exact ⟨rfl, rfl, rfl⟩
theorem fp_X17_7_X25 : LkP RX17 "<init>" 7 ciX25 0 (tyX25 0) := ⟨RX25, TX25, 1, tyX25, _, cls_X25, by decide, rfl, Or.inl rfl, Or.inr (Or.inr ⟨rfl, rfl, rfl, q2483⟩)⟩
set_option maxHeartbeats 4000000 in
set_option maxRecDepth 100000 in
theorem sp_X17_init_X25 {l : Launch} {s0 : State} {D : va_G} {I : AI} {L : AL} (hΓ : Gam l s0 D) {a : Nat} {u : Int32} {z0 : Value} (h0 : L a = some (obC ciX25 [z0])) : Spc l s0 D yX17_init 2 [.ref a, .int u] I L 0 0 (pU I L a (obC ciX25 [.int u])) noX := by
  refine Spc.of hΓ cX17_init 2 none q2481 (by decide +kernel) (by decide) (Nat.le_of_ble_eq_true rfl) (fun G GX hG => ?_)
  refine hG.aload_n dX17_init_0 rfl ?_
  refine hG.objI dX17_init_1 q2482 (Nat.le_of_ble_eq_true rfl) (by decide) ?_
  refine hG.aload_n dX17_init_4 rfl ?_
  refine hG.iload_n dX17_init_5 rfl ?_
  refine hG.put dX17_init_6 fp_X17_7_X25 h0 rfl rfl (Nat.le_of_ble_eq_true rfl) ?_
  refine hG.vret dX17_init_9 rfl ?_ (by omega) (by omega) trivial
  exact ⟨rfl, rfl, rfl⟩
theorem ki_X13_1 : LkI RX13 1 yX12_init 2 := ⟨q2352, q2353, q126, rfl, ⟨by decide +kernel, by decide +kernel, by decide +kernel⟩, by decide +kernel⟩
set_option maxHeartbeats 4000000 in
set_option maxRecDepth 100000 in
theorem sp_X13_init {l : Launch} {s0 : State} {D : va_G} {I : AI} {L : AL} (hΓ : Gam l s0 D) {a : Nat} {u v : Int32} {z0 z1 : Value} (h0 : L a = some (obC ciX13 [z0, z1])) : Spc l s0 D yX13_init 3 [.ref a, .int u, .int v] I L 0 0 (pU I L a (obC ciX13 [.int u, .int v])) noX := by
  refine Spc.of hΓ cX13_init 3 none q2351 (by decide +kernel) (by decide) (Nat.le_of_ble_eq_true rfl) (fun G GX hG => ?_)
  refine hG.aload_n dX13_init_0 rfl ?_
  refine hG.iload_n dX13_init_1 rfl ?_
  refine hG.iload_n dX13_init_2 rfl ?_
  refine hG.callI dX13_init_3 ki_X13_1 (sp_X12_init_X13 hΓ h0) rfl rfl (Nat.le_of_ble_eq_true rfl) (by decide) (by omega) (by omega) (fun r3 I3 L3 hI3 h3 => ?_) (fun _ _ _ _ _ h => h.elim)
  obtain ⟨rfl, rfl, rfl⟩ := h3
  refine hG.vret dX13_init_6 rfl ?_ (by omega) (by omega) trivial
  exact ⟨rfl, rfl, rfl⟩
theorem ki_X14_1 : LkI RX14 1 yX12_init 2 := ⟨q2403, q2353, q126, rfl, ⟨by decide +kernel, by decide +kernel, by decide +kernel⟩, by decide +kernel⟩
set_option maxHeartbeats 4000000 in
set_option maxRecDepth 100000 in
theorem sp_X14_init {l : Launch} {s0 : State} {D : va_G} {I : AI} {L : AL} (hΓ : Gam l s0 D) {a : Nat} {u v : Int32} {z0 z1 : Value} (h0 : L a = some (obC ciX14 [z0, z1])) : Spc l s0 D yX14_init 3 [.ref a, .int u, .int v] I L 0 0 (pU I L a (obC ciX14 [.int u, .int v])) noX := by
  refine Spc.of hΓ cX14_init 3 none q2402 (by decide +kernel) (by decide) (Nat.le_of_ble_eq_true rfl) (fun G GX hG => ?_)
  refine hG.aload_n dX14_init_0 rfl ?_
  refine hG.iload_n dX14_init_1 rfl ?_
  refine hG.iload_n dX14_init_2 rfl ?_
  refine hG.callI dX14_init_3 ki_X14_1 (sp_X12_init_X14 hΓ h0) rfl rfl (Nat.le_of_ble_eq_true rfl) (by decide) (by omega) (by omega) (fun r3 I3 L3 hI3 h3 => ?_) (fun _ _ _ _ _ h => h.elim)
  obtain ⟨rfl, rfl, rfl⟩ := h3
  refine hG.vret dX14_init_6 rfl ?_ (by omega) (by omega) trivial
  exact ⟨rfl, rfl, rfl⟩
theorem ki_X16_3 : LkI RX16 3 yX12_init 2 := ⟨q2463, q2353, q126, rfl, ⟨by decide +kernel, by decide +kernel, by decide +kernel⟩, by decide +kernel⟩
set_option maxHeartbeats 4000000 in
set_option maxRecDepth 100000 in
theorem sp_X16_init {l : Launch} {s0 : State} {D : va_G} {I : AI} {L : AL} (hΓ : Gam l s0 D) {a : Nat} {u v : Int32} {z0 z1 : Value} (h0 : L a = some (obC ciX16 [z0, z1])) : Spc l s0 D yX16_init 3 [.ref a, .int u, .int v] I L 0 0 (pU I L a (obC ciX16 [.int u, .int v])) noX := by
  refine Spc.of hΓ cX16_init 3 none q2462 (by decide +kernel) (by decide) (Nat.le_of_ble_eq_true rfl) (fun G GX hG => ?_)
  refine hG.aload_n dX16_init_0 rfl ?_
  refine hG.iload_n dX16_init_1 rfl ?_
  refine hG.iload_n dX16_init_2 rfl ?_
  refine hG.callI dX16_init_3 ki_X16_3 (sp_X12_init_X16 hΓ h0) rfl rfl (Nat.le_of_ble_eq_true rfl) (by decide) (by omega) (by omega) (fun r3 I3 L3 hI3 h3 => ?_) (fun _ _ _ _ _ h => h.elim)
  obtain ⟨rfl, rfl, rfl⟩ := h3
  refine hG.vret dX16_init_6 rfl ?_ (by omega) (by omega) trivial
  exact ⟨rfl, rfl, rfl⟩
theorem ki_X18_1 : LkI RX18 1 yX17_init 1 := ⟨q2479, q2480, q131, rfl, ⟨by decide +kernel, by decide +kernel, by decide +kernel⟩, by decide +kernel⟩
set_option maxHeartbeats 4000000 in
set_option maxRecDepth 100000 in
theorem sp_X18_init {l : Launch} {s0 : State} {D : va_G} {I : AI} {L : AL} (hΓ : Gam l s0 D) {a : Nat} {u : Int32} {z0 : Value} (h0 : L a = some (obC ciX18 [z0])) : Spc l s0 D yX18_init 3 [.ref a, .int u] I L 0 0 (pU I L a (obC ciX18 [.int u])) noX := by
  refine Spc.of hΓ cX18_init 2 none q2478 (by decide +kernel) (by decide) (Nat.le_of_ble_eq_true rfl) (fun G GX hG => ?_)
  refine hG.aload_n dX18_init_0 rfl ?_
  refine hG.iload_n dX18_init_1 rfl ?_
  refine hG.callI dX18_init_2 ki_X18_1 (sp_X17_init_X18 hΓ h0) rfl rfl (Nat.le_of_ble_eq_true rfl) (by decide) (by omega) (by omega) (fun r2 I2 L2 hI2 h2 => ?_) (fun _ _ _ _ _ h => h.elim)
  obtain ⟨rfl, rfl, rfl⟩ := h2
  refine hG.vret dX18_init_5 rfl ?_ (by omega) (by omega) trivial
  exact ⟨rfl, rfl, rfl⟩
theorem ki_X25_1 : LkI RX25 1 yX17_init 1 := ⟨q2855, q2480, q131, rfl, ⟨by decide +kernel, by decide +kernel, by decide +kernel⟩, by decide +kernel⟩
set_option maxHeartbeats 4000000 in
set_option maxRecDepth 100000 in
theorem sp_X25_init {l : Launch} {s0 : State} {D : va_G} {I : AI} {L : AL} (hΓ : Gam l s0 D) {a : Nat} {u : Int32} {z0 : Value} (h0 : L a = some (obC ciX25 [z0])) : Spc l s0 D yX25_init 3 [.ref a, .int u] I L 0 0 (pU I L a (obC ciX25 [.int u])) noX := by
  refine Spc.of hΓ cX25_init 2 none q2854 (by decide +kernel) (by decide) (Nat.le_of_ble_eq_true rfl) (fun G GX hG => ?_)
  refine hG.aload_n dX25_init_0 rfl ?_
  refine hG.iload_n dX25_init_1 rfl ?_
  refine hG.callI dX25_init_2 ki_X25_1 (sp_X17_init_X25 hΓ h0) rfl rfl (Nat.le_of_ble_eq_true rfl) (by decide) (by omega) (by omega) (fun r2 I2 L2 hI2 h2 => ?_) (fun _ _ _ _ _ h => h.elim)
  obtain ⟨rfl, rfl, rfl⟩ := h2
  refine hG.vret dX25_init_5 rfl ?_ (by omega) (by omega) trivial
  exact ⟨rfl, rfl, rfl⟩
set_option maxHeartbeats 4000000 in
set_option maxRecDepth 100000 in
theorem sp_X21_init {l : Launch} {s0 : State} {D : va_G} {I : AI} {L : AL} (hΓ : Gam l s0 D) {a : Nat} : Spc l s0 D yX21_init 2 [.ref a] I L 0 0 (p0 I L) noX := by
  refine Spc.of hΓ cX21_init 1 none q393 (by decide +kernel) (by decide) (Nat.le_of_ble_eq_true rfl) (fun G GX hG => ?_)
  refine hG.aload_n dX21_init_0 rfl ?_
  refine hG.objI dX21_init_1 q394 (Nat.le_of_ble_eq_true rfl) (by decide) ?_
  refine hG.vret dX21_init_4 rfl ?_ (by omega) (by omega) trivial
  exact ⟨rfl, rfl, rfl⟩
theorem fp_X24_7_X24 : LkP RX24 "<init>" 7 ciX24 0 (tyX24 0) := ⟨RX24, TX24, 1, tyX24, _, cls_X24, by decide, rfl, Or.inl rfl, Or.inr (Or.inr ⟨rfl, rfl, rfl, q2839⟩)⟩
set_option maxHeartbeats 4000000 in
set_option maxRecDepth 100000 in
theorem sp_X24_init {l : Launch} {s0 : State} {D : va_G} {I : AI} {L : AL} (hΓ : Gam l s0 D) {a : Nat} {w : Bool} {z0 : Value} (h0 : L a = some (obC ciX24 [z0])) : Spc l s0 D yX24_init 2 [.ref a, .int (b2i w)] I L 0 0 (pU I L a (obC ciX24 [.int (b2i w)])) noX := by
  refine Spc.of hΓ cX24_init 2 none q2837 (by decide +kernel) (by decide) (Nat.le_of_ble_eq_true rfl) (fun G GX hG => ?_)
  refine hG.aload_n dX24_init_0 rfl ?_
  refine hG.objI dX24_init_1 q2838 (Nat.le_of_ble_eq_true rfl) (by decide) ?_
  refine hG.aload_n dX24_init_4 rfl ?_
  refine hG.iload_n dX24_init_5 rfl ?_
  refine hG.put dX24_init_6 fp_X24_7_X24 h0 (b2i_nar w) (b2i_fit w) (Nat.le_of_ble_eq_true rfl) ?_
  refine hG.vret dX24_init_9 rfl ?_ (by omega) (by omega) trivial
  exact ⟨rfl, rfl, rfl⟩
theorem ki_X19_3 : LkI RX19 3 yX12_init 2 := ⟨q2542, q2353, q126, rfl, ⟨by decide +kernel, by decide +kernel, by decide +kernel⟩, by decide +kernel⟩
theorem fp_X19_9_X19 : LkP RX19 "<init>" 9 ciX19 2 (tyX19 2) := ⟨RX19, TX19, 4, tyX19, _, cls_X19, by decide, rfl, Or.inl rfl, Or.inr (Or.inr ⟨rfl, rfl, rfl, q2543⟩)⟩
theorem fp_X19_15_X19 : LkP RX19 "<init>" 15 ciX19 3 (tyX19 3) := ⟨RX19, TX19, 4, tyX19, _, cls_X19, by decide, rfl, Or.inl rfl, Or.inr (Or.inr ⟨rfl, rfl, rfl, q2544⟩)⟩
set_option maxHeartbeats 4000000 in
set_option maxRecDepth 100000 in
theorem sp_X19_init {l : Launch} {s0 : State} {D : va_G} {I : AI} {L : AL} (hΓ : Gam l s0 D) {a : Nat} {k f t n : Int32} {z0 z1 z2 z3 : Value} (h0 : L a = some (obC ciX19 [z0, z1, z2, z3])) : Spc l s0 D yX19_init 3 [.ref a, .int k, .int f, .int t, .int n] I L 0 0 (pU I L a (obC ciX19 [.int f, .int t, .int k, .int n])) noX := by
  refine Spc.of hΓ cX19_init 5 none q2541 (by decide +kernel) (by decide) (Nat.le_of_ble_eq_true rfl) (fun G GX hG => ?_)
  refine hG.aload_n dX19_init_0 rfl ?_
  refine hG.iload_n dX19_init_1 rfl ?_
  refine hG.iload_n dX19_init_2 rfl ?_
  refine hG.callI dX19_init_3 ki_X19_3 (sp_X12_init_X19 hΓ h0) rfl rfl (Nat.le_of_ble_eq_true rfl) (by decide) (by omega) (by omega) (fun r3 I3 L3 hI3 h3 => ?_) (fun _ _ _ _ _ h => h.elim)
  obtain ⟨rfl, rfl, rfl⟩ := h3
  refine hG.aload_n dX19_init_6 rfl ?_
  refine hG.iload_n dX19_init_7 rfl ?_
  refine hG.put dX19_init_8 fp_X19_9_X19 up1_s rfl rfl (Nat.le_of_ble_eq_true rfl) ?_
  rw [up1_up1]
  refine hG.aload_n dX19_init_11 rfl ?_
  refine hG.iload dX19_init_12 rfl ?_
  refine hG.put dX19_init_14 fp_X19_15_X19 up1_s rfl rfl (Nat.le_of_ble_eq_true rfl) ?_
  rw [up1_up1]
  refine hG.vret dX19_init_17 rfl ?_ (by omega) (by omega) trivial
  exact ⟨rfl, rfl, rfl⟩
theorem ki_X20_3 : LkI RX20 3 yX12_init 2 := ⟨q2575, q2353, q126, rfl, ⟨by decide +kernel, by decide +kernel, by decide +kernel⟩, by decide +kernel⟩
theorem fp_X20_9_X20 : LkP RX20 "<init>" 9 ciX20 2 (tyX20 2) := ⟨RX20, TX20, 4, tyX20, _, cls_X20, by decide, rfl, Or.inl rfl, Or.inr (Or.inr ⟨rfl, rfl, rfl, q2576⟩)⟩
theorem fp_X20_15_X20 : LkP RX20 "<init>" 15 ciX20 3 (tyX20 3) := ⟨RX20, TX20, 4, tyX20, _, cls_X20, by decide, rfl, Or.inl rfl, Or.inr (Or.inr ⟨rfl, rfl, rfl, q2577⟩)⟩
set_option maxHeartbeats 4000000 in
set_option maxRecDepth 100000 in
theorem sp_X20_init {l : Launch} {s0 : State} {D : va_G} {I : AI} {L : AL} (hΓ : Gam l s0 D) {a : Nat} {k t n s : Int32} {z0 z1 z2 z3 : Value} (h0 : L a = some (obC ciX20 [z0, z1, z2, z3])) : Spc l s0 D yX20_init 3 [.ref a, .int k, .int t, .int n, .int s] I L 0 0 (pU I L a (obC ciX20 [.int k, .int t, .int n, .int s])) noX := by
  refine Spc.of hΓ cX20_init 5 none q2574 (by decide +kernel) (by decide) (Nat.le_of_ble_eq_true rfl) (fun G GX hG => ?_)
  refine hG.aload_n dX20_init_0 rfl ?_
  refine hG.iload_n dX20_init_1 rfl ?_
  refine hG.iload_n dX20_init_2 rfl ?_
  refine hG.callI dX20_init_3 ki_X20_3 (sp_X12_init_X20 hΓ h0) rfl rfl (Nat.le_of_ble_eq_true rfl) (by decide) (by omega) (by omega) (fun r3 I3 L3 hI3 h3 => ?_) (fun _ _ _ _ _ h => h.elim)
  obtain ⟨rfl, rfl, rfl⟩ := h3
  refine hG.aload_n dX20_init_6 rfl ?_
  refine hG.iload_n dX20_init_7 rfl ?_
  refine hG.put dX20_init_8 fp_X20_9_X20 up1_s rfl rfl (Nat.le_of_ble_eq_true rfl) ?_
  rw [up1_up1]
  refine hG.aload_n dX20_init_11 rfl ?_
  refine hG.iload dX20_init_12 rfl ?_
  refine hG.put dX20_init_14 fp_X20_15_X20 up1_s rfl rfl (Nat.le_of_ble_eq_true rfl) ?_
  rw [up1_up1]
  refine hG.vret dX20_init_17 rfl ?_ (by omega) (by omega) trivial
  exact ⟨rfl, rfl, rfl⟩
theorem ki_X23_3 : LkI RX23 3 yX17_init 1 := ⟨q2821, q2480, q131, rfl, ⟨by decide +kernel, by decide +kernel, by decide +kernel⟩, by decide +kernel⟩
theorem ks_X23_9 : LkNS RX23 9 yX1_inRange 3 := ⟨⟨_, q2822⟩, q1642, q73, by decide +kernel, by decide +kernel, by decide +kernel⟩
theorem ks_X23_13 : LkNS RX23 13 yX1_require 1 := ⟨⟨_, q2823⟩, q1683, q73, by decide +kernel, by decide +kernel, by decide +kernel⟩
set_option maxHeartbeats 4000000 in
set_option maxRecDepth 100000 in
theorem sp_X23_init {l : Launch} {s0 : State} {D : va_G} {I : AI} {L : AL} (hΓ : Gam l s0 D) {a : Nat} {u : Int32} {z0 : Value} (h0 : L a = some (obC ciX23 [z0])) : Spc l s0 D yX23_init 8 [.ref a, .int u] I L 1 6 (fun r I' L' => inR u 10 200 = true ∧ r = none ∧ I = I' ∧ L' = up1 L a (some (obC ciX23 [.int u]))) (xEu RJ14 (inR u 10 200 = false) L a) := by
  refine Spc.of hΓ cX23_init 2 none q2820 (by decide +kernel) (by decide) (Nat.le_of_ble_eq_true rfl) (fun G GX hG => ?_)
  refine hG.aload_n dX23_init_0 rfl ?_
  refine hG.iload_n dX23_init_1 rfl ?_
  refine hG.callI dX23_init_2 ki_X23_3 (sp_X17_init_X23 hΓ h0) rfl rfl (Nat.le_of_ble_eq_true rfl) (by decide) (by omega) (by omega) (fun r2 I2 L2 hI2 h2 => ?_) (fun _ _ _ _ _ h => h.elim)
  obtain ⟨rfl, rfl, rfl⟩ := h2
  refine hG.iload_n dX23_init_5 rfl ?_
  refine hG.bipush (v := 10) dX23_init_6 rfl ?_
  refine hG.sipush (v := 200) dX23_init_8 rfl ?_
  refine hG.callNS dX23_init_11 ks_X23_9 (sp_X1_inRange hΓ) rfl rfl (Nat.le_of_ble_eq_true rfl) (by decide) (by omega) (by omega) (fun r11 I11 L11 hI11 h11 => ?_) (fun _ _ _ _ _ h => h.elim)
  obtain ⟨rfl, rfl, rfl⟩ := h11
  refine hG.callNS dX23_init_14 ks_X23_13 (sp_X1_require hΓ) rfl rfl (Nat.le_of_ble_eq_true rfl) (by decide) (by omega) (by omega) (fun r14 I14 L14 hI14 h14 => ?_) (fun E q I' L' hI ⟨e1, e2, e3⟩ => hG.out (by simp) ⟨e1, e2, _, e3.symm⟩ (by omega) (by omega) trivial)
  obtain ⟨rfl, hb, rfl, rfl⟩ := h14
  refine hG.vret dX23_init_17 rfl ?_ (by omega) (by omega) trivial
  exact ⟨hb, rfl, rfl, rfl⟩
theorem ks_X22_3 : LkNS RX22 3 yX1_kindIn 1 := ⟨⟨_, q2597⟩, q2598, q73, by decide +kernel, by decide +kernel, by decide +kernel⟩
theorem ki_X22_7 : LkI RX22 7 yX12_init 2 := ⟨q2600, q2353, q126, rfl, ⟨by decide +kernel, by decide +kernel, by decide +kernel⟩, by decide +kernel⟩
theorem ks_X22_13 : LkNS RX22 13 yX1_inRange 3 := ⟨⟨_, q2601⟩, q1642, q73, by decide +kernel, by decide +kernel, by decide +kernel⟩
theorem ks_X22_17 : LkNS RX22 17 yX1_require 1 := ⟨⟨_, q2602⟩, q1683, q73, by decide +kernel, by decide +kernel, by decide +kernel⟩
set_option maxHeartbeats 4000000 in
set_option maxRecDepth 100000 in
theorem sp_X22_init {l : Launch} {s0 : State} {D : va_G} {I : AI} {L : AL} (hΓ : Gam l s0 D) {a : Nat} {u v : Int32} {z0 z1 : Value} (h0 : L a = some (obC ciX22 [z0, z1])) : Spc l s0 D yX22_init 9 [.ref a, .int u, .int v] I L 2 12 (fun r I' L' => (inR u 0 2 = true ∧ inR v 0 99 = true) ∧ r = none ∧ I = I' ∧ L' = up1 L a (some (obC ciX22 [.int u, .int v]))) (xEu RJ14 (¬ (inR u 0 2 = true ∧ inR v 0 99 = true)) L a) := by
  refine Spc.of hΓ cX22_init 3 none q2596 (by decide +kernel) (by decide) (Nat.le_of_ble_eq_true rfl) (fun G GX hG => ?_)
  refine hG.aload_n dX22_init_0 rfl ?_
  refine hG.iload_n dX22_init_1 rfl ?_
  refine hG.callNS dX22_init_2 ks_X22_3 (sp_X1_kindIn hΓ) rfl rfl (Nat.le_of_ble_eq_true rfl) (by decide) (by omega) (by omega) (fun r2 I2 L2 hI2 h2 => ?_) (fun E q I' L' hI ⟨e1, e2, e3⟩ => hG.out (by simp) ⟨e1, (fun z => bFT e2 z.1), obC ciX22 [z0, z1], by rw [← e3, ← h0, up1_self]⟩ (by omega) (by omega) trivial)
  obtain ⟨rfl, hb1, rfl, rfl⟩ := h2
  refine hG.iload_n dX22_init_5 rfl ?_
  refine hG.callI dX22_init_6 ki_X22_7 (sp_X12_init_X22 hΓ h0) rfl rfl (Nat.le_of_ble_eq_true rfl) (by decide) (by omega) (by omega) (fun r6 I6 L6 hI6 h6 => ?_) (fun _ _ _ _ _ h => h.elim)
  obtain ⟨rfl, rfl, rfl⟩ := h6
  refine hG.iload_n dX22_init_9 rfl ?_
  refine hG.iconst (v := 0) dX22_init_10 rfl ?_
  refine hG.bipush (v := 99) dX22_init_11 rfl ?_
  refine hG.callNS dX22_init_13 ks_X22_13 (sp_X1_inRange hΓ) rfl rfl (Nat.le_of_ble_eq_true rfl) (by decide) (by omega) (by omega) (fun r13 I13 L13 hI13 h13 => ?_) (fun _ _ _ _ _ h => h.elim)
  obtain ⟨rfl, rfl, rfl⟩ := h13
  refine hG.callNS dX22_init_16 ks_X22_17 (sp_X1_require hΓ) rfl rfl (Nat.le_of_ble_eq_true rfl) (by decide) (by omega) (by omega) (fun r16 I16 L16 hI16 h16 => ?_) (fun E q I' L' hI ⟨e1, e2, e3⟩ => hG.out (by simp) ⟨e1, (fun z => bFT e2 z.2), _, e3.symm⟩ (by omega) (by omega) trivial)
  obtain ⟨rfl, hb, rfl, rfl⟩ := h16
  refine hG.vret dX22_init_19 rfl ?_ (by omega) (by omega) trivial
  exact ⟨⟨hb1, hb⟩, rfl, rfl, rfl⟩
theorem ks_X15_19 : LkNS RX15 19 yX1_require 1 := ⟨⟨_, q2437⟩, q1683, q73, by decide +kernel, by decide +kernel, by decide +kernel⟩
theorem ki_X15_1 : LkI RX15 1 yX12_init 2 := ⟨q2435, q2353, q126, rfl, ⟨by decide +kernel, by decide +kernel, by decide +kernel⟩, by decide +kernel⟩
theorem fp_X15_7_X15 : LkP RX15 "<init>" 7 ciX15 2 (tyX15 2) := ⟨RX15, TX15, 3, tyX15, _, cls_X15, by decide, rfl, Or.inl rfl, Or.inr (Or.inr ⟨rfl, rfl, rfl, q2438⟩)⟩
theorem ks_X15_13 : LkNS RX15 13 yX1_inRange 3 := ⟨⟨_, q2436⟩, q1642, q73, by decide +kernel, by decide +kernel, by decide +kernel⟩
set_option maxHeartbeats 4000000 in
set_option maxRecDepth 100000 in
theorem sp_X15_init {l : Launch} {s0 : State} {D : va_G} {I : AI} {L : AL} (hΓ : Gam l s0 D) {a : Nat} {u v w : Int32} {z0 z1 z2 : Value} (h0 : L a = some (obC ciX15 [z0, z1, z2])) : Spc l s0 D yX15_init 8 [.ref a, .int u, .int v, .int w] I L 1 6 (fun r I' L' => (inR u 0 99 = true ∧ inR v 1 9 = true ∧ inR w 1 48 = true) ∧ r = none ∧ I = I' ∧ L' = (up1 L a (some (obC ciX15 [.int u, .int v, .int w])))) (xEu RJ14 (¬ (inR u 0 99 = true ∧ inR v 1 9 = true ∧ inR w 1 48 = true)) L a) := by
  refine Spc.of hΓ cX15_init 4 none q2434 (by decide +kernel) (by decide) (Nat.le_of_ble_eq_true rfl) (fun G GX hG => ?_)
  have kf : ¬ (inR u 0 99 = true ∧ inR v 1 9 = true ∧ inR w 1 48 = true) → G 46 [(0, .ref a), (1, .int u), (2, .int v), (3, .int w)] [.int 0] I (up1 L a (some (obC ciX15 [.int u, .int v, .int w]))) 0 0 := by
    intro hf
    refine hG.callNS dX15_init_46 ks_X15_19 (sp_X1_require (b := false) hΓ) rfl rfl (Nat.le_of_ble_eq_true rfl) (by decide) (by omega) (by omega) (fun r46 I46 L46 hI46 h46 => ?_) (fun E q I' L' hI ⟨e1, e2, e3⟩ => hG.out (by simp) ⟨e1, hf, obC ciX15 [.int u, .int v, .int w], e3.symm⟩ (by omega) (by omega) trivial)
    exact absurd h46.2.1 (by decide)
  have kt : (inR u 0 99 = true ∧ inR v 1 9 = true ∧ inR w 1 48 = true) → G 46 [(0, .ref a), (1, .int u), (2, .int v), (3, .int w)] [.int 1] I (up1 L a (some (obC ciX15 [.int u, .int v, .int w]))) 0 0 := by
    intro ht
    refine hG.callNS dX15_init_46 ks_X15_19 (sp_X1_require (b := true) hΓ) rfl rfl (Nat.le_of_ble_eq_true rfl) (by decide) (by omega) (by omega) (fun r46 I46 L46 hI46 h46 => ?_) (fun E q I' L' hI ⟨e1, e2, e3⟩ => absurd e2 (by decide))
    obtain ⟨rfl, -, rfl, rfl⟩ := h46
    refine hG.vret dX15_init_49 rfl ?_ (by omega) (by omega) trivial
    exact ⟨ht, rfl, rfl, rfl⟩
  refine hG.aload_n dX15_init_0 rfl ?_
  refine hG.iload_n dX15_init_1 rfl ?_
  refine hG.iload_n dX15_init_2 rfl ?_
  refine hG.callI dX15_init_3 ki_X15_1 (sp_X12_init_X15 hΓ h0) rfl rfl (Nat.le_of_ble_eq_true rfl) (by decide) (by omega) (by omega) (fun r3 I3 L3 hI3 h3 => ?_) (fun _ _ _ _ _ h => h.elim)
  obtain ⟨rfl, rfl, rfl⟩ := h3
  refine hG.aload_n dX15_init_6 rfl ?_
  refine hG.iload_n dX15_init_7 rfl ?_
  refine hG.put dX15_init_8 fp_X15_7_X15 up1_s rfl rfl (Nat.le_of_ble_eq_true rfl) ?_
  rw [up1_up1]
  refine hG.iload_n dX15_init_11 rfl ?_
  refine hG.iconst (v := 0) dX15_init_12 rfl ?_
  refine hG.bipush (v := 99) dX15_init_13 rfl ?_
  refine hG.callNS dX15_init_15 ks_X15_13 (sp_X1_inRange hΓ) rfl rfl (Nat.le_of_ble_eq_true rfl) (by decide) (by omega) (by omega) (fun r15 I15 L15 hI15 h15 => ?_) (fun _ _ _ _ _ h => h.elim)
  obtain ⟨rfl, rfl, rfl⟩ := h15
  refine hG.if_eq (tgt := 45) dX15_init_18 rfl (fun c_18 => ?_) (fun c_18 => ?_)
  · refine hG.iconst (v := 0) dX15_init_45 rfl ?_
    refine hG.lsb [(0, .ref a), (1, .int u), (2, .int v), (3, .int w)] ⟨rfl, rfl, rfl, rfl, trivial⟩ ?_
    first
    | exact kt ⟨b2i_1 c_18, b2i_1 c_28, b2i_1 c_38⟩
    | exact kf (fun z => bFT (b2i_0 c_38) z.2.2)
    | exact kf (fun z => bFT (b2i_0 c_28) z.2.1)
    | exact kf (fun z => bFT (b2i_0 c_18) z.1)
  · refine hG.iload_n dX15_init_21 rfl ?_
    refine hG.iconst (v := 1) dX15_init_22 rfl ?_
    refine hG.bipush (v := 9) dX15_init_23 rfl ?_
    refine hG.callNS dX15_init_25 ks_X15_13 (sp_X1_inRange hΓ) rfl rfl (Nat.le_of_ble_eq_true rfl) (by decide) (by omega) (by omega) (fun r25 I25 L25 hI25 h25 => ?_) (fun _ _ _ _ _ h => h.elim)
    obtain ⟨rfl, rfl, rfl⟩ := h25
    refine hG.if_eq (tgt := 45) dX15_init_28 rfl (fun c_28 => ?_) (fun c_28 => ?_)
    · refine hG.iconst (v := 0) dX15_init_45 rfl ?_
      refine hG.lsb [(0, .ref a), (1, .int u), (2, .int v), (3, .int w)] ⟨rfl, rfl, rfl, rfl, trivial⟩ ?_
      first
      | exact kt ⟨b2i_1 c_18, b2i_1 c_28, b2i_1 c_38⟩
      | exact kf (fun z => bFT (b2i_0 c_38) z.2.2)
      | exact kf (fun z => bFT (b2i_0 c_28) z.2.1)
      | exact kf (fun z => bFT (b2i_0 c_18) z.1)
    · refine hG.iload_n dX15_init_31 rfl ?_
      refine hG.iconst (v := 1) dX15_init_32 rfl ?_
      refine hG.bipush (v := 48) dX15_init_33 rfl ?_
      refine hG.callNS dX15_init_35 ks_X15_13 (sp_X1_inRange hΓ) rfl rfl (Nat.le_of_ble_eq_true rfl) (by decide) (by omega) (by omega) (fun r35 I35 L35 hI35 h35 => ?_) (fun _ _ _ _ _ h => h.elim)
      obtain ⟨rfl, rfl, rfl⟩ := h35
      refine hG.if_eq (tgt := 45) dX15_init_38 rfl (fun c_38 => ?_) (fun c_38 => ?_)
      · refine hG.iconst (v := 0) dX15_init_45 rfl ?_
        refine hG.lsb [(0, .ref a), (1, .int u), (2, .int v), (3, .int w)] ⟨rfl, rfl, rfl, rfl, trivial⟩ ?_
        first
        | exact kt ⟨b2i_1 c_18, b2i_1 c_28, b2i_1 c_38⟩
        | exact kf (fun z => bFT (b2i_0 c_38) z.2.2)
        | exact kf (fun z => bFT (b2i_0 c_28) z.2.1)
        | exact kf (fun z => bFT (b2i_0 c_18) z.1)
      · refine hG.iconst (v := 1) dX15_init_41 rfl ?_
        refine hG.goto (tgt := 46) dX15_init_42 rfl ?_
        refine hG.lsb [(0, .ref a), (1, .int u), (2, .int v), (3, .int w)] ⟨rfl, rfl, rfl, rfl, trivial⟩ ?_
        first
        | exact kt ⟨b2i_1 c_18, b2i_1 c_28, b2i_1 c_38⟩
        | exact kf (fun z => bFT (b2i_0 c_38) z.2.2)
        | exact kf (fun z => bFT (b2i_0 c_28) z.2.1)
        | exact kf (fun z => bFT (b2i_0 c_18) z.1)
theorem ks_X5_13 : LkNS RX5 13 yX1_require 1 := ⟨⟨_, q2317⟩, q1683, q73, by decide +kernel, by decide +kernel, by decide +kernel⟩
theorem nw_X5_17 : LkN RX5 17 ciX6 [.int 0, .int 0, .int 0] 3 := ⟨RX6, TX6, tyX6, cls_X6, q2318, q2112, q93, rfl, fun j hj => by
  match j, hj with
  | 0, _ => rfl
  | 1, _ => rfl
  | 2, _ => rfl
  | _ + 3, h => exact absurd h (by omega)⟩
theorem ki_X5_19 : LkI RX5 19 yX6_init 3 := ⟨q2319, q2114, q93, rfl, ⟨by decide +kernel, by decide +kernel, by decide +kernel⟩, by decide +kernel⟩
theorem fp_X5_22_X5 : LkP RX5 "<init>" 22 ciX5 0 (tyX5 0) := ⟨RX5, TX5, 1, tyX5, _, cls_X5, by decide, rfl, Or.inl rfl, Or.inr (Or.inr ⟨rfl, rfl, rfl, q2320⟩)⟩
theorem ks_X5_9 : LkNS RX5 9 yX1_inRange 3 := ⟨⟨_, q2316⟩, q1642, q73, by decide +kernel, by decide +kernel, by decide +kernel⟩
set_option maxHeartbeats 4000000 in
set_option maxRecDepth 100000 in
theorem sp_X5_init {l : Launch} {s0 : State} {D : va_G} {I : AI} {L : AL} (hΓ : Gam l s0 D) {a : Nat} {u v w : Int32} {z0 : Value} (h0 : L a = some (obC ciX5 [z0])) : Spc l s0 D yX5_init 8 [.ref a, .int u, .int v, .int w] I L 2 9 (fun r I' L' => (inR u 10 99 = true ∧ inR v 0 9 = true ∧ inR w 1 9 = true) ∧ r = none ∧ ∃ x, I' x (t3E ciX6 (u, v, w)) ∧ L' = up1 L a (some (obC ciX5 [.ref x]))) (xEu RJ14 (¬ (inR u 10 99 = true ∧ inR v 0 9 = true ∧ inR w 1 9 = true)) L a) := by
  refine Spc.of hΓ cX5_init 4 none q2314 (by decide +kernel) (by decide) (Nat.le_of_ble_eq_true rfl) (fun G GX hG => ?_)
  have kf : ¬ (inR u 10 99 = true ∧ inR v 0 9 = true ∧ inR w 1 9 = true) → G 40 [(0, .ref a), (1, .int u), (2, .int v), (3, .int w)] [.int 0] I L 0 0 := by
    intro hf
    refine hG.callNS dX5_init_40 ks_X5_13 (sp_X1_require (b := false) hΓ) rfl rfl (Nat.le_of_ble_eq_true rfl) (by decide) (by omega) (by omega) (fun r40 I40 L40 hI40 h40 => ?_) (fun E q I' L' hI ⟨e1, e2, e3⟩ => hG.out (by simp) ⟨e1, hf, obC ciX5 [z0], by rw [← e3, ← h0, up1_self]⟩ (by omega) (by omega) trivial)
    exact absurd h40.2.1 (by decide)
  have kt : (inR u 10 99 = true ∧ inR v 0 9 = true ∧ inR w 1 9 = true) → G 40 [(0, .ref a), (1, .int u), (2, .int v), (3, .int w)] [.int 1] I L 0 0 := by
    intro ht
    refine hG.callNS dX5_init_40 ks_X5_13 (sp_X1_require (b := true) hΓ) rfl rfl (Nat.le_of_ble_eq_true rfl) (by decide) (by omega) (by omega) (fun r40 I40 L40 hI40 h40 => ?_) (fun E q I' L' hI ⟨e1, e2, e3⟩ => absurd e2 (by decide))
    obtain ⟨rfl, -, rfl, rfl⟩ := h40
    refine hG.aload_n dX5_init_43 rfl ?_
    refine hG.new dX5_init_44 nw_X5_17 (by omega) (by omega) (fun q hLq hIq => ?_)
    refine hG.dup dX5_init_47 rfl ?_
    refine hG.iload_n dX5_init_48 rfl ?_
    refine hG.iload_n dX5_init_49 rfl ?_
    refine hG.iload_n dX5_init_50 rfl ?_
    refine hG.callI dX5_init_51 ki_X5_19 (sp_X6_init hΓ up1_s) rfl rfl (Nat.le_of_ble_eq_true rfl) (by decide) (by omega) (by omega) (fun r51 I51 L51 hI51 h51 => ?_) (fun _ _ _ _ _ h => h.elim)
    obtain ⟨rfl, rfl, rfl⟩ := h51
    rw [up1_up1]
    have hqa : q ≠ a := fun e => by rw [e, h0] at hLq; cases hLq
    refine hG.put dX5_init_54 fp_X5_22_X5 ((up1_n hqa.symm).trans h0) rfl rfl (Nat.le_of_ble_eq_true rfl) ?_
    refine hG.fr (a := q) ((up1_n hqa).trans up1_s) ?_
    rw [up_fr2 hqa hLq]
    refine hG.vret dX5_init_57 rfl ?_ (by omega) (by omega) trivial
    exact ⟨ht, rfl, q, frI_s, rfl⟩
  refine hG.aload_n dX5_init_0 rfl ?_
  refine hG.objI dX5_init_1 q2315 (Nat.le_of_ble_eq_true rfl) (by decide) ?_
  refine hG.iload_n dX5_init_4 rfl ?_
  refine hG.bipush (v := 10) dX5_init_5 rfl ?_
  refine hG.bipush (v := 99) dX5_init_7 rfl ?_
  refine hG.callNS dX5_init_9 ks_X5_9 (sp_X1_inRange hΓ) rfl rfl (Nat.le_of_ble_eq_true rfl) (by decide) (by omega) (by omega) (fun r9 I9 L9 hI9 h9 => ?_) (fun _ _ _ _ _ h => h.elim)
  obtain ⟨rfl, rfl, rfl⟩ := h9
  refine hG.if_eq (tgt := 39) dX5_init_12 rfl (fun c_12 => ?_) (fun c_12 => ?_)
  · refine hG.iconst (v := 0) dX5_init_39 rfl ?_
    refine hG.lsb [(0, .ref a), (1, .int u), (2, .int v), (3, .int w)] ⟨rfl, rfl, rfl, rfl, trivial⟩ ?_
    first
    | exact kt ⟨b2i_1 c_12, b2i_1 c_22, b2i_1 c_32⟩
    | exact kf (fun z => bFT (b2i_0 c_32) z.2.2)
    | exact kf (fun z => bFT (b2i_0 c_22) z.2.1)
    | exact kf (fun z => bFT (b2i_0 c_12) z.1)
  · refine hG.iload_n dX5_init_15 rfl ?_
    refine hG.iconst (v := 0) dX5_init_16 rfl ?_
    refine hG.bipush (v := 9) dX5_init_17 rfl ?_
    refine hG.callNS dX5_init_19 ks_X5_9 (sp_X1_inRange hΓ) rfl rfl (Nat.le_of_ble_eq_true rfl) (by decide) (by omega) (by omega) (fun r19 I19 L19 hI19 h19 => ?_) (fun _ _ _ _ _ h => h.elim)
    obtain ⟨rfl, rfl, rfl⟩ := h19
    refine hG.if_eq (tgt := 39) dX5_init_22 rfl (fun c_22 => ?_) (fun c_22 => ?_)
    · refine hG.iconst (v := 0) dX5_init_39 rfl ?_
      refine hG.lsb [(0, .ref a), (1, .int u), (2, .int v), (3, .int w)] ⟨rfl, rfl, rfl, rfl, trivial⟩ ?_
      first
      | exact kt ⟨b2i_1 c_12, b2i_1 c_22, b2i_1 c_32⟩
      | exact kf (fun z => bFT (b2i_0 c_32) z.2.2)
      | exact kf (fun z => bFT (b2i_0 c_22) z.2.1)
      | exact kf (fun z => bFT (b2i_0 c_12) z.1)
    · refine hG.iload_n dX5_init_25 rfl ?_
      refine hG.iconst (v := 1) dX5_init_26 rfl ?_
      refine hG.bipush (v := 9) dX5_init_27 rfl ?_
      refine hG.callNS dX5_init_29 ks_X5_9 (sp_X1_inRange hΓ) rfl rfl (Nat.le_of_ble_eq_true rfl) (by decide) (by omega) (by omega) (fun r29 I29 L29 hI29 h29 => ?_) (fun _ _ _ _ _ h => h.elim)
      obtain ⟨rfl, rfl, rfl⟩ := h29
      refine hG.if_eq (tgt := 39) dX5_init_32 rfl (fun c_32 => ?_) (fun c_32 => ?_)
      · refine hG.iconst (v := 0) dX5_init_39 rfl ?_
        refine hG.lsb [(0, .ref a), (1, .int u), (2, .int v), (3, .int w)] ⟨rfl, rfl, rfl, rfl, trivial⟩ ?_
        first
        | exact kt ⟨b2i_1 c_12, b2i_1 c_22, b2i_1 c_32⟩
        | exact kf (fun z => bFT (b2i_0 c_32) z.2.2)
        | exact kf (fun z => bFT (b2i_0 c_22) z.2.1)
        | exact kf (fun z => bFT (b2i_0 c_12) z.1)
      · refine hG.iconst (v := 1) dX5_init_35 rfl ?_
        refine hG.goto (tgt := 40) dX5_init_36 rfl ?_
        refine hG.lsb [(0, .ref a), (1, .int u), (2, .int v), (3, .int w)] ⟨rfl, rfl, rfl, rfl, trivial⟩ ?_
        first
        | exact kt ⟨b2i_1 c_12, b2i_1 c_22, b2i_1 c_32⟩
        | exact kf (fun z => bFT (b2i_0 c_32) z.2.2)
        | exact kf (fun z => bFT (b2i_0 c_22) z.2.1)
        | exact kf (fun z => bFT (b2i_0 c_12) z.1)
def nmN (k : Nat) : List Nat := if k = 0 then [102, 111, 111, 116] else if k = 1 then [104, 111, 111, 102] else [119, 104, 101, 101, 108]
set_option maxHeartbeats 4000000 in
set_option maxRecDepth 100000 in
theorem sp_X10_nameOf {l : Launch} {s0 : State} {D : va_G} {I : AI} {L : AL} {o : Option Nat} (hΓ : Gam l s0 D) (hT : StX s0 D o) {k : Nat} (hk : k < 3) : Spc l s0 D yX10_nameOf 1 [.int (nI k)] I L 0 0 (fun r I' L' => ∃ q, r = some (.ref q) ∧ I = I' ∧ L = L' ∧ StrI I' q 0 (nmN k)) noX := by
  refine Spc.of hΓ cX10_nameOf 1 (some (FieldType.object "java/lang/String")) q2619 (by decide +kernel) (by decide) (Nat.le_of_ble_eq_true rfl) (fun G GX hG => ?_)
  refine hG.iload_n dX10_nameOf_0 rfl ?_
  refine hG.if_ne (tgt := 9) dX10_nameOf_1 rfl (fun c_1 => ?_) (fun c_1 => ?_)
  · refine hG.iload_n dX10_nameOf_9 rfl ?_
    refine hG.iconst (v := 1) dX10_nameOf_10 rfl ?_
    refine hG.icmp_ne (tgt := 19) dX10_nameOf_11 rfl (fun c_11 => ?_) (fun c_11 => ?_)
    · refine hG.ldcT dX10_nameOf_19 (hT.tx 18 rfl) (fun s19 hs19 => ?_)
      refine hG.aret dX10_nameOf_21 rfl (by first | exact Or.inl ⟨_, rfl⟩ | exact Or.inr ⟨_, rfl⟩) (by first | exact Or.inr ⟨_, rfl⟩ | exact Or.inl rfl) ?_ (by omega) (by omega) trivial
      first
      | (rw [show nmN k = [102, 111, 111, 116] from if_pos ((nI_eq (b := 0) (by omega) (by decide)).mp (by assumption))]; exact ⟨_, rfl, rfl, rfl, by assumption⟩)
      | (have e1 : ¬ k = 0 := fun e => c_1 (by rw [e]; rfl)
         rw [show nmN k = [104, 111, 111, 102] from (if_neg e1).trans (if_pos ((nI_eq (b := 1) (by omega) (by decide)).mp c_11))]
         exact ⟨_, rfl, rfl, rfl, by assumption⟩)
      | (have e1 : ¬ k = 0 := fun e => c_1 (by rw [e]; rfl)
         have e2 : ¬ k = 1 := fun e => c_11 (by rw [e]; rfl)
         rw [show nmN k = [119, 104, 101, 101, 108] from (if_neg e1).trans (if_neg e2)]
         exact ⟨_, rfl, rfl, rfl, by assumption⟩)
    · refine hG.ldcT dX10_nameOf_14 (hT.tx 17 rfl) (fun s14 hs14 => ?_)
      refine hG.goto (tgt := 21) dX10_nameOf_16 rfl ?_
      refine hG.aret dX10_nameOf_21 rfl (by first | exact Or.inl ⟨_, rfl⟩ | exact Or.inr ⟨_, rfl⟩) (by first | exact Or.inr ⟨_, rfl⟩ | exact Or.inl rfl) ?_ (by omega) (by omega) trivial
      first
      | (rw [show nmN k = [102, 111, 111, 116] from if_pos ((nI_eq (b := 0) (by omega) (by decide)).mp (by assumption))]; exact ⟨_, rfl, rfl, rfl, by assumption⟩)
      | (have e1 : ¬ k = 0 := fun e => c_1 (by rw [e]; rfl)
         rw [show nmN k = [104, 111, 111, 102] from (if_neg e1).trans (if_pos ((nI_eq (b := 1) (by omega) (by decide)).mp c_11))]
         exact ⟨_, rfl, rfl, rfl, by assumption⟩)
      | (have e1 : ¬ k = 0 := fun e => c_1 (by rw [e]; rfl)
         have e2 : ¬ k = 1 := fun e => c_11 (by rw [e]; rfl)
         rw [show nmN k = [119, 104, 101, 101, 108] from (if_neg e1).trans (if_neg e2)]
         exact ⟨_, rfl, rfl, rfl, by assumption⟩)
  · refine hG.ldcT dX10_nameOf_4 (hT.tx 16 rfl) (fun s4 hs4 => ?_)
    refine hG.goto (tgt := 21) dX10_nameOf_6 rfl ?_
    refine hG.aret dX10_nameOf_21 rfl (by first | exact Or.inl ⟨_, rfl⟩ | exact Or.inr ⟨_, rfl⟩) (by first | exact Or.inr ⟨_, rfl⟩ | exact Or.inl rfl) ?_ (by omega) (by omega) trivial
    first
    | (rw [show nmN k = [102, 111, 111, 116] from if_pos ((nI_eq (b := 0) (by omega) (by decide)).mp (by assumption))]; exact ⟨_, rfl, rfl, rfl, by assumption⟩)
    | (have e1 : ¬ k = 0 := fun e => c_1 (by rw [e]; rfl)
       rw [show nmN k = [104, 111, 111, 102] from (if_neg e1).trans (if_pos ((nI_eq (b := 1) (by omega) (by decide)).mp c_11))]
       exact ⟨_, rfl, rfl, rfl, by assumption⟩)
    | (have e1 : ¬ k = 0 := fun e => c_1 (by rw [e]; rfl)
       have e2 : ¬ k = 1 := fun e => c_11 (by rw [e]; rfl)
       rw [show nmN k = [119, 104, 101, 101, 108] from (if_neg e1).trans (if_neg e2)]
       exact ⟨_, rfl, rfl, rfl, by assumption⟩)
theorem kv_X10_19 : LkV RX10 19 yJ9_hashCode 0 := ⟨q3123, q824, q3671, q85, by decide +kernel, by decide +kernel, by decide +kernel⟩
theorem kv_X10_24 : LkV RX10 24 yJ9_equals 1 := ⟨q3124, q1149, q3672, q85, by decide +kernel, by decide +kernel, by decide +kernel⟩
set_option maxHeartbeats 4000000 in
set_option maxRecDepth 100000 in
theorem sp_X10_kindOf {l : Launch} {s0 : State} {D : va_G} {I : AI} {L : AL} {o : Option Nat} (hΓ : Gam l s0 D) (hT : StX s0 D o) {a arr : Nat} {f : Nat → Int32} {cs : List Nat} (hs : L a = some (obC ciJ9 [.ref arr, .int (nI 0), .int 0, .int 0])) (ha : I arr (arB (cs.length * (0 + 1)) f)) (hb : Bs f (enc 0 cs)) (hc : Cok 0 cs) (hw : cs ∈ W3) : Spc l s0 D yX10_kindOf 5 [.ref a] I L 0 0 (fun r I' L' => r = some (.int (nI (kdN cs))) ∧ I = I' ∧ ∃ c, L' = up1 L a (some c)) noX := by
  refine Spc.of hΓ cX10_kindOf 3 (some FieldType.int) q3122 (by decide +kernel) (by decide) (Nat.le_of_ble_eq_true rfl) (fun G GX hG => ?_)
  have hX := hT.v
  have ha1 : I arr (arB cs.length f) := by
    rw [Nat.zero_add, Nat.mul_one] at ha
    exact ha
  simp only [List.mem_cons, List.not_mem_nil, or_false] at hw
  rcases hw with rfl | rfl | rfl
  · refine hG.aload_n dX10_kindOf_0 rfl ?_
    refine hG.astore_n dX10_kindOf_1 (by decide) ?_
    refine hG.iconst (v := -1) dX10_kindOf_2 rfl ?_
    refine hG.istore_n dX10_kindOf_3 (by decide) ?_
    refine hG.aload_n dX10_kindOf_4 rfl ?_
    refine hG.callV dX10_kindOf_5 kv_X10_19 (Rcv.raw hs cl_J9) (sp_J9_hashCode hΓ hX hs (Or.inr ha1) hb hc (by decide) (by decide)) rfl rfl (Nat.le_of_ble_eq_true rfl) (by decide) (by omega) (by omega) (fun r5 I5 L5 hI5 h5 => ?_) (fun _ _ _ _ _ h => h.elim)
    obtain ⟨rfl, rfl, hh, hz, rfl⟩ := h5
    refine hG.lookup (off := 36) (tgt := 44) dX10_kindOf_8 (by decide +kernel) (by decide +kernel) rfl ?_
    refine hG.aload_n dX10_kindOf_44 rfl ?_
    refine hG.ldcT dX10_kindOf_45 (hT.tx 16 rfl) (fun s45 hs45 => ?_)
    refine hG.callV dX10_kindOf_47 kv_X10_24 (Rcv.raw up1_s cl_J9) (sp_J9_equals hΓ hX ⟨arr, hh, hz, f, Or.inl up1_s, Or.inr ha, hb, hc, by decide⟩ (hs45.r _) (fun _ => rfl)) rfl rfl (Nat.le_of_ble_eq_true rfl) (by decide) (by omega) (by omega) (fun r47 I47 L47 hI47 h47 => ?_) (fun _ _ _ _ _ h => h.elim)
    obtain ⟨rfl, rfl, rfl⟩ := h47
    refine hG.if_eq (tgt := 83) dX10_kindOf_50 rfl (fun c_50 => absurd c_50 (by decide)) (fun c_50 => ?_)
    refine hG.iconst (v := 0) dX10_kindOf_53 rfl ?_
    refine hG.istore_n dX10_kindOf_54 (by decide) ?_
    refine hG.goto (tgt := 83) dX10_kindOf_55 rfl ?_
    refine hG.iload_n dX10_kindOf_83 rfl ?_
    refine hG.tabIn (off := 28) (tgt := 112) dX10_kindOf_84 (by decide +kernel) (by decide +kernel) (by decide +kernel) rfl ?_
    refine hG.iconst (v := 0) dX10_kindOf_112 rfl ?_
    refine hG.goto (tgt := 125) dX10_kindOf_113 rfl ?_
    refine hG.iret dX10_kindOf_125 rfl ?_ (by omega) (by omega) trivial
    exact ⟨rfl, rfl, _, rfl⟩
  · refine hG.aload_n dX10_kindOf_0 rfl ?_
    refine hG.astore_n dX10_kindOf_1 (by decide) ?_
    refine hG.iconst (v := -1) dX10_kindOf_2 rfl ?_
    refine hG.istore_n dX10_kindOf_3 (by decide) ?_
    refine hG.aload_n dX10_kindOf_4 rfl ?_
    refine hG.callV dX10_kindOf_5 kv_X10_19 (Rcv.raw hs cl_J9) (sp_J9_hashCode hΓ hX hs (Or.inr ha1) hb hc (by decide) (by decide)) rfl rfl (Nat.le_of_ble_eq_true rfl) (by decide) (by omega) (by omega) (fun r5 I5 L5 hI5 h5 => ?_) (fun _ _ _ _ _ h => h.elim)
    obtain ⟨rfl, rfl, hh, hz, rfl⟩ := h5
    refine hG.lookup (off := 50) (tgt := 58) dX10_kindOf_8 (by decide +kernel) (by decide +kernel) rfl ?_
    refine hG.aload_n dX10_kindOf_58 rfl ?_
    refine hG.ldcT dX10_kindOf_59 (hT.tx 17 rfl) (fun s59 hs59 => ?_)
    refine hG.callV dX10_kindOf_61 kv_X10_24 (Rcv.raw up1_s cl_J9) (sp_J9_equals hΓ hX ⟨arr, hh, hz, f, Or.inl up1_s, Or.inr ha, hb, hc, by decide⟩ (hs59.r _) (fun _ => rfl)) rfl rfl (Nat.le_of_ble_eq_true rfl) (by decide) (by omega) (by omega) (fun r61 I61 L61 hI61 h61 => ?_) (fun _ _ _ _ _ h => h.elim)
    obtain ⟨rfl, rfl, rfl⟩ := h61
    refine hG.if_eq (tgt := 83) dX10_kindOf_64 rfl (fun c_64 => absurd c_64 (by decide)) (fun c_64 => ?_)
    refine hG.iconst (v := 1) dX10_kindOf_67 rfl ?_
    refine hG.istore_n dX10_kindOf_68 (by decide) ?_
    refine hG.goto (tgt := 83) dX10_kindOf_69 rfl ?_
    refine hG.iload_n dX10_kindOf_83 rfl ?_
    refine hG.tabIn (off := 32) (tgt := 116) dX10_kindOf_84 (by decide +kernel) (by decide +kernel) (by decide +kernel) rfl ?_
    refine hG.iconst (v := 1) dX10_kindOf_116 rfl ?_
    refine hG.goto (tgt := 125) dX10_kindOf_117 rfl ?_
    refine hG.iret dX10_kindOf_125 rfl ?_ (by omega) (by omega) trivial
    exact ⟨rfl, rfl, _, rfl⟩
  · refine hG.aload_n dX10_kindOf_0 rfl ?_
    refine hG.astore_n dX10_kindOf_1 (by decide) ?_
    refine hG.iconst (v := -1) dX10_kindOf_2 rfl ?_
    refine hG.istore_n dX10_kindOf_3 (by decide) ?_
    refine hG.aload_n dX10_kindOf_4 rfl ?_
    refine hG.callV dX10_kindOf_5 kv_X10_19 (Rcv.raw hs cl_J9) (sp_J9_hashCode hΓ hX hs (Or.inr ha1) hb hc (by decide) (by decide)) rfl rfl (Nat.le_of_ble_eq_true rfl) (by decide) (by omega) (by omega) (fun r5 I5 L5 hI5 h5 => ?_) (fun _ _ _ _ _ h => h.elim)
    obtain ⟨rfl, rfl, hh, hz, rfl⟩ := h5
    refine hG.lookup (off := 64) (tgt := 72) dX10_kindOf_8 (by decide +kernel) (by decide +kernel) rfl ?_
    refine hG.aload_n dX10_kindOf_72 rfl ?_
    refine hG.ldcT dX10_kindOf_73 (hT.tx 18 rfl) (fun s73 hs73 => ?_)
    refine hG.callV dX10_kindOf_75 kv_X10_24 (Rcv.raw up1_s cl_J9) (sp_J9_equals hΓ hX ⟨arr, hh, hz, f, Or.inl up1_s, Or.inr ha, hb, hc, by decide⟩ (hs73.r _) (fun _ => rfl)) rfl rfl (Nat.le_of_ble_eq_true rfl) (by decide) (by omega) (by omega) (fun r75 I75 L75 hI75 h75 => ?_) (fun _ _ _ _ _ h => h.elim)
    obtain ⟨rfl, rfl, rfl⟩ := h75
    refine hG.if_eq (tgt := 83) dX10_kindOf_78 rfl (fun c_78 => absurd c_78 (by decide)) (fun c_78 => ?_)
    refine hG.iconst (v := 2) dX10_kindOf_81 rfl ?_
    refine hG.istore_n dX10_kindOf_82 (by decide) ?_
    refine hG.iload_n dX10_kindOf_83 rfl ?_
    refine hG.tabIn (off := 36) (tgt := 120) dX10_kindOf_84 (by decide +kernel) (by decide +kernel) (by decide +kernel) rfl ?_
    refine hG.iconst (v := 2) dX10_kindOf_120 rfl ?_
    refine hG.goto (tgt := 125) dX10_kindOf_121 rfl ?_
    refine hG.iret dX10_kindOf_125 rfl ?_ (by omega) (by omega) trivial
    exact ⟨rfl, rfl, _, rfl⟩
