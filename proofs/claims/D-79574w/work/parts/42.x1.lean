/-! small methods of BraidedFerry; refusals -/
abbrev inR (v lo hi : Int32) : Bool := decide (lo ≤ v) && decide (v ≤ hi)
theorem lt_not {a b : Int32} : a < b ↔ ¬ b ≤ a := by rw [Int32.lt_iff_toInt_lt, Int32.le_iff_toInt_le]; omega
theorem inR_lt {v lo hi : Int32} (h : v < lo) : inR v lo hi = false := by
  have h2 := lt_not.mp h
  simp [inR, h2]
theorem inR_gt {v lo hi : Int32} (h : hi < v) : inR v lo hi = false := by
  have h2 := lt_not.mp h
  simp [inR, h2]
theorem inR_ok {v lo hi : Int32} (h1 : ¬ v < lo) (h2 : ¬ hi < v) : inR v lo hi = true := by
  rw [lt_not, Decidable.not_not] at h1 h2
  simp [inR, h1, h2]
theorem inR_iff {v lo hi : Int32} : inR v lo hi = true ↔ lo ≤ v ∧ v ≤ hi := by simp [inR]
abbrev xE (E : String) (P : Prop) (L : AL) : String → Nat → AI → AL → Prop := fun E' _ _ L' => E' = E ∧ P ∧ L = L'
abbrev p0P (P : Prop) (I : AI) (L : AL) : Option Value → AI → AL → Prop := fun r I' L' => r = none ∧ P ∧ I = I' ∧ L = L'
abbrev rfE (re de : Int32) : E1 := ob ciX7 [.null, .null, .null, .null, .null, .int 0, .int re, .int de]
abbrev faE (p : Int32) : E1 := ob ciX27 [.null, .null, .null, .null, .null, .int 0, .int p]
abbrev xR (re de : Int32) (P : Prop) (L : AL) : String → Nat → AI → AL → Prop := fun E q I' L' => E = RX7 ∧ P ∧ L = L' ∧ I' q (rfE re de)
set_option maxHeartbeats 4000000 in
set_option maxRecDepth 100000 in
theorem sp_X1_inRange {l : Launch} {s0 : State} {D : va_G} {I : AI} {L : AL} (hΓ : Gam l s0 D) {v lo hi : Int32} : Spc l s0 D yX1_inRange 1 [.int v, .int lo, .int hi] I L 0 0 (pV (.int (b2i (inR v lo hi))) I L) noX := by
  refine Spc.of hΓ cX1_inRange 3 (some FieldType.boolean) q1643 (by decide +kernel) (by decide) (Nat.le_of_ble_eq_true rfl) (fun G GX hG => ?_)
  refine hG.iload_n dX1_inRange_0 rfl ?_
  refine hG.iload_n dX1_inRange_1 rfl ?_
  refine hG.icmp_lt (tgt := 14) dX1_inRange_2 rfl (fun c_2 => ?_) (fun c_2 => ?_)
  · refine hG.iconst (v := 0) dX1_inRange_14 rfl ?_
    refine hG.zret dX1_inRange_15 rfl rfl ?_ (by omega) (by omega) trivial
    first
    | exact ⟨by rw [inR_lt c_2]; rfl, rfl, rfl⟩
    | exact ⟨by rw [inR_gt c_7]; rfl, rfl, rfl⟩
    | exact ⟨by rw [inR_ok c_2 c_7]; rfl, rfl, rfl⟩
  · refine hG.iload_n dX1_inRange_5 rfl ?_
    refine hG.iload_n dX1_inRange_6 rfl ?_
    refine hG.icmp_gt (tgt := 14) dX1_inRange_7 rfl (fun c_7 => ?_) (fun c_7 => ?_)
    · refine hG.iconst (v := 0) dX1_inRange_14 rfl ?_
      refine hG.zret dX1_inRange_15 rfl rfl ?_ (by omega) (by omega) trivial
      first
      | exact ⟨by rw [inR_lt c_2]; rfl, rfl, rfl⟩
      | exact ⟨by rw [inR_gt c_7]; rfl, rfl, rfl⟩
      | exact ⟨by rw [inR_ok c_2 c_7]; rfl, rfl, rfl⟩
    · refine hG.iconst (v := 1) dX1_inRange_10 rfl ?_
      refine hG.goto (tgt := 15) dX1_inRange_11 rfl ?_
      refine hG.zret dX1_inRange_15 rfl rfl ?_ (by omega) (by omega) trivial
      first
      | exact ⟨by rw [inR_lt c_2]; rfl, rfl, rfl⟩
      | exact ⟨by rw [inR_gt c_7]; rfl, rfl, rfl⟩
      | exact ⟨by rw [inR_ok c_2 c_7]; rfl, rfl, rfl⟩
set_option maxHeartbeats 4000000 in
set_option maxRecDepth 100000 in
theorem sp_X1_require {l : Launch} {s0 : State} {D : va_G} {I : AI} {L : AL} (hΓ : Gam l s0 D) {b : Bool} : Spc l s0 D yX1_require 7 [.int (b2i b)] I L 1 6 (p0P (b = true) I L) (xE RJ14 (b = false) L) := by
  refine Spc.of hΓ cX1_require 1 none q1684 (by decide +kernel) (by decide) (Nat.le_of_ble_eq_true rfl) (fun G GX hG => ?_)
  rcases b with _ | _
  · refine hG.iload_n dX1_require_0 rfl ?_
    refine hG.if_ne (tgt := 12) dX1_require_1 rfl (fun c_1 => absurd rfl c_1) (fun c_1 => ?_)
    refine hG.newE dX1_require_4 dX1_require_7 dX1_require_8 le_J14 cl_J14 (by decide) (by decide) (by omega) (by omega) (fun q hLq hIq => ?_)
    refine hG.fr up1_s ?_
    rw [up1_up1, show up1 L q none = L by rw [← hLq, up1_self]]
    refine hG.athrow dX1_require_11 (Rcv.imm frI_s cl_J14) ?_
    exact hG.out (by simp) ⟨rfl, rfl, rfl⟩ (by omega) (by omega) trivial
  · refine hG.iload_n dX1_require_0 rfl ?_
    refine hG.if_ne (tgt := 12) dX1_require_1 rfl (fun c_1 => ?_) (fun c_1 => absurd c_1 (by decide +kernel))
    refine hG.vret dX1_require_12 rfl ?_ (by omega) (by omega) trivial
    exact ⟨rfl, rfl, rfl, rfl⟩
set_option maxHeartbeats 4000000 in
set_option maxRecDepth 100000 in
theorem sp_X1_requireIndex {l : Launch} {s0 : State} {D : va_G} {I : AI} {L : AL} (hΓ : Gam l s0 D) {b : Bool} : Spc l s0 D yX1_requireIndex 7 [.int (b2i b)] I L 1 6 (p0P (b = true) I L) (xE RJ33 (b = false) L) := by
  refine Spc.of hΓ cX1_requireIndex 1 none q1646 (by decide +kernel) (by decide) (Nat.le_of_ble_eq_true rfl) (fun G GX hG => ?_)
  rcases b with _ | _
  · refine hG.iload_n dX1_requireIndex_0 rfl ?_
    refine hG.if_ne (tgt := 12) dX1_requireIndex_1 rfl (fun c_1 => absurd rfl c_1) (fun c_1 => ?_)
    refine hG.newE dX1_requireIndex_4 dX1_requireIndex_7 dX1_requireIndex_8 le_J33 cl_J33 (by decide) (by decide) (by omega) (by omega) (fun q hLq hIq => ?_)
    refine hG.fr up1_s ?_
    rw [up1_up1, show up1 L q none = L by rw [← hLq, up1_self]]
    refine hG.athrow dX1_requireIndex_11 (Rcv.imm frI_s cl_J33) ?_
    exact hG.out (by simp) ⟨rfl, rfl, rfl⟩ (by omega) (by omega) trivial
  · refine hG.iload_n dX1_requireIndex_0 rfl ?_
    refine hG.if_ne (tgt := 12) dX1_requireIndex_1 rfl (fun c_1 => ?_) (fun c_1 => absurd c_1 (by decide +kernel))
    refine hG.vret dX1_requireIndex_12 rfl ?_ (by omega) (by omega) trivial
    exact ⟨rfl, rfl, rfl, rfl⟩
set_option maxHeartbeats 4000000 in
set_option maxRecDepth 100000 in
theorem sp_X1_requireState {l : Launch} {s0 : State} {D : va_G} {I : AI} {L : AL} (hΓ : Gam l s0 D) {b : Bool} : Spc l s0 D yX1_requireState 7 [.int (b2i b)] I L 1 6 (p0P (b = true) I L) (xE RJ36 (b = false) L) := by
  refine Spc.of hΓ cX1_requireState 1 none q2917 (by decide +kernel) (by decide) (Nat.le_of_ble_eq_true rfl) (fun G GX hG => ?_)
  rcases b with _ | _
  · refine hG.iload_n dX1_requireState_0 rfl ?_
    refine hG.if_ne (tgt := 12) dX1_requireState_1 rfl (fun c_1 => absurd rfl c_1) (fun c_1 => ?_)
    refine hG.newE dX1_requireState_4 dX1_requireState_7 dX1_requireState_8 le_J36 cl_J36 (by decide) (by decide) (by omega) (by omega) (fun q hLq hIq => ?_)
    refine hG.fr up1_s ?_
    rw [up1_up1, show up1 L q none = L by rw [← hLq, up1_self]]
    refine hG.athrow dX1_requireState_11 (Rcv.imm frI_s cl_J36) ?_
    exact hG.out (by simp) ⟨rfl, rfl, rfl⟩ (by omega) (by omega) trivial
  · refine hG.iload_n dX1_requireState_0 rfl ?_
    refine hG.if_ne (tgt := 12) dX1_requireState_1 rfl (fun c_1 => ?_) (fun c_1 => absurd c_1 (by decide +kernel))
    refine hG.vret dX1_requireState_12 rfl ?_ (by omega) (by omega) trivial
    exact ⟨rfl, rfl, rfl, rfl⟩
set_option maxHeartbeats 4000000 in
set_option maxRecDepth 100000 in
theorem sp_X1_requireElement {l : Launch} {s0 : State} {D : va_G} {I : AI} {L : AL} (hΓ : Gam l s0 D) {b : Bool} : Spc l s0 D yX1_requireElement 7 [.int (b2i b)] I L 1 6 (p0P (b = true) I L) (xE RJ16 (b = false) L) := by
  refine Spc.of hΓ cX1_requireElement 1 none q2797 (by decide +kernel) (by decide) (Nat.le_of_ble_eq_true rfl) (fun G GX hG => ?_)
  rcases b with _ | _
  · refine hG.iload_n dX1_requireElement_0 rfl ?_
    refine hG.if_ne (tgt := 12) dX1_requireElement_1 rfl (fun c_1 => absurd rfl c_1) (fun c_1 => ?_)
    refine hG.newE dX1_requireElement_4 dX1_requireElement_7 dX1_requireElement_8 le_J16 cl_J16 (by decide) (by decide) (by omega) (by omega) (fun q hLq hIq => ?_)
    refine hG.fr up1_s ?_
    rw [up1_up1, show up1 L q none = L by rw [← hLq, up1_self]]
    refine hG.athrow dX1_requireElement_11 (Rcv.imm frI_s cl_J16) ?_
    exact hG.out (by simp) ⟨rfl, rfl, rfl⟩ (by omega) (by omega) trivial
  · refine hG.iload_n dX1_requireElement_0 rfl ?_
    refine hG.if_ne (tgt := 12) dX1_requireElement_1 rfl (fun c_1 => ?_) (fun c_1 => absurd c_1 (by decide +kernel))
    refine hG.vret dX1_requireElement_12 rfl ?_ (by omega) (by omega) trivial
    exact ⟨rfl, rfl, rfl, rfl⟩
theorem cls_X7 : CLs ciX7 RX7 TX7 8 tyX7 := ⟨rfl, in_X7, tyX7_ok, nmX7⟩
theorem fp_J11_7_X7 {nm : String} : LkP RJ11 nm 7 ciX7 0 (tyX7 0) := ⟨RX7, TX7, 8, tyX7, _, cls_X7, by decide, rfl, Or.inl rfl, Or.inl ⟨rfl, q528⟩⟩
theorem fp_J11_17_X7 {nm : String} : LkP RJ11 nm 17 ciX7 1 (tyX7 1) := ⟨RX7, TX7, 8, tyX7, _, cls_X7, by decide, rfl, Or.inl rfl, Or.inl ⟨rfl, q529⟩⟩
theorem fp_J11_24_X7 {nm : String} : LkP RJ11 nm 24 ciX7 2 (tyX7 2) := ⟨RX7, TX7, 8, tyX7, _, cls_X7, by decide, rfl, Or.inl rfl, Or.inl ⟨rfl, q530⟩⟩
theorem fp_J11_31_X7 {nm : String} : LkP RJ11 nm 31 ciX7 3 (tyX7 3) := ⟨RX7, TX7, 8, tyX7, _, cls_X7, by decide, rfl, Or.inl rfl, Or.inl ⟨rfl, q527⟩⟩
set_option maxHeartbeats 4000000 in
set_option maxRecDepth 100000 in
theorem sp_J11_init_3_X7 {l : Launch} {s0 : State} {D : va_G} {I : AI} {L : AL} {q : Nat} {x1 x2 x3 x4 x5 x6 x7 x8 : Value} (hΓ : Gam l s0 D) (h0 : L q = some (obC ciX7 [x1, x2, x3, x4, x5, x6, x7, x8])) : Spc l s0 D yJ11_init_3 2 [.ref q, .null, .null, .int 0, .int 0] I L 0 0 (pU I L q (obC ciX7 [.null, .null, .null, .null, x5, x6, x7, x8])) noX := by
  refine Spc.of hΓ cJ11_init_3 5 none q1713 (by decide +kernel) (by decide) (Nat.le_of_ble_eq_true rfl) (fun G GX hG => ?_)
  rcases hΓ.2.2.2.1.1 with hU | ⟨u, hU⟩ <;> rcases hΓ.2.2.2.2.1 with hN | ⟨n, hN⟩
  · refine hG.aload_n dJ11_init_3_0 rfl ?_
    refine hG.objI dJ11_init_3_1 q492 (Nat.le_of_ble_eq_true rfl) (by decide) ?_
    refine hG.aload_n dJ11_init_3_4 rfl ?_
    refine hG.aload_n dJ11_init_3_5 rfl ?_
    refine hG.put dJ11_init_3_6 fp_J11_7_X7 h0 rfl rfl (Nat.le_of_ble_eq_true rfl) ?_
    refine hG.aload_n dJ11_init_3_9 rfl ?_
    refine hG.gets dJ11_init_3_10 hU q493 (Or.inl rfl) ?_
    refine hG.put dJ11_init_3_13 fp_J11_17_X7 up1_s rfl rfl (Nat.le_of_ble_eq_true rfl) ?_
    refine hG.aload_n dJ11_init_3_16 rfl ?_
    refine hG.gets dJ11_init_3_17 hN q495 (Or.inl rfl) ?_
    refine hG.put dJ11_init_3_20 fp_J11_24_X7 up1_s rfl rfl (Nat.le_of_ble_eq_true rfl) ?_
    refine hG.iload dJ11_init_3_23 rfl ?_
    refine hG.if_eq (tgt := 36) dJ11_init_3_25 rfl (fun c_25 => ?_) (fun c_25 => absurd rfl c_25)
    refine hG.aload_n dJ11_init_3_36 rfl ?_
    refine hG.null dJ11_init_3_37 ?_
    refine hG.put dJ11_init_3_38 fp_J11_17_X7 up1_s rfl rfl (Nat.le_of_ble_eq_true rfl) ?_
    refine hG.aload_n dJ11_init_3_41 rfl ?_
    refine hG.aload_nN dJ11_init_3_42 rfl ?_
    refine hG.put dJ11_init_3_43 fp_J11_31_X7 up1_s rfl rfl (Nat.le_of_ble_eq_true rfl) ?_
    refine hG.aload_n dJ11_init_3_46 rfl ?_
    refine hG.aload_nN dJ11_init_3_47 rfl ?_
    refine hG.put dJ11_init_3_48 fp_J11_7_X7 up1_s rfl rfl (Nat.le_of_ble_eq_true rfl) ?_
    refine hG.iload_n dJ11_init_3_51 rfl ?_
    refine hG.if_ne (tgt := 60) dJ11_init_3_52 rfl (fun c_52 => absurd rfl c_52) (fun c_52 => ?_)
    refine hG.aload_n dJ11_init_3_55 rfl ?_
    refine hG.null dJ11_init_3_56 ?_
    refine hG.put dJ11_init_3_57 fp_J11_24_X7 up1_s rfl rfl (Nat.le_of_ble_eq_true rfl) ?_
    refine hG.vret dJ11_init_3_60 rfl ?_ (by omega) (by omega) trivial
    exact ⟨rfl, rfl, by simp only [up1_up1]; rfl⟩
  · refine hG.aload_n dJ11_init_3_0 rfl ?_
    refine hG.objI dJ11_init_3_1 q492 (Nat.le_of_ble_eq_true rfl) (by decide) ?_
    refine hG.aload_n dJ11_init_3_4 rfl ?_
    refine hG.aload_n dJ11_init_3_5 rfl ?_
    refine hG.put dJ11_init_3_6 fp_J11_7_X7 h0 rfl rfl (Nat.le_of_ble_eq_true rfl) ?_
    refine hG.aload_n dJ11_init_3_9 rfl ?_
    refine hG.gets dJ11_init_3_10 hU q493 (Or.inl rfl) ?_
    refine hG.put dJ11_init_3_13 fp_J11_17_X7 up1_s rfl rfl (Nat.le_of_ble_eq_true rfl) ?_
    refine hG.aload_n dJ11_init_3_16 rfl ?_
    refine hG.gets dJ11_init_3_17 hN q495 (Or.inl rfl) ?_
    refine hG.put dJ11_init_3_20 fp_J11_24_X7 up1_s rfl rfl (Nat.le_of_ble_eq_true rfl) ?_
    refine hG.iload dJ11_init_3_23 rfl ?_
    refine hG.if_eq (tgt := 36) dJ11_init_3_25 rfl (fun c_25 => ?_) (fun c_25 => absurd rfl c_25)
    refine hG.aload_n dJ11_init_3_36 rfl ?_
    refine hG.null dJ11_init_3_37 ?_
    refine hG.put dJ11_init_3_38 fp_J11_17_X7 up1_s rfl rfl (Nat.le_of_ble_eq_true rfl) ?_
    refine hG.aload_n dJ11_init_3_41 rfl ?_
    refine hG.aload_nN dJ11_init_3_42 rfl ?_
    refine hG.put dJ11_init_3_43 fp_J11_31_X7 up1_s rfl rfl (Nat.le_of_ble_eq_true rfl) ?_
    refine hG.aload_n dJ11_init_3_46 rfl ?_
    refine hG.aload_nN dJ11_init_3_47 rfl ?_
    refine hG.put dJ11_init_3_48 fp_J11_7_X7 up1_s rfl rfl (Nat.le_of_ble_eq_true rfl) ?_
    refine hG.iload_n dJ11_init_3_51 rfl ?_
    refine hG.if_ne (tgt := 60) dJ11_init_3_52 rfl (fun c_52 => absurd rfl c_52) (fun c_52 => ?_)
    refine hG.aload_n dJ11_init_3_55 rfl ?_
    refine hG.null dJ11_init_3_56 ?_
    refine hG.put dJ11_init_3_57 fp_J11_24_X7 up1_s rfl rfl (Nat.le_of_ble_eq_true rfl) ?_
    refine hG.vret dJ11_init_3_60 rfl ?_ (by omega) (by omega) trivial
    exact ⟨rfl, rfl, by simp only [up1_up1]; rfl⟩
  · refine hG.aload_n dJ11_init_3_0 rfl ?_
    refine hG.objI dJ11_init_3_1 q492 (Nat.le_of_ble_eq_true rfl) (by decide) ?_
    refine hG.aload_n dJ11_init_3_4 rfl ?_
    refine hG.aload_n dJ11_init_3_5 rfl ?_
    refine hG.put dJ11_init_3_6 fp_J11_7_X7 h0 rfl rfl (Nat.le_of_ble_eq_true rfl) ?_
    refine hG.aload_n dJ11_init_3_9 rfl ?_
    refine hG.gets dJ11_init_3_10 hU q493 (Or.inl rfl) ?_
    refine hG.put dJ11_init_3_13 fp_J11_17_X7 up1_s rfl rfl (Nat.le_of_ble_eq_true rfl) ?_
    refine hG.aload_n dJ11_init_3_16 rfl ?_
    refine hG.gets dJ11_init_3_17 hN q495 (Or.inl rfl) ?_
    refine hG.put dJ11_init_3_20 fp_J11_24_X7 up1_s rfl rfl (Nat.le_of_ble_eq_true rfl) ?_
    refine hG.iload dJ11_init_3_23 rfl ?_
    refine hG.if_eq (tgt := 36) dJ11_init_3_25 rfl (fun c_25 => ?_) (fun c_25 => absurd rfl c_25)
    refine hG.aload_n dJ11_init_3_36 rfl ?_
    refine hG.null dJ11_init_3_37 ?_
    refine hG.put dJ11_init_3_38 fp_J11_17_X7 up1_s rfl rfl (Nat.le_of_ble_eq_true rfl) ?_
    refine hG.aload_n dJ11_init_3_41 rfl ?_
    refine hG.aload_nN dJ11_init_3_42 rfl ?_
    refine hG.put dJ11_init_3_43 fp_J11_31_X7 up1_s rfl rfl (Nat.le_of_ble_eq_true rfl) ?_
    refine hG.aload_n dJ11_init_3_46 rfl ?_
    refine hG.aload_nN dJ11_init_3_47 rfl ?_
    refine hG.put dJ11_init_3_48 fp_J11_7_X7 up1_s rfl rfl (Nat.le_of_ble_eq_true rfl) ?_
    refine hG.iload_n dJ11_init_3_51 rfl ?_
    refine hG.if_ne (tgt := 60) dJ11_init_3_52 rfl (fun c_52 => absurd rfl c_52) (fun c_52 => ?_)
    refine hG.aload_n dJ11_init_3_55 rfl ?_
    refine hG.null dJ11_init_3_56 ?_
    refine hG.put dJ11_init_3_57 fp_J11_24_X7 up1_s rfl rfl (Nat.le_of_ble_eq_true rfl) ?_
    refine hG.vret dJ11_init_3_60 rfl ?_ (by omega) (by omega) trivial
    exact ⟨rfl, rfl, by simp only [up1_up1]; rfl⟩
  · refine hG.aload_n dJ11_init_3_0 rfl ?_
    refine hG.objI dJ11_init_3_1 q492 (Nat.le_of_ble_eq_true rfl) (by decide) ?_
    refine hG.aload_n dJ11_init_3_4 rfl ?_
    refine hG.aload_n dJ11_init_3_5 rfl ?_
    refine hG.put dJ11_init_3_6 fp_J11_7_X7 h0 rfl rfl (Nat.le_of_ble_eq_true rfl) ?_
    refine hG.aload_n dJ11_init_3_9 rfl ?_
    refine hG.gets dJ11_init_3_10 hU q493 (Or.inl rfl) ?_
    refine hG.put dJ11_init_3_13 fp_J11_17_X7 up1_s rfl rfl (Nat.le_of_ble_eq_true rfl) ?_
    refine hG.aload_n dJ11_init_3_16 rfl ?_
    refine hG.gets dJ11_init_3_17 hN q495 (Or.inl rfl) ?_
    refine hG.put dJ11_init_3_20 fp_J11_24_X7 up1_s rfl rfl (Nat.le_of_ble_eq_true rfl) ?_
    refine hG.iload dJ11_init_3_23 rfl ?_
    refine hG.if_eq (tgt := 36) dJ11_init_3_25 rfl (fun c_25 => ?_) (fun c_25 => absurd rfl c_25)
    refine hG.aload_n dJ11_init_3_36 rfl ?_
    refine hG.null dJ11_init_3_37 ?_
    refine hG.put dJ11_init_3_38 fp_J11_17_X7 up1_s rfl rfl (Nat.le_of_ble_eq_true rfl) ?_
    refine hG.aload_n dJ11_init_3_41 rfl ?_
    refine hG.aload_nN dJ11_init_3_42 rfl ?_
    refine hG.put dJ11_init_3_43 fp_J11_31_X7 up1_s rfl rfl (Nat.le_of_ble_eq_true rfl) ?_
    refine hG.aload_n dJ11_init_3_46 rfl ?_
    refine hG.aload_nN dJ11_init_3_47 rfl ?_
    refine hG.put dJ11_init_3_48 fp_J11_7_X7 up1_s rfl rfl (Nat.le_of_ble_eq_true rfl) ?_
    refine hG.iload_n dJ11_init_3_51 rfl ?_
    refine hG.if_ne (tgt := 60) dJ11_init_3_52 rfl (fun c_52 => absurd rfl c_52) (fun c_52 => ?_)
    refine hG.aload_n dJ11_init_3_55 rfl ?_
    refine hG.null dJ11_init_3_56 ?_
    refine hG.put dJ11_init_3_57 fp_J11_24_X7 up1_s rfl rfl (Nat.le_of_ble_eq_true rfl) ?_
    refine hG.vret dJ11_init_3_60 rfl ?_ (by omega) (by omega) trivial
    exact ⟨rfl, rfl, by simp only [up1_up1]; rfl⟩
theorem ki_J12_16 : LkI RJ12 16 yJ11_init_3 4 := ⟨q1711, q1712, q89, rfl, ⟨by decide +kernel, by decide +kernel, by decide +kernel⟩, by decide +kernel⟩
set_option maxHeartbeats 4000000 in
set_option maxRecDepth 100000 in
theorem sp_J12_init_3_X7 {l : Launch} {s0 : State} {D : va_G} {I : AI} {L : AL} {q : Nat} {x1 x2 x3 x4 x5 x6 x7 x8 : Value} (hΓ : Gam l s0 D) (h0 : L q = some (obC ciX7 [x1, x2, x3, x4, x5, x6, x7, x8])) : Spc l s0 D yJ12_init_3 3 [.ref q, .null, .null, .int 0, .int 0] I L 0 0 (pU I L q (obC ciX7 [.null, .null, .null, .null, x5, x6, x7, x8])) noX := by
  refine Spc.of hΓ cJ12_init_3 5 none q1710 (by decide +kernel) (by decide) (Nat.le_of_ble_eq_true rfl) (fun G GX hG => ?_)
  refine hG.aload_n dJ12_init_3_0 rfl ?_
  refine hG.aload_nN dJ12_init_3_1 rfl ?_
  refine hG.aload_nN dJ12_init_3_2 rfl ?_
  refine hG.iload_n dJ12_init_3_3 rfl ?_
  refine hG.iload dJ12_init_3_4 rfl ?_
  refine hG.callI dJ12_init_3_6 ki_J12_16 (sp_J11_init_3_X7 hΓ h0) rfl rfl (Nat.le_of_ble_eq_true rfl) (by decide) (by omega) (by omega) (fun r6 I6 L6 hI6 h6 => ?_) (fun _ _ _ _ _ h => h.elim)
  obtain ⟨rfl, rfl, rfl⟩ := h6
  refine hG.vret dJ12_init_3_9 rfl ?_ (by omega) (by omega) trivial
  exact ⟨rfl, rfl, rfl⟩
theorem ki_X7_1 : LkI RX7 1 yJ12_init_3 4 := ⟨q1708, q1709, q90, rfl, ⟨by decide +kernel, by decide +kernel, by decide +kernel⟩, by decide +kernel⟩
theorem fp_X7_7_X7 : LkP RX7 "<init>" 7 ciX7 6 (tyX7 6) := ⟨RX7, TX7, 8, tyX7, _, cls_X7, by decide, rfl, Or.inl rfl, Or.inr (Or.inr ⟨rfl, rfl, rfl, q1714⟩)⟩
theorem fp_X7_13_X7 : LkP RX7 "<init>" 13 ciX7 7 (tyX7 7) := ⟨RX7, TX7, 8, tyX7, _, cls_X7, by decide, rfl, Or.inl rfl, Or.inr (Or.inr ⟨rfl, rfl, rfl, q1716⟩)⟩
set_option maxHeartbeats 4000000 in
set_option maxRecDepth 100000 in
theorem sp_X7_init {l : Launch} {s0 : State} {D : va_G} {I : AI} {L : AL} {q : Nat} {x1 x2 x3 x4 x5 x6 x7 x8 : Value} (hΓ : Gam l s0 D) {re de : Int32} (h0 : L q = some (obC ciX7 [x1, x2, x3, x4, x5, x6, x7, x8])) : Spc l s0 D yX7_init 4 [.ref q, .int re, .int de] I L 0 0 (pU I L q (obC ciX7 [.null, .null, .null, .null, x5, x6, .int re, .int de])) noX := by
  refine Spc.of hΓ cX7_init 3 none q1707 (by decide +kernel) (by decide) (Nat.le_of_ble_eq_true rfl) (fun G GX hG => ?_)
  refine hG.aload_n dX7_init_0 rfl ?_
  refine hG.null dX7_init_1 ?_
  refine hG.null dX7_init_2 ?_
  refine hG.iconst (v := 0) dX7_init_3 rfl ?_
  refine hG.iconst (v := 0) dX7_init_4 rfl ?_
  refine hG.callI dX7_init_5 ki_X7_1 (sp_J12_init_3_X7 hΓ h0) rfl rfl (Nat.le_of_ble_eq_true rfl) (by decide) (by omega) (by omega) (fun r5 I5 L5 hI5 h5 => ?_) (fun _ _ _ _ _ h => h.elim)
  obtain ⟨rfl, rfl, rfl⟩ := h5
  refine hG.aload_n dX7_init_8 rfl ?_
  refine hG.iload_n dX7_init_9 rfl ?_
  refine hG.put dX7_init_10 fp_X7_7_X7 up1_s rfl rfl (Nat.le_of_ble_eq_true rfl) ?_
  refine hG.aload_n dX7_init_13 rfl ?_
  refine hG.iload_n dX7_init_14 rfl ?_
  refine hG.put dX7_init_15 fp_X7_13_X7 up1_s rfl rfl (Nat.le_of_ble_eq_true rfl) ?_
  refine hG.vret dX7_init_18 rfl ?_ (by omega) (by omega) trivial
  exact ⟨rfl, rfl, by simp only [up1_up1]; rfl⟩
theorem cls_X27 : CLs ciX27 RX27 TX27 7 tyX27 := ⟨rfl, in_X27, tyX27_ok, nmX27⟩
theorem fp_J11_7_X27 {nm : String} : LkP RJ11 nm 7 ciX27 0 (tyX27 0) := ⟨RX27, TX27, 7, tyX27, _, cls_X27, by decide, rfl, Or.inl rfl, Or.inl ⟨rfl, q528⟩⟩
theorem fp_J11_17_X27 {nm : String} : LkP RJ11 nm 17 ciX27 1 (tyX27 1) := ⟨RX27, TX27, 7, tyX27, _, cls_X27, by decide, rfl, Or.inl rfl, Or.inl ⟨rfl, q529⟩⟩
theorem fp_J11_24_X27 {nm : String} : LkP RJ11 nm 24 ciX27 2 (tyX27 2) := ⟨RX27, TX27, 7, tyX27, _, cls_X27, by decide, rfl, Or.inl rfl, Or.inl ⟨rfl, q530⟩⟩
theorem fp_J11_31_X27 {nm : String} : LkP RJ11 nm 31 ciX27 3 (tyX27 3) := ⟨RX27, TX27, 7, tyX27, _, cls_X27, by decide, rfl, Or.inl rfl, Or.inl ⟨rfl, q527⟩⟩
set_option maxHeartbeats 4000000 in
set_option maxRecDepth 100000 in
theorem sp_J11_init_3_X27 {l : Launch} {s0 : State} {D : va_G} {I : AI} {L : AL} {q : Nat} {x1 x2 x3 x4 x5 x6 x7 : Value} (hΓ : Gam l s0 D) (h0 : L q = some (obC ciX27 [x1, x2, x3, x4, x5, x6, x7])) : Spc l s0 D yJ11_init_3 2 [.ref q, .null, .null, .int 0, .int 0] I L 0 0 (pU I L q (obC ciX27 [.null, .null, .null, .null, x5, x6, x7])) noX := by
  refine Spc.of hΓ cJ11_init_3 5 none q1713 (by decide +kernel) (by decide) (Nat.le_of_ble_eq_true rfl) (fun G GX hG => ?_)
  rcases hΓ.2.2.2.1.1 with hU | ⟨u, hU⟩ <;> rcases hΓ.2.2.2.2.1 with hN | ⟨n, hN⟩
  · refine hG.aload_n dJ11_init_3_0 rfl ?_
    refine hG.objI dJ11_init_3_1 q492 (Nat.le_of_ble_eq_true rfl) (by decide) ?_
    refine hG.aload_n dJ11_init_3_4 rfl ?_
    refine hG.aload_n dJ11_init_3_5 rfl ?_
    refine hG.put dJ11_init_3_6 fp_J11_7_X27 h0 rfl rfl (Nat.le_of_ble_eq_true rfl) ?_
    refine hG.aload_n dJ11_init_3_9 rfl ?_
    refine hG.gets dJ11_init_3_10 hU q493 (Or.inl rfl) ?_
    refine hG.put dJ11_init_3_13 fp_J11_17_X27 up1_s rfl rfl (Nat.le_of_ble_eq_true rfl) ?_
    refine hG.aload_n dJ11_init_3_16 rfl ?_
    refine hG.gets dJ11_init_3_17 hN q495 (Or.inl rfl) ?_
    refine hG.put dJ11_init_3_20 fp_J11_24_X27 up1_s rfl rfl (Nat.le_of_ble_eq_true rfl) ?_
    refine hG.iload dJ11_init_3_23 rfl ?_
    refine hG.if_eq (tgt := 36) dJ11_init_3_25 rfl (fun c_25 => ?_) (fun c_25 => absurd rfl c_25)
    refine hG.aload_n dJ11_init_3_36 rfl ?_
    refine hG.null dJ11_init_3_37 ?_
    refine hG.put dJ11_init_3_38 fp_J11_17_X27 up1_s rfl rfl (Nat.le_of_ble_eq_true rfl) ?_
    refine hG.aload_n dJ11_init_3_41 rfl ?_
    refine hG.aload_nN dJ11_init_3_42 rfl ?_
    refine hG.put dJ11_init_3_43 fp_J11_31_X27 up1_s rfl rfl (Nat.le_of_ble_eq_true rfl) ?_
    refine hG.aload_n dJ11_init_3_46 rfl ?_
    refine hG.aload_nN dJ11_init_3_47 rfl ?_
    refine hG.put dJ11_init_3_48 fp_J11_7_X27 up1_s rfl rfl (Nat.le_of_ble_eq_true rfl) ?_
    refine hG.iload_n dJ11_init_3_51 rfl ?_
    refine hG.if_ne (tgt := 60) dJ11_init_3_52 rfl (fun c_52 => absurd rfl c_52) (fun c_52 => ?_)
    refine hG.aload_n dJ11_init_3_55 rfl ?_
    refine hG.null dJ11_init_3_56 ?_
    refine hG.put dJ11_init_3_57 fp_J11_24_X27 up1_s rfl rfl (Nat.le_of_ble_eq_true rfl) ?_
    refine hG.vret dJ11_init_3_60 rfl ?_ (by omega) (by omega) trivial
    exact ⟨rfl, rfl, by simp only [up1_up1]; rfl⟩
  · refine hG.aload_n dJ11_init_3_0 rfl ?_
    refine hG.objI dJ11_init_3_1 q492 (Nat.le_of_ble_eq_true rfl) (by decide) ?_
    refine hG.aload_n dJ11_init_3_4 rfl ?_
    refine hG.aload_n dJ11_init_3_5 rfl ?_
    refine hG.put dJ11_init_3_6 fp_J11_7_X27 h0 rfl rfl (Nat.le_of_ble_eq_true rfl) ?_
    refine hG.aload_n dJ11_init_3_9 rfl ?_
    refine hG.gets dJ11_init_3_10 hU q493 (Or.inl rfl) ?_
    refine hG.put dJ11_init_3_13 fp_J11_17_X27 up1_s rfl rfl (Nat.le_of_ble_eq_true rfl) ?_
    refine hG.aload_n dJ11_init_3_16 rfl ?_
    refine hG.gets dJ11_init_3_17 hN q495 (Or.inl rfl) ?_
    refine hG.put dJ11_init_3_20 fp_J11_24_X27 up1_s rfl rfl (Nat.le_of_ble_eq_true rfl) ?_
    refine hG.iload dJ11_init_3_23 rfl ?_
    refine hG.if_eq (tgt := 36) dJ11_init_3_25 rfl (fun c_25 => ?_) (fun c_25 => absurd rfl c_25)
    refine hG.aload_n dJ11_init_3_36 rfl ?_
    refine hG.null dJ11_init_3_37 ?_
    refine hG.put dJ11_init_3_38 fp_J11_17_X27 up1_s rfl rfl (Nat.le_of_ble_eq_true rfl) ?_
    refine hG.aload_n dJ11_init_3_41 rfl ?_
    refine hG.aload_nN dJ11_init_3_42 rfl ?_
    refine hG.put dJ11_init_3_43 fp_J11_31_X27 up1_s rfl rfl (Nat.le_of_ble_eq_true rfl) ?_
    refine hG.aload_n dJ11_init_3_46 rfl ?_
    refine hG.aload_nN dJ11_init_3_47 rfl ?_
    refine hG.put dJ11_init_3_48 fp_J11_7_X27 up1_s rfl rfl (Nat.le_of_ble_eq_true rfl) ?_
    refine hG.iload_n dJ11_init_3_51 rfl ?_
    refine hG.if_ne (tgt := 60) dJ11_init_3_52 rfl (fun c_52 => absurd rfl c_52) (fun c_52 => ?_)
    refine hG.aload_n dJ11_init_3_55 rfl ?_
    refine hG.null dJ11_init_3_56 ?_
    refine hG.put dJ11_init_3_57 fp_J11_24_X27 up1_s rfl rfl (Nat.le_of_ble_eq_true rfl) ?_
    refine hG.vret dJ11_init_3_60 rfl ?_ (by omega) (by omega) trivial
    exact ⟨rfl, rfl, by simp only [up1_up1]; rfl⟩
  · refine hG.aload_n dJ11_init_3_0 rfl ?_
    refine hG.objI dJ11_init_3_1 q492 (Nat.le_of_ble_eq_true rfl) (by decide) ?_
    refine hG.aload_n dJ11_init_3_4 rfl ?_
    refine hG.aload_n dJ11_init_3_5 rfl ?_
    refine hG.put dJ11_init_3_6 fp_J11_7_X27 h0 rfl rfl (Nat.le_of_ble_eq_true rfl) ?_
    refine hG.aload_n dJ11_init_3_9 rfl ?_
    refine hG.gets dJ11_init_3_10 hU q493 (Or.inl rfl) ?_
    refine hG.put dJ11_init_3_13 fp_J11_17_X27 up1_s rfl rfl (Nat.le_of_ble_eq_true rfl) ?_
    refine hG.aload_n dJ11_init_3_16 rfl ?_
    refine hG.gets dJ11_init_3_17 hN q495 (Or.inl rfl) ?_
    refine hG.put dJ11_init_3_20 fp_J11_24_X27 up1_s rfl rfl (Nat.le_of_ble_eq_true rfl) ?_
    refine hG.iload dJ11_init_3_23 rfl ?_
    refine hG.if_eq (tgt := 36) dJ11_init_3_25 rfl (fun c_25 => ?_) (fun c_25 => absurd rfl c_25)
    refine hG.aload_n dJ11_init_3_36 rfl ?_
    refine hG.null dJ11_init_3_37 ?_
    refine hG.put dJ11_init_3_38 fp_J11_17_X27 up1_s rfl rfl (Nat.le_of_ble_eq_true rfl) ?_
    refine hG.aload_n dJ11_init_3_41 rfl ?_
    refine hG.aload_nN dJ11_init_3_42 rfl ?_
    refine hG.put dJ11_init_3_43 fp_J11_31_X27 up1_s rfl rfl (Nat.le_of_ble_eq_true rfl) ?_
    refine hG.aload_n dJ11_init_3_46 rfl ?_
    refine hG.aload_nN dJ11_init_3_47 rfl ?_
    refine hG.put dJ11_init_3_48 fp_J11_7_X27 up1_s rfl rfl (Nat.le_of_ble_eq_true rfl) ?_
    refine hG.iload_n dJ11_init_3_51 rfl ?_
    refine hG.if_ne (tgt := 60) dJ11_init_3_52 rfl (fun c_52 => absurd rfl c_52) (fun c_52 => ?_)
    refine hG.aload_n dJ11_init_3_55 rfl ?_
    refine hG.null dJ11_init_3_56 ?_
    refine hG.put dJ11_init_3_57 fp_J11_24_X27 up1_s rfl rfl (Nat.le_of_ble_eq_true rfl) ?_
    refine hG.vret dJ11_init_3_60 rfl ?_ (by omega) (by omega) trivial
    exact ⟨rfl, rfl, by simp only [up1_up1]; rfl⟩
  · refine hG.aload_n dJ11_init_3_0 rfl ?_
    refine hG.objI dJ11_init_3_1 q492 (Nat.le_of_ble_eq_true rfl) (by decide) ?_
    refine hG.aload_n dJ11_init_3_4 rfl ?_
    refine hG.aload_n dJ11_init_3_5 rfl ?_
    refine hG.put dJ11_init_3_6 fp_J11_7_X27 h0 rfl rfl (Nat.le_of_ble_eq_true rfl) ?_
    refine hG.aload_n dJ11_init_3_9 rfl ?_
    refine hG.gets dJ11_init_3_10 hU q493 (Or.inl rfl) ?_
    refine hG.put dJ11_init_3_13 fp_J11_17_X27 up1_s rfl rfl (Nat.le_of_ble_eq_true rfl) ?_
    refine hG.aload_n dJ11_init_3_16 rfl ?_
    refine hG.gets dJ11_init_3_17 hN q495 (Or.inl rfl) ?_
    refine hG.put dJ11_init_3_20 fp_J11_24_X27 up1_s rfl rfl (Nat.le_of_ble_eq_true rfl) ?_
    refine hG.iload dJ11_init_3_23 rfl ?_
    refine hG.if_eq (tgt := 36) dJ11_init_3_25 rfl (fun c_25 => ?_) (fun c_25 => absurd rfl c_25)
    refine hG.aload_n dJ11_init_3_36 rfl ?_
    refine hG.null dJ11_init_3_37 ?_
    refine hG.put dJ11_init_3_38 fp_J11_17_X27 up1_s rfl rfl (Nat.le_of_ble_eq_true rfl) ?_
    refine hG.aload_n dJ11_init_3_41 rfl ?_
    refine hG.aload_nN dJ11_init_3_42 rfl ?_
    refine hG.put dJ11_init_3_43 fp_J11_31_X27 up1_s rfl rfl (Nat.le_of_ble_eq_true rfl) ?_
    refine hG.aload_n dJ11_init_3_46 rfl ?_
    refine hG.aload_nN dJ11_init_3_47 rfl ?_
    refine hG.put dJ11_init_3_48 fp_J11_7_X27 up1_s rfl rfl (Nat.le_of_ble_eq_true rfl) ?_
    refine hG.iload_n dJ11_init_3_51 rfl ?_
    refine hG.if_ne (tgt := 60) dJ11_init_3_52 rfl (fun c_52 => absurd rfl c_52) (fun c_52 => ?_)
    refine hG.aload_n dJ11_init_3_55 rfl ?_
    refine hG.null dJ11_init_3_56 ?_
    refine hG.put dJ11_init_3_57 fp_J11_24_X27 up1_s rfl rfl (Nat.le_of_ble_eq_true rfl) ?_
    refine hG.vret dJ11_init_3_60 rfl ?_ (by omega) (by omega) trivial
    exact ⟨rfl, rfl, by simp only [up1_up1]; rfl⟩
set_option maxHeartbeats 4000000 in
set_option maxRecDepth 100000 in
theorem sp_J12_init_3_X27 {l : Launch} {s0 : State} {D : va_G} {I : AI} {L : AL} {q : Nat} {x1 x2 x3 x4 x5 x6 x7 : Value} (hΓ : Gam l s0 D) (h0 : L q = some (obC ciX27 [x1, x2, x3, x4, x5, x6, x7])) : Spc l s0 D yJ12_init_3 3 [.ref q, .null, .null, .int 0, .int 0] I L 0 0 (pU I L q (obC ciX27 [.null, .null, .null, .null, x5, x6, x7])) noX := by
  refine Spc.of hΓ cJ12_init_3 5 none q1710 (by decide +kernel) (by decide) (Nat.le_of_ble_eq_true rfl) (fun G GX hG => ?_)
  refine hG.aload_n dJ12_init_3_0 rfl ?_
  refine hG.aload_nN dJ12_init_3_1 rfl ?_
  refine hG.aload_nN dJ12_init_3_2 rfl ?_
  refine hG.iload_n dJ12_init_3_3 rfl ?_
  refine hG.iload dJ12_init_3_4 rfl ?_
  refine hG.callI dJ12_init_3_6 ki_J12_16 (sp_J11_init_3_X27 hΓ h0) rfl rfl (Nat.le_of_ble_eq_true rfl) (by decide) (by omega) (by omega) (fun r6 I6 L6 hI6 h6 => ?_) (fun _ _ _ _ _ h => h.elim)
  obtain ⟨rfl, rfl, rfl⟩ := h6
  refine hG.vret dJ12_init_3_9 rfl ?_ (by omega) (by omega) trivial
  exact ⟨rfl, rfl, rfl⟩
theorem ki_X27_1 : LkI RX27 1 yJ12_init_3 4 := ⟨q3067, q1709, q90, rfl, ⟨by decide +kernel, by decide +kernel, by decide +kernel⟩, by decide +kernel⟩
theorem fp_X27_7_X27 : LkP RX27 "<init>" 7 ciX27 6 (tyX27 6) := ⟨RX27, TX27, 7, tyX27, _, cls_X27, by decide, rfl, Or.inl rfl, Or.inr (Or.inr ⟨rfl, rfl, rfl, q3068⟩)⟩
set_option maxHeartbeats 4000000 in
set_option maxRecDepth 100000 in
theorem sp_X27_init {l : Launch} {s0 : State} {D : va_G} {I : AI} {L : AL} {q : Nat} {x1 x2 x3 x4 x5 x6 x7 : Value} (hΓ : Gam l s0 D) {p : Int32} (h0 : L q = some (obC ciX27 [x1, x2, x3, x4, x5, x6, x7])) : Spc l s0 D yX27_init 4 [.ref q, .int p] I L 0 0 (pU I L q (obC ciX27 [.null, .null, .null, .null, x5, x6, .int p])) noX := by
  refine Spc.of hΓ cX27_init 2 none q3066 (by decide +kernel) (by decide) (Nat.le_of_ble_eq_true rfl) (fun G GX hG => ?_)
  refine hG.aload_n dX27_init_0 rfl ?_
  refine hG.null dX27_init_1 ?_
  refine hG.null dX27_init_2 ?_
  refine hG.iconst (v := 0) dX27_init_3 rfl ?_
  refine hG.iconst (v := 0) dX27_init_4 rfl ?_
  refine hG.callI dX27_init_5 ki_X27_1 (sp_J12_init_3_X27 hΓ h0) rfl rfl (Nat.le_of_ble_eq_true rfl) (by decide) (by omega) (by omega) (fun r5 I5 L5 hI5 h5 => ?_) (fun _ _ _ _ _ h => h.elim)
  obtain ⟨rfl, rfl, rfl⟩ := h5
  refine hG.aload_n dX27_init_8 rfl ?_
  refine hG.iload_n dX27_init_9 rfl ?_
  refine hG.put dX27_init_10 fp_X27_7_X27 up1_s rfl rfl (Nat.le_of_ble_eq_true rfl) ?_
  refine hG.vret dX27_init_13 rfl ?_ (by omega) (by omega) trivial
  exact ⟨rfl, rfl, by simp only [up1_up1]; rfl⟩
theorem nw_X1_16 : LkN RX1 16 ciX7 [.null, .null, .null, .null, .null, .int 0, .int 0, .int 0] 8 := ⟨RX7, TX7, tyX7, cls_X7, q400, q1697, q117, rfl, fun j hj => by
  match j, hj with
  | 0, _ => rfl
  | 1, _ => rfl
  | 2, _ => rfl
  | 3, _ => rfl
  | 4, _ => rfl
  | 5, _ => rfl
  | 6, _ => rfl
  | 7, _ => rfl
  | _ + 8, h => exact absurd h (by omega)⟩
theorem ki_X1_18 : LkI RX1 18 yX7_init 2 := ⟨q1705, q1706, q117, rfl, ⟨by decide +kernel, by decide +kernel, by decide +kernel⟩, by decide +kernel⟩
set_option maxHeartbeats 4000000 in
set_option maxRecDepth 100000 in
theorem sp_X1_allow {l : Launch} {s0 : State} {D : va_G} {I : AI} {L : AL} (hΓ : Gam l s0 D) {b : Bool} {re de : Int32} : Spc l s0 D yX1_allow 6 [.int (b2i b), .int re, .int de] I L 1 8 (p0P (b = true) I L) (xR re de (b = false) L) := by
  refine Spc.of hΓ cX1_allow 3 none q1696 (by decide +kernel) (by decide) (Nat.le_of_ble_eq_true rfl) (fun G GX hG => ?_)
  rcases b with _ | _
  · refine hG.iload_n dX1_allow_0 rfl ?_
    refine hG.if_ne (tgt := 14) dX1_allow_1 rfl (fun c_1 => absurd rfl c_1) (fun c_1 => ?_)
    refine hG.new dX1_allow_4 nw_X1_16 (by omega) (by omega) (fun q hLq hIq => ?_)
    refine hG.dup dX1_allow_7 rfl ?_
    refine hG.iload_n dX1_allow_8 rfl ?_
    refine hG.iload_n dX1_allow_9 rfl ?_
    refine hG.callI dX1_allow_10 ki_X1_18 (sp_X7_init hΓ up1_s) rfl rfl (Nat.le_of_ble_eq_true rfl) (by decide) (by omega) (by omega) (fun r10 I10 L10 hI10 h10 => ?_) (fun _ _ _ _ _ h => h.elim)
    obtain ⟨rfl, rfl, rfl⟩ := h10
    rw [up1_up1]
    refine hG.fr up1_s ?_
    rw [up1_up1, show up1 L q none = L by rw [← hLq, up1_self]]
    refine hG.athrow dX1_allow_13 (Rcv.imm frI_s cl_X7) ?_
    exact hG.out (by simp) ⟨rfl, rfl, rfl, frI_s⟩ (by omega) (by omega) trivial
  · refine hG.iload_n dX1_allow_0 rfl ?_
    refine hG.if_ne (tgt := 14) dX1_allow_1 rfl (fun c_1 => ?_) (fun c_1 => absurd c_1 (by decide +kernel))
    refine hG.vret dX1_allow_14 rfl ?_ (by omega) (by omega) trivial
    exact ⟨rfl, rfl, rfl, rfl⟩
theorem ks_X1_64 : LkS RX1 64 yX1_inRange 3 := ⟨q2415, q1642, q73, by decide +kernel, by decide +kernel, by decide +kernel⟩
theorem ks_X1_68 : LkS RX1 68 yX1_require 1 := ⟨q2416, q1683, q73, by decide +kernel, by decide +kernel, by decide +kernel⟩
set_option maxHeartbeats 4000000 in
set_option maxRecDepth 100000 in
theorem sp_X1_kindIn {l : Launch} {s0 : State} {D : va_G} {I : AI} {L : AL} (hΓ : Gam l s0 D) {k : Int32} : Spc l s0 D yX1_kindIn 8 [.int k] I L 1 6 (fun r I' L' => r = some (.int k) ∧ inR k 0 2 = true ∧ I = I' ∧ L = L') (xE RJ14 (inR k 0 2 = false) L) := by
  refine Spc.of hΓ cX1_kindIn 1 (some FieldType.int) q2599 (by decide +kernel) (by decide) (Nat.le_of_ble_eq_true rfl) (fun G GX hG => ?_)
  refine hG.iload_n dX1_kindIn_0 rfl ?_
  refine hG.iconst (v := 0) dX1_kindIn_1 rfl ?_
  refine hG.iconst (v := 2) dX1_kindIn_2 rfl ?_
  refine hG.callS dX1_kindIn_3 ks_X1_64 (sp_X1_inRange hΓ) rfl rfl (Nat.le_of_ble_eq_true rfl) (by decide) (by omega) (by omega) (fun r3 I3 L3 hI3 h3 => ?_) (fun _ _ _ _ _ h => h.elim)
  obtain ⟨rfl, rfl, rfl⟩ := h3
  refine hG.callS dX1_kindIn_6 ks_X1_68 (sp_X1_require hΓ) rfl rfl (Nat.le_of_ble_eq_true rfl) (by decide) (by omega) (by omega) (fun r6 I6 L6 hI6 h6 => ?_) (fun E q I' L' hI ⟨e1, e2, e3⟩ => hG.out (by simp) ⟨e1, e2, e3⟩ (by omega) (by omega) trivial)
  obtain ⟨rfl, hb, rfl, rfl⟩ := h6
  refine hG.iload_n dX1_kindIn_9 rfl ?_
  refine hG.iret dX1_kindIn_10 rfl ?_ (by omega) (by omega) trivial
  exact ⟨rfl, hb, rfl, rfl⟩
