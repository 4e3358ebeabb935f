/-! a fresh river, a copy of one -/
abbrev rv0 : Rv := ([], [], [], [], [], [], 1, 3, 7, 0, 0, 100, 0, 0, 0)
theorem arI_new (n : Nat) : ∀ cA : ClassId, vp_cell cA (n, .inl (fun _ => (0 : Int32))) = arrV cA n (fun _ => defaultValue .int) := fun _ => rfl
abbrev fare0 : Nat → Int32 := va_up (va_up (va_up (fun _ => 0) 0 1) 1 3) 2 7
theorem fp_X2_37_X2 : LkP RX2 "<init>" 37 ciX2 6 (tyX2 6) := ⟨RX2, TX2, 13, tyX2, _, cls_X2, by decide, rfl, Or.inl rfl, Or.inr (Or.inr ⟨rfl, rfl, rfl, q265⟩)⟩
theorem fp_X2_34_X2 : LkP RX2 "<init>" 34 ciX2 5 (tyX2 5) := ⟨RX2, TX2, 13, tyX2, _, cls_X2, by decide, rfl, Or.inl rfl, Or.inr (Or.inr ⟨rfl, rfl, rfl, q263⟩)⟩
theorem fp_X2_31_X2 : LkP RX2 "<init>" 31 ciX2 4 (tyX2 4) := ⟨RX2, TX2, 13, tyX2, _, cls_X2, by decide, rfl, Or.inl rfl, Or.inr (Or.inr ⟨rfl, rfl, rfl, q261⟩)⟩
theorem fp_X2_27_X2 : LkP RX2 "<init>" 27 ciX2 3 (tyX2 3) := ⟨RX2, TX2, 13, tyX2, _, cls_X2, by decide, rfl, Or.inl rfl, Or.inr (Or.inr ⟨rfl, rfl, rfl, q259⟩)⟩
theorem nw_X2_9 : LkN RX2 9 ciJ2 [.int 0, .null, .int 0] 3 := ⟨RJ2, TJ2, tyJ2, cls_J2, q158, q159, q77, rfl, fun j hj => by
  match j, hj with
  | 0, _ => rfl
  | 1, _ => rfl
  | 2, _ => rfl
  | _ + 3, h => exact absurd h (by omega)⟩
theorem ki_X2_11 : LkI RX2 11 yJ2_init 0 := ⟨q160, q161, q77, rfl, ⟨by decide +kernel, by decide +kernel, by decide +kernel⟩, by decide +kernel⟩
theorem fp_X2_21_X2 : LkP RX2 "<init>" 21 ciX2 2 (tyX2 2) := ⟨RX2, TX2, 13, tyX2, _, cls_X2, by decide, rfl, Or.inl rfl, Or.inr (Or.inr ⟨rfl, rfl, rfl, q257⟩)⟩
theorem fp_X2_18_X2 : LkP RX2 "<init>" 18 ciX2 1 (tyX2 1) := ⟨RX2, TX2, 13, tyX2, _, cls_X2, by decide, rfl, Or.inl rfl, Or.inr (Or.inr ⟨rfl, rfl, rfl, q255⟩)⟩
theorem fp_X2_12_X2 : LkP RX2 "<init>" 12 ciX2 0 (tyX2 0) := ⟨RX2, TX2, 13, tyX2, _, cls_X2, by decide, rfl, Or.inl rfl, Or.inr (Or.inr ⟨rfl, rfl, rfl, q253⟩)⟩
set_option maxHeartbeats 4000000 in
set_option maxRecDepth 100000 in
theorem sp_X2_init {l : Launch} {s0 : State} {D : va_G} {I : AI} {L : AL} {dE ca : Nat} {ad : Nat → Nat} (hΓ : Gam l s0 D) (hZ : Std s0 D dE ca ad) {r : Nat} (h0 : L r = some (obC ciX2 [.null, .null, .null, .null, .null, .null, .null, .int 0, .int 0, .int 0, .int 0, .int 0, .int 0])) : Spc l s0 D yX2_init 5 [.ref r] I L 10 51 (fun q I' L' => q = none ∧ ∃ A', RvO dE I' L' r rv0 A' ∧ Far L [r] (RN r A') L') noX := by
  refine Spc.of hΓ cX2_init 1 none q156 (by decide +kernel) (by decide) (Nat.le_of_ble_eq_true rfl) (fun G GX hG => ?_)
  have K7 : ∀ (M : AL) (q0 q1 q2 q3 q4 q5 q6 : Nat), M r = some (obC ciX2 [.ref q0, .ref q1, .ref q2, .ref q3, .ref q4, .ref q5, .ref q6, .int 0, .int 0, .int 0, .int 0, .int 0, .int 0]) → M q0 = some (liC dE 0 []) → M q1 = some (liC dE 0 []) → M q2 = some (liC dE 0 []) → M q3 = some (taC []) → M q4 = some (taC []) → M q5 = some (taC []) → M q6 = some (.inl (arI 3 fare0)) → q0 ≠ r → q1 ≠ r → q2 ≠ r → q3 ≠ r → q4 ≠ r → q5 ≠ r → q6 ≠ r → q0 ≠ q1 → q0 ≠ q2 → q0 ≠ q3 → q0 ≠ q4 → q0 ≠ q5 → q0 ≠ q6 → q1 ≠ q2 → q1 ≠ q3 → q1 ≠ q4 → q1 ≠ q5 → q1 ≠ q6 → q2 ≠ q3 → q2 ≠ q4 → q2 ≠ q5 → q2 ≠ q6 → q3 ≠ q4 → q3 ≠ q5 → q3 ≠ q6 → q4 ≠ q5 → q4 ≠ q6 → q5 ≠ q6 → (∀ z x, L z = some x → z ≠ r → z ∉ ([q0, q1, q2, q3, q4, q5, q6] : List Nat) ∧ M z = some x) → G 90 [(0, .ref r)] [] I M 10 51 := by
    intro M q0 q1 q2 q3 q4 q5 q6 hr e0 e1 e2 e3 e4 e5 e6 n0 n1 n2 n3 n4 n5 n6 d01 d02 d03 d04 d05 d06 d12 d13 d14 d15 d16 d23 d24 d25 d26 d34 d35 d36 d45 d46 d56 far
    refine hG.aload_n dX2_init_90 rfl ?_
    refine hG.bipush (v := 100) dX2_init_91 rfl ?_
    refine hG.put dX2_init_93 fp_X2_41_X2 hr rfl rfl (Nat.le_of_ble_eq_true rfl) ?_
    refine hG.vret dX2_init_96 rfl ?_ (by omega) (by omega) trivial
    refine ⟨rfl, (q0, q1, q2, q3, q4, q5, q6, 0, 0, 0, [], [], [], fare0), ⟨up1_s, (up1_n n0).trans e0, (up1_n n1).trans e1, (up1_n n2).trans e2, (up1_n n3).trans e3, (up1_n n4).trans e4, (up1_n n5).trans e5, (up1_n n6).trans e6, rfl, rfl, rfl, trivial, trivial, trivial, d01, d02, d12, d34, d35, d45⟩, fun z x hz hn => ?_⟩
    have hzr : z ≠ r := fun e => hn (e ▸ List.mem_singleton.mpr rfl)
    obtain ⟨k1, k2⟩ := far z x hz hzr
    exact ⟨fun hm => (List.mem_cons.mp hm).elim hzr k1, (up1_n hzr).trans k2⟩
  have K6 : ∀ (M : AL) (q0 q1 q2 q3 q4 q5 : Nat), M r = some (obC ciX2 [.ref q0, .ref q1, .ref q2, .ref q3, .ref q4, .ref q5, .null, .int 0, .int 0, .int 0, .int 0, .int 0, .int 0]) → M q0 = some (liC dE 0 []) → M q1 = some (liC dE 0 []) → M q2 = some (liC dE 0 []) → M q3 = some (taC []) → M q4 = some (taC []) → M q5 = some (taC []) → q0 ≠ r → q1 ≠ r → q2 ≠ r → q3 ≠ r → q4 ≠ r → q5 ≠ r → q0 ≠ q1 → q0 ≠ q2 → q0 ≠ q3 → q0 ≠ q4 → q0 ≠ q5 → q1 ≠ q2 → q1 ≠ q3 → q1 ≠ q4 → q1 ≠ q5 → q2 ≠ q3 → q2 ≠ q4 → q2 ≠ q5 → q3 ≠ q4 → q3 ≠ q5 → q4 ≠ q5 → (∀ z x, L z = some x → z ≠ r → z ∉ ([q0, q1, q2, q3, q4, q5] : List Nat) ∧ M z = some x) → G 70 [(0, .ref r)] [] I M 9 48 := by
    intro M q0 q1 q2 q3 q4 q5 hr e0 e1 e2 e3 e4 e5 n0 n1 n2 n3 n4 n5 d01 d02 d03 d04 d05 d12 d13 d14 d15 d23 d24 d25 d34 d35 d45 far
    refine hG.aload_n dX2_init_70 rfl ?_
    refine hG.iconst (v := 3) dX2_init_71 rfl ?_
    refine hG.newa .int (3, .inl (fun _ => 0)) dX2_init_72 q306 rfl (arI_new 3) (by decide) rfl (by decide) (by omega) (by omega) (fun p hLp hIp => ?_)
    have npr : p ≠ r := fun e => by rw [e, hr] at hLp; cases hLp
    have e0p : q0 ≠ p := fun e => by rw [e, hLp] at e0; cases e0
    have e1p : q1 ≠ p := fun e => by rw [e, hLp] at e1; cases e1
    have e2p : q2 ≠ p := fun e => by rw [e, hLp] at e2; cases e2
    have e3p : q3 ≠ p := fun e => by rw [e, hLp] at e3; cases e3
    have e4p : q4 ≠ p := fun e => by rw [e, hLp] at e4; cases e4
    have e5p : q5 ≠ p := fun e => by rw [e, hLp] at e5; cases e5
    refine hG.dup dX2_init_74 rfl ?_
    refine hG.iconst (v := 0) dX2_init_75 rfl ?_
    refine hG.iconst (v := 1) dX2_init_76 rfl ?_
    refine hG.iast dX2_init_77 up1_s (by unfold vp_in; decide) ?_
    rw [up1_up1]
    refine hG.dup dX2_init_78 rfl ?_
    refine hG.iconst (v := 1) dX2_init_79 rfl ?_
    refine hG.iconst (v := 3) dX2_init_80 rfl ?_
    refine hG.iast dX2_init_81 up1_s (by unfold vp_in; decide) ?_
    rw [up1_up1]
    refine hG.dup dX2_init_82 rfl ?_
    refine hG.iconst (v := 2) dX2_init_83 rfl ?_
    refine hG.bipush (v := 7) dX2_init_84 rfl ?_
    refine hG.iast dX2_init_86 up1_s (by unfold vp_in; decide) ?_
    rw [up1_up1]
    refine hG.put dX2_init_87 fp_X2_37_X2 ((up1_n npr.symm).trans hr) rfl rfl (Nat.le_of_ble_eq_true rfl) ?_
    exact K7 _ q0 q1 q2 q3 q4 q5 p up1_s ((up1_n n0).trans ((up1_n e0p).trans e0)) ((up1_n n1).trans ((up1_n e1p).trans e1)) ((up1_n n2).trans ((up1_n e2p).trans e2)) ((up1_n n3).trans ((up1_n e3p).trans e3)) ((up1_n n4).trans ((up1_n e4p).trans e4)) ((up1_n n5).trans ((up1_n e5p).trans e5)) ((up1_n npr).trans up1_s) n0 n1 n2 n3 n4 n5 npr d01 d02 d03 d04 d05 e0p d12 d13 d14 d15 e1p d23 d24 d25 e2p d34 d35 e3p d45 e4p e5p (fun z x hz hzr => by
      obtain ⟨k1, k2⟩ := far z x hz hzr
      have hzp : z ≠ p := fun e => by rw [e, hLp] at k2; cases k2
      refine ⟨fun hm => ?_, (up1_n hzr).trans ((up1_n hzp).trans k2)⟩
      simp only [List.mem_cons, List.not_mem_nil, or_false] at hm k1
      rcases hm with h | h | h | h | h | h | h
      · exact k1 (by simp [h])
      · exact k1 (by simp [h])
      · exact k1 (by simp [h])
      · exact k1 (by simp [h])
      · exact k1 (by simp [h])
      · exact k1 (by simp [h])
      · exact hzp h)
  have K5 : ∀ (M : AL) (q0 q1 q2 q3 q4 : Nat), M r = some (obC ciX2 [.ref q0, .ref q1, .ref q2, .ref q3, .ref q4, .null, .null, .int 0, .int 0, .int 0, .int 0, .int 0, .int 0]) → M q0 = some (liC dE 0 []) → M q1 = some (liC dE 0 []) → M q2 = some (liC dE 0 []) → M q3 = some (taC []) → M q4 = some (taC []) → q0 ≠ r → q1 ≠ r → q2 ≠ r → q3 ≠ r → q4 ≠ r → q0 ≠ q1 → q0 ≠ q2 → q0 ≠ q3 → q0 ≠ q4 → q1 ≠ q2 → q1 ≠ q3 → q1 ≠ q4 → q2 ≠ q3 → q2 ≠ q4 → q3 ≠ q4 → (∀ z x, L z = some x → z ≠ r → z ∉ ([q0, q1, q2, q3, q4] : List Nat) ∧ M z = some x) → G 59 [(0, .ref r)] [] I M 7 35 := by
    intro M q0 q1 q2 q3 q4 hr e0 e1 e2 e3 e4 n0 n1 n2 n3 n4 d01 d02 d03 d04 d12 d13 d14 d23 d24 d34 far
    refine hG.aload_n dX2_init_59 rfl ?_
    refine hG.new dX2_init_60 nw_X2_24 (by omega) (by omega) (fun p hLp hIp => ?_)
    have npr : p ≠ r := fun e => by rw [e, hr] at hLp; cases hLp
    have e0p : q0 ≠ p := fun e => by rw [e, hLp] at e0; cases e0
    have e1p : q1 ≠ p := fun e => by rw [e, hLp] at e1; cases e1
    have e2p : q2 ≠ p := fun e => by rw [e, hLp] at e2; cases e2
    have e3p : q3 ≠ p := fun e => by rw [e, hLp] at e3; cases e3
    have e4p : q4 ≠ p := fun e => by rw [e, hLp] at e4; cases e4
    refine hG.dup dX2_init_63 rfl ?_
    refine hG.callNI dX2_init_64 ki_X2_26 (sp_X3_init hΓ up1_s) rfl rfl (Nat.le_of_ble_eq_true rfl) (by decide) (by omega) (by omega) (fun r64 I64 L64 hI64 h64 => ?_) (fun _ _ _ _ _ h => h.elim)
    obtain ⟨rfl, rfl, rfl⟩ := h64
    rw [up1_up1]
    refine hG.put dX2_init_67 fp_X2_34_X2 ((up1_n npr.symm).trans hr) rfl rfl (Nat.le_of_ble_eq_true rfl) ?_
    exact K6 _ q0 q1 q2 q3 q4 p up1_s ((up1_n n0).trans ((up1_n e0p).trans e0)) ((up1_n n1).trans ((up1_n e1p).trans e1)) ((up1_n n2).trans ((up1_n e2p).trans e2)) ((up1_n n3).trans ((up1_n e3p).trans e3)) ((up1_n n4).trans ((up1_n e4p).trans e4)) ((up1_n npr).trans up1_s) n0 n1 n2 n3 n4 npr d01 d02 d03 d04 e0p d12 d13 d14 e1p d23 d24 e2p d34 e3p e4p (fun z x hz hzr => by
      obtain ⟨k1, k2⟩ := far z x hz hzr
      have hzp : z ≠ p := fun e => by rw [e, hLp] at k2; cases k2
      refine ⟨fun hm => ?_, (up1_n hzr).trans ((up1_n hzp).trans k2)⟩
      simp only [List.mem_cons, List.not_mem_nil, or_false] at hm k1
      rcases hm with h | h | h | h | h | h
      · exact k1 (by simp [h])
      · exact k1 (by simp [h])
      · exact k1 (by simp [h])
      · exact k1 (by simp [h])
      · exact k1 (by simp [h])
      · exact hzp h)
  have K4 : ∀ (M : AL) (q0 q1 q2 q3 : Nat), M r = some (obC ciX2 [.ref q0, .ref q1, .ref q2, .ref q3, .null, .null, .null, .int 0, .int 0, .int 0, .int 0, .int 0, .int 0]) → M q0 = some (liC dE 0 []) → M q1 = some (liC dE 0 []) → M q2 = some (liC dE 0 []) → M q3 = some (taC []) → q0 ≠ r → q1 ≠ r → q2 ≠ r → q3 ≠ r → q0 ≠ q1 → q0 ≠ q2 → q0 ≠ q3 → q1 ≠ q2 → q1 ≠ q3 → q2 ≠ q3 → (∀ z x, L z = some x → z ≠ r → z ∉ ([q0, q1, q2, q3] : List Nat) ∧ M z = some x) → G 48 [(0, .ref r)] [] I M 5 22 := by
    intro M q0 q1 q2 q3 hr e0 e1 e2 e3 n0 n1 n2 n3 d01 d02 d03 d12 d13 d23 far
    refine hG.aload_n dX2_init_48 rfl ?_
    refine hG.new dX2_init_49 nw_X2_24 (by omega) (by omega) (fun p hLp hIp => ?_)
    have npr : p ≠ r := fun e => by rw [e, hr] at hLp; cases hLp
    have e0p : q0 ≠ p := fun e => by rw [e, hLp] at e0; cases e0
    have e1p : q1 ≠ p := fun e => by rw [e, hLp] at e1; cases e1
    have e2p : q2 ≠ p := fun e => by rw [e, hLp] at e2; cases e2
    have e3p : q3 ≠ p := fun e => by rw [e, hLp] at e3; cases e3
    refine hG.dup dX2_init_52 rfl ?_
    refine hG.callNI dX2_init_53 ki_X2_26 (sp_X3_init hΓ up1_s) rfl rfl (Nat.le_of_ble_eq_true rfl) (by decide) (by omega) (by omega) (fun r53 I53 L53 hI53 h53 => ?_) (fun _ _ _ _ _ h => h.elim)
    obtain ⟨rfl, rfl, rfl⟩ := h53
    rw [up1_up1]
    refine hG.put dX2_init_56 fp_X2_31_X2 ((up1_n npr.symm).trans hr) rfl rfl (Nat.le_of_ble_eq_true rfl) ?_
    exact K5 _ q0 q1 q2 q3 p up1_s ((up1_n n0).trans ((up1_n e0p).trans e0)) ((up1_n n1).trans ((up1_n e1p).trans e1)) ((up1_n n2).trans ((up1_n e2p).trans e2)) ((up1_n n3).trans ((up1_n e3p).trans e3)) ((up1_n npr).trans up1_s) n0 n1 n2 n3 npr d01 d02 d03 e0p d12 d13 e1p d23 e2p e3p (fun z x hz hzr => by
      obtain ⟨k1, k2⟩ := far z x hz hzr
      have hzp : z ≠ p := fun e => by rw [e, hLp] at k2; cases k2
      refine ⟨fun hm => ?_, (up1_n hzr).trans ((up1_n hzp).trans k2)⟩
      simp only [List.mem_cons, List.not_mem_nil, or_false] at hm k1
      rcases hm with h | h | h | h | h
      · exact k1 (by simp [h])
      · exact k1 (by simp [h])
      · exact k1 (by simp [h])
      · exact k1 (by simp [h])
      · exact hzp h)
  have K3 : ∀ (M : AL) (q0 q1 q2 : Nat), M r = some (obC ciX2 [.ref q0, .ref q1, .ref q2, .null, .null, .null, .null, .int 0, .int 0, .int 0, .int 0, .int 0, .int 0]) → M q0 = some (liC dE 0 []) → M q1 = some (liC dE 0 []) → M q2 = some (liC dE 0 []) → q0 ≠ r → q1 ≠ r → q2 ≠ r → q0 ≠ q1 → q0 ≠ q2 → q1 ≠ q2 → (∀ z x, L z = some x → z ≠ r → z ∉ ([q0, q1, q2] : List Nat) ∧ M z = some x) → G 37 [(0, .ref r)] [] I M 3 9 := by
    intro M q0 q1 q2 hr e0 e1 e2 n0 n1 n2 d01 d02 d12 far
    refine hG.aload_n dX2_init_37 rfl ?_
    refine hG.new dX2_init_38 nw_X2_24 (by omega) (by omega) (fun p hLp hIp => ?_)
    have npr : p ≠ r := fun e => by rw [e, hr] at hLp; cases hLp
    have e0p : q0 ≠ p := fun e => by rw [e, hLp] at e0; cases e0
    have e1p : q1 ≠ p := fun e => by rw [e, hLp] at e1; cases e1
    have e2p : q2 ≠ p := fun e => by rw [e, hLp] at e2; cases e2
    refine hG.dup dX2_init_41 rfl ?_
    refine hG.callNI dX2_init_42 ki_X2_26 (sp_X3_init hΓ up1_s) rfl rfl (Nat.le_of_ble_eq_true rfl) (by decide) (by omega) (by omega) (fun r42 I42 L42 hI42 h42 => ?_) (fun _ _ _ _ _ h => h.elim)
    obtain ⟨rfl, rfl, rfl⟩ := h42
    rw [up1_up1]
    refine hG.put dX2_init_45 fp_X2_27_X2 ((up1_n npr.symm).trans hr) rfl rfl (Nat.le_of_ble_eq_true rfl) ?_
    exact K4 _ q0 q1 q2 p up1_s ((up1_n n0).trans ((up1_n e0p).trans e0)) ((up1_n n1).trans ((up1_n e1p).trans e1)) ((up1_n n2).trans ((up1_n e2p).trans e2)) ((up1_n npr).trans up1_s) n0 n1 n2 npr d01 d02 e0p d12 e1p e2p (fun z x hz hzr => by
      obtain ⟨k1, k2⟩ := far z x hz hzr
      have hzp : z ≠ p := fun e => by rw [e, hLp] at k2; cases k2
      refine ⟨fun hm => ?_, (up1_n hzr).trans ((up1_n hzp).trans k2)⟩
      simp only [List.mem_cons, List.not_mem_nil, or_false] at hm k1
      rcases hm with h | h | h | h
      · exact k1 (by simp [h])
      · exact k1 (by simp [h])
      · exact k1 (by simp [h])
      · exact hzp h)
  have K2 : ∀ (M : AL) (q0 q1 : Nat), M r = some (obC ciX2 [.ref q0, .ref q1, .null, .null, .null, .null, .null, .int 0, .int 0, .int 0, .int 0, .int 0, .int 0]) → M q0 = some (liC dE 0 []) → M q1 = some (liC dE 0 []) → q0 ≠ r → q1 ≠ r → q0 ≠ q1 → (∀ z x, L z = some x → z ≠ r → z ∉ ([q0, q1] : List Nat) ∧ M z = some x) → G 26 [(0, .ref r)] [] I M 2 6 := by
    intro M q0 q1 hr e0 e1 n0 n1 d01 far
    refine hG.aload_n dX2_init_26 rfl ?_
    refine hG.new dX2_init_27 nw_X2_9 (by omega) (by omega) (fun p hLp hIp => ?_)
    have npr : p ≠ r := fun e => by rw [e, hr] at hLp; cases hLp
    have e0p : q0 ≠ p := fun e => by rw [e, hLp] at e0; cases e0
    have e1p : q1 ≠ p := fun e => by rw [e, hLp] at e1; cases e1
    refine hG.dup dX2_init_30 rfl ?_
    refine hG.callI dX2_init_31 ki_X2_11 (sp_J2_init (mo := 0) (xs := []) hΓ hZ.li up1_s) rfl rfl (Nat.le_of_ble_eq_true rfl) (by decide) (by omega) (by omega) (fun r31 I31 L31 hI31 h31 => ?_) (fun _ _ _ _ _ h => h.elim)
    obtain ⟨rfl, rfl, rfl⟩ := h31
    rw [up1_up1]
    refine hG.put dX2_init_34 fp_X2_21_X2 ((up1_n npr.symm).trans hr) rfl rfl (Nat.le_of_ble_eq_true rfl) ?_
    exact K3 _ q0 q1 p up1_s ((up1_n n0).trans ((up1_n e0p).trans e0)) ((up1_n n1).trans ((up1_n e1p).trans e1)) ((up1_n npr).trans up1_s) n0 n1 npr d01 e0p e1p (fun z x hz hzr => by
      obtain ⟨k1, k2⟩ := far z x hz hzr
      have hzp : z ≠ p := fun e => by rw [e, hLp] at k2; cases k2
      refine ⟨fun hm => ?_, (up1_n hzr).trans ((up1_n hzp).trans k2)⟩
      simp only [List.mem_cons, List.not_mem_nil, or_false] at hm k1
      rcases hm with h | h | h
      · exact k1 (by simp [h])
      · exact k1 (by simp [h])
      · exact hzp h)
  have K1 : ∀ (M : AL) (q0 : Nat), M r = some (obC ciX2 [.ref q0, .null, .null, .null, .null, .null, .null, .int 0, .int 0, .int 0, .int 0, .int 0, .int 0]) → M q0 = some (liC dE 0 []) → q0 ≠ r → (∀ z x, L z = some x → z ≠ r → z ∉ ([q0] : List Nat) ∧ M z = some x) → G 15 [(0, .ref r)] [] I M 1 3 := by
    intro M q0 hr e0 n0 far
    refine hG.aload_n dX2_init_15 rfl ?_
    refine hG.new dX2_init_16 nw_X2_9 (by omega) (by omega) (fun p hLp hIp => ?_)
    have npr : p ≠ r := fun e => by rw [e, hr] at hLp; cases hLp
    have e0p : q0 ≠ p := fun e => by rw [e, hLp] at e0; cases e0
    refine hG.dup dX2_init_19 rfl ?_
    refine hG.callI dX2_init_20 ki_X2_11 (sp_J2_init (mo := 0) (xs := []) hΓ hZ.li up1_s) rfl rfl (Nat.le_of_ble_eq_true rfl) (by decide) (by omega) (by omega) (fun r20 I20 L20 hI20 h20 => ?_) (fun _ _ _ _ _ h => h.elim)
    obtain ⟨rfl, rfl, rfl⟩ := h20
    rw [up1_up1]
    refine hG.put dX2_init_23 fp_X2_18_X2 ((up1_n npr.symm).trans hr) rfl rfl (Nat.le_of_ble_eq_true rfl) ?_
    exact K2 _ q0 p up1_s ((up1_n n0).trans ((up1_n e0p).trans e0)) ((up1_n npr).trans up1_s) n0 npr e0p (fun z x hz hzr => by
      obtain ⟨k1, k2⟩ := far z x hz hzr
      have hzp : z ≠ p := fun e => by rw [e, hLp] at k2; cases k2
      refine ⟨fun hm => ?_, (up1_n hzr).trans ((up1_n hzp).trans k2)⟩
      simp only [List.mem_cons, List.not_mem_nil, or_false] at hm k1
      rcases hm with h | h
      · exact k1 (by simp [h])
      · exact hzp h)
  have K0 : ∀ (M : AL), M r = some (obC ciX2 [.null, .null, .null, .null, .null, .null, .null, .int 0, .int 0, .int 0, .int 0, .int 0, .int 0]) → (∀ z x, L z = some x → z ≠ r → z ∉ ([] : List Nat) ∧ M z = some x) → G 4 [(0, .ref r)] [] I M 0 0 := by
    intro M hr far
    refine hG.aload_n dX2_init_4 rfl ?_
    refine hG.new dX2_init_5 nw_X2_9 (by omega) (by omega) (fun p hLp hIp => ?_)
    have npr : p ≠ r := fun e => by rw [e, hr] at hLp; cases hLp
    refine hG.dup dX2_init_8 rfl ?_
    refine hG.callI dX2_init_9 ki_X2_11 (sp_J2_init (mo := 0) (xs := []) hΓ hZ.li up1_s) rfl rfl (Nat.le_of_ble_eq_true rfl) (by decide) (by omega) (by omega) (fun r9 I9 L9 hI9 h9 => ?_) (fun _ _ _ _ _ h => h.elim)
    obtain ⟨rfl, rfl, rfl⟩ := h9
    rw [up1_up1]
    refine hG.put dX2_init_12 fp_X2_12_X2 ((up1_n npr.symm).trans hr) rfl rfl (Nat.le_of_ble_eq_true rfl) ?_
    exact K1 _ p up1_s ((up1_n npr).trans up1_s) npr (fun z x hz hzr => by
      obtain ⟨k1, k2⟩ := far z x hz hzr
      have hzp : z ≠ p := fun e => by rw [e, hLp] at k2; cases k2
      exact ⟨fun hm => hzp (List.mem_singleton.mp hm), (up1_n hzr).trans ((up1_n hzp).trans k2)⟩)
  refine hG.aload_n dX2_init_0 rfl ?_
  refine hG.objI dX2_init_1 q157 (Nat.le_of_ble_eq_true rfl) (by decide) ?_
  exact K0 L h0 (fun z x hz hzr => ⟨fun hm => (nomatch hm), hz⟩)
