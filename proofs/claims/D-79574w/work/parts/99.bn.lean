/-! the ferry: a character of its line -/
theorem fg_X1_98_X1 : LkG RX1 98 ciX1 3 := ⟨RX1, TX1, 8, tyX1, _, cls_X1, by decide, Or.inl rfl, Or.inl q363⟩
theorem kf_X1_312_J8 : LkF RX1 312 RJ8 ⟨"java/lang/CharSequence", "length", "()I"⟩ yJ8_length 0 := ⟨q2730, q2738, q1037, q84, ⟨by decide +kernel, by decide +kernel, by decide +kernel⟩, q2732, q2731, q2740, q2739, q2737⟩
theorem ks_X1_315 : LkS RX1 315 yX1_requireIndex 1 := ⟨q2748, q1645, q73, by decide +kernel, by decide +kernel, by decide +kernel⟩
theorem kf_X1_318_J8 : LkF RX1 318 RJ8 ⟨"java/lang/CharSequence", "charAt", "(I)C"⟩ yJ8_charAt 1 := ⟨q2750, q2772, q2774, q84, ⟨by decide +kernel, by decide +kernel, by decide +kernel⟩, q2752, q2751, q2775, q2773, q2737⟩
theorem kf_X1_312_J9 : LkF RX1 312 RJ9 ⟨"java/lang/CharSequence", "length", "()I"⟩ yJ9_length 0 := ⟨q2730, q2734, q949, q85, ⟨by decide +kernel, by decide +kernel, by decide +kernel⟩, q2732, q2731, q2736, q2735, q2733⟩
theorem kf_X1_318_J9 : LkF RX1 318 RJ9 ⟨"java/lang/CharSequence", "charAt", "(I)C"⟩ yJ9_charAt 1 := ⟨q2750, q2753, q2755, q85, ⟨by decide +kernel, by decide +kernel, by decide +kernel⟩, q2752, q2751, q2756, q2754, q2733⟩
set_option maxHeartbeats 4000000 in
set_option maxRecDepth 100000 in
theorem sp_X1_character {l : Launch} {s0 : State} {D : va_G} {I : AI} {L : AL} {dE ca : Nat} {ad : Nat → Nat} {o : Option Nat} (hΓ : Gam l s0 D) (hZ : Std s0 D dE ca ad) {x N : Nat} {F : Fy} {A : FA} (hF : FeO dE I L x F A) (hW : WfF N F) (hN : N ≤ 22) (hX : StV s0 o) {n : Int32} : Spc l s0 D yX1_character 8 [.ref x, .int n] I L 1 6 (pQ (chrF F n) L) (xE1 RJ33 ((chrF F n).1) L) := by
  refine Spc.of hΓ cX1_character 2 (some FieldType.char) q2747 (by decide +kernel) (by decide) (Nat.le_of_ble_eq_true rfl) (fun G GX hG => ?_)
  obtain ⟨hx, hr, hpq, hpa, hip, hln, hsv, hnd⟩ := id hF
  obtain ⟨cs, hu, hc256, hc400, hor⟩ := hln
  rcases hor with ⟨hni, ml, hsb⟩ | hst
  · refine hG.iload_n dX1_character_0 rfl ?_
    refine hG.iconst (v := 0) dX1_character_1 rfl ?_
    refine hG.aload_n dX1_character_2 rfl ?_
    refine hG.get dX1_character_3 fg_X1_98_X1 (Or.inl hx) rfl ?_
    refine hG.callF dX1_character_6 kf_X1_312_J8 (Rcv.sb hsb) cl_J8 (sp_J8_length hΓ hsb) rfl rfl (Nat.le_of_ble_eq_true rfl) (by decide) (by omega) (by omega) (fun r6 I6 L6 hI6 h6 => ?_) (fun _ _ _ _ _ h => h.elim)
    obtain ⟨rfl, rfl, rfl⟩ := h6
    refine hG.iconst (v := 1) dX1_character_11 rfl ?_
    refine hG.isub dX1_character_12 ?_
    refine hG.callS dX1_character_13 ks_X1_64 (sp_X1_inRange hΓ) rfl rfl (Nat.le_of_ble_eq_true rfl) (by decide) (by omega) (by omega) (fun r13 I13 L13 hI13 h13 => ?_) (fun _ _ _ _ _ h => h.elim)
    obtain ⟨rfl, rfl, rfl⟩ := h13
    refine hG.callS dX1_character_16 ks_X1_315 (sp_X1_requireIndex hΓ) rfl rfl (Nat.le_of_ble_eq_true rfl) (by decide) (by omega) (by omega) (fun r16 I16 L16 hI16 h16 => ?_) (fun E q I' L' hI ⟨e1, e2, e3⟩ => hG.out (by simp) ⟨e3, by rw [show chrF F n = (1, 0) from if_neg (by rw [hu, List.length_map]; exact bFT e2)], e1⟩ (by omega) (by omega) trivial)
    obtain ⟨rfl, hb, rfl, rfl⟩ := h16
    obtain ⟨i, hi, rfl⟩ := idx_of (by omega) hb
    obtain ⟨c, hc, -⟩ := get_lt hi
    have hb2 : inR (nI i) 0 (nI F.li.length - 1) = true := by rw [hu, List.length_map]; exact hb
    have hv : chrF F (nI i) = (0, nI c) := by
      unfold chrF
      rw [if_pos hb2, nI_clamp (by omega), hu, List.getElem?_map, hc]
      rfl
    refine hG.aload_n dX1_character_19 rfl ?_
    refine hG.get dX1_character_20 fg_X1_98_X1 (Or.inl hx) rfl ?_
    refine hG.iload_n dX1_character_23 rfl ?_
    refine hG.callF dX1_character_24 kf_X1_318_J8 (Rcv.sb hsb) cl_J8 (sp_J8_charAt hΓ hX hsb (by decide) hc) rfl rfl (Nat.le_of_ble_eq_true rfl) (by decide) (by omega) (by omega) (fun r24 I24 L24 hI24 h24 => ?_) (fun _ _ _ _ _ h => h.elim)
    obtain ⟨rfl, rfl, rfl⟩ := h24
    refine hG.zret dX1_character_29 rfl (pk_charN (Nat.lt_of_lt_of_le (hc256 c (List.mem_of_getElem? hc)) (by decide))).1 ?_ (by omega) (by omega) trivial
    exact ⟨(by rw [hv] <;> rfl), (by rw [hv] <;> rfl), rfl⟩
  · refine hG.iload_n dX1_character_0 rfl ?_
    refine hG.iconst (v := 0) dX1_character_1 rfl ?_
    refine hG.aload_n dX1_character_2 rfl ?_
    refine hG.get dX1_character_3 fg_X1_98_X1 (Or.inl hx) rfl ?_
    refine hG.callF dX1_character_6 kf_X1_312_J9 (hst.r _).rcv cl_J9 (sp_J9_length hΓ hX (hst.r _)) rfl rfl (Nat.le_of_ble_eq_true rfl) (by decide) (by omega) (by omega) (fun r6 I6 L6 hI6 h6 => ?_) (fun _ _ _ _ _ h => h.elim)
    obtain ⟨rfl, rfl, rfl⟩ := h6
    refine hG.iconst (v := 1) dX1_character_11 rfl ?_
    refine hG.isub dX1_character_12 ?_
    refine hG.callS dX1_character_13 ks_X1_64 (sp_X1_inRange hΓ) rfl rfl (Nat.le_of_ble_eq_true rfl) (by decide) (by omega) (by omega) (fun r13 I13 L13 hI13 h13 => ?_) (fun _ _ _ _ _ h => h.elim)
    obtain ⟨rfl, rfl, rfl⟩ := h13
    refine hG.callS dX1_character_16 ks_X1_315 (sp_X1_requireIndex hΓ) rfl rfl (Nat.le_of_ble_eq_true rfl) (by decide) (by omega) (by omega) (fun r16 I16 L16 hI16 h16 => ?_) (fun E q I' L' hI ⟨e1, e2, e3⟩ => hG.out (by simp) ⟨e3, by rw [show chrF F n = (1, 0) from if_neg (by rw [hu, List.length_map]; exact bFT e2)], e1⟩ (by omega) (by omega) trivial)
    obtain ⟨rfl, hb, rfl, rfl⟩ := h16
    obtain ⟨i, hi, rfl⟩ := idx_of (by omega) hb
    obtain ⟨c, hc, -⟩ := get_lt hi
    have hb2 : inR (nI i) 0 (nI F.li.length - 1) = true := by rw [hu, List.length_map]; exact hb
    have hv : chrF F (nI i) = (0, nI c) := by
      unfold chrF
      rw [if_pos hb2, nI_clamp (by omega), hu, List.getElem?_map, hc]
      rfl
    refine hG.aload_n dX1_character_19 rfl ?_
    refine hG.get dX1_character_20 fg_X1_98_X1 (Or.inl hx) rfl ?_
    refine hG.iload_n dX1_character_23 rfl ?_
    refine hG.callF dX1_character_24 kf_X1_318_J9 (hst.r _).rcv cl_J9 (sp_J9_charAt hΓ hX (hst.r _) hc) rfl rfl (Nat.le_of_ble_eq_true rfl) (by decide) (by omega) (by omega) (fun r24 I24 L24 hI24 h24 => ?_) (fun _ _ _ _ _ h => h.elim)
    obtain ⟨rfl, rfl, rfl⟩ := h24
    refine hG.zret dX1_character_29 rfl (pk_charN (Nat.lt_of_lt_of_le (hc256 c (List.mem_of_getElem? hc)) (by decide))).1 ?_ (by omega) (by omega) trivial
    exact ⟨(by rw [hv] <;> rfl), (by rw [hv] <;> rfl), rfl⟩
