/-! groups come and land -/
abbrev rvX (R : Rv) (A : RA) : List Value := rvF R A
abbrev landR (R : Rv) (f : Nat → Int32) : Rv := (((R.wFo (lkeep R.st R.fo)).wAf (lkeep R.st R.af)).wLd (lnum R.st (lnum R.st R.ld R.fo) R.af)).wPd (R.pd + (lcoin f R.st 0 R.fo + lcoin f R.st 0 R.af))
theorem kv_X2_265 : LkV RX2 265 yX3_of 1 := ⟨q1783, q766, q767, q78, by decide +kernel, by decide +kernel, by decide +kernel⟩
set_option maxHeartbeats 4000000 in
set_option maxRecDepth 100000 in
theorem sp_X2_come {l : Launch} {s0 : State} {D : va_G} {I : AI} {L : AL} {dE ca : Nat} {ad : Nat → Nat} {r : Nat} {R : Rv} {A : RA} (hΓ : Gam l s0 D) (hZ : Std s0 D dE ca ad) (h : RvO dE I L r R A) {x c : Nat} {n : Int32} (hx : I x (ob ciX9 (grp c))) (hc : c < 147) (hl : R.wa.length ≤ 23) (hm : tof R.wa c + n = 0 → ∃ v, (c, v) ∈ R.wa) : Spc l s0 D yX2_come 9 [.ref r, .ref x, .int n] I L 4 47 (fun q I' L' => tof R.wa c + n ≤ 999 ∧ q = some (.int (tof R.wa c + n)) ∧ ∃ A', RvO dE I' L' r (R.wWa (tadd R.wa c n)) A' ∧ Far L (RN r A) (RN r A') L') (xR 1 999 (¬ tof R.wa c + n ≤ 999) L) := by
  refine Spc.of hΓ cX2_come 4 (some FieldType.int) q1856 (by decide +kernel) (by decide) (Nat.le_of_ble_eq_true rfl) (fun G GX hG => ?_)
  refine hG.aload_n dX2_come_0 rfl ?_
  refine hG.get dX2_come_1 fg_X2_27_X2 (Or.inl h.h) rfl ?_
  refine hG.aload_n dX2_come_4 rfl ?_
  refine hG.callV dX2_come_5 kv_X2_265 (Rcv.ta h.h3) (sp_X3_of hΓ hZ h.h3 hc hx) rfl rfl (Nat.le_of_ble_eq_true rfl) (by decide) (by omega) (by omega) (fun r5 I5 L5 hI5 h5 => ?_) (fun _ _ _ _ _ h => h.elim)
  obtain ⟨rfl, rfl, rfl⟩ := h5
  refine hG.iload_n dX2_come_8 rfl ?_
  refine hG.iadd dX2_come_9 ?_
  refine hG.istore_n dX2_come_10 (by decide) ?_
  refine hG.iload_n dX2_come_11 rfl ?_
  refine hG.sipush (v := 999) dX2_come_12 rfl ?_
  refine hG.dia1 (p := 15) (fun kt kf => hG.icmp_gt (tgt := 22) dX2_come_15 rfl kt kf) dX2_come_18 dX2_come_19 rfl dX2_come_22 ?_
  refine hG.iconst (v := 1) dX2_come_23 rfl ?_
  refine hG.sipush (v := 999) dX2_come_24 rfl ?_
  refine hG.callNS dX2_come_27 ks_X2_176 (sp_X1_allow hΓ) rfl rfl (Nat.le_of_ble_eq_true rfl) (by decide) (by omega) (by omega) (fun r27 I27 L27 hI27 h27 => ?_) (fun E q I' L' hI ⟨e1, e2, e3, e4⟩ => hG.out (by simp) ⟨e1, lt_not.mp (ndecF.mp e2), e3, e4⟩ (by omega) (by omega) trivial)
  obtain ⟨rfl, hb, rfl, rfl⟩ := h27
  have hb2 : tof R.wa c + n ≤ 999 := Decidable.not_not.mp (fun q => ndec.mp hb (lt_not.mpr q))
  refine hG.aload_n dX2_come_30 rfl ?_
  refine hG.get dX2_come_31 fg_X2_27_X2 (Or.inl h.h) rfl ?_
  refine hG.aload_n dX2_come_34 rfl ?_
  refine hG.iload_n dX2_come_35 rfl ?_
  refine hG.callV dX2_come_36 kv_X2_222 (Rcv.ta h.h3) (sp_X3_add hΓ hZ h.h3 hc hx hl hm) rfl rfl (Nat.le_of_ble_eq_true rfl) (by decide) (by omega) (by omega) (fun r36 I36 L36 hI36 h36 => ?_) (fun _ _ _ _ _ h => h.elim)
  obtain ⟨rfl, rfl⟩ := h36
  refine hG.iload_n dX2_come_39 rfl ?_
  refine hG.iret dX2_come_40 rfl ?_ (by omega) (by omega) trivial
  exact ⟨hb2, rfl, A, (h.mono hI36 (fun _ _ _ hx => hx)).sWa _, h.f_a3 _⟩
theorem kv_X2_282 : LkV RX2 282 yX2_land_2 1 := ⟨q2036, q2038, qs11, q74, by decide +kernel, by decide +kernel, by decide +kernel⟩
theorem fg_X2_90_X2 : LkG RX2 90 ciX2 11 := ⟨RX2, TX2, 13, tyX2, _, cls_X2, by decide, Or.inl rfl, Or.inl q275⟩
theorem fp_X2_90_X2 {nm : String} : LkP RX2 nm 90 ciX2 11 (tyX2 11) := ⟨RX2, TX2, 13, tyX2, _, cls_X2, by decide, rfl, Or.inl rfl, Or.inl ⟨rfl, q275⟩⟩
set_option maxHeartbeats 4000000 in
set_option maxRecDepth 100000 in
theorem sp_X2_land {l : Launch} {s0 : State} {D : va_G} {I : AI} {L : AL} {dE ca : Nat} {ad : Nat → Nat} {r : Nat} {R : Rv} {A : RA} (hΓ : Gam l s0 D) (hZ : Std s0 D dE ca ad) (h : RvO dE I L r R A) : Spc l s0 D yX2_land 9 [.ref r] I L 4 14 (fun q I' L' => q = some (.int (lcoin A.g R.st 0 R.fo + lcoin A.g R.st 0 R.af)) ∧ ∃ A', RvO dE I' L' r (landR R A.g) A' ∧ Far L (RN r A) (RN r A') L') noX := by
  refine Spc.of hΓ cX2_land 2 (some FieldType.int) q2035 (by decide +kernel) (by decide) (Nat.le_of_ble_eq_true rfl) (fun G GX hG => ?_)
  refine hG.aload_n dX2_land_0 rfl ?_
  refine hG.aload_n dX2_land_1 rfl ?_
  refine hG.get dX2_land_2 fg_X2_31_X2 (Or.inl h.h) rfl ?_
  refine hG.callV dX2_land_5 kv_X2_282 (Rcv.raw h.h cl_X2) (sp_X2_land_2 hΓ hZ h.h h.h6 h.h4) rfl rfl (Nat.le_of_ble_eq_true rfl) (by decide) (by omega) (by omega) (fun r5 I5 L5 hI5 h5 => ?_) (fun _ _ _ _ _ h => h.elim)
  obtain ⟨rfl, rfl⟩ := h5
  have h1 := (h.sFo (lkeep R.st R.fo)).mono hI5 (fun _ _ _ hx => hx)
  have h2 := h1.sInts R.hr R.st R.rp (lnum R.st R.ld R.fo) R.pd R.cr
  have F2 := (h.f_a4 (some (taC (lkeep R.st R.fo)))).tr (h1.f_r (some (obC ciX2 [.ref A.a0, .ref A.a1, .ref A.a2, .ref A.a3, .ref A.a4, .ref A.a5, .ref A.a6, .int R.hr, .int R.st, .int R.rp, .int (lnum R.st R.ld R.fo), .int R.pd, .int R.cr])))
  refine hG.aload_n dX2_land_8 rfl ?_
  refine hG.aload_n dX2_land_9 rfl ?_
  refine hG.get dX2_land_10 fg_X2_34_X2 (Or.inl h2.h) rfl ?_
  refine hG.callV dX2_land_13 kv_X2_282 (Rcv.raw h2.h cl_X2) (sp_X2_land_2 hΓ hZ h2.h h2.h6 h2.h5) rfl rfl (Nat.le_of_ble_eq_true rfl) (by decide) (by omega) (by omega) (fun r13 I13 L13 hI13 h13 => ?_) (fun _ _ _ _ _ h => h.elim)
  obtain ⟨rfl, rfl⟩ := h13
  have h1b := (h2.sAf (lkeep R.st R.af)).mono hI13 (fun _ _ _ hx => hx)
  have h3 := h1b.sInts R.hr R.st R.rp (lnum R.st (lnum R.st R.ld R.fo) R.af) R.pd R.cr
  have F3 := F2.tr ((h2.f_a5 (some (taC (lkeep R.st R.af)))).tr (h1b.f_r (some (obC ciX2 [.ref A.a0, .ref A.a1, .ref A.a2, .ref A.a3, .ref A.a4, .ref A.a5, .ref A.a6, .int R.hr, .int R.st, .int R.rp, .int (lnum R.st (lnum R.st R.ld R.fo) R.af), .int R.pd, .int R.cr]))))
  refine hG.iadd dX2_land_16 ?_
  refine hG.istore_n dX2_land_17 (by decide) ?_
  refine hG.aload_n dX2_land_18 rfl ?_
  refine hG.dup dX2_land_19 rfl ?_
  refine hG.get dX2_land_20 fg_X2_90_X2 (Or.inl h3.h) rfl ?_
  refine hG.iload_n dX2_land_23 rfl ?_
  refine hG.iadd dX2_land_24 ?_
  refine hG.put dX2_land_25 fp_X2_90_X2 h3.h rfl rfl (Nat.le_of_ble_eq_true rfl) ?_
  refine hG.iload_n dX2_land_28 rfl ?_
  refine hG.iret dX2_land_29 rfl ?_ (by omega) (by omega) trivial
  exact ⟨rfl, A, h3.sInts R.hr R.st R.rp (lnum R.st (lnum R.st R.ld R.fo) R.af) (R.pd + (lcoin A.g R.st 0 R.fo + lcoin A.g R.st 0 R.af)) R.cr, F3.tr (h3.f_r _)⟩
