theorem frI_s {I : AI} {a : Nat} {e : E1} : frI I a e a e := Or.inr ⟨rfl, rfl⟩
theorem ki_J20_1 : LkI RJ20 1 yJ0_init 0 := ⟨q677, q167, q75, rfl, ⟨by decide +kernel, by decide +kernel, by decide +kernel⟩, by decide +kernel⟩
set_option maxHeartbeats 4000000 in
set_option maxRecDepth 100000 in
theorem sp_J20_init {l : Launch} {s0 : State} {D : va_G} {I : AI} {L : AL} {m : Nat} (hΓ : Gam l s0 D)  : Spc l s0 D yJ20_init 3 [.ref m] I L 0 0 (p0 I L) noX := by
  refine Spc.of hΓ cJ20_init 1 none q676 (by decide +kernel) (by decide) (Nat.le_of_ble_eq_true rfl) (fun G GX hG => ?_)
  refine hG.aload_n dJ20_init_0 rfl ?_
  refine hG.callI dJ20_init_1 ki_J20_1 (sp_J0_init hΓ) rfl rfl (Nat.le_of_ble_eq_true rfl) (by decide) (by omega) (by omega) (fun r1 I1 L1 hI1 h1 => ?_) (fun _ _ _ _ _ h => h.elim)
  obtain ⟨rfl, rfl, rfl⟩ := h1
  refine hG.vret dJ20_init_4 rfl ?_ (by omega) (by omega) trivial
  exact ⟨rfl, rfl, rfl⟩
theorem cls_J21 : CLs ciJ21 RJ21 TJ21 2 tyJ21 := ⟨rfl, in_J21, tyJ21_ok, nmJ21⟩
theorem fp_J21_1_J21 : LkP RJ21 "<init>" 1 ciJ21 1 (tyJ21 1) := ⟨RJ21, TJ21, 2, tyJ21, _, cls_J21, by decide, rfl, Or.inl rfl, Or.inr (Or.inr ⟨rfl, rfl, rfl, q679⟩)⟩
theorem ki_J21_7 : LkI RJ21 7 yJ20_init 0 := ⟨q674, q675, q100, rfl, ⟨by decide +kernel, by decide +kernel, by decide +kernel⟩, by decide +kernel⟩
theorem fp_J21_13_J21 : LkP RJ21 "<init>" 13 ciJ21 0 (tyJ21 0) := ⟨RJ21, TJ21, 2, tyJ21, _, cls_J21, by decide, rfl, Or.inl rfl, Or.inr (Or.inr ⟨rfl, rfl, rfl, q678⟩)⟩
set_option maxHeartbeats 4000000 in
set_option maxRecDepth 100000 in
theorem sp_J21_init {l : Launch} {s0 : State} {D : va_G} {I : AI} {L : AL} {m q : Nat} (hΓ : Gam l s0 D) {x1 x2 : Value} (hq : L q = some (obC ciJ21 [x1, x2])) : Spc l s0 D yJ21_init 4 [.ref q, .ref m, .int 0] I L 0 0 (pU I L q (obC ciJ21 [.int 0, .ref m])) noX := by
  refine Spc.of hΓ cJ21_init 3 none q673 (by decide +kernel) (by decide) (Nat.le_of_ble_eq_true rfl) (fun G GX hG => ?_)
  refine hG.aload_n dJ21_init_0 rfl ?_
  refine hG.aload_n dJ21_init_1 rfl ?_
  refine hG.put dJ21_init_2 fp_J21_1_J21 hq rfl rfl (Nat.le_of_ble_eq_true rfl) ?_
  refine hG.aload_n dJ21_init_5 rfl ?_
  refine hG.callI dJ21_init_6 ki_J21_7 (sp_J20_init hΓ) rfl rfl (Nat.le_of_ble_eq_true rfl) (by decide) (by omega) (by omega) (fun r6 I6 L6 hI6 h6 => ?_) (fun _ _ _ _ _ h => h.elim)
  obtain ⟨rfl, rfl, rfl⟩ := h6
  refine hG.aload_n dJ21_init_9 rfl ?_
  refine hG.iload_n dJ21_init_10 rfl ?_
  refine hG.put dJ21_init_11 fp_J21_13_J21 up1_s rfl rfl (Nat.le_of_ble_eq_true rfl) ?_
  refine hG.vret dJ21_init_14 rfl ?_ (by omega) (by omega) trivial
  exact ⟨rfl, rfl, by simp only [up1_up1]; rfl⟩
theorem fg_J5_151_J5 : LkG RJ5 151 ciJ5 1 := ⟨RJ5, TJ5, 12, tyJ5, _, cls_J5, by decide, Or.inr q214, Or.inl q213⟩
theorem nw_J5_154 : LkN RJ5 154 ciJ21 [.int 0, .null] 2 := ⟨RJ21, TJ21, tyJ21, cls_J21, q669, q670, q101, rfl, fun j hj => by
  match j, hj with
  | 0, _ => rfl
  | 1, _ => rfl
  | _ + 2, h => exact absurd h (by omega)⟩
theorem ki_J5_156 : LkI RJ5 156 yJ21_init 2 := ⟨q671, q672, q101, rfl, ⟨by decide +kernel, by decide +kernel, by decide +kernel⟩, by decide +kernel⟩
theorem fp_J5_151_J5 {nm : String} : LkP RJ5 nm 151 ciJ5 1 (tyJ5 1) := ⟨RJ5, TJ5, 12, tyJ5, _, cls_J5, by decide, rfl, Or.inr q214, Or.inl ⟨rfl, q213⟩⟩
set_option maxHeartbeats 4000000 in
set_option maxRecDepth 100000 in
theorem sp_J5_sequencedEntrySet {l : Launch} {s0 : State} {D : va_G} {I : AI} {L : AL} {m : Nat} {mo : Int32} {es : List Ent} (hΓ : Gam l s0 D) (h0 : L m = some (mpC mo es)) : Spc l s0 D yJ5_sequencedEntrySet 5 [.ref m] I L 1 2 (fun r I' L' => L = L' ∧ ∃ q, r = some (.ref q) ∧ I' q (ob ciJ21 [.int 0, .ref m])) noX := by
  refine Spc.of hΓ cJ5_sequencedEntrySet 3 (some (FieldType.object "java/util/SequencedSet")) q668 (by decide +kernel) (by decide) (Nat.le_of_ble_eq_true rfl) (fun G GX hG => ?_)
  refine hG.opM h0 (fun tbV esV cap lf kr vr M h hf => ?_)
  have h1 := h.1
  rcases h.2.2.2.2.2.1 with rfl | ⟨q, rfl, hq⟩
  · refine hG.aload_n dJ5_sequencedEntrySet_0 rfl ?_
    refine hG.get dJ5_sequencedEntrySet_1 fg_J5_151_J5 (Or.inl h1) rfl ?_
    refine hG.astore_nN dJ5_sequencedEntrySet_4 (by decide) ?_
    refine hG.aload_nN dJ5_sequencedEntrySet_5 rfl ?_
    refine hG.ifnonnullN dJ5_sequencedEntrySet_6 ?_
    refine hG.new dJ5_sequencedEntrySet_9 nw_J5_154 (by omega) (by omega) (fun q hLq hIq => ?_)
    have hqm : q ≠ m := fun e => by subst e; rw [hLq] at h1; cases h1
    refine hG.dup dJ5_sequencedEntrySet_12 rfl ?_
    refine hG.aload_n dJ5_sequencedEntrySet_13 rfl ?_
    refine hG.iconst (v := 0) dJ5_sequencedEntrySet_14 rfl ?_
    refine hG.callI dJ5_sequencedEntrySet_15 ki_J5_156 (sp_J21_init hΓ up1_s) rfl rfl (Nat.le_of_ble_eq_true rfl) (by decide) (by omega) (by omega) (fun r15 I15 L15 hI15 h15 => ?_) (fun _ _ _ _ _ h => h.elim)
    obtain ⟨rfl, rfl, rfl⟩ := h15
    refine hG.astore_n dJ5_sequencedEntrySet_18 (by decide) ?_
    refine hG.aload_n dJ5_sequencedEntrySet_19 rfl ?_
    refine hG.aload_n dJ5_sequencedEntrySet_20 rfl ?_
    refine hG.put dJ5_sequencedEntrySet_21 fp_J5_151_J5 ((up1_n hqm.symm).trans ((up1_n hqm.symm).trans h1)) rfl rfl (Nat.le_of_ble_eq_true rfl) ?_
    refine hG.fr (a := q) ((up1_n hqm).trans up1_s) ?_
    refine hG.clM (es := es) (mo := mo) (tbV := tbV) (esV := .ref q) (cap := cap) (lf := lf) (kr := kr) (vr := vr) L (N := m :: (rfs tbV ++ ads es)) ?_ ?_ (fun q hq => hq) ?_
    · have hne : ∀ z ∈ m :: (rfs tbV ++ ads es), z ≠ q := fun z hz e => h.dom z hz (by rw [e]; exact hLq)
      obtain ⟨g1, g2, g3, g4, g5, g6, g7⟩ := h.mono (J := frI I q (ob ciJ21 [.int 0, .ref m])) (S' := M) frI_le (fun _ _ _ hx => hx)
      refine ⟨(up1_n hqm.symm).trans up1_s, g2, g3, g4, fun x hx => ?_, Or.inr ⟨q, rfl, frI_s⟩, ?_⟩
      · obtain ⟨j1, j2⟩ := g5 x hx
        have e1 : x.1 ≠ q := hne x.1 (by simp [ads_of hx])
        have e2 : x.1 ≠ m := fun e => g4 (e ▸ ads_of hx)
        exact ⟨by rw [up1_n e1, up1_n e2, up1_n e1, up1_n e1]; exact j1, j2⟩
      · rcases g7 with g7 | ⟨k1, k2, tb, f, rfl, k3, k4, k5, k6⟩
        · exact Or.inl g7
        · have e1 : tb ≠ q := hne tb (by simp [rfs])
          exact Or.inr ⟨k1, k2, tb, f, rfl, k3, k4, by rw [up1_n e1, up1_n k3, up1_n e1, up1_n e1]; exact k5, k6⟩
    · intro z x hz hzm
      obtain ⟨k1, k2⟩ := hf z x hz hzm
      have e1 : z ≠ q := fun e => by rw [e, hLq] at k2; cases k2
      exact ⟨k1, by rw [up1_n e1, up1_n hzm, up1_n e1, up1_n e1]; exact k2⟩
    rw [← h0, up1_self]
    refine hG.aload_n dJ5_sequencedEntrySet_24 rfl ?_
    refine hG.aret dJ5_sequencedEntrySet_25 rfl (by first | exact Or.inl ⟨_, rfl⟩ | exact Or.inr ⟨_, rfl⟩) (by first | exact Or.inr ⟨_, rfl⟩ | exact Or.inl rfl) ?_ (by omega) (by omega) trivial
    exact ⟨rfl, q, rfl, frI_s⟩
  · refine hG.aload_n dJ5_sequencedEntrySet_0 rfl ?_
    refine hG.get dJ5_sequencedEntrySet_1 fg_J5_151_J5 (Or.inl h1) rfl ?_
    refine hG.astore_n dJ5_sequencedEntrySet_4 (by decide) ?_
    refine hG.aload_n dJ5_sequencedEntrySet_5 rfl ?_
    refine hG.ifnonnull (tgt := 26) dJ5_sequencedEntrySet_6 rfl ?_
    refine hG.clMs L h0 h hf ?_
    refine hG.aload_n dJ5_sequencedEntrySet_26 rfl ?_
    refine hG.castY dJ5_sequencedEntrySet_27 q685 (Rcv.imm hq cl_J21) q3678 ?_
    refine hG.aret dJ5_sequencedEntrySet_30 rfl (by first | exact Or.inl ⟨_, rfl⟩ | exact Or.inr ⟨_, rfl⟩) (by first | exact Or.inr ⟨_, rfl⟩ | exact Or.inl rfl) ?_ (by omega) (by omega) trivial
    exact ⟨rfl, q, rfl, hq⟩
theorem kv_J5_148 : LkV RJ5 148 yJ5_sequencedEntrySet 0 := ⟨q665, q666, q667, q81, by decide +kernel, by decide +kernel, by decide +kernel⟩
set_option maxHeartbeats 4000000 in
set_option maxRecDepth 100000 in
theorem sp_J5_entrySet {l : Launch} {s0 : State} {D : va_G} {I : AI} {L : AL} {m : Nat} {mo : Int32} {es : List Ent} (hΓ : Gam l s0 D) (h0 : L m = some (mpC mo es)) : Spc l s0 D yJ5_entrySet 6 [.ref m] I L 1 2 (fun r I' L' => L = L' ∧ ∃ q, r = some (.ref q) ∧ I' q (ob ciJ21 [.int 0, .ref m])) noX := by
  refine Spc.of hΓ cJ5_entrySet 1 (some (FieldType.object "java/util/Set")) q664 (by decide +kernel) (by decide) (Nat.le_of_ble_eq_true rfl) (fun G GX hG => ?_)
  refine hG.aload_n dJ5_entrySet_0 rfl ?_
  refine hG.callV dJ5_entrySet_1 kv_J5_148 (Rcv.mp h0) (sp_J5_sequencedEntrySet hΓ h0) rfl rfl (Nat.le_of_ble_eq_true rfl) (by decide) (by omega) (by omega) (fun r1 I1 L1 hI1 h1 => ?_) (fun _ _ _ _ _ h => h.elim)
  obtain ⟨rfl, q, rfl, hq⟩ := h1
  refine hG.aret dJ5_entrySet_4 rfl (by first | exact Or.inl ⟨_, rfl⟩ | exact Or.inr ⟨_, rfl⟩) (by first | exact Or.inr ⟨_, rfl⟩ | exact Or.inl rfl) ?_ (by omega) (by omega) trivial
  exact ⟨rfl, q, rfl, hq⟩
theorem cls_J23 : CLs ciJ23 RJ23 TJ23 5 tyJ23 := ⟨rfl, in_J23, tyJ23_ok, nmJ23⟩
theorem fp_J22_1_J23 : LkP RJ22 "<init>" 1 ciJ23 4 (tyJ23 4) := ⟨RJ23, TJ23, 5, tyJ23, _, cls_J23, by decide, rfl, Or.inl rfl, Or.inr (Or.inr ⟨rfl, rfl, rfl, q709⟩)⟩
theorem fp_J22_13_J23 {nm : String} : LkP RJ22 nm 13 ciJ23 3 (tyJ23 3) := ⟨RJ23, TJ23, 5, tyJ23, _, cls_J23, by decide, rfl, Or.inl rfl, Or.inl ⟨rfl, q708⟩⟩
theorem fg_J22_23_J5 : LkG RJ22 23 ciJ5 8 := ⟨RJ5, TJ5, 12, tyJ5, _, cls_J5, by decide, Or.inl rfl, Or.inl q207⟩
theorem fp_J22_26_J23 {nm : String} : LkP RJ22 nm 26 ciJ23 0 (tyJ23 0) := ⟨RJ23, TJ23, 5, tyJ23, _, cls_J23, by decide, rfl, Or.inl rfl, Or.inl ⟨rfl, q705⟩⟩
theorem fg_J22_29_J5 : LkG RJ22 29 ciJ5 3 := ⟨RJ5, TJ5, 12, tyJ5, _, cls_J5, by decide, Or.inr q217, Or.inl q216⟩
theorem fp_J22_33_J23 {nm : String} : LkP RJ22 nm 33 ciJ23 2 (tyJ23 2) := ⟨RJ23, TJ23, 5, tyJ23, _, cls_J23, by decide, rfl, Or.inl rfl, Or.inl ⟨rfl, q707⟩⟩
theorem fp_J22_36_J23 {nm : String} : LkP RJ22 nm 36 ciJ23 1 (tyJ23 1) := ⟨RJ23, TJ23, 5, tyJ23, _, cls_J23, by decide, rfl, Or.inl rfl, Or.inl ⟨rfl, q706⟩⟩
set_option maxHeartbeats 4000000 in
set_option maxRecDepth 100000 in
theorem sp_J22_init {l : Launch} {s0 : State} {D : va_G} {I : AI} {L : AL} {m it : Nat} {mo : Int32} {es : List Ent} (hΓ : Gam l s0 D) {x1 x2 x3 x4 x5 : Value} (h0 : L m = some (mpC mo es)) (hq : L it = some (obC ciJ23 [x1, x2, x3, x4, x5])) : Spc l s0 D yJ22_init 2 [.ref it, .ref m, .int 0] I L 0 0 (pU I L it (obC ciJ23 [va_rf (ads es)[0]?, .null, .int (mo), .int 0, .ref m])) noX := by
  refine Spc.of hΓ cJ22_init 3 none q703 (by decide +kernel) (by decide) (Nat.le_of_ble_eq_true rfl) (fun G GX hG => ?_)
  have hqm : it ≠ m := ne_val hq h0 ne_rk
  refine hG.opM h0 (fun tbV esV cap lf kr vr M h hf => ?_)
  have h1 := h.1
  have hMq := (hf it _ hq hqm).2
  refine hG.aload_n dJ22_init_0 rfl ?_
  refine hG.aload_n dJ22_init_1 rfl ?_
  refine hG.put dJ22_init_2 fp_J22_1_J23 hMq rfl rfl (Nat.le_of_ble_eq_true rfl) ?_
  refine hG.aload_n dJ22_init_5 rfl ?_
  refine hG.objI dJ22_init_6 q704 (Nat.le_of_ble_eq_true rfl) (by decide) ?_
  refine hG.aload_n dJ22_init_9 rfl ?_
  refine hG.iload_n dJ22_init_10 rfl ?_
  refine hG.put dJ22_init_11 fp_J22_13_J23 up1_s rfl rfl (Nat.le_of_ble_eq_true rfl) ?_
  refine hG.aload_n dJ22_init_14 rfl ?_
  refine hG.iload_n dJ22_init_15 rfl ?_
  refine hG.if_eq (tgt := 26) dJ22_init_16 rfl (fun c_16 => ?_) (fun c_16 => absurd rfl c_16)
  refine hG.aload_n dJ22_init_26 rfl ?_
  refine hG.get dJ22_init_27 fg_J22_23_J5 (Or.inl ((up1_n hqm.symm).trans ((up1_n hqm.symm).trans h1))) rfl ?_
  refine hG.put dJ22_init_30 fp_J22_26_J23 up1_s (rf_nar _ _) (rf_fit _ _) (Nat.le_of_ble_eq_true rfl) ?_
  refine hG.aload_n dJ22_init_33 rfl ?_
  refine hG.aload_n dJ22_init_34 rfl ?_
  refine hG.get dJ22_init_35 fg_J22_29_J5 (Or.inl ((up1_n hqm.symm).trans ((up1_n hqm.symm).trans ((up1_n hqm.symm).trans h1)))) rfl ?_
  refine hG.put dJ22_init_38 fp_J22_33_J23 up1_s rfl rfl (Nat.le_of_ble_eq_true rfl) ?_
  refine hG.aload_n dJ22_init_41 rfl ?_
  refine hG.null dJ22_init_42 ?_
  refine hG.put dJ22_init_43 fp_J22_36_J23 up1_s rfl rfl (Nat.le_of_ble_eq_true rfl) ?_
  rw [show (ads es).head? = (ads es)[0]? from List.head?_eq_getElem?]
  simp only [up1_up1]
  have hni := (hf it _ hq hqm).1
  refine hG.clMs (up1 L it (some (obC ciJ23 [va_rf (ads es)[0]?, .null, .int (mo), .int 0, .ref m]))) ((up1_n hqm.symm).trans h0) (h.mono ile_rf (fun z hz x hx => (up1_n (fun e : z = it => hni (e ▸ hz))).trans hx)) (hf.out hq hqm _) ?_
  refine hG.vret dJ22_init_46 rfl ?_ (by omega) (by omega) trivial
  exact ⟨rfl, rfl, rfl⟩
theorem ki_J23_1 : LkI RJ23 1 yJ22_init 2 := ⟨q701, q702, q102, rfl, ⟨by decide +kernel, by decide +kernel, by decide +kernel⟩, by decide +kernel⟩
set_option maxHeartbeats 4000000 in
set_option maxRecDepth 100000 in
theorem sp_J23_init {l : Launch} {s0 : State} {D : va_G} {I : AI} {L : AL} {m it : Nat} {mo : Int32} {es : List Ent} (hΓ : Gam l s0 D) {x1 x2 x3 x4 x5 : Value} (h0 : L m = some (mpC mo es)) (hq : L it = some (obC ciJ23 [x1, x2, x3, x4, x5])) : Spc l s0 D yJ23_init 3 [.ref it, .ref m, .int 0] I L 0 0 (pU I L it (obC ciJ23 [va_rf (ads es)[0]?, .null, .int (mo), .int 0, .ref m])) noX := by
  refine Spc.of hΓ cJ23_init 3 none q700 (by decide +kernel) (by decide) (Nat.le_of_ble_eq_true rfl) (fun G GX hG => ?_)
  refine hG.aload_n dJ23_init_0 rfl ?_
  refine hG.aload_n dJ23_init_1 rfl ?_
  refine hG.iload_n dJ23_init_2 rfl ?_
  refine hG.callI dJ23_init_3 ki_J23_1 (sp_J22_init hΓ h0 hq) rfl rfl (Nat.le_of_ble_eq_true rfl) (by decide) (by omega) (by omega) (fun r3 I3 L3 hI3 h3 => ?_) (fun _ _ _ _ _ h => h.elim)
  obtain ⟨rfl, rfl, rfl⟩ := h3
  refine hG.vret dJ23_init_6 rfl ?_ (by omega) (by omega) trivial
  exact ⟨rfl, rfl, rfl⟩
theorem nw_J21_26 : LkN RJ21 26 ciJ23 [.null, .null, .int 0, .int 0, .null] 5 := ⟨RJ23, TJ23, tyJ23, cls_J23, q696, q697, q103, rfl, fun j hj => by
  match j, hj with
  | 0, _ => rfl
  | 1, _ => rfl
  | 2, _ => rfl
  | 3, _ => rfl
  | 4, _ => rfl
  | _ + 5, h => exact absurd h (by omega)⟩
theorem fg_J21_1_J21 : LkG RJ21 1 ciJ21 1 := ⟨RJ21, TJ21, 2, tyJ21, _, cls_J21, by decide, Or.inl rfl, Or.inl q679⟩
theorem fg_J21_13_J21 : LkG RJ21 13 ciJ21 0 := ⟨RJ21, TJ21, 2, tyJ21, _, cls_J21, by decide, Or.inl rfl, Or.inl q678⟩
theorem ki_J21_28 : LkI RJ21 28 yJ23_init 2 := ⟨q698, q699, q103, rfl, ⟨by decide +kernel, by decide +kernel, by decide +kernel⟩, by decide +kernel⟩
set_option maxHeartbeats 4000000 in
set_option maxRecDepth 100000 in
theorem sp_J21_iterator {l : Launch} {s0 : State} {D : va_G} {I : AI} {L : AL} {m : Nat} {mo : Int32} {es : List Ent} (hΓ : Gam l s0 D) {q : Nat} (hq : I q (ob ciJ21 [.int 0, .ref m])) (h0 : L m = some (mpC mo es)) : Spc l s0 D yJ21_iterator 4 [.ref q] I L 1 5 (fun r I' L' => I = I' ∧ ∃ it, L it = none ∧ it ≠ m ∧ r = some (.ref it) ∧ L' = up1 L it (some (obC ciJ23 [va_rf (ads es)[0]?, .null, .int (mo), .int 0, .ref m]))) noX := by
  refine Spc.of hΓ cJ21_iterator 1 (some (FieldType.object "java/util/Iterator")) q695 (by decide +kernel) (by decide) (Nat.le_of_ble_eq_true rfl) (fun G GX hG => ?_)
  refine hG.new dJ21_iterator_0 nw_J21_26 (by omega) (by omega) (fun it hLit hIit => ?_)
  have hqm : it ≠ m := fun e => by subst e; rw [hLit] at h0; cases h0
  refine hG.dup dJ21_iterator_3 rfl ?_
  refine hG.aload_n dJ21_iterator_4 rfl ?_
  refine hG.get dJ21_iterator_5 fg_J21_1_J21 (Or.inr hq) rfl ?_
  refine hG.aload_n dJ21_iterator_8 rfl ?_
  refine hG.get dJ21_iterator_9 fg_J21_13_J21 (Or.inr hq) rfl ?_
  refine hG.callI dJ21_iterator_12 ki_J21_28 (sp_J23_init hΓ ((up1_n hqm.symm).trans h0) up1_s) rfl rfl (Nat.le_of_ble_eq_true rfl) (by decide) (by omega) (by omega) (fun r12 I12 L12 hI12 h12 => ?_) (fun _ _ _ _ _ h => h.elim)
  obtain ⟨rfl, rfl, rfl⟩ := h12
  refine hG.aret dJ21_iterator_15 rfl (by first | exact Or.inl ⟨_, rfl⟩ | exact Or.inr ⟨_, rfl⟩) (by first | exact Or.inr ⟨_, rfl⟩ | exact Or.inl rfl) ?_ (by omega) (by omega) trivial
  exact ⟨rfl, it, hLit, hqm, rfl, by rw [up1_up1]⟩
theorem fg_J22_26_J23 : LkG RJ22 26 ciJ23 0 := ⟨RJ23, TJ23, 5, tyJ23, _, cls_J23, by decide, Or.inl rfl, Or.inl q705⟩
set_option maxHeartbeats 4000000 in
set_option maxRecDepth 100000 in
theorem sp_J22_hasNext {l : Launch} {s0 : State} {D : va_G} {I : AI} {L : AL} {it : Nat} (hΓ : Gam l s0 D) {o : Option Nat} {x2 x3 x4 x5 : Value} (hq : L it = some (obC ciJ23 [va_rf o, x2, x3, x4, x5])) : Spc l s0 D yJ22_hasNext 1 [.ref it] I L 0 0 (pV (.int (b2i o.isSome)) I L) noX := by
  refine Spc.of hΓ cJ22_hasNext 1 (some FieldType.boolean) q453 (by decide +kernel) (by decide) (Nat.le_of_ble_eq_true rfl) (fun G GX hG => ?_)
  rcases o with _ | o
  · refine hG.aload_n dJ22_hasNext_0 rfl ?_
    refine hG.get dJ22_hasNext_1 fg_J22_26_J23 (Or.inl hq) rfl ?_
    refine hG.ifnullN (tgt := 11) dJ22_hasNext_4 rfl ?_
    refine hG.iconst (v := 0) dJ22_hasNext_11 rfl ?_
    refine hG.zret dJ22_hasNext_12 rfl rfl ?_ (by omega) (by omega) trivial
    exact ⟨rfl, rfl, rfl⟩
  · refine hG.aload_n dJ22_hasNext_0 rfl ?_
    refine hG.get dJ22_hasNext_1 fg_J22_26_J23 (Or.inl hq) rfl ?_
    refine hG.ifnull dJ22_hasNext_4 ?_
    refine hG.iconst (v := 1) dJ22_hasNext_7 rfl ?_
    refine hG.goto (tgt := 12) dJ22_hasNext_8 rfl ?_
    refine hG.zret dJ22_hasNext_12 rfl rfl ?_ (by omega) (by omega) trivial
    exact ⟨rfl, rfl, rfl⟩
theorem suc_nth {l : List Nat} {i a : Nat} (hn : l.Nodup) (h : l[i]? = some a) : suc l a = l[i + 1]? := by
  obtain ⟨hl, e⟩ := List.getElem?_eq_some_iff.mp h
  have e1 : l = l.take i ++ l[i] :: l.drop (i + 1) := by rw [← List.drop_eq_getElem_cons hl, List.take_append_drop]
  rw [e] at e1
  have h2 := suc_head hn e1
  rw [h2, List.head?_drop]
theorem fg_J22_1_J23 : LkG RJ22 1 ciJ23 4 := ⟨RJ23, TJ23, 5, tyJ23, _, cls_J23, by decide, Or.inl rfl, Or.inl q709⟩
theorem fg_J22_33_J23 : LkG RJ22 33 ciJ23 2 := ⟨RJ23, TJ23, 5, tyJ23, _, cls_J23, by decide, Or.inl rfl, Or.inl q707⟩
theorem fg_J22_13_J23 : LkG RJ22 13 ciJ23 3 := ⟨RJ23, TJ23, 5, tyJ23, _, cls_J23, by decide, Or.inl rfl, Or.inl q708⟩
theorem fg_J22_50_J31 : LkG RJ22 50 ciJ31 5 := ⟨RJ31, TJ31, 6, tyJ31, _, cls_J31, by decide, Or.inl rfl, Or.inl q1421⟩
set_option maxHeartbeats 4000000 in
set_option maxRecDepth 100000 in
theorem sp_J22_nextNode {l : Launch} {s0 : State} {D : va_G} {I : AI} {L : AL} {m it : Nat} {mo : Int32} {es : List Ent} (hΓ : Gam l s0 D) {i : Nat} {x : Ent} {cv : Value} (hi : es[i]? = some x) (h0 : L m = some (mpC mo es)) (hq : L it = some (obC ciJ23 [va_rf (ads es)[i]?, cv, .int (mo), .int 0, .ref m])) : Spc l s0 D yJ22_nextNode 1 [.ref it] I L 0 0 (pVU (.ref x.1) I L it (obC ciJ23 [va_rf (ads es)[i + 1]?, .ref x.1, .int (mo), .int 0, .ref m])) noX := by
  refine Spc.of hΓ cJ22_nextNode 2 (some (FieldType.object "java/util/LinkedHashMap$Entry")) q553 (by decide +kernel) (by decide) (Nat.le_of_ble_eq_true rfl) (fun G GX hG => ?_)
  have hai : (ads es)[i]? = some x.1 := by unfold ads; rw [List.getElem?_map, hi]; rfl
  rw [hai] at hq
  have hil : i < es.length := (List.getElem?_eq_some_iff.mp hi).1
  have hx : x ∈ es := List.mem_of_getElem? hi
  have hqm : it ≠ m := ne_val hq h0 ne_rk
  refine hG.opM h0 (fun tbV esV cap lf kr vr M h hf => ?_)
  have h1 := h.1
  have hMq := (hf it _ hq hqm).2
  obtain ⟨hx1, hx2, hx3, hx4⟩ := h.2.2.2.2.1 x hx
  unfold entF at hx1
  rw [suc_nth h.2.1 hai] at hx1
  have hix : it ≠ x.1 := fun e => (hf it _ hq hqm).1 (by rw [e]; simp [ads_of hx])
  refine hG.aload_n dJ22_nextNode_0 rfl ?_
  refine hG.get dJ22_nextNode_1 fg_J22_26_J23 (Or.inl hMq) rfl ?_
  refine hG.astore_n dJ22_nextNode_4 (by decide) ?_
  refine hG.aload_n dJ22_nextNode_5 rfl ?_
  refine hG.get dJ22_nextNode_6 fg_J22_1_J23 (Or.inl hMq) rfl ?_
  refine hG.get dJ22_nextNode_9 fg_J22_29_J5 (Or.inl h1) rfl ?_
  refine hG.aload_n dJ22_nextNode_12 rfl ?_
  refine hG.get dJ22_nextNode_13 fg_J22_33_J23 (Or.inl hMq) rfl ?_
  refine hG.icmp_eq (tgt := 27) dJ22_nextNode_16 rfl (fun c_16 => ?_) (fun c_16 => absurd rfl c_16)
  refine hG.aload_n dJ22_nextNode_27 rfl ?_
  refine hG.ifnonnull (tgt := 39) dJ22_nextNode_28 rfl ?_
  refine hG.aload_n dJ22_nextNode_39 rfl ?_
  refine hG.aload_n dJ22_nextNode_40 rfl ?_
  refine hG.put dJ22_nextNode_41 fp_J22_36_J23 hMq rfl rfl (Nat.le_of_ble_eq_true rfl) ?_
  refine hG.aload_n dJ22_nextNode_44 rfl ?_
  refine hG.aload_n dJ22_nextNode_45 rfl ?_
  refine hG.get dJ22_nextNode_46 fg_J22_13_J23 (Or.inl up1_s) rfl ?_
  refine hG.if_eq (tgt := 59) dJ22_nextNode_49 rfl (fun c_49 => ?_) (fun c_49 => absurd rfl c_49)
  refine hG.aload_n dJ22_nextNode_59 rfl ?_
  refine hG.get dJ22_nextNode_60 fg_J22_50_J31 (Or.inl ((up1_n hix.symm).trans hx1)) rfl ?_
  refine hG.put dJ22_nextNode_63 fp_J22_26_J23 up1_s (rf_nar _ _) (rf_fit _ _) (Nat.le_of_ble_eq_true rfl) ?_
  simp only [up1_up1]
  have hni := (hf it _ hq hqm).1
  refine hG.clMs (up1 L it (some (obC ciJ23 [va_rf (ads es)[i + 1]?, .ref x.1, .int (mo), .int 0, .ref m]))) ((up1_n hqm.symm).trans h0) (h.mono ile_rf (fun z hz x hx => (up1_n (fun e : z = it => hni (e ▸ hz))).trans hx)) (hf.out hq hqm _) ?_
  refine hG.aload_n dJ22_nextNode_66 rfl ?_
  refine hG.aret dJ22_nextNode_67 rfl (by first | exact Or.inl ⟨_, rfl⟩ | exact Or.inr ⟨_, rfl⟩) (by first | exact Or.inr ⟨_, rfl⟩ | exact Or.inl rfl) ?_ (by omega) (by omega) trivial
  exact ⟨rfl, rfl, rfl⟩
theorem ko_J23_7_J23 : LkU RJ23 7 RJ23 ⟨"java/util/LinkedHashMap$LinkedEntryIterator", "nextNode", "()Ljava/util/LinkedHashMap$Entry;"⟩ yJ22_nextNode 0 := ⟨_, q548, q549, q551, q552, q102, by decide +kernel, by decide +kernel, by decide +kernel, Or.inl rfl⟩
set_option maxHeartbeats 4000000 in
set_option maxRecDepth 100000 in
theorem sp_J23_next_2 {l : Launch} {s0 : State} {D : va_G} {I : AI} {L : AL} {m it : Nat} {mo : Int32} {es : List Ent} (hΓ : Gam l s0 D) {i : Nat} {x : Ent} {cv : Value} (hi : es[i]? = some x) (h0 : L m = some (mpC mo es)) (hq : L it = some (obC ciJ23 [va_rf (ads es)[i]?, cv, .int (mo), .int 0, .ref m])) : Spc l s0 D yJ23_next_2 2 [.ref it] I L 0 0 (pVU (.ref x.1) I L it (obC ciJ23 [va_rf (ads es)[i + 1]?, .ref x.1, .int (mo), .int 0, .ref m])) noX := by
  refine Spc.of hΓ cJ23_next_2 1 (some (FieldType.object "java/util/Map$Entry")) q547 (by decide +kernel) (by decide) (Nat.le_of_ble_eq_true rfl) (fun G GX hG => ?_)
  refine hG.aload_n dJ23_next_2_0 rfl ?_
  refine hG.callU dJ23_next_2_1 ko_J23_7_J23 (Rcv.raw hq cl_J23) (sp_J22_nextNode hΓ hi h0 hq) rfl rfl (Nat.le_of_ble_eq_true rfl) (by decide) (by omega) (by omega) (fun r1 I1 L1 hI1 h1 => ?_) (fun _ _ _ _ _ h => h.elim)
  obtain ⟨rfl, rfl, rfl⟩ := h1
  refine hG.aret dJ23_next_2_4 rfl (by first | exact Or.inl ⟨_, rfl⟩ | exact Or.inr ⟨_, rfl⟩) (by first | exact Or.inr ⟨_, rfl⟩ | exact Or.inl rfl) ?_ (by omega) (by omega) trivial
  exact ⟨rfl, rfl, rfl⟩
theorem kv_J23_13 : LkV RJ23 13 yJ23_next_2 0 := ⟨q544, q545, q546, q103, by decide +kernel, by decide +kernel, by decide +kernel⟩
set_option maxHeartbeats 4000000 in
set_option maxRecDepth 100000 in
theorem sp_J23_next {l : Launch} {s0 : State} {D : va_G} {I : AI} {L : AL} {m it : Nat} {mo : Int32} {es : List Ent} (hΓ : Gam l s0 D) {i : Nat} {x : Ent} {cv : Value} (hi : es[i]? = some x) (h0 : L m = some (mpC mo es)) (hq : L it = some (obC ciJ23 [va_rf (ads es)[i]?, cv, .int (mo), .int 0, .ref m])) : Spc l s0 D yJ23_next 3 [.ref it] I L 0 0 (pVU (.ref x.1) I L it (obC ciJ23 [va_rf (ads es)[i + 1]?, .ref x.1, .int (mo), .int 0, .ref m])) noX := by
  refine Spc.of hΓ cJ23_next 1 (some (FieldType.object "java/lang/Object")) q543 (by decide +kernel) (by decide) (Nat.le_of_ble_eq_true rfl) (fun G GX hG => ?_)
  refine hG.aload_n dJ23_next_0 rfl ?_
  refine hG.callV dJ23_next_1 kv_J23_13 (Rcv.raw hq cl_J23) (sp_J23_next_2 hΓ hi h0 hq) rfl rfl (Nat.le_of_ble_eq_true rfl) (by decide) (by omega) (by omega) (fun r1 I1 L1 hI1 h1 => ?_) (fun _ _ _ _ _ h => h.elim)
  obtain ⟨rfl, rfl, rfl⟩ := h1
  refine hG.aret dJ23_next_4 rfl (by first | exact Or.inl ⟨_, rfl⟩ | exact Or.inr ⟨_, rfl⟩) (by first | exact Or.inr ⟨_, rfl⟩ | exact Or.inl rfl) ?_ (by omega) (by omega) trivial
  exact ⟨rfl, rfl, rfl⟩
theorem fg_J22_36_J23 : LkG RJ22 36 ciJ23 1 := ⟨RJ23, TJ23, 5, tyJ23, _, cls_J23, by decide, Or.inl rfl, Or.inl q706⟩
theorem fg_J22_56_J31 : LkG RJ22 56 ciJ31 0 := ⟨RJ31, TJ31, 6, tyJ31, _, cls_J31, by decide, Or.inl rfl, Or.inl q1425⟩
theorem fg_J22_61_J31 : LkG RJ22 61 ciJ31 1 := ⟨RJ31, TJ31, 6, tyJ31, _, cls_J31, by decide, Or.inl rfl, Or.inl q1432⟩
theorem ko_J22_65_J5 : LkU RJ22 65 RJ5 ⟨"java/util/LinkedHashMap", "removeNode", "(ILjava/lang/Object;Ljava/lang/Object;ZZ)Ljava/util/HashMap$Node;"⟩ yJ4_removeNode 5 := ⟨_, q1985, q1986, q1988, q1391, q80, by decide +kernel, by decide +kernel, by decide +kernel, Or.inl rfl⟩
set_option maxHeartbeats 4000000 in
set_option maxRecDepth 100000 in
theorem sp_J22_remove {l : Launch} {s0 : State} {D : va_G} {I : AI} {L : AL} {m it : Nat} {mo : Int32} {x : Ent} {pre post : List Ent} {o : Option Nat} (hΓ : Gam l s0 D) (hNT : StN s0) (h0 : L m = some (mpC mo (pre ++ x :: post))) (hq : L it = some (obC ciJ23 [va_rf o, .ref x.1, .int (mo), .int 0, .ref m])) : Spc l s0 D yJ22_remove 4 [.ref it] I L 0 0 (pU I (up1 L m (some (mpC (mo + 1) (pre ++ post)))) it (obC ciJ23 [va_rf o, .null, .int (mo + 1), .int 0, .ref m])) noX := by
  refine Spc.of hΓ cJ22_remove 2 none q1982 (by decide +kernel) (by decide) (Nat.le_of_ble_eq_true rfl) (fun G GX hG => ?_)
  have hqm : it ≠ m := ne_val hq h0 ne_rk
  refine hG.opM h0 (fun tbV esV cap lf kr vr M h hf => ?_)
  have h1 := h.1
  have hMq := (hf it _ hq hqm).2
  have hxe : x ∈ pre ++ x :: post := by simp
  obtain ⟨hx1, hx2, hx3, hx4⟩ := h.2.2.2.2.1 x hxe
  have hni := (hf it _ hq hqm).1
  have hix : it ≠ x.1 := fun e => hni (by rw [e]; simp)
  refine hG.aload_n dJ22_remove_0 rfl ?_
  refine hG.get dJ22_remove_1 fg_J22_36_J23 (Or.inl hMq) rfl ?_
  refine hG.astore_n dJ22_remove_4 (by decide) ?_
  refine hG.aload_n dJ22_remove_5 rfl ?_
  refine hG.ifnonnull (tgt := 17) dJ22_remove_6 rfl ?_
  refine hG.aload_n dJ22_remove_17 rfl ?_
  refine hG.get dJ22_remove_18 fg_J22_1_J23 (Or.inl hMq) rfl ?_
  refine hG.get dJ22_remove_21 fg_J22_29_J5 (Or.inl h1) rfl ?_
  refine hG.aload_n dJ22_remove_24 rfl ?_
  refine hG.get dJ22_remove_25 fg_J22_33_J23 (Or.inl hMq) rfl ?_
  refine hG.icmp_eq (tgt := 39) dJ22_remove_28 rfl (fun c_28 => ?_) (fun c_28 => absurd rfl c_28)
  refine hG.aload_n dJ22_remove_39 rfl ?_
  refine hG.null dJ22_remove_40 ?_
  refine hG.put dJ22_remove_41 fp_J22_36_J23 hMq rfl rfl (Nat.le_of_ble_eq_true rfl) ?_
  refine hG.aload_n dJ22_remove_44 rfl ?_
  refine hG.get dJ22_remove_45 fg_J22_1_J23 (Or.inl up1_s) rfl ?_
  refine hG.aload_n dJ22_remove_48 rfl ?_
  refine hG.get dJ22_remove_49 fg_J22_56_J31 (Or.inl ((up1_n hix.symm).trans hx1)) rfl ?_
  refine hG.aload_n dJ22_remove_52 rfl ?_
  refine hG.get dJ22_remove_53 fg_J22_61_J31 (Or.inl ((up1_n hix.symm).trans hx1)) rfl ?_
  refine hG.null dJ22_remove_56 ?_
  refine hG.iconst (v := 0) dJ22_remove_57 rfl ?_
  refine hG.iconst (v := 0) dJ22_remove_58 rfl ?_
  refine hG.callU dJ22_remove_59 ko_J22_65_J5 (Rcv.raw ((up1_n hqm.symm).trans h1) cl_J5) (sp_J4_removeNode hΓ hNT (h.mono ile_rf (fun z hz x hx => (up1_n (fun e : z = it => hni (e ▸ hz))).trans hx)) hx3) rfl rfl (Nat.le_of_ble_eq_true rfl) (by decide) (by omega) (by omega) (fun r59 I59 L59 hI59 h59 => ?_) (fun _ _ _ _ _ h => h.elim)
  obtain ⟨rfl, rfl, -, h2M, hF⟩ := h59
  have hLq : L59 it = _ := (hF it _ up1_s hni).2
  refine hG.pop dJ22_remove_62 rfl ?_
  refine hG.aload_n dJ22_remove_63 rfl ?_
  refine hG.aload_n dJ22_remove_64 rfl ?_
  refine hG.get dJ22_remove_65 fg_J22_1_J23 (Or.inl hLq) rfl ?_
  refine hG.get dJ22_remove_68 fg_J22_29_J5 (Or.inl h2M.1) rfl ?_
  refine hG.put dJ22_remove_71 fp_J22_33_J23 hLq rfl rfl (Nat.le_of_ble_eq_true rfl) ?_
  have hni2 := (hF it _ up1_s hni).1
  have hf2 : Frm (up1 L it (some (obC ciJ23 [va_rf o, .null, .int (mo + 1), .int 0, .ref m]))) m (m :: (rfs tbV ++ ads (pre ++ post))) (up1 L59 it (some (obC ciJ23 [va_rf o, .null, .int (mo + 1), .int 0, .ref m]))) := fun z y hz hzm => by
    by_cases e : z = it
    · subst e
      rw [up1_s] at hz ⊢
      exact ⟨hni2, hz⟩
    · rw [up1_n e] at hz
      obtain ⟨k1, k2⟩ := hf z y hz hzm
      obtain ⟨k3, k4⟩ := hF z y ((up1_n e).trans k2) k1
      exact ⟨k3, (up1_n e).trans k4⟩
  refine hG.clM (up1 L it (some (obC ciJ23 [va_rf o, .null, .int (mo + 1), .int 0, .ref m]))) (h2M.mono ile_rf (fun z hz x hx => (up1_n (fun e : z = it => hni2 (e ▸ hz))).trans hx)) hf2 (fun q hq => hq) ?_
  refine hG.vret dJ22_remove_74 rfl ?_ (by omega) (by omega) trivial
  exact ⟨rfl, rfl, up1_comm hqm⟩
