/-! the ferry: the text taken, its deeds done, read -/
theorem fg_X1_410_X27 : LkG RX1 410 ciX27 6 := ⟨RX27, TX27, 7, tyX27, _, cls_X27, by decide, Or.inl rfl, Or.inr ⟨_, q3069⟩⟩
theorem fp_X1_102_X1 {nm : String} : LkP RX1 nm 102 ciX1 4 (tyX1 4) := ⟨RX1, TX1, 8, tyX1, _, cls_X1, by decide, rfl, Or.inl rfl, Or.inl ⟨rfl, q364⟩⟩
theorem kv_X1_405 : LkV RX1 405 yJ8_setLength 1 := ⟨q3147, q3148, q3149, q84, by decide +kernel, by decide +kernel, by decide +kernel⟩
theorem nw_X1_396 : LkN RX1 396 ciX26 [.int 0, .null] 2 := ⟨RX26, TX26, tyX26, cls_X26, q2945, q2946, q141, rfl, fun j hj => by
  match j, hj with
  | 0, _ => rfl
  | 1, _ => rfl
  | _ + 2, h => exact absurd h (by omega)⟩
theorem ki_X1_398 : LkNI RX1 398 yX26_init 1 := ⟨⟨_, q2947⟩, q2948, q141, rfl, ⟨by decide +kernel, by decide +kernel, by decide +kernel⟩, by decide +kernel⟩
theorem kv_X1_401 : LkV RX1 401 yX26_text 0 := ⟨q2958, q2959, q2960, q141, by decide +kernel, by decide +kernel, by decide +kernel⟩
set_option maxHeartbeats 4000000 in
set_option maxRecDepth 100000 in
theorem sp_X1_taken {l : Launch} {s0 : State} {D : va_G} {I : AI} {L : AL} {dE ca : Nat} {ad : Nat → Nat} {o : Option Nat} (hΓ : Gam l s0 D) (hZ : Std s0 D dE ca ad) (hT : StX s0 D o) {x : Nat} {F : Fy} {A : FA} (hF : FeO dE I L x F A) {k : Nat} {ml : Int32} {t : List Nat} (hin : L (FA.ip A) = some (sbC 60 k ml t)) (hk : k ≤ 1) (htc : ∀ c ∈ t, c < 65536) (h24 : t.length ≤ 24) : SpcW l s0 D yX1_taken 17 [.ref x] I L 2620 113000 (fun q I' L' => (∃ p' : Nat, txF t = .inl p' ∧ q = some .null ∧ FeO dE I' L' x ((F.wIp []).wFa (nI p')) A ∧ FrX x L L') ∨ (∃ (cs : List Cm) (xs : List Nat) (la : Nat) (mo : Int32), txF t = .inr cs ∧ q = some (.ref la) ∧ L' la = some (liC dE mo xs) ∧ DsA I' xs cs ∧ 5 * cs.length ≤ t.length + 1 ∧ FeO dE I' (up1 L' la none) x (F.wIp []) A ∧ FrX x L L' ∧ L la = none)) noX := by
  refine SpcW.of hΓ cX1_taken 4 (some (FieldType.object "java/util/List")) [(0, 12, 22, 408), (0, 12, 43, 0), (22, 33, 43, 0)] q2943 (by decide +kernel) (by decide) (Nat.le_of_ble_eq_true rfl) (fun G GX hG => ?_)
  obtain ⟨hx, hr, hpq, hpa, hip, hln, hsv, hnd⟩ := id hF
  refine hG.new dX1_taken_0 nw_X1_396 (by omega) (by omega) (fun pa hLpa hIpa => ?_)
  refine hG.dup dX1_taken_3 rfl ?_
  refine hG.aload_n dX1_taken_4 rfl ?_
  refine hG.callNI dX1_taken_5 ki_X1_398 (sp_X26_init hΓ up1_s) rfl rfl (Nat.le_of_ble_eq_true rfl) (by decide) (by omega) (by omega) (fun r5 I5 L5 hI5 h5 => ?_) (fun _ _ _ _ _ h => h.elim)
  obtain ⟨rfl, rfl, rfl⟩ := h5
  rw [up1_up1]
  have hP : PaS (up1 L pa (some (ppC 0 x))) pa x (FA.ip A) 60 k ml t 0 := ⟨up1_s, ⟨_, _, _, _, _, _, _, (up1_n (ne_none hx hLpa)).trans hx⟩, (up1_n (ne_none hin hLpa)).trans hin, Nat.zero_le _, hk, htc, by omega⟩
  refine hG.lsb [(0, .ref x)] ⟨rfl, trivial⟩ ?_
  have kx8 : ∀ (E : String) (q : Nat) (I' : AI) (L' : AL), ile I I' → (E = RX27 ∧ ∃ p' : Nat, txF t = .inl p' ∧ I' q (faE (nI p')) ∧ L' = up1 (up1 L pa (some (ppC 0 x))) pa (some (ppC p' x))) → GX 8 [(0, .ref x)] [] E q I' L' (0 + 1 + 0 + 2600) (0 + 2 + 0 + 112000) := by
    rintro E q I' L' hI ⟨rfl, p', x2, x3, rfl⟩
    have hL8 : ∀ z y, L z = some y → up1 (up1 L pa (some (ppC 0 x))) pa (some (ppC p' x)) z = some y := fun z y hz => (up1_n (ne_none hz hLpa)).trans ((up1_n (ne_none hz hLpa)).trans hz)
    have hx1 := hL8 _ _ hx
    refine hG.catch_ [] { startPc := 0, endPc := 12, handlerPc := 22, catchType := 408 } [{ startPc := 0, endPc := 12, handlerPc := 43, catchType := 0 }, { startPc := 22, endPc := 33, handlerPc := 43, catchType := 0 }] rfl (fun z hz => (nomatch hz)) rfl (by decide) q2944 q3057 ?_
    refine hG.astore_n dX1_taken_22 (by decide) ?_
    refine hG.aload_n dX1_taken_23 rfl ?_
    refine hG.aload_n dX1_taken_24 rfl ?_
    refine hG.get dX1_taken_25 fg_X1_410_X27 (Or.inr x3) rfl ?_
    refine hG.put dX1_taken_28 fp_X1_102_X1 hx1 rfl rfl (Nat.le_of_ble_eq_true rfl) ?_
    have hF2 := ((hF.mono hI hL8).nums (nI p') F.re F.de)
    have hip2 : up1 (up1 (up1 L pa (some (ppC 0 x))) pa (some (ppC p' x))) x (some (feC (FA.r A) (FA.pq A) (FA.ip A) (FA.ln A) (nI p') F.re F.de (FA.sv A))) (FA.ip A) = some (sbC 60 k ml t) := (up1_n (ne_val hin hx (fun e => by cases e)).symm.symm).trans (hL8 _ _ hin)
    refine hG.null dX1_taken_31 ?_
    refine hG.astore_nN dX1_taken_32 (by decide) ?_
    refine hG.aload_n dX1_taken_33 rfl ?_
    refine hG.get dX1_taken_34 fg_X1_92_X1 (Or.inl up1_s) rfl ?_
    refine hG.iconst (v := 0) dX1_taken_37 rfl ?_
    refine hG.callV dX1_taken_38 kv_X1_405 (Rcv.sb hip2) (sp_J8_setLength hΓ hip2) rfl rfl (Nat.le_of_ble_eq_true rfl) (by decide) (by omega) (by omega) (fun r38 I38 L38 hI38 h38 => ?_) (fun _ _ _ _ _ h => h.elim)
    obtain ⟨rfl, rfl, ml2, rfl⟩ := h38
    refine hG.aload_nN dX1_taken_41 rfl ?_
    refine hG.aret dX1_taken_42 rfl (by first | exact Or.inl ⟨_, rfl⟩ | exact Or.inr ⟨_, rfl⟩) (by first | exact Or.inr ⟨_, rfl⟩ | exact Or.inl rfl) ?_ (by omega) (by omega) trivial
    refine Or.inl ⟨p', x2, rfl, ?_, fun z e hz hn => (up1_n (ne_val hz hin (fun e => by cases e))).trans ((up1_n hn).trans (hL8 _ _ hz))⟩
    exact (hF2.inp (k := k) (ml := ml2) (t := []) hk (fun c hc => nomatch hc) (by decide))
  refine hG.callV dX1_taken_8 kv_X1_401 (Rcv.raw up1_s cl_X26) (sp_X26_text hΓ hT hZ hP h24) rfl rfl (Nat.le_of_ble_eq_true rfl) (by decide) (by omega) (by omega) (fun r8 I8 L8 hI8 h8 => ?_) kx8
  obtain ⟨cs, xs, la, mo, z, e8, rfl, hla, rfl, hds, h5c⟩ := h8
  have hL8 : ∀ z9 y, L z9 = some y → up1 (up1 (up1 L pa (some (ppC 0 x))) pa (some (ppC z x))) la (some (liC dE mo xs)) z9 = some y := fun z9 y hz => by
    have e9 : up1 (up1 L pa (some (ppC 0 x))) pa (some (ppC z x)) z9 = some y := (up1_n (ne_none hz hLpa)).trans ((up1_n (ne_none hz hLpa)).trans hz)
    exact (up1_n (ne_none e9 hla)).trans e9
  have hLla : L la = none := by
    cases hy : L la with
    | none => rfl
    | some y =>
      have e9 : up1 (up1 L pa (some (ppC 0 x))) pa (some (ppC z x)) la = some y := (up1_n (ne_none hy hLpa)).trans ((up1_n (ne_none hy hLpa)).trans hy)
      cases hla.symm.trans e9
  have hx1 := hL8 _ _ hx
  have hin1 := hL8 _ _ hin
  have hxl : x ≠ la := ne_none hx hLla
  refine hG.astore_n dX1_taken_11 (by decide) ?_
  refine hG.aload_n dX1_taken_12 rfl ?_
  refine hG.get dX1_taken_13 fg_X1_92_X1 (Or.inl hx1) rfl ?_
  refine hG.iconst (v := 0) dX1_taken_16 rfl ?_
  refine hG.callV dX1_taken_17 kv_X1_405 (Rcv.sb hin1) (sp_J8_setLength hΓ hin1) rfl rfl (Nat.le_of_ble_eq_true rfl) (by decide) (by omega) (by omega) (fun r17 I17 L17 hI17 h17 => ?_) (fun _ _ _ _ _ h => h.elim)
  obtain ⟨rfl, rfl, ml2, rfl⟩ := h17
  refine hG.aload_n dX1_taken_20 rfl ?_
  refine hG.aret dX1_taken_21 rfl (by first | exact Or.inl ⟨_, rfl⟩ | exact Or.inr ⟨_, rfl⟩) (by first | exact Or.inr ⟨_, rfl⟩ | exact Or.inl rfl) ?_ (by omega) (by omega) trivial
  refine Or.inr ⟨cs, xs, la, mo, e8, rfl, (up1_n (ne_none hin hLla).symm).trans up1_s, hds, h5c, ?_, fun z9 e hz hn => (up1_n (ne_val hz hin (fun e => by cases e))).trans (hL8 _ _ hz), hLla⟩
  have hil : FA.ip A ≠ la := ne_none hin hLla
  rw [up1_comm hil, up1_up1]
  exact (hF.mono hI8 (fun z9 y hz => (up1_n (ne_none hz hLla)).trans ((up1_n (ne_none hz hLpa)).trans ((up1_n (ne_none hz hLpa)).trans hz)))).inp (k := k) (ml := ml2) (t := []) hk (fun c hc => nomatch hc) (by decide)
