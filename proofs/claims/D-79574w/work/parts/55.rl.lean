/-! hours -/
def liveN (R : Rv) : Nat → Rv
  | 0 => R
  | k + 1 => liveR (liveN R k)
theorem dragA_1 {R : Rv} {a : T3} : (dragA R a).1 = a.1 := by
  unfold dragA
  split <;> rfl
theorem AnOk.live {R : Rv} (h : AnOk R) : AnOk (liveR R) := by
  refine ⟨h.1, fun a ha => ?_⟩
  obtain ⟨b, hb, rfl⟩ := List.mem_map.mp (show a ∈ R.an.map (dragA R) from ha)
  obtain ⟨j, c0, h1, h2⟩ := h.2 b hb
  exact ⟨j, c0, dragA_1.trans h1, h2⟩
theorem AnOk.liveN {R : Rv} (h : AnOk R) : ∀ k, AnOk (liveN R k)
  | 0 => h
  | k + 1 => (AnOk.liveN h k).live
theorem liveN_len {R : Rv} : ∀ k, (liveN R k).an.length = R.an.length
  | 0 => rfl
  | k + 1 => by
    show ((liveN R k).an.map (dragA (liveN R k))).length = _
    rw [List.length_map]
    exact liveN_len k
theorem kv_X2_184 : LkV RX2 184 yX2_holding 0 := ⟨q2068, q2069, q2070, q74, by decide +kernel, by decide +kernel, by decide +kernel⟩
theorem kv_X2_187 : LkV RX2 187 yX2_live 0 := ⟨q1897, q1899, qs9, q74, by decide +kernel, by decide +kernel, by decide +kernel⟩
set_option maxHeartbeats 4000000 in
set_option maxRecDepth 100000 in
theorem sp_X2_pass {l : Launch} {s0 : State} {D : va_G} {I : AI} {L : AL} {dE ca : Nat} {ad : Nat → Nat} {r : Nat} {R : Rv} {A : RA} (hΓ : Gam l s0 D) (hZ : Std s0 D dE ca ad) (h : RvO dE I L r R A) {H : Nat} (hH : H ≤ 99) (hok : AnOk R) (hl6 : R.an.length ≤ 6) : Spc l s0 D yX2_pass 13 [.ref r, .int (nI H)] I L (3 + 37 * H) (16 + 130 * H) (fun q I' L' => R.hr + nI H ≤ 9999 ∧ q = some (.int (holdN R.an - holdN (liveN R H).an)) ∧ ∃ A', RvO dE I' L' r (liveN R H) A' ∧ Far L (RN r A) (RN r A') L') (xR 10 (R.hr + nI H) (¬ R.hr + nI H ≤ 9999) L) := by
  refine Spc.of hΓ cX2_pass 4 (some FieldType.int) q2067 (by decide +kernel) (by decide) (Nat.le_of_ble_eq_true rfl) (fun G GX hG => ?_)
  refine hG.aload_n dX2_pass_0 rfl ?_
  refine hG.iload_n dX2_pass_1 rfl ?_
  refine hG.callV dX2_pass_2 kv_X2_180 (Rcv.raw h.h cl_X2) (sp_X2_allowHours hΓ h) rfl rfl (Nat.le_of_ble_eq_true rfl) (by decide) (by omega) (by omega) (fun r2 I2 L2 hI2 h2 => ?_) (fun E q I' L' hI ⟨e1, e2, e3, e4⟩ => hG.out (by simp) ⟨e1, e2, e3, e4⟩ (by omega) (by omega) trivial)
  obtain ⟨rfl, hb, rfl, rfl⟩ := h2
  refine hG.aload_n dX2_pass_5 rfl ?_
  refine hG.callV dX2_pass_6 kv_X2_184 (Rcv.raw h.h cl_X2) (sp_X2_holding hΓ hZ h) rfl rfl (Nat.le_of_ble_eq_true rfl) (by decide) (by omega) (by omega) (fun r6 I6 L6 hI6 h6 => ?_) (fun _ _ _ _ _ h => h.elim)
  obtain ⟨rfl, rfl, rfl⟩ := h6
  refine hG.istore_n dX2_pass_9 (by decide) ?_
  refine hG.iconst (v := 0) dX2_pass_10 rfl ?_
  refine hG.istore_n dX2_pass_11 (by decide) ?_
  have loop : ∀ (w k : Nat) (A1 : RA) (I1 : AI) (L1 : AL), k + w = H → RvO dE I1 L1 r (liveN R k) A1 → Far L (RN r A) (RN r A1) L1 → G 12 [(0, .ref r), (1, .int (nI H)), (2, .int (holdN R.an)), (3, .int (nI k))] [] I1 L1 (2 + 37 * k) (12 + 130 * k) := by
    intro w
    induction w with
    | zero =>
      intro k A1 I1 L1 hkw h1 hF
      have hk : k = H := by omega
      subst hk
      refine hG.iload_n dX2_pass_12 rfl ?_
      refine hG.iload_n dX2_pass_13 rfl ?_
      refine hG.icmp_ge (tgt := 27) dX2_pass_14 rfl (fun c_14 => ?_) (fun c_14 => absurd (nI_le (by omega) (by omega)) c_14)
      refine hG.iload_n dX2_pass_27 rfl ?_
      refine hG.aload_n dX2_pass_28 rfl ?_
      refine hG.callV dX2_pass_29 kv_X2_184 (Rcv.raw h1.h cl_X2) (sp_X2_holding hΓ hZ h1) rfl rfl (Nat.le_of_ble_eq_true rfl) (by decide) (by omega) (by omega) (fun r29 I29 L29 hI29 h29 => ?_) (fun _ _ _ _ _ h => h.elim)
      obtain ⟨rfl, rfl, rfl⟩ := h29
      refine hG.isub dX2_pass_32 ?_
      refine hG.iret dX2_pass_33 rfl ?_ (by omega) (by omega) trivial
      exact ⟨hb, rfl, A1, h1, hF⟩
    | succ w ih =>
      intro k A1 I1 L1 hkw h1 hF
      refine hG.iload_n dX2_pass_12 rfl ?_
      refine hG.iload_n dX2_pass_13 rfl ?_
      refine hG.icmp_ge (tgt := 27) dX2_pass_14 rfl (fun c_14 => absurd c_14 (nI_ge (by omega) (by omega))) (fun c_14 => ?_)
      refine hG.aload_n dX2_pass_17 rfl ?_
      refine hG.callV dX2_pass_18 kv_X2_187 (Rcv.raw h1.h cl_X2) (sp_X2_live hΓ hZ h1 (hok.liveN k) (by rw [liveN_len]; exact hl6)) rfl rfl (Nat.le_of_ble_eq_true rfl) (by decide) (by omega) (by omega) (fun r18 I18 L18 hI18 h18 => ?_) (fun _ _ _ _ _ h => h.elim)
      obtain ⟨rfl, A2, h2, hF2⟩ := h18
      refine hG.iinc dX2_pass_21 rfl (by decide) ?_
      refine hG.goto (tgt := 12) dX2_pass_24 rfl ?_
      refine hG.lsb [(0, .ref r), (1, .int (nI H)), (2, .int (holdN R.an)), (3, .int (nI k + Int32.ofInt 1))] ⟨rfl, rfl, rfl, rfl, trivial⟩ ?_
      rw [show nI k + Int32.ofInt 1 = nI (k + 1) from nI_add k 1]
      exact hG.wid (by omega) (by omega) (ih (k + 1) A2 _ _ (by omega) h2 (hF.tr hF2))
  exact hG.lsb [(0, .ref r), (1, .int (nI H)), (2, .int (holdN R.an)), (3, .int (nI 0))] ⟨rfl, rfl, rfl, rfl, trivial⟩ (loop H 0 A _ _ (by omega) h Far.rf)
