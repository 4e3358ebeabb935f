/-! the ferry: snapshots, input, groups, numbers -/
theorem fp_X1_426_X1 {nm : String} : LkP RX1 nm 426 ciX1 7 (tyX1 7) := ⟨RX1, TX1, 8, tyX1, _, cls_X1, by decide, rfl, Or.inl rfl, Or.inl ⟨rfl, q367⟩⟩
theorem fg_X1_426_X1 : LkG RX1 426 ciX1 7 := ⟨RX1, TX1, 8, tyX1, _, cls_X1, by decide, Or.inl rfl, Or.inl q367⟩
theorem fg_X1_338_X2 : LkG RX1 338 ciX2 0 := ⟨RX2, TX2, 13, tyX2, _, cls_X2, by decide, Or.inl rfl, Or.inr ⟨_, q254⟩⟩
theorem kf_X1_342_J2 : LkF RX1 342 RJ2 ⟨"java/util/List", "size", "()I"⟩ yJ2_size 0 := ⟨q2300, q1636, q1638, q77, ⟨by decide +kernel, by decide +kernel, by decide +kernel⟩, q1635, q1634, q1639, q1637, q413⟩
set_option maxHeartbeats 4000000 in
set_option maxRecDepth 100000 in
theorem sp_X1_saveSnapshot {l : Launch} {s0 : State} {D : va_G} {I : AI} {L : AL} {dE ca : Nat} {ad : Nat → Nat} (hΓ : Gam l s0 D) (hZ : Std s0 D dE ca ad) {x N : Nat} {F : Fy} {A : FA} (hF : FeO dE I L x F A) (hW : WfF N F) (hN : N ≤ 22) : Spc l s0 D yX1_saveSnapshot 13 [.ref x] I L 312 3480 (pF dE (F.wSv (some F.rv), 0, nI F.rv.ch.length) x L) (xE1 RJ36 ((0 : Int32)) L) := by
  refine Spc.of hΓ cX1_saveSnapshot 1 (some FieldType.int) q2298 (by decide +kernel) (by decide) (Nat.le_of_ble_eq_true rfl) (fun G GX hG => ?_)
  obtain ⟨hx, hr, hpq, hpa, hip, hln, hsv, hnd⟩ := id hF
  refine hG.aload_n dX1_saveSnapshot_0 rfl ?_
  refine hG.aload_n dX1_saveSnapshot_1 rfl ?_
  refine hG.callV dX1_saveSnapshot_2 kv_X1_129 (Rcv.raw hx cl_X1) (sp_X1_draft hΓ hZ hx hr hW.1 (by omega)) rfl rfl (Nat.le_of_ble_eq_true rfl) (by decide) (by omega) (by omega) (fun r2' I2' L2' hI2' h2' => ?_) (fun _ _ _ _ _ h => h.elim)
  obtain ⟨r2, A2, rfl, h2, F1⟩ := h2'
  have hL1 : ∀ z y, L z = some y → L2' z = some y := fun z y hz => (F1 z y hz (by simp)).2
  have hx1 := hL1 _ _ hx
  have hxn : x ∉ RN r2 A2 := (F1 x _ hx (by simp)).1
  have h3 := h2.aw ile_rf hxn (some (feC (FA.r A) (FA.pq A) (FA.ip A) (FA.ln A) F.fa F.re F.de (some r2)))
  refine hG.put dX1_saveSnapshot_5 fp_X1_426_X1 hx1 rfl rfl (Nat.le_of_ble_eq_true rfl) ?_
  refine hG.aload_n dX1_saveSnapshot_8 rfl ?_
  refine hG.get dX1_saveSnapshot_9 fg_X1_426_X1 (Or.inl up1_s) rfl ?_
  refine hG.get dX1_saveSnapshot_12 fg_X1_338_X2 (Or.inl h3.h) rfl ?_
  refine hG.callF dX1_saveSnapshot_15 kf_X1_342_J2 (Rcv.li h3.h0) cl_J2 (sp_J2_size hΓ h3.h0) rfl rfl (Nat.le_of_ble_eq_true rfl) (by decide) (by omega) (by omega) (fun r15 I15 L15 hI15 h15 => ?_) (fun _ _ _ _ _ h => h.elim)
  obtain ⟨rfl, rfl, rfl⟩ := h15
  rw [show A2.xs.length = F.rv.ch.length from h3.e0.len]
  have hr2 : L r2 = none := by
    cases hy : L r2 with
    | none => rfl
    | some y => exact absurd (List.mem_cons_self) (F1 r2 y hy (by simp)).1
  refine hG.clR (cutL (up1 L2' x (some (feC (FA.r A) (FA.pq A) (FA.ip A) (FA.ln A) F.fa F.re F.de (some r2)))) (RN r2 A2)) h3 (fun z y hz hza => cutL_i hz) ?_
  refine hG.iret dX1_saveSnapshot_20 rfl ?_ (by omega) (by omega) trivial
  have hk : ∀ z y, L z = some y → z ≠ x → up1 (cutL (up1 L2' x (some (feC (FA.r A) (FA.pq A) (FA.ip A) (FA.ln A) F.fa F.re F.de (some r2)))) (RN r2 A2)) r2 (some (rvC dE F.rv)) z = some y := fun z y hz hn => (up1_n (ne_none hz hr2)).trans ((cutL_n (F1 z y hz (by simp)).1).trans ((up1_n hn).trans (F1 z y hz (by simp)).2))
  have hxr : x ≠ r2 := ne_none hx hr2
  have kn : ∀ z y, L z = some y → (∀ e, y ≠ .inl e) → z ≠ x := fun z y hz h1 e => by rw [e, hx] at hz; exact h1 _ (Option.some.inj hz).symm
  refine ⟨rfl, rfl, (FA.r A, FA.pq A, FA.ip A, FA.ln A, FA.xs A, some r2), hF.put hI2' ((up1_n hxr).trans ((cutL_n hxn).trans up1_s)) (hk _ _ hr (kn _ _ hr (fun e q => by cases q))) (hk _ _ hpq (kn _ _ hpq (fun e q => by cases q))) (hpa.mono (fun z hz c hc => ?_)) up1_s ?_ (fun z b k ml cs hz => hk z _ hz (kn _ _ hz (fun e q => by cases q))) rfl rfl, fun z e hz hn => hk z _ hz hn⟩
  · obtain ⟨R, hR⟩ := hpa.mem z hz
    exact hk z c hc (kn _ _ hc (fun e q => by rw [hR] at hc; rw [q] at hc; cases hc))
  · have h1 := hnd.sublist (List.Sublist.cons₂ (FA.r A) (List.sublist_append_left (FA.xs A) (FA.sv A).toList))
    show ((FA.r A :: FA.xs A) ++ [r2]).Nodup
    refine List.nodup_append.mpr ⟨h1, by simp, fun a ha b hb => ?_⟩
    rw [List.mem_singleton.mp hb]
    rcases List.mem_cons.mp ha with e | e
    · rw [e]; exact ne_none hr hr2
    · obtain ⟨R, hR⟩ := hpa.mem a e
      exact ne_none hR hr2
theorem kv_X1_429 : LkV RX1 429 yJ6_clear 0 := ⟨q3250, q3251, q3252, q82, by decide +kernel, by decide +kernel, by decide +kernel⟩
set_option maxHeartbeats 4000000 in
set_option maxRecDepth 100000 in
theorem sp_X1_restoreSnapshot {l : Launch} {s0 : State} {D : va_G} {I : AI} {L : AL} {dE ca : Nat} {ad : Nat → Nat} (hΓ : Gam l s0 D) (hZ : Std s0 D dE ca ad) {x N : Nat} {F : Fy} {A : FA} (hF : FeO dE I L x F A) (hW : WfF N F) (hN : N ≤ 22) : Spc l s0 D yX1_restoreSnapshot 13 [.ref x] I L 312 3480 (pF dE (rstF F) x L) (xE1 RJ36 ((rstF F).2.1) L) := by
  refine Spc.of hΓ cX1_restoreSnapshot 1 (some FieldType.int) q3249 (by decide +kernel) (by decide) (Nat.le_of_ble_eq_true rfl) (fun G GX hG => ?_)
  obtain ⟨hx, hr, hpq, hpa, hip, hln, hsv, hnd⟩ := id hF
  cases hs : F.sv with
  | none =>
    have hsn : FA.sv A = none := by
      cases hq : FA.sv A with
      | none => rfl
      | some s => rw [hq, hs] at hsv; exact hsv.elim
    have hx9 : L x = some (feC (FA.r A) (FA.pq A) (FA.ip A) (FA.ln A) F.fa F.re F.de none) := by rw [← hsn]; exact hx
    refine hG.aload_n dX1_restoreSnapshot_0 rfl ?_
    refine hG.get dX1_restoreSnapshot_1 fg_X1_426_X1 (Or.inl hx9) rfl ?_
    refine hG.ifnullN (tgt := 11) dX1_restoreSnapshot_4 rfl ?_
    refine hG.iconst (v := 0) dX1_restoreSnapshot_11 rfl ?_
    refine hG.callS dX1_restoreSnapshot_12 ks_X1_390 (sp_X1_requireState (b := false) hΓ) rfl rfl (Nat.le_of_ble_eq_true rfl) (by decide) (by omega) (by omega) (fun r12 I12 L12 hI12 h12 => ?_) (fun E q I' L' hI ⟨x1, x2, x3⟩ => hG.out (by simp) ⟨x3, by rw [rst_n hs], x1⟩ (by omega) (by omega) trivial)
    exact absurd h12.2.1 (by decide)
  | some S =>
    obtain ⟨s, hsn⟩ : ∃ s, FA.sv A = some s := by
      cases hq : FA.sv A with
      | none => rw [hq, hs] at hsv; exact hsv.elim
      | some s => exact ⟨s, rfl⟩
    have hx9 : L x = some (feC (FA.r A) (FA.pq A) (FA.ip A) (FA.ln A) F.fa F.re F.de (some s)) := by rw [← hsn]; exact hx
    have hsL : L s = some (rvC dE S) := by
      have := hsv
      rw [hsn, hs] at this
      exact this
    have hWs := hW.2.2.2 S hs
    refine hG.aload_n dX1_restoreSnapshot_0 rfl ?_
    refine hG.get dX1_restoreSnapshot_1 fg_X1_426_X1 (Or.inl hx9) rfl ?_
    refine hG.ifnull dX1_restoreSnapshot_4 ?_
    refine hG.iconst (v := 1) dX1_restoreSnapshot_7 rfl ?_
    refine hG.goto (tgt := 12) dX1_restoreSnapshot_8 rfl ?_
    refine hG.callS dX1_restoreSnapshot_12 ks_X1_390 (sp_X1_requireState (b := true) hΓ) rfl rfl (Nat.le_of_ble_eq_true rfl) (by decide) (by omega) (by omega) (fun r12 I12 L12 hI12 h12 => ?_) (fun E q I' L' hI ⟨x1, x2, x3⟩ => absurd x2 (by decide))
    obtain ⟨rfl, -, rfl, rfl⟩ := h12
    refine hG.aload_n dX1_restoreSnapshot_15 rfl ?_
    refine hG.new dX1_restoreSnapshot_16 nw_X1_75 (by omega) (by omega) (fun r2 hLr2 hIr2 => ?_)
    refine hG.dup dX1_restoreSnapshot_19 rfl ?_
    refine hG.callNI dX1_restoreSnapshot_20 ki_X1_77 (sp_X2_init hΓ hZ up1_s) rfl rfl (Nat.le_of_ble_eq_true rfl) (by decide) (by omega) (by omega) (fun r20 I20 L20 hI20 h20 => ?_) (fun _ _ _ _ _ h => h.elim)
    obtain ⟨rfl, A1, h1, F1⟩ := h20
    have hF1 : Far L [] (RN r2 A1) L20 := fun z y hz _ => F1 z y ((up1_n (ne_none hz hLr2)).trans hz) (by simp [ne_none hz hLr2])
    refine hG.aload_n dX1_restoreSnapshot_23 rfl ?_
    refine hG.get dX1_restoreSnapshot_24 fg_X1_426_X1 (Or.inl (hF1 x _ hx9 (by simp)).2) rfl ?_
    have h04 := (hF1 s _ hsL (by simp)).2
    refine hG.opR h04 (fun B M g hf => ?_)
    have hs1 : s ∉ RN r2 A1 := (hF1 s _ hsL (by simp)).1
    have h1M : RvO dE I20 M r2 rv0 A1 := h1.mono ile_rf (fun z hz y hy => (hf z y hy (fun e => hs1 (e ▸ hz))).2)
    have hd : ∀ q ∈ RN r2 A1, q ∉ RN s B := fun z hz hm => by
      cases hy : L20 z with
      | none => exact h1.dom z hz hy
      | some y => exact (hf z y hy (fun e => hs1 (e ▸ hz))).1 hm
    refine hG.callV dX1_restoreSnapshot_27 kv_X1_106 (Rcv.raw h1M.h cl_X2) (sp_X2_become hΓ hZ h1M g hd hWs.wa hWs.fo hWs.af (by have := hWs.ln; omega) (by have := hWs.ln; omega) (by have := hWs.ln; omega)) rfl rfl (Nat.le_of_ble_eq_true rfl) (by decide) (by omega) (by omega) (fun r27 I27 L27 hI27 h27 => ?_) (fun _ _ _ _ _ h => h.elim)
    obtain ⟨rfl, A2, h2, F2⟩ := h27
    have g2 : RvO dE I27 L27 s S B := g.mono hI27 (fun z hz y hy => (F2 z y hy (fun hm => hd z hm hz)).2)
    have d2 : ∀ z ∈ RN s B, z ∉ RN r2 A2 := fun z hz => by
      cases hy : M z with
      | none => exact absurd hy (g.dom z hz)
      | some y => exact (F2 z y hy (fun hm => hd z hm hz)).1
    refine hG.clR (A := B) (cutL L27 (RN s B)) g2 (fun z y hz hza => cutL_i hz) ?_
    have hr2 : L r2 = none := hLr2
    have h5 : ∀ z y, L z = some y → up1 (cutL L27 (RN s B)) s (some (rvC dE S)) z = some y ∧ z ∉ RN r2 A2 := fun z y hz => by
      by_cases e : z = s
      · subst e
        exact ⟨up1_s.trans (hsL.symm.trans hz), d2 z (by simp [RN])⟩
      · have q4 := hF1 z y hz (by simp)
        have qM := hf z y q4.2 e
        have q11 := F2 z y qM.2 q4.1
        exact ⟨(up1_n e).trans ((cutL_n qM.1).trans q11.2), q11.1⟩
    have h3 : RvO dE I27 (up1 (cutL L27 (RN s B)) s (some (rvC dE S))) r2 S A2 := h2.mono ile_rf (fun z hz y hy => (up1_n (fun (e : z = s) => d2 s (by simp [RN]) (e ▸ hz))).trans ((cutL_n (fun hm => d2 z hm hz)).trans hy))
    generalize hLL : up1 (cutL L27 (RN s B)) s (some (rvC dE S)) = L3 at h5 h3 ⊢
    have hx27 := (h5 _ _ hx9).1
    refine hG.put dX1_restoreSnapshot_30 fp_X1_78_X1 hx27 rfl rfl (Nat.le_of_ble_eq_true rfl) ?_
    have hxn := (h5 _ _ hx9).2
    have hpn := (h5 _ _ hpq).2
    have hpq3 : up1 L3 x (some (feC r2 (FA.pq A) (FA.ip A) (FA.ln A) F.fa F.re F.de (some s))) (FA.pq A) = some (dqC (FA.xs A)) := (up1_n (ne_val hpq hx9 (fun e => by cases e))).trans (h5 _ _ hpq).1
    have h4 := (h3.aw ile_rf hxn (some (feC r2 (FA.pq A) (FA.ip A) (FA.ln A) F.fa F.re F.de (some s)))).aw ile_rf hpn (some (dqC []))
    refine hG.aload_n dX1_restoreSnapshot_33 rfl ?_
    refine hG.get dX1_restoreSnapshot_34 fg_X1_85_X1 (Or.inl up1_s) rfl ?_
    refine hG.callV dX1_restoreSnapshot_37 kv_X1_429 (Rcv.dq hpq3) (sp_J6_clear hΓ hpq3) rfl rfl (Nat.le_of_ble_eq_true rfl) (by decide) (by omega) (by omega) (fun r37 I37 L37 hI37 h37 => ?_) (fun _ _ _ _ _ h => h.elim)
    obtain ⟨rfl, rfl, rfl⟩ := h37
    refine hG.aload_n dX1_restoreSnapshot_40 rfl ?_
    refine hG.get dX1_restoreSnapshot_41 fg_X1_78_X1 (Or.inl ((up1_n (ne_val hx9 hpq (fun e => by cases e))).trans up1_s)) rfl ?_
    refine hG.get dX1_restoreSnapshot_44 fg_X1_338_X2 (Or.inl h4.h) rfl ?_
    refine hG.callF dX1_restoreSnapshot_47 kf_X1_342_J2 (Rcv.li h4.h0) cl_J2 (sp_J2_size hΓ h4.h0) rfl rfl (Nat.le_of_ble_eq_true rfl) (by decide) (by omega) (by omega) (fun r47 I47 L47 hI47 h47 => ?_) (fun _ _ _ _ _ h => h.elim)
    obtain ⟨rfl, rfl, rfl⟩ := h47
    rw [show A2.xs.length = S.ch.length from h4.e0.len]
    refine hG.clR (cutL (up1 (up1 L3 x (some (feC r2 (FA.pq A) (FA.ip A) (FA.ln A) F.fa F.re F.de (some s)))) (FA.pq A) (some (dqC []))) (RN r2 A2)) h4 (fun z y hz hza => cutL_i hz) ?_
    refine hG.iret dX1_restoreSnapshot_52 rfl ?_ (by omega) (by omega) trivial
    have hk : ∀ z y, L z = some y → z ≠ x → z ≠ FA.pq A → up1 (cutL (up1 (up1 L3 x (some (feC r2 (FA.pq A) (FA.ip A) (FA.ln A) F.fa F.re F.de (some s)))) (FA.pq A) (some (dqC []))) (RN r2 A2)) r2 (some (rvC dE S)) z = some y := fun z y hz n1 n2 => (up1_n (ne_none hz hr2)).trans ((cutL_n (h5 z y hz).2).trans ((up1_n n2).trans ((up1_n n1).trans (h5 z y hz).1)))
    have kn : ∀ z y, L z = some y → (∀ e, y ≠ .inl e) → z ≠ x := fun z y hz h1 e => by rw [e, hx9] at hz; exact h1 _ (Option.some.inj hz).symm
    refine ⟨by rw [rst_s hs], by rw [rst_s hs], (r2, FA.pq A, FA.ip A, FA.ln A, [], some s), ?_, fun z e hz hn => hk z _ hz hn (ne_val hz hpq (fun e => by cases e))⟩
    rw [rst_s hs]
    refine hF.put (ile_tr hI20 hI27) ((up1_n (ne_none hx9 hr2)).trans ((cutL_n hxn).trans ((up1_n (ne_val hx9 hpq (fun e => by cases e))).trans up1_s))) up1_s ((up1_n (ne_none hpq hr2)).trans ((cutL_n hpn).trans up1_s)) trivial ?_ ?_ (fun z b k ml cs hz => hk z _ hz (kn _ _ hz (fun e q => by cases q)) (fun e => by rw [e, hpq] at hz; exact ne_kind (by decide) (Option.some.inj hz))) rfl rfl
    · show SvO dE _ (some s) F.sv
      rw [hs]
      exact hk s _ hsL (kn _ _ hsL (fun e q => by cases q)) (ne_val hsL hpq (ne_kind (by decide)))
    · show [r2, s].Nodup
      have : s ≠ r2 := ne_none hsL hr2
      simp [this.symm]
theorem FeO.inp {dE : Nat} {I : AI} {L : AL} {x : Nat} {F : Fy} {A : FA} (h : FeO dE I L x F A) {k : Nat} {ml : Int32} {t : List Nat} (hk : k ≤ 1) (ht : ∀ c ∈ t, c < 65536) (hl : t.length ≤ 60) : FeO dE I (up1 L (FA.ip A) (some (sbC 60 k ml t))) x (F.wIp (t.map nI)) A := by
  obtain ⟨h1, h2, h3, h4, ⟨k0, ml0, t0, h5, h6, h7, h75, h8⟩, ⟨cs, g1, g2, g3, g4⟩, h10, h11⟩ := h
  have nr : ∀ z R, L z = some (rvC dE R) → up1 L (FA.ip A) (some (sbC 60 k ml t)) z = some (rvC dE R) := fun z R hz => (up1_n (ne_val hz h8 (ne_kind (by decide)))).trans hz
  refine ⟨(up1_n (ne_val h1 h8 (fun e => by cases e))).trans h1, nr _ _ h2, (up1_n (ne_val h3 h8 (ne_kind (by decide)))).trans h3, h4.mono (fun z hz y hy => ?_), ⟨k, ml, t, rfl, hk, ht, hl, up1_s⟩, ⟨cs, g1, g2, g3, ?_⟩, h10.mono (fun z hz y hy => ?_), h11⟩
  · obtain ⟨R, hR⟩ := h4.mem z hz
    rw [hR] at hy
    cases hy
    exact nr z R hR
  · rcases g4 with ⟨g5, ml2, g6⟩ | g5
    · exact Or.inl ⟨g5, ml2, (up1_n g5).trans g6⟩
    · exact Or.inr g5
  · obtain ⟨R, hR⟩ := SvO.mem h10 z hz
    rw [hR] at hy
    cases hy
    exact nr z R hR
theorem fg_X1_92_X1 : LkG RX1 92 ciX1 2 := ⟨RX1, TX1, 8, tyX1, _, cls_X1, by decide, Or.inl rfl, Or.inl q362⟩
theorem kv_X1_281 : LkV RX1 281 yJ8_length 0 := ⟨q2614, q1037, q3666, q84, by decide +kernel, by decide +kernel, by decide +kernel⟩
theorem kv_X1_393 : LkV RX1 393 yJ8_append_4 1 := ⟨q2920, q2921, q2922, q84, by decide +kernel, by decide +kernel, by decide +kernel⟩
set_option maxHeartbeats 4000000 in
set_option maxRecDepth 100000 in
theorem sp_X1_feed {l : Launch} {s0 : State} {D : va_G} {I : AI} {L : AL} {dE ca : Nat} {ad : Nat → Nat} {o : Option Nat} (hΓ : Gam l s0 D) (hZ : Std s0 D dE ca ad) {x N : Nat} {F : Fy} {A : FA} (hF : FeO dE I L x F A) (hW : WfF N F) (hN : N ≤ 22) (hX : StV s0 o) {c : Nat} (hc9 : c < 65536) : Spc l s0 D yX1_feed 12 [.ref x, .int (nI c)] I L 3 640 (pF dE (feedF F (nI c)) x L) (xE1 RJ36 ((feedF F (nI c)).2.1) L) := by
  refine Spc.of hΓ cX1_feed 2 (some FieldType.int) q2914 (by decide +kernel) (by decide) (Nat.le_of_ble_eq_true rfl) (fun G GX hG => ?_)
  obtain ⟨hx, hr, hpq, hpa, hip, hln, hsv, hnd⟩ := id hF
  obtain ⟨k, ml, t, h5, h6, h7, h75, hip⟩ := hip
  by_cases h60 : 60 ≤ t.length
  · refine hG.aload_n dX1_feed_0 rfl ?_
    refine hG.get dX1_feed_1 fg_X1_92_X1 (Or.inl hx) rfl ?_
    refine hG.callV dX1_feed_4 kv_X1_281 (Rcv.sb hip) (sp_J8_length hΓ hip) rfl rfl (Nat.le_of_ble_eq_true rfl) (by decide) (by omega) (by omega) (fun r4 I4 L4 hI4 h4 => ?_) (fun _ _ _ _ _ h => h.elim)
    obtain ⟨rfl, rfl, rfl⟩ := h4
    refine hG.bipush (v := 60) dX1_feed_7 rfl ?_
    refine hG.icmp_ge (tgt := 16) dX1_feed_9 rfl (fun c_9 => ?_) (fun c_9 => absurd (nI_le (a := 60) (b := t.length) (by omega) (by omega)) c_9)
    refine hG.iconst (v := 0) dX1_feed_16 rfl ?_
    refine hG.callS dX1_feed_17 ks_X1_390 (sp_X1_requireState (b := false) hΓ) rfl rfl (Nat.le_of_ble_eq_true rfl) (by decide) (by omega) (by omega) (fun r17 I17 L17 hI17 h17 => ?_) (fun E q I' L' hI ⟨x1, x2, x3⟩ => hG.out (by simp) ⟨x3, by rw [show feedF F (nI c) = (F, 1, 0) from if_pos (by rw [h5, List.length_map]; omega)], x1⟩ (by omega) (by omega) trivial)
    exact absurd h17.2.1 (by decide)
  · rcases kcase h6 with rfl | rfl
    · by_cases h8 : c < 256
      · refine hG.aload_n dX1_feed_0 rfl ?_
        refine hG.get dX1_feed_1 fg_X1_92_X1 (Or.inl hx) rfl ?_
        refine hG.callV dX1_feed_4 kv_X1_281 (Rcv.sb hip) (sp_J8_length hΓ hip) rfl rfl (Nat.le_of_ble_eq_true rfl) (by decide) (by omega) (by omega) (fun r4 I4 L4 hI4 h4 => ?_) (fun _ _ _ _ _ h => h.elim)
        obtain ⟨rfl, rfl, rfl⟩ := h4
        refine hG.bipush (v := 60) dX1_feed_7 rfl ?_
        refine hG.icmp_ge (tgt := 16) dX1_feed_9 rfl (fun c_9 => absurd c_9 (fun q => absurd ((nI_leI (a := 60) (b := t.length) (by decide) (by omega)).mp q) (by omega))) (fun c_9 => ?_)
        refine hG.iconst (v := 1) dX1_feed_12 rfl ?_
        refine hG.goto (tgt := 17) dX1_feed_13 rfl ?_
        refine hG.callS dX1_feed_17 ks_X1_390 (sp_X1_requireState (b := true) hΓ) rfl rfl (Nat.le_of_ble_eq_true rfl) (by decide) (by omega) (by omega) (fun r17 I17 L17 hI17 h17 => ?_) (fun E q I' L' hI ⟨x1, x2, x3⟩ => absurd x2 (by decide))
        obtain ⟨rfl, -, rfl, rfl⟩ := h17
        refine hG.aload_n dX1_feed_20 rfl ?_
        refine hG.get dX1_feed_21 fg_X1_92_X1 (Or.inl hx) rfl ?_
        refine hG.iload_n dX1_feed_24 rfl ?_
        refine hG.callV dX1_feed_25 kv_X1_393 (Rcv.sb hip) (sp_J8_append_40 hΓ hX hip h8 (by omega)) rfl rfl (Nat.le_of_ble_eq_true rfl) (by decide) (by omega) (by omega) (fun r25 I25 L25 hI25 h25 => ?_) (fun _ _ _ _ _ h => h.elim)
        obtain ⟨rfl, rfl, rfl⟩ := h25
        refine hG.pop dX1_feed_28 rfl ?_
        refine hG.aload_n dX1_feed_29 rfl ?_
        refine hG.get dX1_feed_30 fg_X1_92_X1 (Or.inl ((up1_n (ne_val hx hip (fun e => by cases e))).trans hx)) rfl ?_
        refine hG.callV dX1_feed_33 kv_X1_281 (Rcv.sb up1_s) (sp_J8_length hΓ up1_s) rfl rfl (Nat.le_of_ble_eq_true rfl) (by decide) (by omega) (by omega) (fun r33 I33 L33 hI33 h33 => ?_) (fun _ _ _ _ _ h => h.elim)
        obtain ⟨rfl, rfl, rfl⟩ := h33
        rw [List.length_append, List.length_singleton]
        refine hG.iret dX1_feed_36 rfl ?_ (by omega) (by omega) trivial
        have hv : feedF F (nI c) = (F.wIp (F.ip ++ [nI c]), 0, nI (F.ip.length + 1)) := by
          unfold feedF
          exact if_neg (by rw [h5, List.length_map]; omega)
        refine ⟨by rw [hv], by rw [hv, h5, List.length_map], A, ?_, fun z e hz hn => (up1_n (ne_val hz hip (fun e => by cases e))).trans hz⟩
        rw [hv, show F.ip ++ [nI c] = (t ++ [c]).map nI by rw [h5, List.map_append]; rfl]
        exact hF.inp (by decide) (fun z hz => by rcases List.mem_append.mp hz with q | q; exact h7 z q; rw [List.mem_singleton.mp q]; exact hc9) (by rw [List.length_append, List.length_singleton]; omega)
      · refine hG.aload_n dX1_feed_0 rfl ?_
        refine hG.get dX1_feed_1 fg_X1_92_X1 (Or.inl hx) rfl ?_
        refine hG.callV dX1_feed_4 kv_X1_281 (Rcv.sb hip) (sp_J8_length hΓ hip) rfl rfl (Nat.le_of_ble_eq_true rfl) (by decide) (by omega) (by omega) (fun r4 I4 L4 hI4 h4 => ?_) (fun _ _ _ _ _ h => h.elim)
        obtain ⟨rfl, rfl, rfl⟩ := h4
        refine hG.bipush (v := 60) dX1_feed_7 rfl ?_
        refine hG.icmp_ge (tgt := 16) dX1_feed_9 rfl (fun c_9 => absurd c_9 (fun q => absurd ((nI_leI (a := 60) (b := t.length) (by decide) (by omega)).mp q) (by omega))) (fun c_9 => ?_)
        refine hG.iconst (v := 1) dX1_feed_12 rfl ?_
        refine hG.goto (tgt := 17) dX1_feed_13 rfl ?_
        refine hG.callS dX1_feed_17 ks_X1_390 (sp_X1_requireState (b := true) hΓ) rfl rfl (Nat.le_of_ble_eq_true rfl) (by decide) (by omega) (by omega) (fun r17 I17 L17 hI17 h17 => ?_) (fun E q I' L' hI ⟨x1, x2, x3⟩ => absurd x2 (by decide))
        obtain ⟨rfl, -, rfl, rfl⟩ := h17
        refine hG.aload_n dX1_feed_20 rfl ?_
        refine hG.get dX1_feed_21 fg_X1_92_X1 (Or.inl hx) rfl ?_
        refine hG.iload_n dX1_feed_24 rfl ?_
        refine hG.callV dX1_feed_25 kv_X1_393 (Rcv.sb hip) (sp_J8_append_42 hΓ hX hip (by omega) hc9 (by omega)) rfl rfl (Nat.le_of_ble_eq_true rfl) (by decide) (by omega) (by omega) (fun r25 I25 L25 hI25 h25 => ?_) (fun _ _ _ _ _ h => h.elim)
        obtain ⟨rfl, rfl, rfl⟩ := h25
        refine hG.pop dX1_feed_28 rfl ?_
        refine hG.aload_n dX1_feed_29 rfl ?_
        refine hG.get dX1_feed_30 fg_X1_92_X1 (Or.inl ((up1_n (ne_val hx hip (fun e => by cases e))).trans hx)) rfl ?_
        refine hG.callV dX1_feed_33 kv_X1_281 (Rcv.sb up1_s) (sp_J8_length hΓ up1_s) rfl rfl (Nat.le_of_ble_eq_true rfl) (by decide) (by omega) (by omega) (fun r33 I33 L33 hI33 h33 => ?_) (fun _ _ _ _ _ h => h.elim)
        obtain ⟨rfl, rfl, rfl⟩ := h33
        rw [List.length_append, List.length_singleton]
        refine hG.iret dX1_feed_36 rfl ?_ (by omega) (by omega) trivial
        have hv : feedF F (nI c) = (F.wIp (F.ip ++ [nI c]), 0, nI (F.ip.length + 1)) := by
          unfold feedF
          exact if_neg (by rw [h5, List.length_map]; omega)
        refine ⟨by rw [hv], by rw [hv, h5, List.length_map], A, ?_, fun z e hz hn => (up1_n (ne_val hz hip (fun e => by cases e))).trans hz⟩
        rw [hv, show F.ip ++ [nI c] = (t ++ [c]).map nI by rw [h5, List.map_append]; rfl]
        exact hF.inp (by decide) (fun z hz => by rcases List.mem_append.mp hz with q | q; exact h7 z q; rw [List.mem_singleton.mp q]; exact hc9) (by rw [List.length_append, List.length_singleton]; omega)
    · refine hG.aload_n dX1_feed_0 rfl ?_
      refine hG.get dX1_feed_1 fg_X1_92_X1 (Or.inl hx) rfl ?_
      refine hG.callV dX1_feed_4 kv_X1_281 (Rcv.sb hip) (sp_J8_length hΓ hip) rfl rfl (Nat.le_of_ble_eq_true rfl) (by decide) (by omega) (by omega) (fun r4 I4 L4 hI4 h4 => ?_) (fun _ _ _ _ _ h => h.elim)
      obtain ⟨rfl, rfl, rfl⟩ := h4
      refine hG.bipush (v := 60) dX1_feed_7 rfl ?_
      refine hG.icmp_ge (tgt := 16) dX1_feed_9 rfl (fun c_9 => absurd c_9 (fun q => absurd ((nI_leI (a := 60) (b := t.length) (by decide) (by omega)).mp q) (by omega))) (fun c_9 => ?_)
      refine hG.iconst (v := 1) dX1_feed_12 rfl ?_
      refine hG.goto (tgt := 17) dX1_feed_13 rfl ?_
      refine hG.callS dX1_feed_17 ks_X1_390 (sp_X1_requireState (b := true) hΓ) rfl rfl (Nat.le_of_ble_eq_true rfl) (by decide) (by omega) (by omega) (fun r17 I17 L17 hI17 h17 => ?_) (fun E q I' L' hI ⟨x1, x2, x3⟩ => absurd x2 (by decide))
      obtain ⟨rfl, -, rfl, rfl⟩ := h17
      refine hG.aload_n dX1_feed_20 rfl ?_
      refine hG.get dX1_feed_21 fg_X1_92_X1 (Or.inl hx) rfl ?_
      refine hG.iload_n dX1_feed_24 rfl ?_
      refine hG.callV dX1_feed_25 kv_X1_393 (Rcv.sb hip) (sp_J8_append_41 hΓ hX hip hc9 (by omega)) rfl rfl (Nat.le_of_ble_eq_true rfl) (by decide) (by omega) (by omega) (fun r25 I25 L25 hI25 h25 => ?_) (fun _ _ _ _ _ h => h.elim)
      obtain ⟨rfl, rfl, rfl⟩ := h25
      refine hG.pop dX1_feed_28 rfl ?_
      refine hG.aload_n dX1_feed_29 rfl ?_
      refine hG.get dX1_feed_30 fg_X1_92_X1 (Or.inl ((up1_n (ne_val hx hip (fun e => by cases e))).trans hx)) rfl ?_
      refine hG.callV dX1_feed_33 kv_X1_281 (Rcv.sb up1_s) (sp_J8_length hΓ up1_s) rfl rfl (Nat.le_of_ble_eq_true rfl) (by decide) (by omega) (by omega) (fun r33 I33 L33 hI33 h33 => ?_) (fun _ _ _ _ _ h => h.elim)
      obtain ⟨rfl, rfl, rfl⟩ := h33
      rw [List.length_append, List.length_singleton]
      refine hG.iret dX1_feed_36 rfl ?_ (by omega) (by omega) trivial
      have hv : feedF F (nI c) = (F.wIp (F.ip ++ [nI c]), 0, nI (F.ip.length + 1)) := by
        unfold feedF
        exact if_neg (by rw [h5, List.length_map]; omega)
      refine ⟨by rw [hv], by rw [hv, h5, List.length_map], A, ?_, fun z e hz hn => (up1_n (ne_val hz hip (fun e => by cases e))).trans hz⟩
      rw [hv, show F.ip ++ [nI c] = (t ++ [c]).map nI by rw [h5, List.map_append]; rfl]
      exact hF.inp (by decide) (fun z hz => by rcases List.mem_append.mp hz with q | q; exact h7 z q; rw [List.mem_singleton.mp q]; exact hc9) (by rw [List.length_append, List.length_singleton]; omega)
