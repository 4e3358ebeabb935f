/-! the river's changes, one each -/
abbrev faR (R : Rv) : Nat → Int32 := fun i => if i = 0 then R.f0 else if i = 1 then R.f1 else R.f2
abbrev faS (R : Rv) (k : Nat) (n : Int32) : Rv := ((R.wF0 (if 0 = k then n else R.f0)).wF1 (if 1 = k then n else R.f1)).wF2 (if 2 = k then n else R.f2)
theorem RvO.fa {dE : Nat} {I : AI} {S : AL} {r : Nat} {R : Rv} {A : RA} (h : RvO dE I S r R A) {k : Nat} (hk : k < 3) : A.g k = faR R k := by
  match k, hk with
  | 0, _ => exact h.g0
  | 1, _ => exact h.g1
  | 2, _ => exact h.g2
  | _ + 3, h9 => exact absurd h9 (by omega)
set_option maxHeartbeats 4000000 in
set_option maxRecDepth 100000 in
theorem sp_X2_setFare {l : Launch} {s0 : State} {D : va_G} {I : AI} {L : AL} {dE r : Nat} {R : Rv} {A : RA} (hΓ : Gam l s0 D) (h : RvO dE I L r R A) {k : Nat} {n : Int32} (hk : k < 3) : Spc l s0 D yX2_setFare 1 [.ref r, .int (nI k), .int n] I L 0 0 (fun q I' L' => q = some (.int (faR R k)) ∧ ∃ A', RvO dE I' L' r (faS R k n) A' ∧ Far L (RN r A) (RN r A') L') noX := by
  refine Spc.of hΓ cX2_setFare 4 (some FieldType.int) q2081 (by decide +kernel) (by decide) (Nat.le_of_ble_eq_true rfl) (fun G GX hG => ?_)
  refine hG.aload_n dX2_setFare_0 rfl ?_
  refine hG.get dX2_setFare_1 fg_X2_37_X2 (Or.inl h.h) rfl ?_
  refine hG.iload_n dX2_setFare_4 rfl ?_
  refine hG.iald dX2_setFare_5 (Or.inl h.h6) (vp_in_nI hk (by decide)) ?_
  rw [nI_clamp (by omega), h.fa hk]
  refine hG.istore_n dX2_setFare_6 (by decide) ?_
  refine hG.aload_n dX2_setFare_7 rfl ?_
  refine hG.get dX2_setFare_8 fg_X2_37_X2 (Or.inl h.h) rfl ?_
  refine hG.iload_n dX2_setFare_11 rfl ?_
  refine hG.iload_n dX2_setFare_12 rfl ?_
  refine hG.iast dX2_setFare_13 h.h6 (vp_in_nI hk (by decide)) ?_
  rw [nI_clamp (by omega)]
  refine hG.iload_n dX2_setFare_14 rfl ?_
  refine hG.iret dX2_setFare_15 rfl ?_ (by omega) (by omega) trivial
  exact ⟨rfl, _, h.sFa (g := va_up A.g k n) (if 0 = k then n else R.f0) (if 1 = k then n else R.f1) (if 2 = k then n else R.f2) (by show (if 0 = k then n else A.g 0) = _; rw [h.g0]) (by show (if 1 = k then n else A.g 1) = _; rw [h.g1]) (by show (if 2 = k then n else A.g 2) = _; rw [h.g2]), h.f_a6 _⟩
theorem kf_X2_63_J2 : LkF RX2 63 RJ2 ⟨"java/util/List", "add", "(Ljava/lang/Object;)Z"⟩ yJ2_add 1 := ⟨q558, q561, q563, q77, ⟨by decide +kernel, by decide +kernel, by decide +kernel⟩, q560, q559, q564, q562, q413⟩
set_option maxHeartbeats 4000000 in
set_option maxRecDepth 100000 in
theorem sp_X2_addChannel {l : Launch} {s0 : State} {D : va_G} {I : AI} {L : AL} {dE ca : Nat} {ad : Nat → Nat} {r : Nat} {R : Rv} {A : RA} (hΓ : Gam l s0 D) (hZ : Std s0 D dE ca ad) (h : RvO dE I L r R A) {x : Nat} {c : T3} (hx : I x (t3E ciX6 c)) : Spc l s0 D yX2_addChannel 7 [.ref r, .ref x] I L 2 18 (fun q I' L' => R.ch.length < 6 ∧ q = some (.int (nI R.ch.length)) ∧ ∃ A', RvO dE I' L' r (R.wCh (R.ch ++ [c])) A' ∧ Far L (RN r A) (RN r A') L') (xR 1 6 (¬ R.ch.length < 6) L) := by
  refine Spc.of hΓ cX2_addChannel 2 (some FieldType.int) q1998 (by decide +kernel) (by decide) (Nat.le_of_ble_eq_true rfl) (fun G GX hG => ?_)
  refine hG.peek h.h0 (fun J9 S9 _ hli => ?_)
  have hl10 : A.xs.length ≤ 10 := hli.1
  have hll := h.e0.len
  · refine hG.aload_n dX2_addChannel_0 rfl ?_
    refine hG.get dX2_addChannel_1 fg_X2_12_X2 (Or.inl h.h) rfl ?_
    refine hG.callF dX2_addChannel_4 kf_X2_96_J2 (Rcv.li h.h0) cl_J2 (sp_J2_size hΓ h.h0) rfl rfl (Nat.le_of_ble_eq_true rfl) (by decide) (by omega) (by omega) (fun r4 I4 L4 hI4 h4 => ?_) (fun _ _ _ _ _ h => h.elim)
    obtain ⟨rfl, rfl, rfl⟩ := h4
    refine hG.bipush (v := 6) dX2_addChannel_9 rfl ?_
    refine hG.dia1 (p := 11) (fun kt kf => hG.icmp_ge (tgt := 18) dX2_addChannel_11 rfl kt kf) dX2_addChannel_14 dX2_addChannel_15 rfl dX2_addChannel_18 ?_
    refine hG.iconst (v := 1) dX2_addChannel_19 rfl ?_
    refine hG.bipush (v := 6) dX2_addChannel_20 rfl ?_
    refine hG.callNS dX2_addChannel_22 ks_X2_176 (sp_X1_allow hΓ) rfl rfl (Nat.le_of_ble_eq_true rfl) (by decide) (by omega) (by omega) (fun r22 I22 L22 hI22 h22 => ?_) (fun E q I' L' hI ⟨e1, e2, e3, e4⟩ => hG.out (by simp) ⟨e1, (fun z => absurd (show nI 6 ≤ nI A.xs.length from ndecF.mp e2) (by rw [hll]; exact nI_ge z (by omega))), e3, e4⟩ (by omega) (by omega) trivial)
    obtain ⟨rfl, hb, rfl, rfl⟩ := h22
    have hb2 : R.ch.length < 6 := by
      have q := ndec.mp hb
      exact Nat.lt_of_not_le (fun z => q (by rw [hll]; exact nI_le (a := 6) z (by omega)))
    refine hG.aload_n dX2_addChannel_25 rfl ?_
    refine hG.get dX2_addChannel_26 fg_X2_12_X2 (Or.inl h.h) rfl ?_
    refine hG.aload_n dX2_addChannel_29 rfl ?_
    refine hG.callF dX2_addChannel_30 kf_X2_63_J2 (Rcv.li h.h0) cl_J2 (sp_J2_add hΓ hZ.li (elt_of hx cl_X6 q3692) h.h0 (by omega)) rfl rfl (Nat.le_of_ble_eq_true rfl) (by decide) (by omega) (by omega) (fun r30 I30 L30 hI30 h30 => ?_) (fun _ _ _ _ _ h => h.elim)
    obtain ⟨rfl, rfl, rfl⟩ := h30
    have h2 := h.sCh (m := A.m0 + 1) (h.e0.app hx)
    refine hG.pop dX2_addChannel_35 rfl ?_
    refine hG.aload_n dX2_addChannel_36 rfl ?_
    refine hG.get dX2_addChannel_37 fg_X2_12_X2 (Or.inl h2.h) rfl ?_
    refine hG.callF dX2_addChannel_40 kf_X2_96_J2 (Rcv.li h2.h0) cl_J2 (sp_J2_size hΓ h2.h0) rfl rfl (Nat.le_of_ble_eq_true rfl) (by decide) (by omega) (by omega) (fun r40 I40 L40 hI40 h40 => ?_) (fun _ _ _ _ _ h => h.elim)
    obtain ⟨rfl, rfl, rfl⟩ := h40
    refine hG.iconst (v := 1) dX2_addChannel_45 rfl ?_
    refine hG.isub dX2_addChannel_46 ?_
    rw [show nI (A.xs ++ [x]).length - 1 = nI R.ch.length by rw [List.length_append, List.length_singleton, nI_pred, hll]]
    refine hG.iret dX2_addChannel_47 rfl ?_ (by omega) (by omega) trivial
    exact ⟨hb2, rfl, _, h2, h.f_a0 _⟩
theorem nw_X2_67 : LkN RX2 67 ciX11 [.int 0, .int 0, .int 0] 3 := ⟨RX11, TX11, tyX11, cls_X11, q655, q2009, q124, rfl, fun j hj => by
  match j, hj with
  | 0, _ => rfl
  | 1, _ => rfl
  | 2, _ => rfl
  | _ + 3, h => exact absurd h (by omega)⟩
theorem ki_X2_256 : LkI RX2 256 yX11_init 3 := ⟨q2010, q2011, q124, rfl, ⟨by decide +kernel, by decide +kernel, by decide +kernel⟩, by decide +kernel⟩
set_option maxHeartbeats 4000000 in
set_option maxRecDepth 100000 in
theorem sp_X2_addFlood {l : Launch} {s0 : State} {D : va_G} {I : AI} {L : AL} {dE ca : Nat} {ad : Nat → Nat} {r : Nat} {R : Rv} {A : RA} (hΓ : Gam l s0 D) (hZ : Std s0 D dE ca ad) (h : RvO dE I L r R A) {a b c : Int32} : Spc l s0 D yX2_addFlood 7 [.ref r, .int a, .int b, .int c] I L 3 21 (fun q I' L' => R.fl.length < 5 ∧ q = some (.int (nI (R.fl.length + 1))) ∧ ∃ A', RvO dE I' L' r (R.wFl (R.fl ++ [(R.hr + a, b, R.hr + a + c)])) A' ∧ Far L (RN r A) (RN r A') L') (xR 1 5 (¬ R.fl.length < 5) L) := by
  refine Spc.of hΓ cX2_addFlood 4 (some FieldType.int) q2008 (by decide +kernel) (by decide) (Nat.le_of_ble_eq_true rfl) (fun G GX hG => ?_)
  refine hG.peek h.h1 (fun J9 S9 _ hli => ?_)
  have hl10 : A.ys.length ≤ 10 := hli.1
  have hll := h.e1.len
  · refine hG.aload_n dX2_addFlood_0 rfl ?_
    refine hG.get dX2_addFlood_1 fg_X2_18_X2 (Or.inl h.h) rfl ?_
    refine hG.callF dX2_addFlood_4 kf_X2_96_J2 (Rcv.li h.h1) cl_J2 (sp_J2_size hΓ h.h1) rfl rfl (Nat.le_of_ble_eq_true rfl) (by decide) (by omega) (by omega) (fun r4 I4 L4 hI4 h4 => ?_) (fun _ _ _ _ _ h => h.elim)
    obtain ⟨rfl, rfl, rfl⟩ := h4
    refine hG.iconst (v := 5) dX2_addFlood_9 rfl ?_
    refine hG.dia1 (p := 10) (fun kt kf => hG.icmp_ge (tgt := 17) dX2_addFlood_10 rfl kt kf) dX2_addFlood_13 dX2_addFlood_14 rfl dX2_addFlood_17 ?_
    refine hG.iconst (v := 1) dX2_addFlood_18 rfl ?_
    refine hG.iconst (v := 5) dX2_addFlood_19 rfl ?_
    refine hG.callNS dX2_addFlood_20 ks_X2_176 (sp_X1_allow hΓ) rfl rfl (Nat.le_of_ble_eq_true rfl) (by decide) (by omega) (by omega) (fun r20 I20 L20 hI20 h20 => ?_) (fun E q I' L' hI ⟨e1, e2, e3, e4⟩ => hG.out (by simp) ⟨e1, (fun z => absurd (show nI 5 ≤ nI A.ys.length from ndecF.mp e2) (by rw [hll]; exact nI_ge z (by omega))), e3, e4⟩ (by omega) (by omega) trivial)
    obtain ⟨rfl, hb, rfl, rfl⟩ := h20
    have hb2 : R.fl.length < 5 := by
      have q := ndec.mp hb
      exact Nat.lt_of_not_le (fun z => q (by rw [hll]; exact nI_le (a := 5) z (by omega)))
    refine hG.aload_n dX2_addFlood_23 rfl ?_
    refine hG.get dX2_addFlood_24 fg_X2_18_X2 (Or.inl h.h) rfl ?_
    refine hG.new dX2_addFlood_27 nw_X2_67 (by omega) (by omega) (fun q hLq hIq => ?_)
    refine hG.dup dX2_addFlood_30 rfl ?_
    refine hG.aload_n dX2_addFlood_31 rfl ?_
    refine hG.get dX2_addFlood_32 fg_X2_81_X2 (Or.inl ((up1_n (fun e => by rw [← e, h.h] at hLq; cases hLq)).trans h.h)) rfl ?_
    refine hG.iload_n dX2_addFlood_35 rfl ?_
    refine hG.iadd dX2_addFlood_36 ?_
    refine hG.iload_n dX2_addFlood_37 rfl ?_
    refine hG.iload_n dX2_addFlood_38 rfl ?_
    refine hG.callI dX2_addFlood_39 ki_X2_256 (sp_X11_init hΓ up1_s) rfl rfl (Nat.le_of_ble_eq_true rfl) (by decide) (by omega) (by omega) (fun r39 I39 L39 hI39 h39 => ?_) (fun _ _ _ _ _ h => h.elim)
    obtain ⟨rfl, rfl, rfl⟩ := h39
    rw [up1_up1]
    refine hG.fr up1_s ?_
    rw [up1_up1, show up1 L q none = L by rw [← hLq, up1_self]]
    have hF := h.mono (frI_le (I := I) (a := q) (e := t3E ciX11 ((R.hr + a, b, R.hr + a + c)))) (fun _ _ _ hx => hx)
    refine hG.callF dX2_addFlood_42 kf_X2_63_J2 (Rcv.li hF.h1) cl_J2 (sp_J2_add hΓ hZ.li (elt_of (fs := [.int (((R.hr + a, b, R.hr + a + c)) : T3).1, .int (((R.hr + a, b, R.hr + a + c)) : T3).2.1, .int (((R.hr + a, b, R.hr + a + c)) : T3).2.2]) frI_s cl_X11 q3715) hF.h1 (by omega)) rfl rfl (Nat.le_of_ble_eq_true rfl) (by decide) (by omega) (by omega) (fun r42 I42 L42 hI42 h42 => ?_) (fun _ _ _ _ _ h => h.elim)
    obtain ⟨rfl, rfl, rfl⟩ := h42
    have h2 := hF.sFl (m := A.m1 + 1) (hF.e1.app frI_s)
    refine hG.pop dX2_addFlood_47 rfl ?_
    refine hG.aload_n dX2_addFlood_48 rfl ?_
    refine hG.get dX2_addFlood_49 fg_X2_18_X2 (Or.inl h2.h) rfl ?_
    refine hG.callF dX2_addFlood_52 kf_X2_96_J2 (Rcv.li h2.h1) cl_J2 (sp_J2_size hΓ h2.h1) rfl rfl (Nat.le_of_ble_eq_true rfl) (by decide) (by omega) (by omega) (fun r52 I52 L52 hI52 h52 => ?_) (fun _ _ _ _ _ h => h.elim)
    obtain ⟨rfl, rfl, rfl⟩ := h52
    refine hG.iret dX2_addFlood_57 rfl ?_ (by omega) (by omega) trivial
    exact ⟨hb2, by rw [List.length_append, List.length_singleton, hll], _, h2, hF.f_a1 _⟩
theorem nw_X2_69 : LkN RX2 69 ciX8 [.int 0, .int 0, .int 0] 3 := ⟨RX8, TX8, tyX8, cls_X8, q656, q1724, q118, rfl, fun j hj => by
  match j, hj with
  | 0, _ => rfl
  | 1, _ => rfl
  | 2, _ => rfl
  | _ + 3, h => exact absurd h (by omega)⟩
theorem ki_X2_259 : LkI RX2 259 yX8_init 3 := ⟨q1725, q1726, q118, rfl, ⟨by decide +kernel, by decide +kernel, by decide +kernel⟩, by decide +kernel⟩
set_option maxHeartbeats 4000000 in
set_option maxRecDepth 100000 in
theorem sp_X2_addAnchor {l : Launch} {s0 : State} {D : va_G} {I : AI} {L : AL} {dE ca : Nat} {ad : Nat → Nat} {r : Nat} {R : Rv} {A : RA} (hΓ : Gam l s0 D) (hZ : Std s0 D dE ca ad) (h : RvO dE I L r R A) {a b : Int32} : Spc l s0 D yX2_addAnchor 7 [.ref r, .int a, .int b] I L 3 21 (fun q I' L' => R.an.length < 6 ∧ q = some (.int (nI (R.an.length))) ∧ ∃ A', RvO dE I' L' r (R.wAn (R.an ++ [(a, b, 0)])) A' ∧ Far L (RN r A) (RN r A') L') (xR 1 6 (¬ R.an.length < 6) L) := by
  refine Spc.of hΓ cX2_addAnchor 3 (some FieldType.int) q1693 (by decide +kernel) (by decide) (Nat.le_of_ble_eq_true rfl) (fun G GX hG => ?_)
  refine hG.peek h.h2 (fun J9 S9 _ hli => ?_)
  have hl10 : A.zs.length ≤ 10 := hli.1
  have hll := h.e2.len
  · refine hG.aload_n dX2_addAnchor_0 rfl ?_
    refine hG.get dX2_addAnchor_1 fg_X2_21_X2 (Or.inl h.h) rfl ?_
    refine hG.callF dX2_addAnchor_4 kf_X2_96_J2 (Rcv.li h.h2) cl_J2 (sp_J2_size hΓ h.h2) rfl rfl (Nat.le_of_ble_eq_true rfl) (by decide) (by omega) (by omega) (fun r4 I4 L4 hI4 h4 => ?_) (fun _ _ _ _ _ h => h.elim)
    obtain ⟨rfl, rfl, rfl⟩ := h4
    refine hG.bipush (v := 6) dX2_addAnchor_9 rfl ?_
    refine hG.dia1 (p := 11) (fun kt kf => hG.icmp_ge (tgt := 18) dX2_addAnchor_11 rfl kt kf) dX2_addAnchor_14 dX2_addAnchor_15 rfl dX2_addAnchor_18 ?_
    refine hG.iconst (v := 1) dX2_addAnchor_19 rfl ?_
    refine hG.bipush (v := 6) dX2_addAnchor_20 rfl ?_
    refine hG.callNS dX2_addAnchor_22 ks_X2_176 (sp_X1_allow hΓ) rfl rfl (Nat.le_of_ble_eq_true rfl) (by decide) (by omega) (by omega) (fun r22 I22 L22 hI22 h22 => ?_) (fun E q I' L' hI ⟨e1, e2, e3, e4⟩ => hG.out (by simp) ⟨e1, (fun z => absurd (show nI 6 ≤ nI A.zs.length from ndecF.mp e2) (by rw [hll]; exact nI_ge z (by omega))), e3, e4⟩ (by omega) (by omega) trivial)
    obtain ⟨rfl, hb, rfl, rfl⟩ := h22
    have hb2 : R.an.length < 6 := by
      have q := ndec.mp hb
      exact Nat.lt_of_not_le (fun z => q (by rw [hll]; exact nI_le (a := 6) z (by omega)))
    refine hG.aload_n dX2_addAnchor_25 rfl ?_
    refine hG.get dX2_addAnchor_26 fg_X2_21_X2 (Or.inl h.h) rfl ?_
    refine hG.new dX2_addAnchor_29 nw_X2_69 (by omega) (by omega) (fun q hLq hIq => ?_)
    refine hG.dup dX2_addAnchor_32 rfl ?_
    refine hG.iload_n dX2_addAnchor_33 rfl ?_
    refine hG.iload_n dX2_addAnchor_34 rfl ?_
    refine hG.iconst (v := 0) dX2_addAnchor_35 rfl ?_
    refine hG.callI dX2_addAnchor_36 ki_X2_259 (sp_X8_init hΓ up1_s) rfl rfl (Nat.le_of_ble_eq_true rfl) (by decide) (by omega) (by omega) (fun r36 I36 L36 hI36 h36 => ?_) (fun _ _ _ _ _ h => h.elim)
    obtain ⟨rfl, rfl, rfl⟩ := h36
    rw [up1_up1]
    refine hG.fr up1_s ?_
    rw [up1_up1, show up1 L q none = L by rw [← hLq, up1_self]]
    have hF := h.mono (frI_le (I := I) (a := q) (e := t3E ciX8 ((a, b, 0)))) (fun _ _ _ hx => hx)
    refine hG.callF dX2_addAnchor_39 kf_X2_63_J2 (Rcv.li hF.h2) cl_J2 (sp_J2_add hΓ hZ.li (elt_of (fs := [.int (((a, b, 0)) : T3).1, .int (((a, b, 0)) : T3).2.1, .int (((a, b, 0)) : T3).2.2]) frI_s cl_X8 q3712) hF.h2 (by omega)) rfl rfl (Nat.le_of_ble_eq_true rfl) (by decide) (by omega) (by omega) (fun r39 I39 L39 hI39 h39 => ?_) (fun _ _ _ _ _ h => h.elim)
    obtain ⟨rfl, rfl, rfl⟩ := h39
    have h2 := hF.sAn (m := A.m2 + 1) (hF.e2.app frI_s)
    refine hG.pop dX2_addAnchor_44 rfl ?_
    refine hG.aload_n dX2_addAnchor_45 rfl ?_
    refine hG.get dX2_addAnchor_46 fg_X2_21_X2 (Or.inl h2.h) rfl ?_
    refine hG.callF dX2_addAnchor_49 kf_X2_96_J2 (Rcv.li h2.h2) cl_J2 (sp_J2_size hΓ h2.h2) rfl rfl (Nat.le_of_ble_eq_true rfl) (by decide) (by omega) (by omega) (fun r49 I49 L49 hI49 h49 => ?_) (fun _ _ _ _ _ h => h.elim)
    obtain ⟨rfl, rfl, rfl⟩ := h49
    refine hG.iconst (v := 1) dX2_addAnchor_54 rfl ?_
    refine hG.isub dX2_addAnchor_55 ?_
    rw [show nI (A.zs ++ [q]).length - 1 = nI R.an.length by rw [List.length_append, List.length_singleton, nI_pred, hll]]
    refine hG.iret dX2_addAnchor_56 rfl ?_ (by omega) (by omega) trivial
    exact ⟨hb2, rfl, _, h2, hF.f_a2 _⟩
theorem kv_X2_260 : LkV RX2 260 yX2_anchor 1 := ⟨q2207, q2208, q2209, q74, by decide +kernel, by decide +kernel, by decide +kernel⟩
theorem kf_X2_263_J2 : LkF RX2 263 RJ2 ⟨"java/util/List", "remove", "(I)Ljava/lang/Object;"⟩ yJ2_remove 1 := ⟨q2212, q2215, q1955, q77, ⟨by decide +kernel, by decide +kernel, by decide +kernel⟩, q2214, q2213, q2217, q2216, q413⟩
set_option maxHeartbeats 4000000 in
set_option maxRecDepth 100000 in
theorem sp_X2_weigh {l : Launch} {s0 : State} {D : va_G} {I : AI} {L : AL} {dE ca : Nat} {ad : Nat → Nat} {r : Nat} {R : Rv} {A : RA} (hΓ : Gam l s0 D) (hZ : Std s0 D dE ca ad) (h : RvO dE I L r R A) {n : Int32} : Spc l s0 D yX2_weigh 9 [.ref r, .int n] I L 1 6 (fun q I' L' => ∃ i c, n = nI i ∧ R.an[i]? = some c ∧ q = some (.int c.2.2) ∧ ∃ A', RvO dE I' L' r (R.wAn (R.an.eraseIdx i)) A' ∧ Far L (RN r A) (RN r A') L') (xE RJ33 (inR n 0 (nI R.an.length - 1) = false) L) := by
  refine Spc.of hΓ cX2_weigh 4 (some FieldType.int) q2206 (by decide +kernel) (by decide) (Nat.le_of_ble_eq_true rfl) (fun G GX hG => ?_)
  refine hG.aload_n dX2_weigh_0 rfl ?_
  refine hG.iload_n dX2_weigh_1 rfl ?_
  refine hG.callV dX2_weigh_2 kv_X2_260 (Rcv.raw h.h cl_X2) (sp_X2_anchor hΓ hZ h) rfl rfl (Nat.le_of_ble_eq_true rfl) (by decide) (by omega) (by omega) (fun r2 I2 L2 hI2 h2 => ?_) (fun E q I' L' hI ⟨e1, e2, e3⟩ => hG.out (by simp) ⟨e1, e2, e3⟩ (by omega) (by omega) trivial)
  obtain ⟨rfl, rfl, i, c, x, rfl, hc, rfl, hxc⟩ := h2
  obtain ⟨x2, hx2, -⟩ := h.e2.get hc
  refine hG.astore_n dX2_weigh_5 (by decide) ?_
  refine hG.aload_n dX2_weigh_6 rfl ?_
  refine hG.get dX2_weigh_7 fg_X2_21_X2 (Or.inl h.h) rfl ?_
  refine hG.iload_n dX2_weigh_10 rfl ?_
  refine hG.callF dX2_weigh_11 kf_X2_263_J2 (Rcv.li h.h2) cl_J2 (sp_J2_remove hΓ (h.e2.elt cl_X8 q3712) h.h2 hx2) rfl rfl (Nat.le_of_ble_eq_true rfl) (by decide) (by omega) (by omega) (fun r11 I11 L11 hI11 h11 => ?_) (fun _ _ _ _ _ h => h.elim)
  obtain ⟨rfl, rfl, rfl⟩ := h11
  obtain ⟨c2, -, hx2c⟩ := h.e2.of hx2
  refine hG.castS dX2_weigh_16 q656 (Rcv.imm hx2c cl_X8) cl_X8 ?_
  refine hG.astore_n dX2_weigh_19 (by decide) ?_
  refine hG.aload_n dX2_weigh_20 rfl ?_
  refine hG.get dX2_weigh_21 fg_X2_156_X8 (Or.inr hxc) rfl ?_
  refine hG.iret dX2_weigh_24 rfl ?_ (by omega) (by omega) trivial
  exact ⟨i, c, rfl, hc, rfl, _, h.sAn (m := A.m2 + 1) h.e2.ers, h.f_a2 _⟩
