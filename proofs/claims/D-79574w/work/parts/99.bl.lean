/-! the ferry: groups, numbers, made -/
theorem kv_X1_250 : LkV RX1 250 yX3_of 1 := ⟨q2562, q766, q767, q78, by decide +kernel, by decide +kernel, by decide +kernel⟩
theorem fg_X1_256_X2 : LkG RX1 256 ciX2 4 := ⟨RX2, TX2, 13, tyX2, _, cls_X2, by decide, Or.inl rfl, Or.inr ⟨_, q262⟩⟩
theorem fg_X1_259_X2 : LkG RX1 259 ciX2 5 := ⟨RX2, TX2, 13, tyX2, _, cls_X2, by decide, Or.inl rfl, Or.inr ⟨_, q264⟩⟩
theorem kv_X1_240 : LkV RX1 240 yX2_stop 1 := ⟨q2559, q1752, q1753, q74, by decide +kernel, by decide +kernel, by decide +kernel⟩
theorem nw_X1_243 : LkN RX1 243 ciX9 [.int 0, .int 0, .int 0] 3 := ⟨RX9, TX9, tyX9, cls_X9, q2560, q1758, q119, rfl, fun j hj => by
  match j, hj with
  | 0, _ => rfl
  | 1, _ => rfl
  | 2, _ => rfl
  | _ + 3, h => exact absurd h (by omega)⟩
theorem ki_X1_245 : LkI RX1 245 yX9_init 3 := ⟨q2561, q1760, q119, rfl, ⟨by decide +kernel, by decide +kernel, by decide +kernel⟩, by decide +kernel⟩
set_option maxHeartbeats 4000000 in
set_option maxRecDepth 100000 in
theorem sp_X1_group {l : Launch} {s0 : State} {D : va_G} {I : AI} {L : AL} {dE ca : Nat} {ad : Nat → Nat} (hΓ : Gam l s0 D) (hZ : Std s0 D dE ca ad) {x N : Nat} {F : Fy} {A : FA} (hF : FeO dE I L x F A) (hW : WfF N F) (hN : N ≤ 22) {k f t w : Int32} : Spc l s0 D yX1_group 10 [.ref x, .int k, .int f, .int t, .int w] I L 10 60 (pQ (grpF F.rv k f t w) L) (xQ RJ33 RJ14 (grpF F.rv k f t w) L) := by
  refine Spc.of hΓ cX1_group 7 (some FieldType.int) q2558 (by decide +kernel) (by decide) (Nat.le_of_ble_eq_true rfl) (fun G GX hG => ?_)
  obtain ⟨hx, hr, hpq, hpa, hip, hln, hsv, hnd⟩ := id hF
  refine hG.opR hr (fun B M g hf => ?_)
  have hxM := (hf x _ hx (ne_val hx hr (fun e => by cases e))).2
  refine hG.aload_n dX1_group_0 rfl ?_
  refine hG.get dX1_group_1 fg_X1_78_X1 (Or.inl hxM) rfl ?_
  refine hG.iload_n dX1_group_4 rfl ?_
  refine hG.callV dX1_group_5 kv_X1_240 (Rcv.raw g.h cl_X2) (sp_X2_stop hΓ hZ g) rfl rfl (Nat.le_of_ble_eq_true rfl) (by decide) (by omega) (by omega) (fun r5 I5 L5 hI5 h5 => ?_) (fun E q I' L' hI hx9 => by obtain ⟨e1, e2, rfl⟩ := hx9; exact hG.clRXs L hr (g.mono hI (fun _ _ _ h => h)) hf (hG.out (by simp) ⟨rfl, Or.inl ⟨by rw [show grpF F.rv k f t w = (1, 0) from if_neg (fun z => bFT e2 z.1)], e1⟩⟩ (by omega) (by omega) trivial))
  obtain ⟨rfl, rfl, rfl, hb1⟩ := h5
  refine hG.istore dX1_group_8 (by decide) ?_
  refine hG.new dX1_group_10 nw_X1_243 (by omega) (by omega) (fun qg hLqg hIqg => ?_)
  refine hG.dup dX1_group_13 rfl ?_
  refine hG.iload_n dX1_group_14 rfl ?_
  refine hG.iload dX1_group_15 rfl ?_
  refine hG.aload_n dX1_group_17 rfl ?_
  refine hG.get dX1_group_18 fg_X1_78_X1 (Or.inl ((up1_n (ne_none hxM hLqg)).trans hxM)) rfl ?_
  refine hG.iload_n dX1_group_21 rfl ?_
  refine hG.callV dX1_group_22 kv_X1_240 (Rcv.raw (g.nw ile_rf hLqg _).h cl_X2) (sp_X2_stop hΓ hZ (g.nw ile_rf hLqg _)) rfl rfl (Nat.le_of_ble_eq_true rfl) (by decide) (by omega) (by omega) (fun r22 I22 L22 hI22 h22 => ?_) (fun E q I' L' hI hx9 => by obtain ⟨e1, e2, rfl⟩ := hx9; exact hG.subX (S := M) (fun z y hz => (up1_n (ne_none hz hLqg)).trans hz) (hG.clRXs L hr (g.mono hI (fun _ _ _ h => h)) hf (hG.out (by simp) ⟨rfl, Or.inl ⟨by rw [show grpF F.rv k f t w = (1, 0) from if_neg (fun z => bFT e2 z.2)], e1⟩⟩ (by omega) (by omega) trivial)))
  obtain ⟨rfl, rfl, rfl, hb2⟩ := h22
  refine hG.callI dX1_group_25 ki_X1_245 (sp_X9_init hΓ up1_s) rfl rfl (Nat.le_of_ble_eq_true rfl) (by decide) (by omega) (by omega) (fun r25 I25 L25 hI25 h25 => ?_) (fun _ _ _ _ _ h => h.elim)
  obtain ⟨rfl, rfl, rfl⟩ := h25
  rw [up1_up1]
  refine hG.fr up1_s ?_
  rw [up1_up1, show up1 M qg none = M by rw [← hLqg, up1_self]]
  have h6 := hW.1.ch6
  have kt : (inR k 0 2 = true ∧ inR w 0 2 = true) → G 54 [(0, .ref x), (1, .int k), (4, .int w), (6, .ref qg)] [.int 1] (frI I qg (ob ciX9 [.int k, .int f, .int t])) M (0 + 1 + 1 + 1) (0 + 6 + 3 + 6) := by
    intro hc
    refine hG.callS dX1_group_54 ks_X1_68 (sp_X1_require (b := true) hΓ) rfl rfl (Nat.le_of_ble_eq_true rfl) (by decide) (by omega) (by omega) (fun r54 I54 L54 hI54 h54 => ?_) (fun E q I' L' hI ⟨e1, e2, e3⟩ => absurd e2 (by decide))
    obtain ⟨rfl, -, rfl, rfl⟩ := h54
    obtain ⟨k0, hk0, rfl⟩ := idx_le (m := 2) (by decide) hc.1
    obtain ⟨j, hj, rfl⟩ := idx_le (m := 2) (by decide) hc.2
    obtain ⟨f0, hf0, rfl⟩ := idx_le (by omega) hb1
    obtain ⟨t0, ht0, rfl⟩ := idx_le (by omega) hb2
    have hv : grpF F.rv (nI k0) (nI f0) (nI t0) (nI j) = (0, if nI j = 0 then tof F.rv.wa (gco k0 f0 t0) else if nI j = 1 then tof F.rv.fo (gco k0 f0 t0) else tof F.rv.af (gco k0 f0 t0)) := by
      unfold grpF
      rw [if_pos ⟨hb1, hb2⟩, if_pos hc, nI_clamp (by omega), nI_clamp (by omega), nI_clamp (by omega)]
    have hkey : frI I qg (ob ciX9 [.int (nI k0), .int (nI f0), .int (nI t0)]) qg (ob ciX9 (grp (gco k0 f0 t0))) := by
      rw [gco_grp (by omega) (by omega)]
      exact frI_s
    have g := g.mono (frI_le (a := qg) (e := ob ciX9 [.int (nI k0), .int (nI f0), .int (nI t0)])) (fun _ _ _ h => h)
    rcases (by omega : j = 0 ∨ j = 1 ∨ j = 2) with rfl | rfl | rfl
    · refine hG.iload dX1_group_57 rfl ?_
      refine hG.if_ne (tgt := 77) dX1_group_59 rfl (fun c_59 => absurd rfl c_59) (fun c_59 => ?_)
      refine hG.aload_n dX1_group_62 rfl ?_
      refine hG.get dX1_group_63 fg_X1_78_X1 (Or.inl hxM) rfl ?_
      refine hG.get dX1_group_66 fg_X1_246_X2 (Or.inl g.h) rfl ?_
      refine hG.aload dX1_group_69 rfl ?_
      refine hG.callV dX1_group_71 kv_X1_250 (Rcv.ta g.h3) (sp_X3_of hΓ hZ g.h3 (gco_lt (by omega) (by omega) (by omega)) hkey) rfl rfl (Nat.le_of_ble_eq_true rfl) (by decide) (by omega) (by omega) (fun r71 I71 L71 hI71 h71 => ?_) (fun _ _ _ _ _ h => h.elim)
      obtain ⟨rfl, rfl, rfl⟩ := h71
      refine hG.goto (tgt := 110) dX1_group_74 rfl ?_
      refine hG.clRs L hr g hf ?_
      refine hG.iret dX1_group_110 rfl ?_ (by omega) (by omega) trivial
      exact ⟨(by rw [hv] <;> rfl), (by rw [hv] <;> rfl), rfl⟩
    · refine hG.iload dX1_group_57 rfl ?_
      refine hG.if_ne (tgt := 77) dX1_group_59 rfl (fun c_59 => ?_) (fun c_59 => absurd c_59 (by decide))
      refine hG.iload dX1_group_77 rfl ?_
      refine hG.iconst (v := 1) dX1_group_79 rfl ?_
      refine hG.icmp_ne (tgt := 98) dX1_group_80 rfl (fun c_80 => absurd rfl c_80) (fun c_80 => ?_)
      refine hG.aload_n dX1_group_83 rfl ?_
      refine hG.get dX1_group_84 fg_X1_78_X1 (Or.inl hxM) rfl ?_
      refine hG.get dX1_group_87 fg_X1_256_X2 (Or.inl g.h) rfl ?_
      refine hG.aload dX1_group_90 rfl ?_
      refine hG.callV dX1_group_92 kv_X1_250 (Rcv.ta g.h4) (sp_X3_of hΓ hZ g.h4 (gco_lt (by omega) (by omega) (by omega)) hkey) rfl rfl (Nat.le_of_ble_eq_true rfl) (by decide) (by omega) (by omega) (fun r92 I92 L92 hI92 h92 => ?_) (fun _ _ _ _ _ h => h.elim)
      obtain ⟨rfl, rfl, rfl⟩ := h92
      refine hG.goto (tgt := 110) dX1_group_95 rfl ?_
      refine hG.clRs L hr g hf ?_
      refine hG.iret dX1_group_110 rfl ?_ (by omega) (by omega) trivial
      exact ⟨(by rw [hv] <;> rfl), (by rw [hv] <;> rfl), rfl⟩
    · refine hG.iload dX1_group_57 rfl ?_
      refine hG.if_ne (tgt := 77) dX1_group_59 rfl (fun c_59 => ?_) (fun c_59 => absurd c_59 (by decide))
      refine hG.iload dX1_group_77 rfl ?_
      refine hG.iconst (v := 1) dX1_group_79 rfl ?_
      refine hG.icmp_ne (tgt := 98) dX1_group_80 rfl (fun c_80 => ?_) (fun c_80 => absurd c_80 (by decide))
      refine hG.aload_n dX1_group_98 rfl ?_
      refine hG.get dX1_group_99 fg_X1_78_X1 (Or.inl hxM) rfl ?_
      refine hG.get dX1_group_102 fg_X1_259_X2 (Or.inl g.h) rfl ?_
      refine hG.aload dX1_group_105 rfl ?_
      refine hG.callV dX1_group_107 kv_X1_250 (Rcv.ta g.h5) (sp_X3_of hΓ hZ g.h5 (gco_lt (by omega) (by omega) (by omega)) hkey) rfl rfl (Nat.le_of_ble_eq_true rfl) (by decide) (by omega) (by omega) (fun r107 I107 L107 hI107 h107 => ?_) (fun _ _ _ _ _ h => h.elim)
      obtain ⟨rfl, rfl, rfl⟩ := h107
      refine hG.clRs L hr g hf ?_
      refine hG.iret dX1_group_110 rfl ?_ (by omega) (by omega) trivial
      exact ⟨(by rw [hv] <;> rfl), (by rw [hv] <;> rfl), rfl⟩
  have kf : ¬ (inR k 0 2 = true ∧ inR w 0 2 = true) → G 54 [(0, .ref x), (1, .int k), (4, .int w), (6, .ref qg)] [.int 0] (frI I qg (ob ciX9 [.int k, .int f, .int t])) M (0 + 1 + 1 + 1) (0 + 6 + 3 + 6) := by
    intro hc
    refine hG.callS dX1_group_54 ks_X1_68 (sp_X1_require (b := false) hΓ) rfl rfl (Nat.le_of_ble_eq_true rfl) (by decide) (by omega) (by omega) (fun r54 I54 L54 hI54 h54 => ?_) (fun E q I' L' hI hx9 => by obtain ⟨e1, e2, rfl⟩ := hx9; exact hG.clRXs L hr (g.mono (ile_tr frI_le hI) (fun _ _ _ h => h)) hf (hG.out (by simp) ⟨rfl, Or.inr ⟨by rw [show grpF F.rv k f t w = (2, 0) from (if_pos ⟨hb1, hb2⟩).trans (if_neg hc)], e1⟩⟩ (by omega) (by omega) trivial))
    exact absurd h54.2.1 (by decide)
  refine hG.astore dX1_group_28 (by decide) ?_
  refine hG.iload_n dX1_group_30 rfl ?_
  refine hG.iconst (v := 0) dX1_group_31 rfl ?_
  refine hG.iconst (v := 2) dX1_group_32 rfl ?_
  refine hG.callS dX1_group_33 ks_X1_64 (sp_X1_inRange hΓ) rfl rfl (Nat.le_of_ble_eq_true rfl) (by decide) (by omega) (by omega) (fun r33 I33 L33 hI33 h33 => ?_) (fun _ _ _ _ _ h => h.elim)
  obtain ⟨rfl, rfl, rfl⟩ := h33
  refine hG.if_eq (tgt := 53) dX1_group_36 rfl (fun c_36 => ?_) (fun c_36 => ?_)
  · refine hG.iconst (v := 0) dX1_group_53 rfl ?_
    refine hG.lsb [(0, .ref x), (1, .int k), (4, .int w), (6, .ref qg)] ⟨rfl, rfl, rfl, rfl, trivial⟩ ?_
    first
    | exact kt ⟨b2i_1 c_36, b2i_1 c_46⟩
    | exact kf (fun z => bFT (b2i_0 c_46) z.2)
    | exact kf (fun z => bFT (b2i_0 c_36) z.1)
  · refine hG.iload dX1_group_39 rfl ?_
    refine hG.iconst (v := 0) dX1_group_41 rfl ?_
    refine hG.iconst (v := 2) dX1_group_42 rfl ?_
    refine hG.callS dX1_group_43 ks_X1_64 (sp_X1_inRange hΓ) rfl rfl (Nat.le_of_ble_eq_true rfl) (by decide) (by omega) (by omega) (fun r43 I43 L43 hI43 h43 => ?_) (fun _ _ _ _ _ h => h.elim)
    obtain ⟨rfl, rfl, rfl⟩ := h43
    refine hG.if_eq (tgt := 53) dX1_group_46 rfl (fun c_46 => ?_) (fun c_46 => ?_)
    · refine hG.iconst (v := 0) dX1_group_53 rfl ?_
      refine hG.lsb [(0, .ref x), (1, .int k), (4, .int w), (6, .ref qg)] ⟨rfl, rfl, rfl, rfl, trivial⟩ ?_
      first
      | exact kt ⟨b2i_1 c_36, b2i_1 c_46⟩
      | exact kf (fun z => bFT (b2i_0 c_46) z.2)
      | exact kf (fun z => bFT (b2i_0 c_36) z.1)
    · refine hG.iconst (v := 1) dX1_group_49 rfl ?_
      refine hG.goto (tgt := 54) dX1_group_50 rfl ?_
      refine hG.lsb [(0, .ref x), (1, .int k), (4, .int w), (6, .ref qg)] ⟨rfl, rfl, rfl, rfl, trivial⟩ ?_
      first
      | exact kt ⟨b2i_1 c_36, b2i_1 c_46⟩
      | exact kf (fun z => bFT (b2i_0 c_46) z.2)
      | exact kf (fun z => bFT (b2i_0 c_36) z.1)
set_option maxHeartbeats 4000000 in
set_option maxRecDepth 100000 in
theorem sp_X1_width {l : Launch} {s0 : State} {D : va_G} {I : AI} {L : AL} {dE ca : Nat} {ad : Nat → Nat} (hΓ : Gam l s0 D) (hZ : Std s0 D dE ca ad) {x N : Nat} {F : Fy} {A : FA} (hF : FeO dE I L x F A) (hW : WfF N F) (hN : N ≤ 22) : Spc l s0 D yX1_width 8 [.ref x] I L 1 4 (pV (.int (widS F.rv.ch)) I L) noX := by
  refine Spc.of hΓ cX1_width 4 (some FieldType.int) q2869 (by decide +kernel) (by decide) (Nat.le_of_ble_eq_true rfl) (fun G GX hG => ?_)
  obtain ⟨hx, hr, hpq, hpa, hip, hln, hsv, hnd⟩ := id hF
  refine hG.opR hr (fun B M g hf => ?_)
  have hxM := (hf x _ hx (ne_val hx hr (fun e => by cases e))).2
  have h6 := hW.1.ch6
  refine hG.iconst (v := 0) dX1_width_0 rfl ?_
  refine hG.istore_n dX1_width_1 (by decide) ?_
  refine hG.aload_n dX1_width_2 rfl ?_
  refine hG.get dX1_width_3 fg_X1_78_X1 (Or.inl hxM) rfl ?_
  refine hG.get dX1_width_6 fg_X1_338_X2 (Or.inl g.h) rfl ?_
  refine hG.callF dX1_width_9 kf_X1_362_J2 (Rcv.li g.h0) cl_J2 (sp_J2_iterator hΓ g.h0) rfl rfl (Nat.le_of_ble_eq_true rfl) (by decide) (by omega) (by omega) (fun r9 I9 L9 hI9 h9 => ?_) (fun _ _ _ _ _ h => h.elim)
  obtain ⟨rfl, it, hita, hit, rfl, rfl⟩ := h9
  refine hG.astore_n dX1_width_14 (by decide) ?_
  have hl9 := g.e0.len
  have loop : ∀ (u i : Nat) (acc lr : Int32), i + u = F.rv.ch.length → acc = widS (F.rv.ch.take i) → G 15 [(0, .ref x), (1, .int acc), (2, .ref it)] [] I (up1 M it (some (obC ciJ15 [.int (nI i), .int lr, .int B.m0, .ref B.a0]))) 1 4 := by
    intro u
    induction u with
    | zero =>
      intro i acc lr hiw hacc
      refine hG.aload_n dX1_width_15 rfl ?_
      refine hG.callF dX1_width_16 kf_X1_33_J15 (Rcv.raw up1_s cl_J15) cl_J15 (sp_J15_hasNext hΓ (by omega) ((up1_n hita.symm).trans g.h0) up1_s) rfl rfl (Nat.le_of_ble_eq_true rfl) (by decide) (by omega) (by omega) (fun r16 I16 L16 hI16 h16 => ?_) (fun _ _ _ _ _ h => h.elim)
      obtain ⟨rfl, rfl, rfl⟩ := h16
      refine hG.if_eq (tgt := 44) dX1_width_21 rfl (fun c_21 => ?_) (fun c_21 => absurd (by rw [decide_eq_false (by omega)]; rfl) c_21)
      refine hG.iload_n dX1_width_44 rfl ?_
      rw [hacc, show F.rv.ch.take i = F.rv.ch from List.take_of_length_le (by omega)]
      refine hG.sub (S := M) (fun z y hz => (up1_n (ne_none hz hit)).trans hz) ?_
      refine hG.clRs L hr g hf ?_
      refine hG.iret dX1_width_45 rfl ?_ (by omega) (by omega) trivial
      exact ⟨rfl, rfl, rfl⟩
    | succ u ih =>
      intro i acc lr hiw hacc
      obtain ⟨c, hc, -⟩ := get_lt (show i < F.rv.ch.length by omega)
      obtain ⟨y, hy, hyc⟩ := g.e0.get hc
      refine hG.aload_n dX1_width_15 rfl ?_
      refine hG.callF dX1_width_16 kf_X1_33_J15 (Rcv.raw up1_s cl_J15) cl_J15 (sp_J15_hasNext hΓ (by omega) ((up1_n hita.symm).trans g.h0) up1_s) rfl rfl (Nat.le_of_ble_eq_true rfl) (by decide) (by omega) (by omega) (fun r16 I16 L16 hI16 h16 => ?_) (fun _ _ _ _ _ h => h.elim)
      obtain ⟨rfl, rfl, rfl⟩ := h16
      refine hG.if_eq (tgt := 44) dX1_width_21 rfl (fun c_21 => absurd c_21 (by rw [decide_eq_true (by omega)]; decide)) (fun c_21 => ?_)
      refine hG.aload_n dX1_width_24 rfl ?_
      refine hG.callF dX1_width_25 kf_X1_39_J15 (Rcv.raw up1_s cl_J15) cl_J15 (sp_J15_next hΓ hy ((up1_n hita.symm).trans g.h0) up1_s) rfl rfl (Nat.le_of_ble_eq_true rfl) (by decide) (by omega) (by omega) (fun r25 I25 L25 hI25 h25 => ?_) (fun _ _ _ _ _ h => h.elim)
      obtain ⟨rfl, rfl, rfl⟩ := h25
      rw [up1_up1]
      refine hG.castS dX1_width_30 q2872 (Rcv.imm hyc cl_X6) cl_X6 ?_
      refine hG.astore_n dX1_width_33 (by decide) ?_
      refine hG.iload_n dX1_width_34 rfl ?_
      refine hG.aload_n dX1_width_35 rfl ?_
      refine hG.get dX1_width_36 fg_X1_168_X6 (Or.inr hyc) rfl ?_
      refine hG.iadd dX1_width_39 ?_
      refine hG.istore_n dX1_width_40 (by decide) ?_
      refine hG.goto (tgt := 15) dX1_width_41 rfl ?_
      refine hG.lsb [(0, .ref x), (1, .int (acc + c.1)), (2, .ref it)] ⟨rfl, rfl, rfl, trivial⟩ (ih (i + 1) _ _ (by omega) ?_)
      rw [hacc]
      unfold widS
      rw [foldl_take hc]
  exact hG.lsb [(0, .ref x), (1, .int 0), (2, .ref it)] ⟨rfl, rfl, rfl, trivial⟩ (loop _ 0 0 _ (Nat.zero_add _) rfl)
theorem fg_X1_363_X2 : LkG RX1 363 ciX2 1 := ⟨RX2, TX2, 13, tyX2, _, cls_X2, by decide, Or.inl rfl, Or.inr ⟨_, q256⟩⟩
theorem fg_X1_366_X2 : LkG RX1 366 ciX2 2 := ⟨RX2, TX2, 13, tyX2, _, cls_X2, by decide, Or.inl rfl, Or.inr ⟨_, q258⟩⟩
theorem fg_X1_369_X2 : LkG RX1 369 ciX2 9 := ⟨RX2, TX2, 13, tyX2, _, cls_X2, by decide, Or.inl rfl, Or.inr ⟨_, q272⟩⟩
theorem kv_X1_372 : LkV RX1 372 yX3_weight 0 := ⟨q2865, q1789, q1790, q78, by decide +kernel, by decide +kernel, by decide +kernel⟩
theorem fg_X1_373_X2 : LkG RX1 373 ciX2 10 := ⟨RX2, TX2, 13, tyX2, _, cls_X2, by decide, Or.inl rfl, Or.inr ⟨_, q274⟩⟩
theorem fg_X1_376_X2 : LkG RX1 376 ciX2 11 := ⟨RX2, TX2, 13, tyX2, _, cls_X2, by decide, Or.inl rfl, Or.inr ⟨_, q276⟩⟩
theorem fg_X1_379_X2 : LkG RX1 379 ciX2 12 := ⟨RX2, TX2, 13, tyX2, _, cls_X2, by decide, Or.inl rfl, Or.inr ⟨_, q278⟩⟩
theorem kv_X1_382 : LkV RX1 382 yX1_width 0 := ⟨q2866, q2868, qs20, q73, by decide +kernel, by decide +kernel, by decide +kernel⟩
set_option maxHeartbeats 4000000 in
set_option maxRecDepth 100000 in
theorem sp_X1_number {l : Launch} {s0 : State} {D : va_G} {I : AI} {L : AL} {dE ca : Nat} {ad : Nat → Nat} (hΓ : Gam l s0 D) (hZ : Std s0 D dE ca ad) {x N : Nat} {F : Fy} {A : FA} (hF : FeO dE I L x F A) (hW : WfF N F) (hN : N ≤ 22) {w : Int32} : Spc l s0 D yX1_number 10 [.ref x, .int w] I L 6 30 (pQ (numF F w) L) (xQ RJ14 RJ14 (numF F w) L) := by
  refine Spc.of hΓ cX1_number 2 (some FieldType.int) q2864 (by decide +kernel) (by decide) (Nat.le_of_ble_eq_true rfl) (fun G GX hG => ?_)
  obtain ⟨hx, hr, hpq, hpa, hip, hln, hsv, hnd⟩ := id hF
  refine hG.iload_n dX1_number_0 rfl ?_
  refine hG.iconst (v := 0) dX1_number_1 rfl ?_
  refine hG.bipush (v := 15) dX1_number_2 rfl ?_
  refine hG.callS dX1_number_4 ks_X1_64 (sp_X1_inRange hΓ) rfl rfl (Nat.le_of_ble_eq_true rfl) (by decide) (by omega) (by omega) (fun r4 I4 L4 hI4 h4 => ?_) (fun _ _ _ _ _ h => h.elim)
  obtain ⟨rfl, rfl, rfl⟩ := h4
  refine hG.callS dX1_number_7 ks_X1_68 (sp_X1_require hΓ) rfl rfl (Nat.le_of_ble_eq_true rfl) (by decide) (by omega) (by omega) (fun r7 I7 L7 hI7 h7 => ?_) (fun E q I' L' hI ⟨e1, e2, e3⟩ => hG.out (by simp) ⟨e3, Or.inl ⟨by rw [show numF F w = (1, 0) from if_neg (bFT e2)], e1⟩⟩ (by omega) (by omega) trivial)
  obtain ⟨rfl, hb, rfl, rfl⟩ := h7
  obtain ⟨j, hj, rfl⟩ := idx_le (m := 15) (by decide) hb
  have hv : numF F (nI j) = (0, numV F j) := by
    unfold numF
    rw [if_pos hb, nI_clamp (by omega)]
  obtain ⟨kb, mlb, tb, hu, hkb, htb, hl60, hip⟩ := hip
  rcases (by omega : j = 0 ∨ j = 1 ∨ j = 2 ∨ j = 3 ∨ j = 4 ∨ j = 5 ∨ j = 6 ∨ j = 7 ∨ j = 8 ∨ j = 9 ∨ j = 10 ∨ j = 11 ∨ j = 12 ∨ j = 13 ∨ j = 14 ∨ j = 15) with rfl | rfl | rfl | rfl | rfl | rfl | rfl | rfl | rfl | rfl | rfl | rfl | rfl | rfl | rfl | rfl
  · refine hG.iload_n dX1_number_10 rfl ?_
    refine hG.tabIn (off := 73) (tgt := 84) dX1_number_11 (by decide +kernel) (by decide +kernel) (by decide +kernel) rfl ?_
    refine hG.opR hr (fun B M g hf => ?_)
    have hxM := (hf x _ hx (ne_val hx hr (fun e => by cases e))).2
    refine hG.aload_n dX1_number_84 rfl ?_
    refine hG.get dX1_number_85 fg_X1_78_X1 (Or.inl hxM) rfl ?_
    refine hG.get dX1_number_88 fg_X1_179_X2 (Or.inl g.h) rfl ?_
    refine hG.clRs L hr g hf ?_
    refine hG.iret dX1_number_91 rfl ?_ (by omega) (by omega) trivial
    exact ⟨(by rw [hv] <;> rfl), (by rw [hv] <;> rfl), rfl⟩
  · refine hG.iload_n dX1_number_10 rfl ?_
    refine hG.tabIn (off := 81) (tgt := 92) dX1_number_11 (by decide +kernel) (by decide +kernel) (by decide +kernel) rfl ?_
    refine hG.opR hr (fun B M g hf => ?_)
    have hxM := (hf x _ hx (ne_val hx hr (fun e => by cases e))).2
    refine hG.aload_n dX1_number_92 rfl ?_
    refine hG.get dX1_number_93 fg_X1_78_X1 (Or.inl hxM) rfl ?_
    refine hG.get dX1_number_96 fg_X1_338_X2 (Or.inl g.h) rfl ?_
    refine hG.callF dX1_number_99 kf_X1_342_J2 (Rcv.li g.h0) cl_J2 (sp_J2_size hΓ g.h0) rfl rfl (Nat.le_of_ble_eq_true rfl) (by decide) (by omega) (by omega) (fun r99 I99 L99 hI99 h99 => ?_) (fun _ _ _ _ _ h => h.elim)
    obtain ⟨rfl, rfl, rfl⟩ := h99
    rw [show B.xs.length = F.rv.ch.length from g.e0.len]
    refine hG.clRs L hr g hf ?_
    refine hG.iret dX1_number_104 rfl ?_ (by omega) (by omega) trivial
    exact ⟨(by rw [hv] <;> rfl), (by rw [hv] <;> rfl), rfl⟩
  · refine hG.iload_n dX1_number_10 rfl ?_
    refine hG.tabIn (off := 94) (tgt := 105) dX1_number_11 (by decide +kernel) (by decide +kernel) (by decide +kernel) rfl ?_
    refine hG.opR hr (fun B M g hf => ?_)
    have hxM := (hf x _ hx (ne_val hx hr (fun e => by cases e))).2
    refine hG.aload_n dX1_number_105 rfl ?_
    refine hG.get dX1_number_106 fg_X1_78_X1 (Or.inl hxM) rfl ?_
    refine hG.get dX1_number_109 fg_X1_363_X2 (Or.inl g.h) rfl ?_
    refine hG.callF dX1_number_112 kf_X1_342_J2 (Rcv.li g.h1) cl_J2 (sp_J2_size hΓ g.h1) rfl rfl (Nat.le_of_ble_eq_true rfl) (by decide) (by omega) (by omega) (fun r112 I112 L112 hI112 h112 => ?_) (fun _ _ _ _ _ h => h.elim)
    obtain ⟨rfl, rfl, rfl⟩ := h112
    rw [show B.ys.length = F.rv.fl.length from g.e1.len]
    refine hG.clRs L hr g hf ?_
    refine hG.iret dX1_number_117 rfl ?_ (by omega) (by omega) trivial
    exact ⟨(by rw [hv] <;> rfl), (by rw [hv] <;> rfl), rfl⟩
  · refine hG.iload_n dX1_number_10 rfl ?_
    refine hG.tabIn (off := 107) (tgt := 118) dX1_number_11 (by decide +kernel) (by decide +kernel) (by decide +kernel) rfl ?_
    refine hG.opR hr (fun B M g hf => ?_)
    have hxM := (hf x _ hx (ne_val hx hr (fun e => by cases e))).2
    refine hG.aload_n dX1_number_118 rfl ?_
    refine hG.get dX1_number_119 fg_X1_78_X1 (Or.inl hxM) rfl ?_
    refine hG.get dX1_number_122 fg_X1_366_X2 (Or.inl g.h) rfl ?_
    refine hG.callF dX1_number_125 kf_X1_342_J2 (Rcv.li g.h2) cl_J2 (sp_J2_size hΓ g.h2) rfl rfl (Nat.le_of_ble_eq_true rfl) (by decide) (by omega) (by omega) (fun r125 I125 L125 hI125 h125 => ?_) (fun _ _ _ _ _ h => h.elim)
    obtain ⟨rfl, rfl, rfl⟩ := h125
    rw [show B.zs.length = F.rv.an.length from g.e2.len]
    refine hG.clRs L hr g hf ?_
    refine hG.iret dX1_number_130 rfl ?_ (by omega) (by omega) trivial
    exact ⟨(by rw [hv] <;> rfl), (by rw [hv] <;> rfl), rfl⟩
  · refine hG.iload_n dX1_number_10 rfl ?_
    refine hG.tabIn (off := 120) (tgt := 131) dX1_number_11 (by decide +kernel) (by decide +kernel) (by decide +kernel) rfl ?_
    refine hG.opR hr (fun B M g hf => ?_)
    have hxM := (hf x _ hx (ne_val hx hr (fun e => by cases e))).2
    refine hG.aload_n dX1_number_131 rfl ?_
    refine hG.get dX1_number_132 fg_X1_78_X1 (Or.inl hxM) rfl ?_
    refine hG.get dX1_number_135 fg_X1_325_X2 (Or.inl g.h) rfl ?_
    refine hG.clRs L hr g hf ?_
    refine hG.iret dX1_number_138 rfl ?_ (by omega) (by omega) trivial
    exact ⟨(by rw [hv] <;> rfl), (by rw [hv] <;> rfl), rfl⟩
  · refine hG.iload_n dX1_number_10 rfl ?_
    refine hG.tabIn (off := 128) (tgt := 139) dX1_number_11 (by decide +kernel) (by decide +kernel) (by decide +kernel) rfl ?_
    refine hG.opR hr (fun B M g hf => ?_)
    have hxM := (hf x _ hx (ne_val hx hr (fun e => by cases e))).2
    refine hG.aload_n dX1_number_139 rfl ?_
    refine hG.get dX1_number_140 fg_X1_78_X1 (Or.inl hxM) rfl ?_
    refine hG.get dX1_number_143 fg_X1_369_X2 (Or.inl g.h) rfl ?_
    refine hG.clRs L hr g hf ?_
    refine hG.iret dX1_number_146 rfl ?_ (by omega) (by omega) trivial
    exact ⟨(by rw [hv] <;> rfl), (by rw [hv] <;> rfl), rfl⟩
  · refine hG.iload_n dX1_number_10 rfl ?_
    refine hG.tabIn (off := 136) (tgt := 147) dX1_number_11 (by decide +kernel) (by decide +kernel) (by decide +kernel) rfl ?_
    refine hG.opR hr (fun B M g hf => ?_)
    have hxM := (hf x _ hx (ne_val hx hr (fun e => by cases e))).2
    refine hG.aload_n dX1_number_147 rfl ?_
    refine hG.get dX1_number_148 fg_X1_78_X1 (Or.inl hxM) rfl ?_
    refine hG.get dX1_number_151 fg_X1_256_X2 (Or.inl g.h) rfl ?_
    refine hG.callV dX1_number_154 kv_X1_372 (Rcv.ta g.h4) (sp_X3_weight hΓ hZ g.h4) rfl rfl (Nat.le_of_ble_eq_true rfl) (by decide) (by omega) (by omega) (fun r154 I154 L154 hI154 h154 => ?_) (fun _ _ _ _ _ h => h.elim)
    obtain ⟨rfl, rfl⟩ := h154
    have g := g.mono hI154 (fun _ _ _ h => h)
    refine hG.clRs L hr g hf ?_
    refine hG.iret dX1_number_157 rfl ?_ (by omega) (by omega) trivial
    exact ⟨(by rw [hv] <;> rfl), (by rw [hv] <;> rfl), rfl⟩
  · refine hG.iload_n dX1_number_10 rfl ?_
    refine hG.tabIn (off := 147) (tgt := 158) dX1_number_11 (by decide +kernel) (by decide +kernel) (by decide +kernel) rfl ?_
    refine hG.opR hr (fun B M g hf => ?_)
    have hxM := (hf x _ hx (ne_val hx hr (fun e => by cases e))).2
    refine hG.aload_n dX1_number_158 rfl ?_
    refine hG.get dX1_number_159 fg_X1_78_X1 (Or.inl hxM) rfl ?_
    refine hG.get dX1_number_162 fg_X1_259_X2 (Or.inl g.h) rfl ?_
    refine hG.callV dX1_number_165 kv_X1_372 (Rcv.ta g.h5) (sp_X3_weight hΓ hZ g.h5) rfl rfl (Nat.le_of_ble_eq_true rfl) (by decide) (by omega) (by omega) (fun r165 I165 L165 hI165 h165 => ?_) (fun _ _ _ _ _ h => h.elim)
    obtain ⟨rfl, rfl⟩ := h165
    have g := g.mono hI165 (fun _ _ _ h => h)
    refine hG.clRs L hr g hf ?_
    refine hG.iret dX1_number_168 rfl ?_ (by omega) (by omega) trivial
    exact ⟨(by rw [hv] <;> rfl), (by rw [hv] <;> rfl), rfl⟩
  · refine hG.iload_n dX1_number_10 rfl ?_
    refine hG.tabIn (off := 158) (tgt := 169) dX1_number_11 (by decide +kernel) (by decide +kernel) (by decide +kernel) rfl ?_
    refine hG.opR hr (fun B M g hf => ?_)
    have hxM := (hf x _ hx (ne_val hx hr (fun e => by cases e))).2
    refine hG.aload_n dX1_number_169 rfl ?_
    refine hG.get dX1_number_170 fg_X1_78_X1 (Or.inl hxM) rfl ?_
    refine hG.get dX1_number_173 fg_X1_256_X2 (Or.inl g.h) rfl ?_
    refine hG.callV dX1_number_176 kv_X1_332 (Rcv.ta g.h4) (sp_X3_all hΓ hZ g.h4) rfl rfl (Nat.le_of_ble_eq_true rfl) (by decide) (by omega) (by omega) (fun r176 I176 L176 hI176 h176 => ?_) (fun _ _ _ _ _ h => h.elim)
    obtain ⟨rfl, rfl⟩ := h176
    have g := g.mono hI176 (fun _ _ _ h => h)
    refine hG.aload_n dX1_number_179 rfl ?_
    refine hG.get dX1_number_180 fg_X1_78_X1 (Or.inl hxM) rfl ?_
    refine hG.get dX1_number_183 fg_X1_259_X2 (Or.inl g.h) rfl ?_
    refine hG.callV dX1_number_186 kv_X1_332 (Rcv.ta g.h5) (sp_X3_all hΓ hZ g.h5) rfl rfl (Nat.le_of_ble_eq_true rfl) (by decide) (by omega) (by omega) (fun r186 I186 L186 hI186 h186 => ?_) (fun _ _ _ _ _ h => h.elim)
    obtain ⟨rfl, rfl⟩ := h186
    have g := g.mono hI186 (fun _ _ _ h => h)
    refine hG.iadd dX1_number_189 ?_
    refine hG.clRs L hr g hf ?_
    refine hG.iret dX1_number_190 rfl ?_ (by omega) (by omega) trivial
    exact ⟨(by rw [hv] <;> rfl), (by rw [hv] <;> rfl), rfl⟩
  · refine hG.iload_n dX1_number_10 rfl ?_
    refine hG.tabIn (off := 180) (tgt := 191) dX1_number_11 (by decide +kernel) (by decide +kernel) (by decide +kernel) rfl ?_
    refine hG.opR hr (fun B M g hf => ?_)
    have hxM := (hf x _ hx (ne_val hx hr (fun e => by cases e))).2
    refine hG.aload_n dX1_number_191 rfl ?_
    refine hG.get dX1_number_192 fg_X1_78_X1 (Or.inl hxM) rfl ?_
    refine hG.get dX1_number_195 fg_X1_246_X2 (Or.inl g.h) rfl ?_
    refine hG.callV dX1_number_198 kv_X1_332 (Rcv.ta g.h3) (sp_X3_all hΓ hZ g.h3) rfl rfl (Nat.le_of_ble_eq_true rfl) (by decide) (by omega) (by omega) (fun r198 I198 L198 hI198 h198 => ?_) (fun _ _ _ _ _ h => h.elim)
    obtain ⟨rfl, rfl⟩ := h198
    have g := g.mono hI198 (fun _ _ _ h => h)
    refine hG.clRs L hr g hf ?_
    refine hG.iret dX1_number_201 rfl ?_ (by omega) (by omega) trivial
    exact ⟨(by rw [hv] <;> rfl), (by rw [hv] <;> rfl), rfl⟩
  · refine hG.iload_n dX1_number_10 rfl ?_
    refine hG.tabIn (off := 191) (tgt := 202) dX1_number_11 (by decide +kernel) (by decide +kernel) (by decide +kernel) rfl ?_
    refine hG.opR hr (fun B M g hf => ?_)
    have hxM := (hf x _ hx (ne_val hx hr (fun e => by cases e))).2
    refine hG.aload_n dX1_number_202 rfl ?_
    refine hG.get dX1_number_203 fg_X1_78_X1 (Or.inl hxM) rfl ?_
    refine hG.get dX1_number_206 fg_X1_373_X2 (Or.inl g.h) rfl ?_
    refine hG.clRs L hr g hf ?_
    refine hG.iret dX1_number_209 rfl ?_ (by omega) (by omega) trivial
    exact ⟨(by rw [hv] <;> rfl), (by rw [hv] <;> rfl), rfl⟩
  · refine hG.iload_n dX1_number_10 rfl ?_
    refine hG.tabIn (off := 199) (tgt := 210) dX1_number_11 (by decide +kernel) (by decide +kernel) (by decide +kernel) rfl ?_
    refine hG.opR hr (fun B M g hf => ?_)
    have hxM := (hf x _ hx (ne_val hx hr (fun e => by cases e))).2
    refine hG.aload_n dX1_number_210 rfl ?_
    refine hG.get dX1_number_211 fg_X1_78_X1 (Or.inl hxM) rfl ?_
    refine hG.get dX1_number_214 fg_X1_376_X2 (Or.inl g.h) rfl ?_
    refine hG.clRs L hr g hf ?_
    refine hG.iret dX1_number_217 rfl ?_ (by omega) (by omega) trivial
    exact ⟨(by rw [hv] <;> rfl), (by rw [hv] <;> rfl), rfl⟩
  · refine hG.iload_n dX1_number_10 rfl ?_
    refine hG.tabIn (off := 207) (tgt := 218) dX1_number_11 (by decide +kernel) (by decide +kernel) (by decide +kernel) rfl ?_
    refine hG.opR hr (fun B M g hf => ?_)
    have hxM := (hf x _ hx (ne_val hx hr (fun e => by cases e))).2
    refine hG.aload_n dX1_number_218 rfl ?_
    refine hG.get dX1_number_219 fg_X1_78_X1 (Or.inl hxM) rfl ?_
    refine hG.get dX1_number_222 fg_X1_379_X2 (Or.inl g.h) rfl ?_
    refine hG.clRs L hr g hf ?_
    refine hG.iret dX1_number_225 rfl ?_ (by omega) (by omega) trivial
    exact ⟨(by rw [hv] <;> rfl), (by rw [hv] <;> rfl), rfl⟩
  · refine hG.iload_n dX1_number_10 rfl ?_
    refine hG.tabIn (off := 215) (tgt := 226) dX1_number_11 (by decide +kernel) (by decide +kernel) (by decide +kernel) rfl ?_
    refine hG.aload_n dX1_number_226 rfl ?_
    refine hG.callV dX1_number_227 kv_X1_382 (Rcv.raw hx cl_X1) (sp_X1_width hΓ hZ hF hW hN) rfl rfl (Nat.le_of_ble_eq_true rfl) (by decide) (by omega) (by omega) (fun r227 I227 L227 hI227 h227 => ?_) (fun _ _ _ _ _ h => h.elim)
    obtain ⟨rfl, rfl, rfl⟩ := h227
    refine hG.iret dX1_number_230 rfl ?_ (by omega) (by omega) trivial
    exact ⟨(by rw [hv] <;> rfl), (by rw [hv] <;> rfl), rfl⟩
  · refine hG.iload_n dX1_number_10 rfl ?_
    refine hG.tabIn (off := 220) (tgt := 231) dX1_number_11 (by decide +kernel) (by decide +kernel) (by decide +kernel) rfl ?_
    refine hG.aload_n dX1_number_231 rfl ?_
    refine hG.get dX1_number_232 fg_X1_85_X1 (Or.inl hx) rfl ?_
    refine hG.callV dX1_number_235 kv_X1_110 (Rcv.dq hpq) (sp_J6_size hΓ hpq) rfl rfl (Nat.le_of_ble_eq_true rfl) (by decide) (by omega) (by omega) (fun r235 I235 L235 hI235 h235 => ?_) (fun _ _ _ _ _ h => h.elim)
    obtain ⟨rfl, rfl, rfl⟩ := h235
    refine hG.iret dX1_number_238 rfl ?_ (by omega) (by omega) trivial
    exact ⟨(by rw [hv]), by rw [hv, hpa.len]; rfl, rfl⟩
  · refine hG.iload_n dX1_number_10 rfl ?_
    refine hG.tabOut (tgt := 239) dX1_number_11 (by decide +kernel) rfl ?_
    refine hG.aload_n dX1_number_239 rfl ?_
    refine hG.get dX1_number_240 fg_X1_92_X1 (Or.inl hx) rfl ?_
    refine hG.callV dX1_number_243 kv_X1_281 (Rcv.sb hip) (sp_J8_length hΓ hip) rfl rfl (Nat.le_of_ble_eq_true rfl) (by decide) (by omega) (by omega) (fun r243 I243 L243 hI243 h243 => ?_) (fun _ _ _ _ _ h => h.elim)
    obtain ⟨rfl, rfl, rfl⟩ := h243
    refine hG.iret dX1_number_246 rfl ?_ (by omega) (by omega) trivial
    exact ⟨(by rw [hv]), by rw [hv]; show _ = some (Value.int (nI F.ip.length)); rw [hu, List.length_map], rfl⟩
def fy0 : Fy := (rv0, [], [], [], -1, 0, 0, none)
