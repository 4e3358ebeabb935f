/-! the ferry: the calls that tell of it -/
section CLRX
variable {l : Launch} {s0 : State} {D : va_G} {own nm : String} {cc : ByteArray} {nL : Nat} {ret : Option FieldType} {tab : List ExceptionTableEntry} {d mc ms : Nat} {Ib : AI} {post : Option Value → AI → AL → Prop} {xp : String → Nat → AI → AL → Prop} {md : Prop} {G : Gt} {GX : GXt}
variable {pc : Nat} {ls : List (Nat × Value)} {st : List Value} {I : AI} {L : AL} {k n : Nat}
theorem IsG.clX (hG : IsG l s0 D own nm cc nL ret tab d mc ms Ib post xp md G GX) {E : String} {q a : Nat} (kd : Nat) {Φ : AI → Nat → AL → Prop} (S : AL) (hs : ∀ q x, S q = some x → L q = some x) (hSa : S a ≠ none) (hΦ : Φ I a S) (kk : GX pc ls st E q I (clo L a S (cel kd Φ)) k n) : GX pc ls st E q I L k n := by
  obtain ⟨p, e, s, m, args, below, meth, c, R, Q, hΓ, hx, hb, hr, hml, hown, hts, hlk, hnm, hW, htab, hF, hR, hmd, rfl, rfl⟩ := hG
  intro H locs lsA ce hl hS hV hI hc hv hcl
  exact kk H locs lsA ce hl (hS.cl kd hs hSa hΦ) hV hI hc hv hcl
theorem IsG.clRXs (hG : IsG l s0 D own nm cc nL ret tab d mc ms Ib post xp md G GX) {E : String} {q dE r : Nat} {R : Rv} {A : RA} {M : AL} (L : AL) (h0 : L r = some (rvC dE R)) (h : RvO dE I M r R A) (hfr : Frm L r (RN r A) M) (kk : GX pc ls st E q I L k n) : GX pc ls st E q I M k n := by
  refine hG.clX (a := r) (Φ := fun J r S => ∃ A : RA, RvO dE J S r R A) 6 (rst M (RN r A)) (fun q x hq => ?_) (by rw [rst_in (by simp [RN])]; exact h.dom r (by simp [RN])) ⟨A, h.mono ile_rf (fun q hq x hx => rst_at hq hx)⟩ (hG.subX (fun q x hq => ?_) kk)
  · unfold rst at hq
    split at hq
    · exact hq
    · cases hq
  · by_cases hqa : q = r
    · subst hqa
      rw [h0] at hq
      cases hq
      exact clo_s
    · obtain ⟨h1, h2⟩ := hfr q x hq hqa
      rw [clo_out (if_neg h1) hqa]
      exact h2
end CLRX
abbrev pQ (f : Int32 × Int32) (L : AL) : Option Value → AI → AL → Prop := fun q _ L' => f.1 = 0 ∧ q = some (.int f.2) ∧ L = L'
abbrev xQ (E1 E2 : String) (f : Int32 × Int32) (L : AL) : String → Nat → AI → AL → Prop := fun E _ _ L' => L = L' ∧ ((f.1 = 1 ∧ E = E1) ∨ (f.1 = 2 ∧ E = E2))
theorem kv_X1_164 : LkV RX1 164 yX2_channel 1 := ⟨q2414, q1629, q1630, q74, by decide +kernel, by decide +kernel, by decide +kernel⟩
theorem fg_X1_179_X2 : LkG RX1 179 ciX2 7 := ⟨RX2, TX2, 13, tyX2, _, cls_X2, by decide, Or.inl rfl, Or.inr ⟨_, q267⟩⟩
theorem kv_X1_182 : LkV RX1 182 yX2_flow 2 := ⟨q2417, q1884, q1885, q74, by decide +kernel, by decide +kernel, by decide +kernel⟩
set_option maxHeartbeats 4000000 in
set_option maxRecDepth 100000 in
theorem sp_X1_flow {l : Launch} {s0 : State} {D : va_G} {I : AI} {L : AL} {dE ca : Nat} {ad : Nat → Nat} (hΓ : Gam l s0 D) (hZ : Std s0 D dE ca ad) {x N : Nat} {F : Fy} {A : FA} (hF : FeO dE I L x F A) (hW : WfF N F) (hN : N ≤ 22) {c n : Int32} : Spc l s0 D yX1_flow 10 [.ref x, .int c, .int n] I L 5 40 (pQ (flowF F.rv c n) L) (xQ RJ33 RJ14 (flowF F.rv c n) L) := by
  refine Spc.of hΓ cX1_flow 4 (some FieldType.int) q2450 (by decide +kernel) (by decide) (Nat.le_of_ble_eq_true rfl) (fun G GX hG => ?_)
  obtain ⟨hx, hr, hpq, hpa, hip, hln, hsv, hnd⟩ := id hF
  refine hG.opR hr (fun B M g hf => ?_)
  have hxM := (hf x _ hx (ne_val hx hr (fun e => by cases e))).2
  refine hG.aload_n dX1_flow_0 rfl ?_
  refine hG.get dX1_flow_1 fg_X1_78_X1 (Or.inl hxM) rfl ?_
  refine hG.iload_n dX1_flow_4 rfl ?_
  refine hG.callV dX1_flow_5 kv_X1_164 (Rcv.raw g.h cl_X2) (sp_X2_channel hΓ hZ g) rfl rfl (Nat.le_of_ble_eq_true rfl) (by decide) (by omega) (by omega) (fun r5 I5 L5 hI5 h5 => ?_) (fun E q I' L' hI hx9 => by obtain ⟨e1, e2, rfl⟩ := hx9; exact hG.clRXs L hr (g.mono hI (fun _ _ _ h => h)) hf (hG.out (by simp) ⟨rfl, Or.inl ⟨by rw [show flowF F.rv c n = (1, 0) from if_neg (bFT e2)], e1⟩⟩ (by omega) (by omega) trivial))
  obtain ⟨rfl, rfl, i, c0, y, rfl, hc, rfl, hy⟩ := h5
  have hil : i < F.rv.ch.length := (List.getElem?_eq_some_iff.mp hc).1
  have h6 := hW.1.ch6
  have hb1 := inR_idx (n := nI i) (by omega) hil rfl
  refine hG.astore_n dX1_flow_8 (by decide) ?_
  refine hG.iload_n dX1_flow_9 rfl ?_
  refine hG.iconst (v := 0) dX1_flow_10 rfl ?_
  refine hG.sipush (v := 199) dX1_flow_11 rfl ?_
  refine hG.callS dX1_flow_14 ks_X1_64 (sp_X1_inRange hΓ) rfl rfl (Nat.le_of_ble_eq_true rfl) (by decide) (by omega) (by omega) (fun r14 I14 L14 hI14 h14 => ?_) (fun _ _ _ _ _ h => h.elim)
  obtain ⟨rfl, rfl, rfl⟩ := h14
  refine hG.callS dX1_flow_17 ks_X1_68 (sp_X1_require hΓ) rfl rfl (Nat.le_of_ble_eq_true rfl) (by decide) (by omega) (by omega) (fun r17 I17 L17 hI17 h17 => ?_) (fun E q I' L' hI hx9 => by obtain ⟨e1, e2, rfl⟩ := hx9; exact hG.clRXs L hr (g.mono hI (fun _ _ _ h => h)) hf (hG.out (by simp) ⟨rfl, Or.inr ⟨by rw [show flowF F.rv (nI i) n = (2, 0) from (if_pos hb1).trans (if_neg (bFT e2))], e1⟩⟩ (by omega) (by omega) trivial))
  obtain ⟨rfl, hb2, rfl, rfl⟩ := h17
  have hv : flowF F.rv (nI i) n = (0, flowV F.rv c0 (F.rv.hr + n)) := by
    unfold flowF
    rw [if_pos hb1, if_pos hb2, nI_clamp (by omega), hc]
  refine hG.aload_n dX1_flow_20 rfl ?_
  refine hG.get dX1_flow_21 fg_X1_78_X1 (Or.inl hxM) rfl ?_
  refine hG.iload_n dX1_flow_24 rfl ?_
  refine hG.aload_n dX1_flow_25 rfl ?_
  refine hG.get dX1_flow_26 fg_X1_78_X1 (Or.inl hxM) rfl ?_
  refine hG.get dX1_flow_29 fg_X1_179_X2 (Or.inl g.h) rfl ?_
  refine hG.iload_n dX1_flow_32 rfl ?_
  refine hG.iadd dX1_flow_33 ?_
  refine hG.callV dX1_flow_34 kv_X1_182 (Rcv.raw g.h cl_X2) (sp_X2_flow hΓ hZ g hc) rfl rfl (Nat.le_of_ble_eq_true rfl) (by decide) (by omega) (by omega) (fun r34 I34 L34 hI34 h34 => ?_) (fun _ _ _ _ _ h => h.elim)
  obtain ⟨rfl, rfl, rfl⟩ := h34
  refine hG.clRs L hr g hf ?_
  refine hG.iret dX1_flow_37 rfl ?_ (by omega) (by omega) trivial
  exact ⟨(by rw [hv] <;> rfl), (by rw [hv] <;> rfl), rfl⟩
theorem fg_X1_168_X6 : LkG RX1 168 ciX6 0 := ⟨RX6, TX6, 3, tyX6, _, cls_X6, by decide, Or.inl rfl, Or.inr ⟨_, q2118⟩⟩
theorem fg_X1_173_X6 : LkG RX1 173 ciX6 1 := ⟨RX6, TX6, 3, tyX6, _, cls_X6, by decide, Or.inl rfl, Or.inr ⟨_, q2122⟩⟩
theorem fg_X1_176_X6 : LkG RX1 176 ciX6 2 := ⟨RX6, TX6, 3, tyX6, _, cls_X6, by decide, Or.inl rfl, Or.inr ⟨_, q2125⟩⟩
theorem kv_X1_185 : LkV RX1 185 yX2_anchorsIn 2 := ⟨q2418, q2419, q2420, q74, by decide +kernel, by decide +kernel, by decide +kernel⟩
theorem kv_X1_189 : LkV RX1 189 yX2_leastDrag 1 := ⟨q2422, q1873, q1874, q74, by decide +kernel, by decide +kernel, by decide +kernel⟩
set_option maxHeartbeats 4000000 in
set_option maxRecDepth 100000 in
theorem sp_X1_channelOf {l : Launch} {s0 : State} {D : va_G} {I : AI} {L : AL} {dE ca : Nat} {ad : Nat → Nat} (hΓ : Gam l s0 D) (hZ : Std s0 D dE ca ad) {x N : Nat} {F : Fy} {A : FA} (hF : FeO dE I L x F A) (hW : WfF N F) (hN : N ≤ 22) {c w : Int32} : Spc l s0 D yX1_channelOf 10 [.ref x, .int c, .int w] I L 5 40 (pQ (chnF F.rv c w) L) (xQ RJ33 RJ14 (chnF F.rv c w) L) := by
  refine Spc.of hΓ cX1_channelOf 4 (some FieldType.int) q2413 (by decide +kernel) (by decide) (Nat.le_of_ble_eq_true rfl) (fun G GX hG => ?_)
  obtain ⟨hx, hr, hpq, hpa, hip, hln, hsv, hnd⟩ := id hF
  refine hG.opR hr (fun B M g hf => ?_)
  have hxM := (hf x _ hx (ne_val hx hr (fun e => by cases e))).2
  refine hG.aload_n dX1_channelOf_0 rfl ?_
  refine hG.get dX1_channelOf_1 fg_X1_78_X1 (Or.inl hxM) rfl ?_
  refine hG.iload_n dX1_channelOf_4 rfl ?_
  refine hG.callV dX1_channelOf_5 kv_X1_164 (Rcv.raw g.h cl_X2) (sp_X2_channel hΓ hZ g) rfl rfl (Nat.le_of_ble_eq_true rfl) (by decide) (by omega) (by omega) (fun r5 I5 L5 hI5 h5 => ?_) (fun E q I' L' hI hx9 => by obtain ⟨e1, e2, rfl⟩ := hx9; exact hG.clRXs L hr (g.mono hI (fun _ _ _ h => h)) hf (hG.out (by simp) ⟨rfl, Or.inl ⟨by rw [show chnF F.rv c w = (1, 0) from if_neg (bFT e2)], e1⟩⟩ (by omega) (by omega) trivial))
  obtain ⟨rfl, rfl, i, c0, y, rfl, hc, rfl, hy⟩ := h5
  have hil : i < F.rv.ch.length := (List.getElem?_eq_some_iff.mp hc).1
  have h6 := hW.1.ch6
  have hb1 := inR_idx (n := nI i) (by omega) hil rfl
  refine hG.astore_n dX1_channelOf_8 (by decide) ?_
  refine hG.iload_n dX1_channelOf_9 rfl ?_
  refine hG.iconst (v := 0) dX1_channelOf_10 rfl ?_
  refine hG.bipush (v := 6) dX1_channelOf_11 rfl ?_
  refine hG.callS dX1_channelOf_13 ks_X1_64 (sp_X1_inRange hΓ) rfl rfl (Nat.le_of_ble_eq_true rfl) (by decide) (by omega) (by omega) (fun r13 I13 L13 hI13 h13 => ?_) (fun _ _ _ _ _ h => h.elim)
  obtain ⟨rfl, rfl, rfl⟩ := h13
  refine hG.callS dX1_channelOf_16 ks_X1_68 (sp_X1_require hΓ) rfl rfl (Nat.le_of_ble_eq_true rfl) (by decide) (by omega) (by omega) (fun r16 I16 L16 hI16 h16 => ?_) (fun E q I' L' hI hx9 => by obtain ⟨e1, e2, rfl⟩ := hx9; exact hG.clRXs L hr (g.mono hI (fun _ _ _ h => h)) hf (hG.out (by simp) ⟨rfl, Or.inr ⟨by rw [show chnF F.rv (nI i) w = (2, 0) from (if_pos hb1).trans (if_neg (bFT e2))], e1⟩⟩ (by omega) (by omega) trivial))
  obtain ⟨rfl, hb2, rfl, rfl⟩ := h16
  obtain ⟨j, hj, rfl⟩ := idx_le (m := 6) (by decide) hb2
  have hv : chnF F.rv (nI i) (nI j) = (0, chnV F.rv i c0 j) := by
    unfold chnF
    rw [if_pos hb1, if_pos hb2, nI_clamp (by omega), hc, nI_clamp (by omega)]
  rcases (by omega : j = 0 ∨ j = 1 ∨ j = 2 ∨ j = 3 ∨ j = 4 ∨ j = 5 ∨ j = 6) with rfl | rfl | rfl | rfl | rfl | rfl | rfl
  · refine hG.iload_n dX1_channelOf_19 rfl ?_
    refine hG.tabIn (off := 40) (tgt := 60) dX1_channelOf_20 (by decide +kernel) (by decide +kernel) (by decide +kernel) rfl ?_
    refine hG.aload_n dX1_channelOf_60 rfl ?_
    refine hG.get dX1_channelOf_61 fg_X1_168_X6 (Or.inr hy) rfl ?_
    refine hG.clRs L hr g hf ?_
    refine hG.iret dX1_channelOf_64 rfl ?_ (by omega) (by omega) trivial
    exact ⟨(by rw [hv] <;> rfl), (by rw [hv] <;> rfl), rfl⟩
  · refine hG.iload_n dX1_channelOf_19 rfl ?_
    refine hG.tabIn (off := 45) (tgt := 65) dX1_channelOf_20 (by decide +kernel) (by decide +kernel) (by decide +kernel) rfl ?_
    refine hG.aload_n dX1_channelOf_65 rfl ?_
    refine hG.get dX1_channelOf_66 fg_X1_173_X6 (Or.inr hy) rfl ?_
    refine hG.clRs L hr g hf ?_
    refine hG.iret dX1_channelOf_69 rfl ?_ (by omega) (by omega) trivial
    exact ⟨(by rw [hv] <;> rfl), (by rw [hv] <;> rfl), rfl⟩
  · refine hG.iload_n dX1_channelOf_19 rfl ?_
    refine hG.tabIn (off := 50) (tgt := 70) dX1_channelOf_20 (by decide +kernel) (by decide +kernel) (by decide +kernel) rfl ?_
    refine hG.aload_n dX1_channelOf_70 rfl ?_
    refine hG.get dX1_channelOf_71 fg_X1_176_X6 (Or.inr hy) rfl ?_
    refine hG.clRs L hr g hf ?_
    refine hG.iret dX1_channelOf_74 rfl ?_ (by omega) (by omega) trivial
    exact ⟨(by rw [hv] <;> rfl), (by rw [hv] <;> rfl), rfl⟩
  · refine hG.iload_n dX1_channelOf_19 rfl ?_
    refine hG.tabIn (off := 55) (tgt := 75) dX1_channelOf_20 (by decide +kernel) (by decide +kernel) (by decide +kernel) rfl ?_
    refine hG.aload_n dX1_channelOf_75 rfl ?_
    refine hG.get dX1_channelOf_76 fg_X1_78_X1 (Or.inl hxM) rfl ?_
    refine hG.iload_n dX1_channelOf_79 rfl ?_
    refine hG.aload_n dX1_channelOf_80 rfl ?_
    refine hG.get dX1_channelOf_81 fg_X1_78_X1 (Or.inl hxM) rfl ?_
    refine hG.get dX1_channelOf_84 fg_X1_179_X2 (Or.inl g.h) rfl ?_
    refine hG.callV dX1_channelOf_87 kv_X1_182 (Rcv.raw g.h cl_X2) (sp_X2_flow hΓ hZ g hc) rfl rfl (Nat.le_of_ble_eq_true rfl) (by decide) (by omega) (by omega) (fun r87 I87 L87 hI87 h87 => ?_) (fun _ _ _ _ _ h => h.elim)
    obtain ⟨rfl, rfl, rfl⟩ := h87
    refine hG.clRs L hr g hf ?_
    refine hG.iret dX1_channelOf_90 rfl ?_ (by omega) (by omega) trivial
    exact ⟨(by rw [hv] <;> rfl), (by rw [hv] <;> rfl), rfl⟩
  · refine hG.iload_n dX1_channelOf_19 rfl ?_
    refine hG.tabIn (off := 71) (tgt := 91) dX1_channelOf_20 (by decide +kernel) (by decide +kernel) (by decide +kernel) rfl ?_
    refine hG.aload_n dX1_channelOf_91 rfl ?_
    refine hG.get dX1_channelOf_92 fg_X1_78_X1 (Or.inl hxM) rfl ?_
    refine hG.iload_n dX1_channelOf_95 rfl ?_
    refine hG.iconst (v := 0) dX1_channelOf_96 rfl ?_
    refine hG.callV dX1_channelOf_97 kv_X1_185 (Rcv.raw g.h cl_X2) (sp_X2_anchorsIn (hd := false) hΓ hZ g) rfl rfl (Nat.le_of_ble_eq_true rfl) (by decide) (by omega) (by omega) (fun r97 I97 L97 hI97 h97 => ?_) (fun _ _ _ _ _ h => h.elim)
    obtain ⟨rfl, rfl, rfl⟩ := h97
    refine hG.clRs L hr g hf ?_
    refine hG.iret dX1_channelOf_100 rfl ?_ (by omega) (by omega) trivial
    exact ⟨(by rw [hv] <;> rfl), (by rw [hv] <;> rfl), rfl⟩
  · refine hG.iload_n dX1_channelOf_19 rfl ?_
    refine hG.tabIn (off := 81) (tgt := 101) dX1_channelOf_20 (by decide +kernel) (by decide +kernel) (by decide +kernel) rfl ?_
    refine hG.aload_n dX1_channelOf_101 rfl ?_
    refine hG.get dX1_channelOf_102 fg_X1_78_X1 (Or.inl hxM) rfl ?_
    refine hG.iload_n dX1_channelOf_105 rfl ?_
    refine hG.iconst (v := 1) dX1_channelOf_106 rfl ?_
    refine hG.callV dX1_channelOf_107 kv_X1_185 (Rcv.raw g.h cl_X2) (sp_X2_anchorsIn (hd := true) hΓ hZ g) rfl rfl (Nat.le_of_ble_eq_true rfl) (by decide) (by omega) (by omega) (fun r107 I107 L107 hI107 h107 => ?_) (fun _ _ _ _ _ h => h.elim)
    obtain ⟨rfl, rfl, rfl⟩ := h107
    refine hG.clRs L hr g hf ?_
    refine hG.iret dX1_channelOf_110 rfl ?_ (by omega) (by omega) trivial
    exact ⟨(by rw [hv] <;> rfl), (by rw [hv] <;> rfl), rfl⟩
  · refine hG.iload_n dX1_channelOf_19 rfl ?_
    refine hG.tabOut (tgt := 111) dX1_channelOf_20 (by decide +kernel) rfl ?_
    refine hG.aload_n dX1_channelOf_111 rfl ?_
    refine hG.get dX1_channelOf_112 fg_X1_78_X1 (Or.inl hxM) rfl ?_
    refine hG.iload_n dX1_channelOf_115 rfl ?_
    refine hG.callV dX1_channelOf_116 kv_X1_189 (Rcv.raw g.h cl_X2) (sp_X2_leastDrag hΓ hZ g) rfl rfl (Nat.le_of_ble_eq_true rfl) (by decide) (by omega) (by omega) (fun r116 I116 L116 hI116 h116 => ?_) (fun _ _ _ _ _ h => h.elim)
    obtain ⟨rfl, rfl, rfl⟩ := h116
    refine hG.clRs L hr g hf ?_
    refine hG.iret dX1_channelOf_119 rfl ?_ (by omega) (by omega) trivial
    exact ⟨(by rw [hv] <;> rfl), (by rw [hv] <;> rfl), rfl⟩
theorem kv_X1_204 : LkV RX1 204 yX2_anchor 1 := ⟨q2500, q2208, q2209, q74, by decide +kernel, by decide +kernel, by decide +kernel⟩
theorem fg_X1_208_X8 : LkG RX1 208 ciX8 0 := ⟨RX8, TX8, 3, tyX8, _, cls_X8, by decide, Or.inl rfl, Or.inr ⟨_, q1731⟩⟩
theorem fg_X1_212_X8 : LkG RX1 212 ciX8 1 := ⟨RX8, TX8, 3, tyX8, _, cls_X8, by decide, Or.inl rfl, Or.inr ⟨_, q1734⟩⟩
theorem fg_X1_215_X8 : LkG RX1 215 ciX8 2 := ⟨RX8, TX8, 3, tyX8, _, cls_X8, by decide, Or.inl rfl, Or.inr ⟨_, q1737⟩⟩
theorem kv_X1_218 : LkV RX1 218 yX2_hold 1 := ⟨q2501, q1910, q1911, q74, by decide +kernel, by decide +kernel, by decide +kernel⟩
theorem kv_X1_222 : LkV RX1 222 yX2_pull 2 := ⟨q2502, q1906, q1907, q74, by decide +kernel, by decide +kernel, by decide +kernel⟩
theorem kv_X1_226 : LkV RX1 226 yX8_holds 0 := ⟨q2503, q1877, q1878, q118, by decide +kernel, by decide +kernel, by decide +kernel⟩
set_option maxHeartbeats 4000000 in
set_option maxRecDepth 100000 in
theorem sp_X1_anchorOf {l : Launch} {s0 : State} {D : va_G} {I : AI} {L : AL} {dE ca : Nat} {ad : Nat → Nat} (hΓ : Gam l s0 D) (hZ : Std s0 D dE ca ad) {x N : Nat} {F : Fy} {A : FA} (hF : FeO dE I L x F A) (hW : WfF N F) (hN : N ≤ 22) {n w : Int32} : Spc l s0 D yX1_anchorOf 12 [.ref x, .int n, .int w] I L 10 60 (pQ (ancF F.rv n w) L) (xQ RJ33 RJ14 (ancF F.rv n w) L) := by
  refine Spc.of hΓ cX1_anchorOf 4 (some FieldType.int) q2499 (by decide +kernel) (by decide) (Nat.le_of_ble_eq_true rfl) (fun G GX hG => ?_)
  obtain ⟨hx, hr, hpq, hpa, hip, hln, hsv, hnd⟩ := id hF
  refine hG.opR hr (fun B M g hf => ?_)
  have hxM := (hf x _ hx (ne_val hx hr (fun e => by cases e))).2
  refine hG.aload_n dX1_anchorOf_0 rfl ?_
  refine hG.get dX1_anchorOf_1 fg_X1_78_X1 (Or.inl hxM) rfl ?_
  refine hG.iload_n dX1_anchorOf_4 rfl ?_
  refine hG.callV dX1_anchorOf_5 kv_X1_204 (Rcv.raw g.h cl_X2) (sp_X2_anchor hΓ hZ g) rfl rfl (Nat.le_of_ble_eq_true rfl) (by decide) (by omega) (by omega) (fun r5 I5 L5 hI5 h5 => ?_) (fun E q I' L' hI hx9 => by obtain ⟨e1, e2, rfl⟩ := hx9; exact hG.clRXs L hr (g.mono hI (fun _ _ _ h => h)) hf (hG.out (by simp) ⟨rfl, Or.inl ⟨by rw [show ancF F.rv n w = (1, 0) from if_neg (bFT e2)], e1⟩⟩ (by omega) (by omega) trivial))
  obtain ⟨rfl, rfl, i, a0, y, rfl, hc, rfl, hy⟩ := h5
  have hil : i < F.rv.an.length := (List.getElem?_eq_some_iff.mp hc).1
  have h6 := hW.1.an6
  have hc6 := hW.1.ch6
  have hb1 := inR_idx (n := nI i) (by omega) hil rfl
  obtain ⟨j0, c0, ha0, hc0⟩ := hW.1.ok.2 a0 (List.mem_of_getElem? hc)
  have hj0 : j0 < F.rv.ch.length := (List.getElem?_eq_some_iff.mp hc0).1
  refine hG.astore_n dX1_anchorOf_8 (by decide) ?_
  refine hG.iload_n dX1_anchorOf_9 rfl ?_
  refine hG.iconst (v := 0) dX1_anchorOf_10 rfl ?_
  refine hG.iconst (v := 5) dX1_anchorOf_11 rfl ?_
  refine hG.callS dX1_anchorOf_12 ks_X1_64 (sp_X1_inRange hΓ) rfl rfl (Nat.le_of_ble_eq_true rfl) (by decide) (by omega) (by omega) (fun r12 I12 L12 hI12 h12 => ?_) (fun _ _ _ _ _ h => h.elim)
  obtain ⟨rfl, rfl, rfl⟩ := h12
  refine hG.callS dX1_anchorOf_15 ks_X1_68 (sp_X1_require hΓ) rfl rfl (Nat.le_of_ble_eq_true rfl) (by decide) (by omega) (by omega) (fun r15 I15 L15 hI15 h15 => ?_) (fun E q I' L' hI hx9 => by obtain ⟨e1, e2, rfl⟩ := hx9; exact hG.clRXs L hr (g.mono hI (fun _ _ _ h => h)) hf (hG.out (by simp) ⟨rfl, Or.inr ⟨by rw [show ancF F.rv (nI i) w = (2, 0) from (if_pos hb1).trans (if_neg (bFT e2))], e1⟩⟩ (by omega) (by omega) trivial))
  obtain ⟨rfl, hb2, rfl, rfl⟩ := h15
  obtain ⟨j, hj, rfl⟩ := idx_le (m := 5) (by decide) hb2
  have hv : ancF F.rv (nI i) (nI j) = (0, ancV F.rv a0 c0 j) := by
    unfold ancF
    rw [if_pos hb1, if_pos hb2, nI_clamp (by omega), hc]
    simp only []
    rw [ha0, nI_clamp (by omega), hc0, nI_clamp (by omega)]
  rcases (by omega : j = 0 ∨ j = 1 ∨ j = 2 ∨ j = 3 ∨ j = 4 ∨ j = 5) with rfl | rfl | rfl | rfl | rfl | rfl
  · refine hG.iload_n dX1_anchorOf_18 rfl ?_
    refine hG.tabIn (off := 33) (tgt := 52) dX1_anchorOf_19 (by decide +kernel) (by decide +kernel) (by decide +kernel) rfl ?_
    refine hG.aload_n dX1_anchorOf_52 rfl ?_
    refine hG.get dX1_anchorOf_53 fg_X1_208_X8 (Or.inr hy) rfl ?_
    refine hG.clRs L hr g hf ?_
    refine hG.iret dX1_anchorOf_56 rfl ?_ (by omega) (by omega) trivial
    exact ⟨(by rw [hv] <;> rfl), (by rw [hv] <;> rfl), rfl⟩
  · refine hG.iload_n dX1_anchorOf_18 rfl ?_
    refine hG.tabIn (off := 38) (tgt := 57) dX1_anchorOf_19 (by decide +kernel) (by decide +kernel) (by decide +kernel) rfl ?_
    refine hG.aload_n dX1_anchorOf_57 rfl ?_
    refine hG.get dX1_anchorOf_58 fg_X1_212_X8 (Or.inr hy) rfl ?_
    refine hG.clRs L hr g hf ?_
    refine hG.iret dX1_anchorOf_61 rfl ?_ (by omega) (by omega) trivial
    exact ⟨(by rw [hv] <;> rfl), (by rw [hv] <;> rfl), rfl⟩
  · refine hG.iload_n dX1_anchorOf_18 rfl ?_
    refine hG.tabIn (off := 43) (tgt := 62) dX1_anchorOf_19 (by decide +kernel) (by decide +kernel) (by decide +kernel) rfl ?_
    refine hG.aload_n dX1_anchorOf_62 rfl ?_
    refine hG.get dX1_anchorOf_63 fg_X1_215_X8 (Or.inr hy) rfl ?_
    refine hG.clRs L hr g hf ?_
    refine hG.iret dX1_anchorOf_66 rfl ?_ (by omega) (by omega) trivial
    exact ⟨(by rw [hv] <;> rfl), (by rw [hv] <;> rfl), rfl⟩
  · refine hG.iload_n dX1_anchorOf_18 rfl ?_
    refine hG.tabIn (off := 48) (tgt := 67) dX1_anchorOf_19 (by decide +kernel) (by decide +kernel) (by decide +kernel) rfl ?_
    refine hG.aload_n dX1_anchorOf_67 rfl ?_
    refine hG.get dX1_anchorOf_68 fg_X1_78_X1 (Or.inl hxM) rfl ?_
    refine hG.aload_n dX1_anchorOf_71 rfl ?_
    refine hG.callV dX1_anchorOf_72 kv_X1_218 (Rcv.raw g.h cl_X2) (sp_X2_hold hΓ hZ g hy ha0 hc0) rfl rfl (Nat.le_of_ble_eq_true rfl) (by decide) (by omega) (by omega) (fun r72 I72 L72 hI72 h72 => ?_) (fun _ _ _ _ _ h => h.elim)
    obtain ⟨rfl, rfl, rfl⟩ := h72
    refine hG.clRs L hr g hf ?_
    refine hG.iret dX1_anchorOf_75 rfl ?_ (by omega) (by omega) trivial
    exact ⟨(by rw [hv] <;> rfl), (by rw [hv] <;> rfl), rfl⟩
  · refine hG.iload_n dX1_anchorOf_18 rfl ?_
    refine hG.tabIn (off := 57) (tgt := 76) dX1_anchorOf_19 (by decide +kernel) (by decide +kernel) (by decide +kernel) rfl ?_
    refine hG.aload_n dX1_anchorOf_76 rfl ?_
    refine hG.get dX1_anchorOf_77 fg_X1_78_X1 (Or.inl hxM) rfl ?_
    refine hG.aload_n dX1_anchorOf_80 rfl ?_
    refine hG.aload_n dX1_anchorOf_81 rfl ?_
    refine hG.get dX1_anchorOf_82 fg_X1_78_X1 (Or.inl hxM) rfl ?_
    refine hG.get dX1_anchorOf_85 fg_X1_179_X2 (Or.inl g.h) rfl ?_
    refine hG.callV dX1_anchorOf_88 kv_X1_222 (Rcv.raw g.h cl_X2) (sp_X2_pull hΓ hZ g hy ha0 hc0) rfl rfl (Nat.le_of_ble_eq_true rfl) (by decide) (by omega) (by omega) (fun r88 I88 L88 hI88 h88 => ?_) (fun _ _ _ _ _ h => h.elim)
    obtain ⟨rfl, rfl⟩ := h88
    refine hG.clRs L hr (g.mono hI88 (fun _ _ _ h => h)) hf ?_
    refine hG.iret dX1_anchorOf_91 rfl ?_ (by omega) (by omega) trivial
    exact ⟨(by rw [hv] <;> rfl), (by rw [hv] <;> rfl), rfl⟩
  · refine hG.iload_n dX1_anchorOf_18 rfl ?_
    refine hG.tabOut (tgt := 92) dX1_anchorOf_19 (by decide +kernel) rfl ?_
    refine hG.aload_n dX1_anchorOf_92 rfl ?_
    refine hG.callV dX1_anchorOf_93 kv_X1_226 (Rcv.imm hy cl_X8) (sp_X8_holds hΓ (Or.inr hy)) rfl rfl (Nat.le_of_ble_eq_true rfl) (by decide) (by omega) (by omega) (fun r93 I93 L93 hI93 h93 => ?_) (fun _ _ _ _ _ h => h.elim)
    obtain ⟨rfl, rfl, rfl⟩ := h93
    refine hG.if_eq (tgt := 103) dX1_anchorOf_96 rfl (fun c_96 => ?_) (fun c_96 => ?_)
    · refine hG.iconst (v := 0) dX1_anchorOf_103 rfl ?_
      refine hG.clRs L hr g hf ?_
      refine hG.iret dX1_anchorOf_104 rfl ?_ (by omega) (by omega) trivial
      first
      | exact ⟨by rw [hv], by rw [hv]; show some (Value.int 0) = some (Value.int (b2i (decide (a0.2.2 < 50)))); rw [c_96], rfl⟩
      | (have c9 := b2i_1 c_96
         exact ⟨by rw [hv], by rw [hv]; show some (Value.int 1) = some (Value.int (b2i (decide (a0.2.2 < 50)))); rw [c9]; rfl, rfl⟩)
    · refine hG.iconst (v := 1) dX1_anchorOf_99 rfl ?_
      refine hG.goto (tgt := 104) dX1_anchorOf_100 rfl ?_
      refine hG.clRs L hr g hf ?_
      refine hG.iret dX1_anchorOf_104 rfl ?_ (by omega) (by omega) trivial
      first
      | exact ⟨by rw [hv], by rw [hv]; show some (Value.int 0) = some (Value.int (b2i (decide (a0.2.2 < 50)))); rw [c_96], rfl⟩
      | (have c9 := b2i_1 c_96
         exact ⟨by rw [hv], by rw [hv]; show some (Value.int 1) = some (Value.int (b2i (decide (a0.2.2 < 50)))); rw [c9]; rfl, rfl⟩)
/-- the drag told by steps of floods -/
def dagF (R : Rv) (n h : Int32) : Int32 × Int32 := if inR n 0 (nI R.an.length - 1) = true then (if inR h 0 199 = true then (match R.an[n.toNatClampNeg]? with
  | some a => (match R.ch[a.1.toNatClampNeg]? with
    | some c0 => (0, (dAg R c0 (R.hr + nI h.toNatClampNeg) h.toNatClampNeg R.hr a).2.2)
    | none => (1, 0))
  | none => (1, 0)) else (2, 0)) else (1, 0)
theorem kv_X1_229 : LkV RX1 229 yX2_dragIn 2 := ⟨q2511, q2512, q2513, q74, by decide +kernel, by decide +kernel, by decide +kernel⟩
set_option maxHeartbeats 4000000 in
set_option maxRecDepth 100000 in
theorem sp_X1_dragIn {l : Launch} {s0 : State} {D : va_G} {I : AI} {L : AL} {dE ca : Nat} {ad : Nat → Nat} (hΓ : Gam l s0 D) (hZ : Std s0 D dE ca ad) {x N : Nat} {F : Fy} {A : FA} (hF : FeO dE I L x F A) (hW : WfF N F) (hN : N ≤ 22) {n h : Int32} : Spc l s0 D yX1_dragIn 14 [.ref x, .int n, .int h] I L 1402 5010 (pQ (dragF F.rv n h) L) (xQ RJ33 RJ14 (dragF F.rv n h) L) := by
  refine Spc.of hΓ cX1_dragIn 4 (some FieldType.int) q2510 (by decide +kernel) (by decide) (Nat.le_of_ble_eq_true rfl) (fun G GX hG => ?_)
  obtain ⟨hx, hr, hpq, hpa, hip, hln, hsv, hnd⟩ := id hF
  refine hG.opR hr (fun B M g hf => ?_)
  have hxM := (hf x _ hx (ne_val hx hr (fun e => by cases e))).2
  refine hG.aload_n dX1_dragIn_0 rfl ?_
  refine hG.get dX1_dragIn_1 fg_X1_78_X1 (Or.inl hxM) rfl ?_
  refine hG.iload_n dX1_dragIn_4 rfl ?_
  refine hG.callV dX1_dragIn_5 kv_X1_204 (Rcv.raw g.h cl_X2) (sp_X2_anchor hΓ hZ g) rfl rfl (Nat.le_of_ble_eq_true rfl) (by decide) (by omega) (by omega) (fun r5 I5 L5 hI5 h5 => ?_) (fun E q I' L' hI hx9 => by obtain ⟨e1, e2, rfl⟩ := hx9; exact hG.clRXs L hr (g.mono hI (fun _ _ _ h => h)) hf (hG.out (by simp) ⟨rfl, Or.inl ⟨by rw [show dragF F.rv n h = (1, 0) from if_neg (bFT e2)], e1⟩⟩ (by omega) (by omega) trivial))
  obtain ⟨rfl, rfl, i, a0, y, rfl, hc, rfl, hy⟩ := h5
  have hil : i < F.rv.an.length := (List.getElem?_eq_some_iff.mp hc).1
  have h6 := hW.1.an6
  have hc6 := hW.1.ch6
  have hb1 := inR_idx (n := nI i) (by omega) hil rfl
  obtain ⟨j0, c0, ha0, hc0⟩ := hW.1.ok.2 a0 (List.mem_of_getElem? hc)
  have hj0 : j0 < F.rv.ch.length := (List.getElem?_eq_some_iff.mp hc0).1
  refine hG.astore_n dX1_dragIn_8 (by decide) ?_
  refine hG.iload_n dX1_dragIn_9 rfl ?_
  refine hG.iconst (v := 0) dX1_dragIn_10 rfl ?_
  refine hG.sipush (v := 199) dX1_dragIn_11 rfl ?_
  refine hG.callS dX1_dragIn_14 ks_X1_64 (sp_X1_inRange hΓ) rfl rfl (Nat.le_of_ble_eq_true rfl) (by decide) (by omega) (by omega) (fun r14 I14 L14 hI14 h14 => ?_) (fun _ _ _ _ _ h => h.elim)
  obtain ⟨rfl, rfl, rfl⟩ := h14
  refine hG.callS dX1_dragIn_17 ks_X1_68 (sp_X1_require hΓ) rfl rfl (Nat.le_of_ble_eq_true rfl) (by decide) (by omega) (by omega) (fun r17 I17 L17 hI17 h17 => ?_) (fun E q I' L' hI hx9 => by obtain ⟨e1, e2, rfl⟩ := hx9; exact hG.clRXs L hr (g.mono hI (fun _ _ _ h => h)) hf (hG.out (by simp) ⟨rfl, Or.inr ⟨by rw [show dragF F.rv (nI i) h = (2, 0) from (if_pos hb1).trans (if_neg (bFT e2))], e1⟩⟩ (by omega) (by omega) trivial))
  obtain ⟨rfl, hb2, rfl, rfl⟩ := h17
  obtain ⟨j, hj, rfl⟩ := idx_le (m := 199) (by decide) hb2
  have hv : dragF F.rv (nI i) (nI j) = (0, (dItr F.rv c0 a0 j).2.2) := by
    unfold dragF
    rw [if_pos hb1, if_pos hb2, nI_clamp (by omega), hc]
    simp only []
    rw [ha0, nI_clamp (by omega), hc0, nI_clamp (by omega)]
  refine hG.aload_n dX1_dragIn_20 rfl ?_
  refine hG.get dX1_dragIn_21 fg_X1_78_X1 (Or.inl hxM) rfl ?_
  refine hG.aload_n dX1_dragIn_24 rfl ?_
  refine hG.iload_n dX1_dragIn_25 rfl ?_
  refine hG.callV dX1_dragIn_26 kv_X1_229 (Rcv.raw g.h cl_X2) (sp_X2_dragIn hΓ hZ g hy ha0 hc0 hj) rfl rfl (Nat.le_of_ble_eq_true rfl) (by decide) (by omega) (by omega) (fun r26 I26 L26 hI26 h26 => ?_) (fun _ _ _ _ _ h => h.elim)
  obtain ⟨rfl, rfl⟩ := h26
  refine hG.clRs L hr (g.mono hI26 (fun _ _ _ h => h)) hf ?_
  refine hG.iret dX1_dragIn_29 rfl ?_ (by omega) (by omega) trivial
  exact ⟨(by rw [hv] <;> rfl), (by rw [hv] <;> rfl), rfl⟩
theorem kv_X1_232 : LkV RX1 232 yX2_dragAgain 2 := ⟨q2522, q2523, q2524, q74, by decide +kernel, by decide +kernel, by decide +kernel⟩
set_option maxHeartbeats 4000000 in
set_option maxRecDepth 100000 in
theorem sp_X1_dragAgain {l : Launch} {s0 : State} {D : va_G} {I : AI} {L : AL} {dE ca : Nat} {ad : Nat → Nat} (hΓ : Gam l s0 D) (hZ : Std s0 D dE ca ad) {x N : Nat} {F : Fy} {A : FA} (hF : FeO dE I L x F A) (hW : WfF N F) (hN : N ≤ 22) {n h : Int32} : Spc l s0 D yX1_dragAgain 14 [.ref x, .int n, .int h] I L 1402 5010 (pQ (dagF F.rv n h) L) (xQ RJ33 RJ14 (dagF F.rv n h) L) := by
  refine Spc.of hΓ cX1_dragAgain 4 (some FieldType.int) q2521 (by decide +kernel) (by decide) (Nat.le_of_ble_eq_true rfl) (fun G GX hG => ?_)
  obtain ⟨hx, hr, hpq, hpa, hip, hln, hsv, hnd⟩ := id hF
  refine hG.opR hr (fun B M g hf => ?_)
  have hxM := (hf x _ hx (ne_val hx hr (fun e => by cases e))).2
  refine hG.aload_n dX1_dragAgain_0 rfl ?_
  refine hG.get dX1_dragAgain_1 fg_X1_78_X1 (Or.inl hxM) rfl ?_
  refine hG.iload_n dX1_dragAgain_4 rfl ?_
  refine hG.callV dX1_dragAgain_5 kv_X1_204 (Rcv.raw g.h cl_X2) (sp_X2_anchor hΓ hZ g) rfl rfl (Nat.le_of_ble_eq_true rfl) (by decide) (by omega) (by omega) (fun r5 I5 L5 hI5 h5 => ?_) (fun E q I' L' hI hx9 => by obtain ⟨e1, e2, rfl⟩ := hx9; exact hG.clRXs L hr (g.mono hI (fun _ _ _ h => h)) hf (hG.out (by simp) ⟨rfl, Or.inl ⟨by rw [show dagF F.rv n h = (1, 0) from if_neg (bFT e2)], e1⟩⟩ (by omega) (by omega) trivial))
  obtain ⟨rfl, rfl, i, a0, y, rfl, hc, rfl, hy⟩ := h5
  have hil : i < F.rv.an.length := (List.getElem?_eq_some_iff.mp hc).1
  have h6 := hW.1.an6
  have hc6 := hW.1.ch6
  have hb1 := inR_idx (n := nI i) (by omega) hil rfl
  obtain ⟨j0, c0, ha0, hc0⟩ := hW.1.ok.2 a0 (List.mem_of_getElem? hc)
  have hj0 : j0 < F.rv.ch.length := (List.getElem?_eq_some_iff.mp hc0).1
  refine hG.astore_n dX1_dragAgain_8 (by decide) ?_
  refine hG.iload_n dX1_dragAgain_9 rfl ?_
  refine hG.iconst (v := 0) dX1_dragAgain_10 rfl ?_
  refine hG.sipush (v := 199) dX1_dragAgain_11 rfl ?_
  refine hG.callS dX1_dragAgain_14 ks_X1_64 (sp_X1_inRange hΓ) rfl rfl (Nat.le_of_ble_eq_true rfl) (by decide) (by omega) (by omega) (fun r14 I14 L14 hI14 h14 => ?_) (fun _ _ _ _ _ h => h.elim)
  obtain ⟨rfl, rfl, rfl⟩ := h14
  refine hG.callS dX1_dragAgain_17 ks_X1_68 (sp_X1_require hΓ) rfl rfl (Nat.le_of_ble_eq_true rfl) (by decide) (by omega) (by omega) (fun r17 I17 L17 hI17 h17 => ?_) (fun E q I' L' hI hx9 => by obtain ⟨e1, e2, rfl⟩ := hx9; exact hG.clRXs L hr (g.mono hI (fun _ _ _ h => h)) hf (hG.out (by simp) ⟨rfl, Or.inr ⟨by rw [show dagF F.rv (nI i) h = (2, 0) from (if_pos hb1).trans (if_neg (bFT e2))], e1⟩⟩ (by omega) (by omega) trivial))
  obtain ⟨rfl, hb2, rfl, rfl⟩ := h17
  obtain ⟨j, hj, rfl⟩ := idx_le (m := 199) (by decide) hb2
  have hv : dagF F.rv (nI i) (nI j) = (0, (dAg F.rv c0 (F.rv.hr + nI j) j F.rv.hr a0).2.2) := by
    unfold dagF
    rw [if_pos hb1, if_pos hb2, nI_clamp (by omega), hc]
    simp only []
    rw [ha0, nI_clamp (by omega), hc0, nI_clamp (by omega)]
  have hov : (F.rv.hr + nI j).toInt ≤ F.rv.hr.toInt + j := by
    have hh := hW.1.hr
    have h1 := i_le.mp hh.1
    have h2 := i_le.mp hh.2
    have l9 : (9999 : Int32).toInt = 9999 := rfl
    rw [tlt0] at h1
    rw [l9] at h2
    rw [t_add (by rw [nI_toInt (by omega)]; omega) (by rw [nI_toInt (by omega)]; omega), nI_toInt (by omega)]
    exact Int.le_refl _
  refine hG.aload_n dX1_dragAgain_20 rfl ?_
  refine hG.get dX1_dragAgain_21 fg_X1_78_X1 (Or.inl hxM) rfl ?_
  refine hG.aload_n dX1_dragAgain_24 rfl ?_
  refine hG.iload_n dX1_dragAgain_25 rfl ?_
  refine hG.callV dX1_dragAgain_26 kv_X1_232 (Rcv.raw g.h cl_X2) (sp_X2_dragAgain hΓ hZ g hy ha0 hc0 hj hov) rfl rfl (Nat.le_of_ble_eq_true rfl) (by decide) (by omega) (by omega) (fun r26 I26 L26 hI26 h26 => ?_) (fun _ _ _ _ _ h => h.elim)
  obtain ⟨rfl, rfl⟩ := h26
  refine hG.clRs L hr (g.mono hI26 (fun _ _ _ h => h)) hf ?_
  refine hG.iret dX1_dragAgain_29 rfl ?_ (by omega) (by omega) trivial
  exact ⟨(by rw [hv] <;> rfl), (by rw [hv] <;> rfl), rfl⟩
