/-! a crossing, the rope, boarding -/
abbrev stepV (w : Bool) : Int32 := match w with
  | true => 1
  | false => -1
abbrev crossR (R : Rv) (w : Bool) : Rv := ((liveR R).wSt ((liveR R).st + stepV w)).wCr ((liveR R).cr + 1)
abbrev crsO (R : Rv) (w : Bool) : Out := match chk R w with
  | some p => .inr (.inr p)
  | none => .inl ((liveR R).st + stepV w, crossR R w)
abbrev brdR (R : Rv) (c : Nat) (n : Int32) (w : Bool) : Rv := match w with
  | true => (R.wWa (tadd R.wa c (-n))).wAf (tadd R.af c n)
  | false => (R.wWa (tadd R.wa c (-n))).wFo (tadd R.fo c n)
def brdO (R : Rv) (c : Nat) (n : Int32) (w : Bool) : Out := if n ≤ tof R.wa c then (if ldR R + n * wgt c ≤ 60 then .inl (ldR R + n * wgt c, brdR R c n w) else .inr (.inr (7, ldR R + n * wgt c))) else .inr (.inr (8, tof R.wa c))
theorem RvO.sSC {dE : Nat} {I : AI} {S : AL} {r : Nat} {R : Rv} {A : RA} (h : RvO dE I S r R A) (st cr : Int32) : RvO dE I (up1 S r (some (obC ciX2 [.ref A.a0, .ref A.a1, .ref A.a2, .ref A.a3, .ref A.a4, .ref A.a5, .ref A.a6, .int R.hr, .int st, .int R.rp, .int R.ld, .int R.pd, .int cr]))) r ((R.wSt st).wCr cr) A := ⟨up1_s, (up1_n (h.x_r_a0.symm)).trans h.h0, (up1_n (h.x_r_a1.symm)).trans h.h1, (up1_n (h.x_r_a2.symm)).trans h.h2, (up1_n (h.x_r_a3.symm)).trans h.h3, (up1_n (h.x_r_a4.symm)).trans h.h4, (up1_n (h.x_r_a5.symm)).trans h.h5, (up1_n (h.x_r_a6.symm)).trans h.h6, h.g0, h.g1, h.g2, h.e0, h.e1, h.e2, h.n01, h.n02, h.n12, h.n34, h.n35, h.n45⟩
theorem crs_x {R : Rv} {w : Bool} {p : Int32 × Int32} (h : chk R w = some p) : crsO R w = .inr (.inr p) := by
  unfold crsO
  rw [h]
theorem crs_d {R : Rv} {w : Bool} (h : chk R w = none) : crsO R w = .inl ((liveR R).st + stepV w, ((liveR R).wSt ((liveR R).st + stepV w)).wCr ((liveR R).cr + 1)) := by
  unfold crsO
  rw [h]
theorem fp_X2_84_X2 {nm : String} : LkP RX2 nm 84 ciX2 8 (tyX2 8) := ⟨RX2, TX2, 13, tyX2, _, cls_X2, by decide, rfl, Or.inl rfl, Or.inl ⟨rfl, q269⟩⟩
theorem fg_X2_93_X2 : LkG RX2 93 ciX2 12 := ⟨RX2, TX2, 13, tyX2, _, cls_X2, by decide, Or.inl rfl, Or.inl q277⟩
theorem fp_X2_93_X2 {nm : String} : LkP RX2 nm 93 ciX2 12 (tyX2 12) := ⟨RX2, TX2, 13, tyX2, _, cls_X2, by decide, rfl, Or.inl rfl, Or.inl ⟨rfl, q277⟩⟩
theorem kv_X2_292 : LkV RX2 292 yX2_check 1 := ⟨q1868, q1869, q1870, q74, by decide +kernel, by decide +kernel, by decide +kernel⟩
set_option maxHeartbeats 4000000 in
set_option maxRecDepth 100000 in
theorem sp_X2_cross {l : Launch} {s0 : State} {D : va_G} {I : AI} {L : AL} {dE ca : Nat} {ad : Nat → Nat} {r : Nat} {R : Rv} {A : RA} (hΓ : Gam l s0 D) (hZ : Std s0 D dE ca ad) (h : RvO dE I L r R A) {w : Bool} (hok : AnOk R) (hl6 : R.an.length ≤ 6) : Spc l s0 D yX2_cross 13 [.ref r, .int (b2i w)] I L 60 260 (pO dE (crsO R w) r A L) (xO (crsO R w) L) := by
  refine Spc.of hΓ cX2_cross 2 (some FieldType.int) q1867 (by decide +kernel) (by decide) (Nat.le_of_ble_eq_true rfl) (fun G GX hG => ?_)
  rcases w with _ | _
  · have k9 : ∀ (R2 : Rv) (A2 : RA) (I2 : AI) (L2 : AL), RvO dE I2 L2 r R2 A2 → Far L (RN r A) (RN r A2) L2 → crsO R false = .inl (R2.st + stepV false, (R2.wSt (R2.st + stepV false)).wCr (R2.cr + 1)) → G 9 [(0, .ref r), (1, .int (b2i false))] [] I2 L2 60 260 := by
      intro R2 A2 I2 L2 h2 hF2 hfin
      refine hG.aload_n dX2_cross_9 rfl ?_
      refine hG.dup dX2_cross_10 rfl ?_
      refine hG.get dX2_cross_11 fg_X2_84_X2 (Or.inl h2.h) rfl ?_
      refine hG.iload_n dX2_cross_14 rfl ?_
      refine hG.if_eq (tgt := 22) dX2_cross_15 rfl (fun c_15 => ?_) (fun c_15 => absurd rfl c_15)
      refine hG.iconst (v := -1) dX2_cross_22 rfl ?_
      refine hG.iadd dX2_cross_23 ?_
      refine hG.put dX2_cross_24 fp_X2_84_X2 h2.h rfl rfl (Nat.le_of_ble_eq_true rfl) ?_
      refine hG.aload_n dX2_cross_27 rfl ?_
      refine hG.dup dX2_cross_28 rfl ?_
      refine hG.get dX2_cross_29 fg_X2_93_X2 (Or.inl up1_s) rfl ?_
      refine hG.iconst (v := 1) dX2_cross_32 rfl ?_
      refine hG.iadd dX2_cross_33 ?_
      refine hG.put dX2_cross_34 fp_X2_93_X2 up1_s rfl rfl (Nat.le_of_ble_eq_true rfl) ?_
      rw [up1_up1]
      simp only [rvF, List.set_cons_zero, List.set_cons_succ]
      refine hG.aload_n dX2_cross_37 rfl ?_
      refine hG.get dX2_cross_38 fg_X2_84_X2 (Or.inl up1_s) rfl ?_
      refine hG.iret dX2_cross_41 rfl ?_ (by omega) (by omega) trivial
      exact ⟨_, _, A2, hfin, rfl, h2.sSC (R2.st + stepV false) (R2.cr + 1), hF2.tr (h2.f_r _)⟩
    refine hG.aload_n dX2_cross_0 rfl ?_
    refine hG.iload_n dX2_cross_1 rfl ?_
    refine hG.callV dX2_cross_2 kv_X2_292 (Rcv.raw h.h cl_X2) (sp_X2_check (w := false) hΓ hZ h) rfl rfl (Nat.le_of_ble_eq_true rfl) (by decide) (by omega) (by omega) (fun r2 I2 L2 hI2 h2 => ?_) (fun E q I' L' hI ⟨p, e1, e2, e3, e4⟩ => hG.out (by simp) ⟨e3, Or.inr ⟨p, crs_x e1, e2, e4⟩⟩ (by omega) (by omega) trivial)
    obtain ⟨rfl, hck, rfl⟩ := h2
    refine hG.aload_n dX2_cross_5 rfl ?_
    refine hG.callV dX2_cross_6 kv_X2_187 (Rcv.raw h.h cl_X2) (sp_X2_live hΓ hZ (h.mono hI2 (fun _ _ _ hx => hx)) hok hl6) rfl rfl (Nat.le_of_ble_eq_true rfl) (by decide) (by omega) (by omega) (fun r6 I6 L6 hI6 h6 => ?_) (fun _ _ _ _ _ h => h.elim)
    obtain ⟨rfl, A2, h2, hF2⟩ := h6
    exact hG.wid (by omega) (by omega) (k9 (liveR R) A2 _ _ h2 hF2 (crs_d hck))
  · have k9 : ∀ (R2 : Rv) (A2 : RA) (I2 : AI) (L2 : AL), RvO dE I2 L2 r R2 A2 → Far L (RN r A) (RN r A2) L2 → crsO R true = .inl (R2.st + stepV true, (R2.wSt (R2.st + stepV true)).wCr (R2.cr + 1)) → G 9 [(0, .ref r), (1, .int (b2i true))] [] I2 L2 60 260 := by
      intro R2 A2 I2 L2 h2 hF2 hfin
      refine hG.aload_n dX2_cross_9 rfl ?_
      refine hG.dup dX2_cross_10 rfl ?_
      refine hG.get dX2_cross_11 fg_X2_84_X2 (Or.inl h2.h) rfl ?_
      refine hG.iload_n dX2_cross_14 rfl ?_
      refine hG.if_eq (tgt := 22) dX2_cross_15 rfl (fun c_15 => absurd c_15 (by decide)) (fun c_15 => ?_)
      refine hG.iconst (v := 1) dX2_cross_18 rfl ?_
      refine hG.goto (tgt := 23) dX2_cross_19 rfl ?_
      refine hG.iadd dX2_cross_23 ?_
      refine hG.put dX2_cross_24 fp_X2_84_X2 h2.h rfl rfl (Nat.le_of_ble_eq_true rfl) ?_
      refine hG.aload_n dX2_cross_27 rfl ?_
      refine hG.dup dX2_cross_28 rfl ?_
      refine hG.get dX2_cross_29 fg_X2_93_X2 (Or.inl up1_s) rfl ?_
      refine hG.iconst (v := 1) dX2_cross_32 rfl ?_
      refine hG.iadd dX2_cross_33 ?_
      refine hG.put dX2_cross_34 fp_X2_93_X2 up1_s rfl rfl (Nat.le_of_ble_eq_true rfl) ?_
      rw [up1_up1]
      simp only [rvF, List.set_cons_zero, List.set_cons_succ]
      refine hG.aload_n dX2_cross_37 rfl ?_
      refine hG.get dX2_cross_38 fg_X2_84_X2 (Or.inl up1_s) rfl ?_
      refine hG.iret dX2_cross_41 rfl ?_ (by omega) (by omega) trivial
      exact ⟨_, _, A2, hfin, rfl, h2.sSC (R2.st + stepV true) (R2.cr + 1), hF2.tr (h2.f_r _)⟩
    refine hG.aload_n dX2_cross_0 rfl ?_
    refine hG.iload_n dX2_cross_1 rfl ?_
    refine hG.callV dX2_cross_2 kv_X2_292 (Rcv.raw h.h cl_X2) (sp_X2_check (w := true) hΓ hZ h) rfl rfl (Nat.le_of_ble_eq_true rfl) (by decide) (by omega) (by omega) (fun r2 I2 L2 hI2 h2 => ?_) (fun E q I' L' hI ⟨p, e1, e2, e3, e4⟩ => hG.out (by simp) ⟨e3, Or.inr ⟨p, crs_x e1, e2, e4⟩⟩ (by omega) (by omega) trivial)
    obtain ⟨rfl, hck, rfl⟩ := h2
    refine hG.aload_n dX2_cross_5 rfl ?_
    refine hG.callV dX2_cross_6 kv_X2_187 (Rcv.raw h.h cl_X2) (sp_X2_live hΓ hZ (h.mono hI2 (fun _ _ _ hx => hx)) hok hl6) rfl rfl (Nat.le_of_ble_eq_true rfl) (by decide) (by omega) (by omega) (fun r6 I6 L6 hI6 h6 => ?_) (fun _ _ _ _ _ h => h.elim)
    obtain ⟨rfl, A2, h2, hF2⟩ := h6
    exact hG.wid (by omega) (by omega) (k9 (liveR R) A2 _ _ h2 hF2 (crs_d hck))
set_option maxHeartbeats 4000000 in
set_option maxRecDepth 100000 in
theorem sp_X3_move {l : Launch} {s0 : State} {D : va_G} {I : AI} {L : AL} {dE ca : Nat} {ad : Nat → Nat} (hΓ : Gam l s0 D) (hZ : Std s0 D dE ca ad) {a b c key : Nat} {t u : Tal} {n : Int32} (h0 : L a = some (taC t)) (h1 : L b = some (taC u)) (hab : a ≠ b) (hc : c < 147) (hkey : I key (ob ciX9 (grp c))) (hl : t.length ≤ 23) (hl2 : u.length ≤ 23) (hm : tof t c + -n = 0 → ∃ v, (c, v) ∈ t) (hm2 : tof u c + n = 0 → ∃ v, (c, v) ∈ u) : Spc l s0 D yX3_move 9 [.ref a, .ref key, .int n, .ref b] I L 6 78 (fun q I' L' => q = none ∧ L' = up1 (up1 L a (some (taC (tadd t c (-n))))) b (some (taC (tadd u c n)))) noX := by
  refine Spc.of hΓ cX3_move 4 none q1841 (by decide +kernel) (by decide) (Nat.le_of_ble_eq_true rfl) (fun G GX hG => ?_)
  refine hG.aload_n dX3_move_0 rfl ?_
  refine hG.aload_n dX3_move_1 rfl ?_
  refine hG.iload_n dX3_move_2 rfl ?_
  refine hG.ineg dX3_move_3 ?_
  refine hG.callV dX3_move_4 kv_X3_71 (Rcv.ta h0) (sp_X3_add hΓ hZ h0 hc hkey hl hm) rfl rfl (Nat.le_of_ble_eq_true rfl) (by decide) (by omega) (by omega) (fun r4 I4 L4 hI4 h4 => ?_) (fun _ _ _ _ _ h => h.elim)
  obtain ⟨rfl, rfl⟩ := h4
  have h1b : up1 L a (some (taC (tadd t c (-n)))) b = some (taC u) := (up1_n hab.symm).trans h1
  refine hG.aload_n dX3_move_7 rfl ?_
  refine hG.aload_n dX3_move_8 rfl ?_
  refine hG.iload_n dX3_move_9 rfl ?_
  refine hG.callV dX3_move_10 kv_X3_71 (Rcv.ta h1b) (sp_X3_add hΓ hZ h1b hc (hI4 _ _ hkey) hl2 hm2) rfl rfl (Nat.le_of_ble_eq_true rfl) (by decide) (by omega) (by omega) (fun r10 I10 L10 hI10 h10 => ?_) (fun _ _ _ _ _ h => h.elim)
  obtain ⟨rfl, rfl⟩ := h10
  refine hG.vret dX3_move_13 rfl ?_ (by omega) (by omega) trivial
  exact ⟨rfl, rfl⟩
theorem kv_X2_270 : LkV RX2 270 yX3_move 3 := ⟨q1838, q1839, q1840, q78, by decide +kernel, by decide +kernel, by decide +kernel⟩
set_option maxHeartbeats 4000000 in
set_option maxRecDepth 100000 in
theorem sp_X2_board {l : Launch} {s0 : State} {D : va_G} {I : AI} {L : AL} {dE ca : Nat} {ad : Nat → Nat} {r : Nat} {R : Rv} {A : RA} (hΓ : Gam l s0 D) (hZ : Std s0 D dE ca ad) (h : RvO dE I L r R A) {x c : Nat} {n : Int32} {w : Bool} (hx : I x (ob ciX9 (grp c))) (hc : c < 147) (hl : R.wa.length ≤ 23) (hlf : R.fo.length ≤ 23) (hla : R.af.length ≤ 23) (hmw : n ≤ tof R.wa c → tof R.wa c + -n = 0 → ∃ v, (c, v) ∈ R.wa) (hmf : tof R.fo c + n = 0 → ∃ v, (c, v) ∈ R.fo) (hma : tof R.af c + n = 0 → ∃ v, (c, v) ∈ R.af) : Spc l s0 D yX2_board 10 [.ref r, .ref x, .int n, .int (b2i w)] I L 14 130 (pO dE (brdO R c n w) r A L) (xO (brdO R c n w) L) := by
  refine Spc.of hΓ cX2_board 6 (some FieldType.int) q1782 (by decide +kernel) (by decide) (Nat.le_of_ble_eq_true rfl) (fun G GX hG => ?_)
  rcases w with _ | _
  · refine hG.aload_n dX2_board_0 rfl ?_
    refine hG.get dX2_board_1 fg_X2_27_X2 (Or.inl h.h) rfl ?_
    refine hG.aload_n dX2_board_4 rfl ?_
    refine hG.callV dX2_board_5 kv_X2_265 (Rcv.ta h.h3) (sp_X3_of hΓ hZ h.h3 hc hx) rfl rfl (Nat.le_of_ble_eq_true rfl) (by decide) (by omega) (by omega) (fun r5 I5 L5 hI5 h5 => ?_) (fun _ _ _ _ _ h => h.elim)
    obtain ⟨rfl, rfl, rfl⟩ := h5
    refine hG.istore dX2_board_8 (by decide) ?_
    refine hG.iload dX2_board_10 rfl ?_
    refine hG.iload_n dX2_board_12 rfl ?_
    refine hG.dia1 (p := 13) (fun kt kf => hG.icmp_lt (tgt := 20) dX2_board_13 rfl kt kf) dX2_board_16 dX2_board_17 rfl dX2_board_20 ?_
    refine hG.bipush (v := 8) dX2_board_21 rfl ?_
    refine hG.iload dX2_board_23 rfl ?_
    refine hG.callNS dX2_board_25 ks_X2_176 (sp_X1_allow hΓ) rfl rfl (Nat.le_of_ble_eq_true rfl) (by decide) (by omega) (by omega) (fun r25 I25 L25 hI25 h25 => ?_) (fun E q I' L' hI ⟨e1, e2, e3, e4⟩ => hG.out (by simp) ⟨e3, Or.inr ⟨_, if_neg (lt_not.mp (ndecF.mp e2)), e1, e4⟩⟩ (by omega) (by omega) trivial)
    obtain ⟨rfl, hb, rfl, rfl⟩ := h25
    have hb2 : n ≤ tof R.wa c := Int32.not_lt.mp (ndec.mp hb)
    have ho : brdO R c n false = _ := if_pos hb2
    refine hG.aload_n dX2_board_28 rfl ?_
    refine hG.callV dX2_board_29 kv_X2_139 (Rcv.raw h.h cl_X2) (sp_X2_load hΓ hZ h) rfl rfl (Nat.le_of_ble_eq_true rfl) (by decide) (by omega) (by omega) (fun r29 I29 L29 hI29 h29 => ?_) (fun _ _ _ _ _ h => h.elim)
    obtain ⟨rfl, rfl⟩ := h29
    have hx2 := hI29 _ _ hx
    refine hG.iload_n dX2_board_32 rfl ?_
    refine hG.aload_n dX2_board_33 rfl ?_
    refine hG.callUD dX2_board_34 rfl hZ.wt (Rcv.imm hx2 cl_X9) (sp_X10_weight hΓ (Or.inr hx2)) rfl (Nat.le_of_ble_eq_true rfl) (by decide) (by omega) (by omega) (fun r34 I34 L34 hI34 h34 => ?_) (fun _ _ _ _ _ h => h.elim)
    obtain ⟨rfl, rfl, rfl⟩ := h34
    refine hG.imul dX2_board_37 ?_
    refine hG.iadd dX2_board_38 ?_
    refine hG.istore dX2_board_39 (by decide) ?_
    refine hG.iload dX2_board_41 rfl ?_
    refine hG.bipush (v := 60) dX2_board_43 rfl ?_
    refine hG.dia1 (p := 45) (fun kt kf => hG.icmp_gt (tgt := 52) dX2_board_45 rfl kt kf) dX2_board_48 dX2_board_49 rfl dX2_board_52 ?_
    refine hG.bipush (v := 7) dX2_board_53 rfl ?_
    refine hG.iload dX2_board_55 rfl ?_
    refine hG.callNS dX2_board_57 ks_X2_176 (sp_X1_allow hΓ) rfl rfl (Nat.le_of_ble_eq_true rfl) (by decide) (by omega) (by omega) (fun r57 I57 L57 hI57 h57 => ?_) (fun E q I' L' hI ⟨e1, e2, e3, e4⟩ => hG.out (by simp) ⟨e3, Or.inr ⟨_, ho.trans (if_neg (lt_not.mp (ndecF.mp e2))), e1, e4⟩⟩ (by omega) (by omega) trivial)
    obtain ⟨rfl, hb3, rfl, rfl⟩ := h57
    have hb4 : ldR R + n * wgt c ≤ 60 := Decidable.not_not.mp (fun q => ndec.mp hb3 (lt_not.mpr q))
    rw [if_pos hb4] at ho
    have hm := h.mono hI29 (fun _ _ _ hx => hx)
    refine hG.aload_n dX2_board_60 rfl ?_
    refine hG.get dX2_board_61 fg_X2_27_X2 (Or.inl hm.h) rfl ?_
    refine hG.aload_n dX2_board_64 rfl ?_
    refine hG.iload_n dX2_board_65 rfl ?_
    refine hG.iload_n dX2_board_66 rfl ?_
    refine hG.if_eq (tgt := 77) dX2_board_67 rfl (fun c_67 => ?_) (fun c_67 => absurd rfl c_67)
    refine hG.aload_n dX2_board_77 rfl ?_
    refine hG.get dX2_board_78 fg_X2_31_X2 (Or.inl hm.h) rfl ?_
    refine hG.callV dX2_board_81 kv_X2_270 (Rcv.ta hm.h3) (sp_X3_move hΓ hZ hm.h3 hm.h4 hm.n34 hc hx2 hl hlf (hmw hb2) hmf) rfl rfl (Nat.le_of_ble_eq_true rfl) (by decide) (by omega) (by omega) (fun r81 I81 L81 hI81 h81 => ?_) (fun _ _ _ _ _ h => h.elim)
    obtain ⟨rfl, rfl⟩ := h81
    have h2 := (hm.mono hI81 (fun _ _ _ hx => hx)).sWa (tadd R.wa c (-n))
    have h3 := h2.sFo (tadd R.fo c n)
    refine hG.iload dX2_board_84 rfl ?_
    refine hG.iret dX2_board_86 rfl ?_ (by omega) (by omega) trivial
    exact ⟨_, _, A, ho, rfl, h3, (h.f_a3 _).tr (h2.f_a4 _)⟩
  · refine hG.aload_n dX2_board_0 rfl ?_
    refine hG.get dX2_board_1 fg_X2_27_X2 (Or.inl h.h) rfl ?_
    refine hG.aload_n dX2_board_4 rfl ?_
    refine hG.callV dX2_board_5 kv_X2_265 (Rcv.ta h.h3) (sp_X3_of hΓ hZ h.h3 hc hx) rfl rfl (Nat.le_of_ble_eq_true rfl) (by decide) (by omega) (by omega) (fun r5 I5 L5 hI5 h5 => ?_) (fun _ _ _ _ _ h => h.elim)
    obtain ⟨rfl, rfl, rfl⟩ := h5
    refine hG.istore dX2_board_8 (by decide) ?_
    refine hG.iload dX2_board_10 rfl ?_
    refine hG.iload_n dX2_board_12 rfl ?_
    refine hG.dia1 (p := 13) (fun kt kf => hG.icmp_lt (tgt := 20) dX2_board_13 rfl kt kf) dX2_board_16 dX2_board_17 rfl dX2_board_20 ?_
    refine hG.bipush (v := 8) dX2_board_21 rfl ?_
    refine hG.iload dX2_board_23 rfl ?_
    refine hG.callNS dX2_board_25 ks_X2_176 (sp_X1_allow hΓ) rfl rfl (Nat.le_of_ble_eq_true rfl) (by decide) (by omega) (by omega) (fun r25 I25 L25 hI25 h25 => ?_) (fun E q I' L' hI ⟨e1, e2, e3, e4⟩ => hG.out (by simp) ⟨e3, Or.inr ⟨_, if_neg (lt_not.mp (ndecF.mp e2)), e1, e4⟩⟩ (by omega) (by omega) trivial)
    obtain ⟨rfl, hb, rfl, rfl⟩ := h25
    have hb2 : n ≤ tof R.wa c := Int32.not_lt.mp (ndec.mp hb)
    have ho : brdO R c n true = _ := if_pos hb2
    refine hG.aload_n dX2_board_28 rfl ?_
    refine hG.callV dX2_board_29 kv_X2_139 (Rcv.raw h.h cl_X2) (sp_X2_load hΓ hZ h) rfl rfl (Nat.le_of_ble_eq_true rfl) (by decide) (by omega) (by omega) (fun r29 I29 L29 hI29 h29 => ?_) (fun _ _ _ _ _ h => h.elim)
    obtain ⟨rfl, rfl⟩ := h29
    have hx2 := hI29 _ _ hx
    refine hG.iload_n dX2_board_32 rfl ?_
    refine hG.aload_n dX2_board_33 rfl ?_
    refine hG.callUD dX2_board_34 rfl hZ.wt (Rcv.imm hx2 cl_X9) (sp_X10_weight hΓ (Or.inr hx2)) rfl (Nat.le_of_ble_eq_true rfl) (by decide) (by omega) (by omega) (fun r34 I34 L34 hI34 h34 => ?_) (fun _ _ _ _ _ h => h.elim)
    obtain ⟨rfl, rfl, rfl⟩ := h34
    refine hG.imul dX2_board_37 ?_
    refine hG.iadd dX2_board_38 ?_
    refine hG.istore dX2_board_39 (by decide) ?_
    refine hG.iload dX2_board_41 rfl ?_
    refine hG.bipush (v := 60) dX2_board_43 rfl ?_
    refine hG.dia1 (p := 45) (fun kt kf => hG.icmp_gt (tgt := 52) dX2_board_45 rfl kt kf) dX2_board_48 dX2_board_49 rfl dX2_board_52 ?_
    refine hG.bipush (v := 7) dX2_board_53 rfl ?_
    refine hG.iload dX2_board_55 rfl ?_
    refine hG.callNS dX2_board_57 ks_X2_176 (sp_X1_allow hΓ) rfl rfl (Nat.le_of_ble_eq_true rfl) (by decide) (by omega) (by omega) (fun r57 I57 L57 hI57 h57 => ?_) (fun E q I' L' hI ⟨e1, e2, e3, e4⟩ => hG.out (by simp) ⟨e3, Or.inr ⟨_, ho.trans (if_neg (lt_not.mp (ndecF.mp e2))), e1, e4⟩⟩ (by omega) (by omega) trivial)
    obtain ⟨rfl, hb3, rfl, rfl⟩ := h57
    have hb4 : ldR R + n * wgt c ≤ 60 := Decidable.not_not.mp (fun q => ndec.mp hb3 (lt_not.mpr q))
    rw [if_pos hb4] at ho
    have hm := h.mono hI29 (fun _ _ _ hx => hx)
    refine hG.aload_n dX2_board_60 rfl ?_
    refine hG.get dX2_board_61 fg_X2_27_X2 (Or.inl hm.h) rfl ?_
    refine hG.aload_n dX2_board_64 rfl ?_
    refine hG.iload_n dX2_board_65 rfl ?_
    refine hG.iload_n dX2_board_66 rfl ?_
    refine hG.if_eq (tgt := 77) dX2_board_67 rfl (fun c_67 => absurd c_67 (by decide)) (fun c_67 => ?_)
    refine hG.aload_n dX2_board_70 rfl ?_
    refine hG.get dX2_board_71 fg_X2_34_X2 (Or.inl hm.h) rfl ?_
    refine hG.goto (tgt := 81) dX2_board_74 rfl ?_
    refine hG.callV dX2_board_81 kv_X2_270 (Rcv.ta hm.h3) (sp_X3_move hΓ hZ hm.h3 hm.h5 hm.n35 hc hx2 hl hla (hmw hb2) hma) rfl rfl (Nat.le_of_ble_eq_true rfl) (by decide) (by omega) (by omega) (fun r81 I81 L81 hI81 h81 => ?_) (fun _ _ _ _ _ h => h.elim)
    obtain ⟨rfl, rfl⟩ := h81
    have h2 := (hm.mono hI81 (fun _ _ _ hx => hx)).sWa (tadd R.wa c (-n))
    have h3 := h2.sAf (tadd R.af c n)
    refine hG.iload dX2_board_84 rfl ?_
    refine hG.iret dX2_board_86 rfl ?_ (by omega) (by omega) trivial
    exact ⟨_, _, A, ho, rfl, h3, (h.f_a3 _).tr (h2.f_a5 _)⟩
