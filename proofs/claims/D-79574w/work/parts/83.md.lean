/-! a crossing of the model; its calls -/
theorem chk2_hr {R : Rv} {c0 : T3} {c : Int32} (h : chk2 R c0 c = none) : R.hr + 1 ≤ 9999 := by
  unfold chk2 at h
  by_cases e1 : leastD R.an c = -1
  · rw [if_pos e1] at h; cases h
  · rw [if_neg e1] at h
    by_cases e2 : ¬ lackV R c0 c ≤ 0
    · rw [if_pos e2] at h; cases h
    · rw [if_neg e2] at h
      by_cases e3 : ¬ trimV R ≤ 10
      · rw [if_pos e3] at h; cases h
      · rw [if_neg e3] at h
        by_cases e4 : ¬ flowV R c0 R.hr ≤ 12
        · rw [if_pos e4] at h; cases h
        · rw [if_neg e4] at h
          by_cases e5 : ¬ R.hr + 1 ≤ 9999
          · rw [if_pos e5] at h; cases h
          · exact Decidable.not_not.mp e5
theorem chk2_pos {R : Rv} {c0 : T3} {c : Int32} {p : Int32 × Int32} (h : chk2 R c0 c = some p) : 0 < p.1 := by
  unfold chk2 at h
  by_cases e1 : leastD R.an c = -1
  · rw [if_pos e1] at h; cases h; exact (by decide : (0 : Int32) < 4)
  · rw [if_neg e1] at h
    by_cases e2 : ¬ lackV R c0 c ≤ 0
    · rw [if_pos e2] at h; cases h; exact (by decide : (0 : Int32) < 5)
    · rw [if_neg e2] at h
      by_cases e3 : ¬ trimV R ≤ 10
      · rw [if_pos e3] at h; cases h; exact (by decide : (0 : Int32) < 6)
      · rw [if_neg e3] at h
        by_cases e4 : ¬ flowV R c0 R.hr ≤ 12
        · rw [if_pos e4] at h; cases h; exact (by decide : (0 : Int32) < 9)
        · rw [if_neg e4] at h
          by_cases e5 : ¬ R.hr + 1 ≤ 9999
          · rw [if_pos e5] at h; cases h; exact (by decide : (0 : Int32) < 10)
          · rw [if_neg e5] at h; cases h
/-- where the ferry may cross -/
theorem chk_none {R : Rv} {w : Bool} (hl : R.ch.length < 2 ^ 31) (h : chk R w = none) : R.hr + 1 ≤ 9999 ∧ ∃ i, i < R.ch.length ∧ cst R w = nI i := by
  by_cases e : inR (cst R w) 0 (nI R.ch.length - 1) = true
  · obtain ⟨i, hi, e2⟩ := idx_of hl e
    obtain ⟨c0, hc, -⟩ := get_lt hi
    rw [chk_in e e2 (by omega) hc] at h
    exact ⟨chk2_hr h, i, hi, e2⟩
  · rw [chk_0 (Bool.eq_false_iff.mpr e)] at h; cases h
theorem chk_pos {R : Rv} {w : Bool} {p : Int32 × Int32} (hl : R.ch.length < 2 ^ 31) (h : chk R w = some p) : 0 < p.1 := by
  by_cases e : inR (cst R w) 0 (nI R.ch.length - 1) = true
  · obtain ⟨i, hi, e2⟩ := idx_of hl e
    obtain ⟨c0, hc, -⟩ := get_lt hi
    rw [chk_in e e2 (by omega) hc] at h
    exact chk2_pos h
  · rw [chk_0 (Bool.eq_false_iff.mpr e)] at h; cases h; exact (by decide : (0 : Int32) < 3)
theorem Rep.crs {N M : Nat} {R : Rv} {n : Nat → Int32} (h : Rep N R n) (hw : Wf M R) {x y : Int32} : Rep N ((R.wSt x).wCr y) (va_up (va_up n 4 x) 8 y) := h.lo hw ⟨rfl, rfl, rfl, rfl, rfl, rfl⟩ (agr.up (agr.up agr.rf (by omega)) (by omega)) ⟨(va_ne (by omega)).trans ((va_ne (by omega)).trans h.k3), (va_ne (by omega)).trans (va_eq rfl), (va_ne (by omega)).trans ((va_ne (by omega)).trans h.k5), (va_ne (by omega)).trans ((va_ne (by omega)).trans h.k6), (va_ne (by omega)).trans ((va_ne (by omega)).trans h.k7), va_eq rfl⟩ ((va_ne (by omega)).trans (va_ne (by omega))) ⟨(va_ne (by omega)).trans ((va_ne (by omega)).trans h.2.2.1.1), (va_ne (by omega)).trans ((va_ne (by omega)).trans h.2.2.1.2.1), (va_ne (by omega)).trans ((va_ne (by omega)).trans h.2.2.1.2.2)⟩ (agr.up (agr.up agr.rf (by omega)) (by omega))
theorem kv_X4_207 : LkV RX4 207 yX4_bars 1 := ⟨q3556, q3558, qs62, q87, by decide +kernel, by decide +kernel, by decide +kernel⟩
set_option maxHeartbeats 4000000 in
set_option maxRecDepth 100000 in
theorem sp_X4_crosses {l : Launch} {s0 : State} {D : va_G} {I : AI} {L : AL} {m : Nat} {A : MA} {V : MV} {N : Nat} {R : Rv} (hΓ : Gam l s0 D) (hA : MOk m A) (hR : Rep N R V.nw) (hw : Wf N R) {w : Bool} : Spc l s0 D yX4_crosses 7 [.ref m, .int (b2i w)] I (mdL L m A V) 0 0 (pIs N I L m A V (fun b => match b with | true => -2 | false => -1) (crsO R w)) noX := by
  refine Spc.of hΓ cX4_crosses 4 (some FieldType.int) q3555 (by decide +kernel) (by decide) (Nat.le_of_ble_eq_true rfl) (fun G GX hG => ?_)
  have hl6 := hw.ch6
  rcases w with _ | _
  · cases hck : chk R false with
    | some p =>
      have hps := chk_pos (by omega) hck
      refine hG.aload_n dX4_crosses_0 rfl ?_
      refine hG.iload_n dX4_crosses_1 rfl ?_
      refine hG.callV dX4_crosses_2 kv_X4_207 (Rcv.raw mdL_m cl_X4) (sp_X4_bars (w := false) hΓ hA hR hw) rfl rfl (Nat.le_of_ble_eq_true rfl) (by decide) (by omega) (by omega) (fun r2 I2 L2 hI2 h2 => ?_) (fun _ _ _ _ _ h => h.elim)
      rw [hck] at h2
      obtain ⟨rfl, _, rfl, rfl, rfl⟩ := h2
      refine hG.istore_n dX4_crosses_5 (by decide) ?_
      refine hG.iload_n dX4_crosses_6 rfl ?_
      refine hG.if_le (tgt := 20) dX4_crosses_7 rfl (fun c_7 => absurd c_7 (Int32.not_le.mpr hps)) (fun c_7 => ?_)
      refine hG.aload_n dX4_crosses_10 rfl ?_
      refine hG.iload_n dX4_crosses_11 rfl ?_
      refine hG.aload_n dX4_crosses_12 rfl ?_
      refine hG.get dX4_crosses_13 fg_X4_64_X4 (Or.inl mdL_m) rfl ?_
      refine hG.callV dX4_crosses_16 kv_X4_87 (Rcv.raw mdL_m cl_X4) (sp_X4_why hΓ) rfl rfl (Nat.le_of_ble_eq_true rfl) (by decide) (by omega) (by omega) (fun r16 I16 L16 hI16 h16 => ?_) (fun _ _ _ _ _ h => h.elim)
      obtain ⟨rfl, rfl, rfl⟩ := h16
      refine hG.iret dX4_crosses_19 rfl ?_ (by omega) (by omega) trivial
      exact pIs.r (a := p.2) (crs_x hck) hps
    | none =>
      obtain ⟨hh, i, hi, hci⟩ := chk_none (by omega) hck
      have hwl := hw.live hh
      refine hG.aload_n dX4_crosses_0 rfl ?_
      refine hG.iload_n dX4_crosses_1 rfl ?_
      refine hG.callV dX4_crosses_2 kv_X4_207 (Rcv.raw mdL_m cl_X4) (sp_X4_bars (w := false) hΓ hA hR hw) rfl rfl (Nat.le_of_ble_eq_true rfl) (by decide) (by omega) (by omega) (fun r2 I2 L2 hI2 h2 => ?_) (fun _ _ _ _ _ h => h.elim)
      rw [hck] at h2
      obtain ⟨rfl, _, rfl, rfl, rfl⟩ := h2
      refine hG.istore_n dX4_crosses_5 (by decide) ?_
      refine hG.iload_n dX4_crosses_6 rfl ?_
      refine hG.if_le (tgt := 20) dX4_crosses_7 rfl (fun c_7 => ?_) (fun c_7 => absurd (by decide) c_7)
      refine hG.aload_n dX4_crosses_20 rfl ?_
      refine hG.callV dX4_crosses_21 kv_X4_211 (Rcv.raw mdL_m cl_X4) (sp_X4_hour hΓ hA (V := V.wAn 0) (show Rep N R (V.wAn 0).nw from hR) hw) rfl rfl (Nat.le_of_ble_eq_true rfl) (by decide) (by omega) (by omega) (fun r21 I21 L21 hI21 h21 => ?_) (fun _ _ _ _ _ h => h.elim)
      obtain ⟨rfl, n, rfl, hn, rfl⟩ := h21
      refine hG.istore_n dX4_crosses_24 (by decide) ?_
      refine hG.aload_n dX4_crosses_25 rfl ?_
      refine hG.get dX4_crosses_26 fg_X4_21_X4 (Or.inl mdL_m) rfl ?_
      refine hG.iconst (v := 4) dX4_crosses_29 rfl ?_
      refine hG.dup2 dX4_crosses_30 rfl rfl ?_
      refine hG.nld hA (4) (v := (liveR R).st) dX4_crosses_31 rfl (by decide) hn.k4 ?_
      refine hG.iload_n dX4_crosses_32 rfl ?_
      refine hG.if_eq (tgt := 40) dX4_crosses_33 rfl (fun c_33 => ?_) (fun c_33 => absurd rfl c_33)
      refine hG.iconst (v := -1) dX4_crosses_40 rfl ?_
      refine hG.iadd dX4_crosses_41 ?_
      refine hG.nst hA (4) dX4_crosses_42 rfl (by decide) ?_
      refine hG.aload_n dX4_crosses_43 rfl ?_
      refine hG.get dX4_crosses_44 fg_X4_21_X4 (Or.inl mdL_m) rfl ?_
      refine hG.bipush (v := 8) dX4_crosses_47 rfl ?_
      refine hG.dup2 dX4_crosses_49 rfl rfl ?_
      refine hG.nld hA (8) (v := (liveR R).cr) dX4_crosses_50 rfl (by decide) (by
        rw [nw_w, va_ne]
        · exact hn.k8
        all_goals omega) ?_
      refine hG.iconst (v := 1) dX4_crosses_51 rfl ?_
      refine hG.iadd dX4_crosses_52 ?_
      refine hG.nst hA (8) dX4_crosses_53 rfl (by decide) ?_
      refine hG.aload_n dX4_crosses_54 rfl ?_
      refine hG.aload_n dX4_crosses_55 rfl ?_
      refine hG.get dX4_crosses_56 fg_X4_21_X4 (Or.inl mdL_m) rfl ?_
      refine hG.iconst (v := 4) dX4_crosses_59 rfl ?_
      refine hG.nld hA (4) (v := (liveR R).st + stepV false) dX4_crosses_60 rfl (by decide) (by
        rw [nw_w, va_ne, nw_w, va_eq rfl]
        all_goals omega) ?_
      refine hG.callV dX4_crosses_61 kv_X4_124 (Rcv.raw mdL_m cl_X4) (sp_X4_does hΓ) rfl rfl (Nat.le_of_ble_eq_true rfl) (by decide) (by omega) (by omega) (fun r61 I61 L61 hI61 h61 => ?_) (fun _ _ _ _ _ h => h.elim)
      obtain ⟨rfl, rfl, rfl⟩ := h61
      refine hG.iret dX4_crosses_64 rfl ?_ (by omega) (by omega) trivial
      exact pIs.d (crs_d hck) ((hn.crs hwl).mono (Nat.le_succ N))
  · cases hck : chk R true with
    | some p =>
      have hps := chk_pos (by omega) hck
      refine hG.aload_n dX4_crosses_0 rfl ?_
      refine hG.iload_n dX4_crosses_1 rfl ?_
      refine hG.callV dX4_crosses_2 kv_X4_207 (Rcv.raw mdL_m cl_X4) (sp_X4_bars (w := true) hΓ hA hR hw) rfl rfl (Nat.le_of_ble_eq_true rfl) (by decide) (by omega) (by omega) (fun r2 I2 L2 hI2 h2 => ?_) (fun _ _ _ _ _ h => h.elim)
      rw [hck] at h2
      obtain ⟨rfl, _, rfl, rfl, rfl⟩ := h2
      refine hG.istore_n dX4_crosses_5 (by decide) ?_
      refine hG.iload_n dX4_crosses_6 rfl ?_
      refine hG.if_le (tgt := 20) dX4_crosses_7 rfl (fun c_7 => absurd c_7 (Int32.not_le.mpr hps)) (fun c_7 => ?_)
      refine hG.aload_n dX4_crosses_10 rfl ?_
      refine hG.iload_n dX4_crosses_11 rfl ?_
      refine hG.aload_n dX4_crosses_12 rfl ?_
      refine hG.get dX4_crosses_13 fg_X4_64_X4 (Or.inl mdL_m) rfl ?_
      refine hG.callV dX4_crosses_16 kv_X4_87 (Rcv.raw mdL_m cl_X4) (sp_X4_why hΓ) rfl rfl (Nat.le_of_ble_eq_true rfl) (by decide) (by omega) (by omega) (fun r16 I16 L16 hI16 h16 => ?_) (fun _ _ _ _ _ h => h.elim)
      obtain ⟨rfl, rfl, rfl⟩ := h16
      refine hG.iret dX4_crosses_19 rfl ?_ (by omega) (by omega) trivial
      exact pIs.r (a := p.2) (crs_x hck) hps
    | none =>
      obtain ⟨hh, i, hi, hci⟩ := chk_none (by omega) hck
      have hwl := hw.live hh
      refine hG.aload_n dX4_crosses_0 rfl ?_
      refine hG.iload_n dX4_crosses_1 rfl ?_
      refine hG.callV dX4_crosses_2 kv_X4_207 (Rcv.raw mdL_m cl_X4) (sp_X4_bars (w := true) hΓ hA hR hw) rfl rfl (Nat.le_of_ble_eq_true rfl) (by decide) (by omega) (by omega) (fun r2 I2 L2 hI2 h2 => ?_) (fun _ _ _ _ _ h => h.elim)
      rw [hck] at h2
      obtain ⟨rfl, _, rfl, rfl, rfl⟩ := h2
      refine hG.istore_n dX4_crosses_5 (by decide) ?_
      refine hG.iload_n dX4_crosses_6 rfl ?_
      refine hG.if_le (tgt := 20) dX4_crosses_7 rfl (fun c_7 => ?_) (fun c_7 => absurd (by decide) c_7)
      refine hG.aload_n dX4_crosses_20 rfl ?_
      refine hG.callV dX4_crosses_21 kv_X4_211 (Rcv.raw mdL_m cl_X4) (sp_X4_hour hΓ hA (V := V.wAn 0) (show Rep N R (V.wAn 0).nw from hR) hw) rfl rfl (Nat.le_of_ble_eq_true rfl) (by decide) (by omega) (by omega) (fun r21 I21 L21 hI21 h21 => ?_) (fun _ _ _ _ _ h => h.elim)
      obtain ⟨rfl, n, rfl, hn, rfl⟩ := h21
      refine hG.istore_n dX4_crosses_24 (by decide) ?_
      refine hG.aload_n dX4_crosses_25 rfl ?_
      refine hG.get dX4_crosses_26 fg_X4_21_X4 (Or.inl mdL_m) rfl ?_
      refine hG.iconst (v := 4) dX4_crosses_29 rfl ?_
      refine hG.dup2 dX4_crosses_30 rfl rfl ?_
      refine hG.nld hA (4) (v := (liveR R).st) dX4_crosses_31 rfl (by decide) hn.k4 ?_
      refine hG.iload_n dX4_crosses_32 rfl ?_
      refine hG.if_eq (tgt := 40) dX4_crosses_33 rfl (fun c_33 => absurd c_33 (by decide)) (fun c_33 => ?_)
      refine hG.iconst (v := 1) dX4_crosses_36 rfl ?_
      refine hG.goto (tgt := 41) dX4_crosses_37 rfl ?_
      refine hG.iadd dX4_crosses_41 ?_
      refine hG.nst hA (4) dX4_crosses_42 rfl (by decide) ?_
      refine hG.aload_n dX4_crosses_43 rfl ?_
      refine hG.get dX4_crosses_44 fg_X4_21_X4 (Or.inl mdL_m) rfl ?_
      refine hG.bipush (v := 8) dX4_crosses_47 rfl ?_
      refine hG.dup2 dX4_crosses_49 rfl rfl ?_
      refine hG.nld hA (8) (v := (liveR R).cr) dX4_crosses_50 rfl (by decide) (by
        rw [nw_w, va_ne]
        · exact hn.k8
        all_goals omega) ?_
      refine hG.iconst (v := 1) dX4_crosses_51 rfl ?_
      refine hG.iadd dX4_crosses_52 ?_
      refine hG.nst hA (8) dX4_crosses_53 rfl (by decide) ?_
      refine hG.aload_n dX4_crosses_54 rfl ?_
      refine hG.aload_n dX4_crosses_55 rfl ?_
      refine hG.get dX4_crosses_56 fg_X4_21_X4 (Or.inl mdL_m) rfl ?_
      refine hG.iconst (v := 4) dX4_crosses_59 rfl ?_
      refine hG.nld hA (4) (v := (liveR R).st + stepV true) dX4_crosses_60 rfl (by decide) (by
        rw [nw_w, va_ne, nw_w, va_eq rfl]
        all_goals omega) ?_
      refine hG.callV dX4_crosses_61 kv_X4_124 (Rcv.raw mdL_m cl_X4) (sp_X4_does hΓ) rfl rfl (Nat.le_of_ble_eq_true rfl) (by decide) (by omega) (by omega) (fun r61 I61 L61 hI61 h61 => ?_) (fun _ _ _ _ _ h => h.elim)
      obtain ⟨rfl, rfl, rfl⟩ := h61
      refine hG.iret dX4_crosses_64 rfl ?_ (by omega) (by omega) trivial
      exact pIs.d (crs_d hck) ((hn.crs hwl).mono (Nat.le_succ N))
