/-! c ? 1 : 0 in one step; the checks of a crossing -/
section DIA
variable {l : Launch} {s0 : State} {D : va_G} {own nm : String} {cc : ByteArray} {nL : Nat} {ret : Option FieldType} {tab : List ExceptionTableEntry} {d mc ms : Nat} {Ib : AI} {post : Option Value → AI → AL → Prop} {xp : String → Nat → AI → AL → Prop} {md : Prop} {G : Gt} {GX : GXt}
variable {ls : List (Nat × Value)} {st : List Value} {I : AI} {L : AL} {k n : Nat}
theorem IsG.dia1 (hG : IsG l s0 D own nm cc nL ret tab d mc ms Ib post xp md G GX) {p : Nat} {st0 : List Value} {c : Prop} [Decidable c] {off : Int} (hbr : (c → G (p + 7) ls st I L k n) → (¬ c → G (p + 3) ls st I L k n) → G p ls st0 I L k n) (d3 : decode cc (p + 3) = .ok (.iconst 1, 1)) (d4 : decode cc (p + 4) = .ok (.goto off, 3)) (h4 : ((p + 4 : Nat) : Int) + off = ((p + 8 : Nat) : Int)) (d7 : decode cc (p + 7) = .ok (.iconst 0, 1)) (kk : G (p + 8) ls (.int (b2i (!decide c)) :: st) I L k n) : G p ls st0 I L k n := by
  refine hbr (fun h => ?_) (fun h => ?_)
  · refine hG.iconst (v := 0) d7 rfl ?_
    rw [decide_eq_true h] at kk
    exact kk
  · refine hG.iconst (v := 1) d3 rfl ?_
    refine hG.goto (tgt := p + 8) d4 h4 ?_
    rw [decide_eq_false h] at kk
    exact kk
end DIA
theorem ndec {c : Prop} [Decidable c] : (!decide c) = true ↔ ¬ c := by simp
theorem ndecF {c : Prop} [Decidable c] : (!decide c) = false ↔ c := by simp
theorem ks_X2_176 : LkNS RX2 176 yX1_allow 3 := ⟨⟨_, q1694⟩, q1695, q73, by decide +kernel, by decide +kernel, by decide +kernel⟩
set_option maxHeartbeats 4000000 in
set_option maxRecDepth 100000 in
theorem sp_X2_allowWidth {l : Launch} {s0 : State} {D : va_G} {I : AI} {L : AL} (hΓ : Gam l s0 D) {w : Int32} : Spc l s0 D yX2_allowWidth 7 [.int w] I L 1 8 (p0P (inR w 10 99 = true) I L) (xR 2 w (inR w 10 99 = false) L) := by
  refine Spc.of hΓ cX2_allowWidth 1 none q2106 (by decide +kernel) (by decide) (Nat.le_of_ble_eq_true rfl) (fun G GX hG => ?_)
  refine hG.iload_n dX2_allowWidth_0 rfl ?_
  refine hG.bipush (v := 10) dX2_allowWidth_1 rfl ?_
  refine hG.bipush (v := 99) dX2_allowWidth_3 rfl ?_
  refine hG.callNS dX2_allowWidth_5 ks_X2_100 (sp_X1_inRange hΓ) rfl rfl (Nat.le_of_ble_eq_true rfl) (by decide) (by omega) (by omega) (fun r5 I5 L5 hI5 h5 => ?_) (fun _ _ _ _ _ h => h.elim)
  obtain ⟨rfl, rfl, rfl⟩ := h5
  refine hG.iconst (v := 2) dX2_allowWidth_8 rfl ?_
  refine hG.iload_n dX2_allowWidth_9 rfl ?_
  refine hG.callNS dX2_allowWidth_10 ks_X2_176 (sp_X1_allow hΓ) rfl rfl (Nat.le_of_ble_eq_true rfl) (by decide) (by omega) (by omega) (fun r10 I10 L10 hI10 h10 => ?_) (fun E q I' L' hI ⟨e1, e2, e3, e4⟩ => hG.out (by simp) ⟨e1, e2, e3, e4⟩ (by omega) (by omega) trivial)
  obtain ⟨rfl, hb, rfl, rfl⟩ := h10
  refine hG.vret dX2_allowWidth_13 rfl ?_ (by omega) (by omega) trivial
  exact ⟨rfl, hb, rfl, rfl⟩
set_option maxHeartbeats 4000000 in
set_option maxRecDepth 100000 in
theorem sp_X2_allowHours {l : Launch} {s0 : State} {D : va_G} {I : AI} {L : AL} {dE r : Nat} {R : Rv} {A : RA} (hΓ : Gam l s0 D) (h : RvO dE I L r R A) {n : Int32} : Spc l s0 D yX2_allowHours 7 [.ref r, .int n] I L 1 8 (p0P (R.hr + n ≤ 9999) I L) (xR 10 (R.hr + n) (¬ R.hr + n ≤ 9999) L) := by
  refine Spc.of hΓ cX2_allowHours 2 none q1896 (by decide +kernel) (by decide) (Nat.le_of_ble_eq_true rfl) (fun G GX hG => ?_)
  refine hG.aload_n dX2_allowHours_0 rfl ?_
  refine hG.get dX2_allowHours_1 fg_X2_81_X2 (Or.inl h.h) rfl ?_
  refine hG.iload_n dX2_allowHours_4 rfl ?_
  refine hG.iadd dX2_allowHours_5 ?_
  refine hG.sipush (v := 9999) dX2_allowHours_6 rfl ?_
  refine hG.dia1 (p := 9) (fun kt kf => hG.icmp_gt (tgt := 16) dX2_allowHours_9 rfl kt kf) dX2_allowHours_12 dX2_allowHours_13 rfl dX2_allowHours_16 ?_
  refine hG.bipush (v := 10) dX2_allowHours_17 rfl ?_
  refine hG.aload_n dX2_allowHours_19 rfl ?_
  refine hG.get dX2_allowHours_20 fg_X2_81_X2 (Or.inl h.h) rfl ?_
  refine hG.iload_n dX2_allowHours_23 rfl ?_
  refine hG.iadd dX2_allowHours_24 ?_
  refine hG.callNS dX2_allowHours_25 ks_X2_176 (sp_X1_allow hΓ) rfl rfl (Nat.le_of_ble_eq_true rfl) (by decide) (by omega) (by omega) (fun r25 I25 L25 hI25 h25 => ?_) (fun E q I' L' hI ⟨e1, e2, e3, e4⟩ => hG.out (by simp) ⟨e1, lt_not.mp (ndecF.mp e2), e3, e4⟩ (by omega) (by omega) trivial)
  obtain ⟨rfl, hb, rfl, rfl⟩ := h25
  have hb2 : R.hr + n ≤ 9999 := Decidable.not_not.mp (fun q => ndec.mp hb (lt_not.mpr q))
  refine hG.vret dX2_allowHours_28 rfl ?_ (by omega) (by omega) trivial
  exact ⟨rfl, hb2, rfl, rfl⟩
