/-! what is ahead -/
abbrev chStep (at_ s : Int32) (f : T3) : Int32 := if f.2.2 ≤ at_ then (if f.1 ≤ at_ then s else minI s f.1) else minI (if f.1 ≤ at_ then s else minI s f.1) f.2.2
def chgV (fl : List T3) (at_ last : Int32) : Int32 := fl.foldl (chStep at_) last
theorem chs_1 {at_ s : Int32} {f : T3} (h1 : f.1 ≤ at_) (h2 : f.2.2 ≤ at_) : some (Value.int s) = some (Value.int (chStep at_ s f)) := by rw [chStep, if_pos h2, if_pos h1]
theorem chs_2 {at_ s : Int32} {f : T3} (h1 : ¬ f.1 ≤ at_) (h2 : f.2.2 ≤ at_) : some (Value.int (minI s f.1)) = some (Value.int (chStep at_ s f)) := by rw [chStep, if_pos h2, if_neg h1]
theorem chs_3 {at_ s : Int32} {f : T3} (h1 : f.1 ≤ at_) (h2 : ¬ f.2.2 ≤ at_) : some (Value.int (minI s f.2.2)) = some (Value.int (chStep at_ s f)) := by rw [chStep, if_neg h2, if_pos h1]
theorem chs_4 {at_ s : Int32} {f : T3} (h1 : ¬ f.1 ≤ at_) (h2 : ¬ f.2.2 ≤ at_) : some (Value.int (minI (minI s f.1) f.2.2)) = some (Value.int (chStep at_ s f)) := by rw [chStep, if_neg h2, if_neg h1]
abbrev drg1 (R : Rv) (c0 a : T3) (at_ n : Int32) : T3 := (a.1, a.2.1, minI 99 (a.2.2 + drgV R a c0 at_ * n))
def dItr (R : Rv) (c0 a : T3) : Nat → T3
  | 0 => a
  | k + 1 => drg1 R c0 (dItr R c0 a k) (R.hr + nI k) 1
theorem dItr_1 {R : Rv} {c0 a : T3} : ∀ k, (dItr R c0 a k).1 = a.1
  | 0 => rfl
  | k + 1 => dItr_1 k
def dAg (R : Rv) (c0 : T3) (last : Int32) : Nat → Int32 → T3 → T3
  | 0, _, a => a
  | n + 1, at_, a => if last ≤ at_ then a else dAg R c0 last n (chgV R.fl at_ last) (drg1 R c0 a at_ (chgV R.fl at_ last - at_))
theorem chg_gt {at_ : Int32} : ∀ {fl : List T3} {s : Int32}, at_ < s → at_ < fl.foldl (chStep at_) s
  | [], s, h => h
  | f :: fl, s, h => by
    refine chg_gt (fl := fl) ?_
    have hm : ∀ {x y : Int32}, at_ < x → at_ < y → at_ < minI x y := fun h1 h2 => by
      unfold minI
      split
      · exact h2
      · exact h1
    unfold chStep
    split <;> split
    · exact h
    · exact hm h (lt_not.mpr (by assumption))
    · exact hm h (lt_not.mpr (by assumption))
    · exact hm (hm h (lt_not.mpr (by assumption))) (lt_not.mpr (by assumption))
theorem fg_X2_295_X11 : LkG RX2 295 ciX11 0 := ⟨RX11, TX11, 3, tyX11, _, cls_X11, by decide, Or.inl rfl, Or.inr ⟨_, q2015⟩⟩
theorem fg_X2_170_X11 : LkG RX2 170 ciX11 2 := ⟨RX11, TX11, 3, tyX11, _, cls_X11, by decide, Or.inl rfl, Or.inr ⟨_, q2018⟩⟩
set_option maxHeartbeats 4000000 in
set_option maxRecDepth 100000 in
theorem sp_X2_change {l : Launch} {s0 : State} {D : va_G} {I : AI} {L : AL} {dE ca : Nat} {ad : Nat → Nat} {r : Nat} {R : Rv} {A : RA} (hΓ : Gam l s0 D) (hZ : Std s0 D dE ca ad) (h : RvO dE I L r R A) {at_ last : Int32} : Spc l s0 D yX2_change 6 [.ref r, .int at_, .int last] I L 1 4 (pV (.int (chgV R.fl at_ last)) I L) noX := by
  refine Spc.of hΓ cX2_change 6 (some FieldType.int) q2529 (by decide +kernel) (by decide) (Nat.le_of_ble_eq_true rfl) (fun G GX hG => ?_)
  refine hG.peek h.h1 (fun J9 S9 _ hli => ?_)
  have hl10 : A.ys.length ≤ 10 := hli.1
  have hll := h.e1.len
  refine hG.iload_n dX2_change_0 rfl ?_
  refine hG.istore_n dX2_change_1 (by decide) ?_
  refine hG.aload_n dX2_change_2 rfl ?_
  refine hG.get dX2_change_3 fg_X2_18_X2 (Or.inl h.h) rfl ?_
  refine hG.callF dX2_change_6 kf_X2_45_J2 (Rcv.li h.h1) cl_J2 (sp_J2_iterator hΓ h.h1) rfl rfl (Nat.le_of_ble_eq_true rfl) (by decide) (by omega) (by omega) (fun r6 I6 L6 hI6 h6 => ?_) (fun _ _ _ _ _ h => h.elim)
  obtain ⟨rfl, it, hita, hit, rfl, rfl⟩ := h6
  refine hG.astore dX2_change_11 (by decide) ?_
  have loop : ∀ (w i : Nat) (acc lr : Int32), i + w = R.fl.length → acc = chgV (R.fl.take i) at_ last → G 13 [(1, .int at_), (3, .int acc), (4, .ref it)] [] I (up1 L it (some (obC ciJ15 [.int (nI i), .int lr, .int A.m1, .ref A.a1]))) 1 4 := by
    intro w
    induction w with
    | zero =>
      intro i acc lr hiw hacc
      refine hG.aload dX2_change_13 rfl ?_
      refine hG.callF dX2_change_15 kf_X2_51_J15 (Rcv.raw up1_s cl_J15) cl_J15 (sp_J15_hasNext hΓ (by omega) ((up1_n hita.symm).trans h.h1) up1_s) rfl rfl (Nat.le_of_ble_eq_true rfl) (by decide) (by omega) (by omega) (fun r15 I15 L15 hI15 h15 => ?_) (fun _ _ _ _ _ h => h.elim)
      obtain ⟨rfl, rfl, rfl⟩ := h15
      refine hG.if_eq (tgt := 84) dX2_change_20 rfl (fun c_20 => ?_) (fun c_20 => absurd (by rw [decide_eq_false (by omega)]; rfl) c_20)
      refine hG.sub (S := L) (fun q x hq => (up1_n (fun e => by subst e; rw [hit] at hq; cases hq)).trans hq) ?_
      refine hG.iload_n dX2_change_84 rfl ?_
      refine hG.iret dX2_change_85 rfl ?_ (by omega) (by omega) trivial
      exact ⟨by rw [hacc, List.take_of_length_le (by omega)], rfl, rfl⟩
    | succ w ih =>
      intro i acc lr hiw hacc
      obtain ⟨c, hc, -⟩ := get_lt (show i < R.fl.length by omega)
      obtain ⟨x, hx, hxc⟩ := h.e1.get hc
      refine hG.aload dX2_change_13 rfl ?_
      refine hG.callF dX2_change_15 kf_X2_51_J15 (Rcv.raw up1_s cl_J15) cl_J15 (sp_J15_hasNext hΓ (by omega) ((up1_n hita.symm).trans h.h1) up1_s) rfl rfl (Nat.le_of_ble_eq_true rfl) (by decide) (by omega) (by omega) (fun r15 I15 L15 hI15 h15 => ?_) (fun _ _ _ _ _ h => h.elim)
      obtain ⟨rfl, rfl, rfl⟩ := h15
      refine hG.if_eq (tgt := 84) dX2_change_20 rfl (fun c_20 => absurd c_20 (by rw [decide_eq_true (by omega)]; decide)) (fun c_20 => ?_)
      refine hG.aload dX2_change_23 rfl ?_
      refine hG.callF dX2_change_25 kf_X2_57_J15 (Rcv.raw up1_s cl_J15) cl_J15 (sp_J15_next hΓ hx ((up1_n hita.symm).trans h.h1) up1_s) rfl rfl (Nat.le_of_ble_eq_true rfl) (by decide) (by omega) (by omega) (fun r25 I25 L25 hI25 h25 => ?_) (fun _ _ _ _ _ h => h.elim)
      obtain ⟨rfl, rfl, rfl⟩ := h25
      rw [up1_up1]
      refine hG.castS dX2_change_30 q655 (Rcv.imm hxc cl_X11) cl_X11 ?_
      refine hG.astore dX2_change_33 (by decide) ?_
      refine hG.aload dX2_change_35 rfl ?_
      refine hG.get dX2_change_37 fg_X2_295_X11 (Or.inr hxc) rfl ?_
      refine hG.iload_n dX2_change_40 rfl ?_
      refine hG.icmp_le (tgt := 56) dX2_change_41 rfl (fun c_41 => ?_) (fun c_41 => ?_)
      · refine hG.iload_n dX2_change_56 rfl ?_
        refine hG.istore_n dX2_change_57 (by decide) ?_
        refine hG.aload dX2_change_58 rfl ?_
        refine hG.get dX2_change_60 fg_X2_170_X11 (Or.inr hxc) rfl ?_
        refine hG.iload_n dX2_change_63 rfl ?_
        refine hG.icmp_le (tgt := 79) dX2_change_64 rfl (fun c_64 => ?_) (fun c_64 => ?_)
        · refine hG.iload_n dX2_change_79 rfl ?_
          refine hG.istore_n dX2_change_80 (by decide) ?_
          refine hG.goto (tgt := 13) dX2_change_81 rfl ?_
          refine hG.lsb [(1, .int at_), (3, .int (chStep at_ acc c)), (4, .ref it)] ⟨rfl, (by first | exact chs_1 c_41 c_64 | exact chs_2 c_41 c_64 | exact chs_3 c_41 c_64 | exact chs_4 c_41 c_64), rfl, trivial⟩ (ih (i + 1) _ _ (by omega) ?_)
          rw [hacc]
          unfold chgV
          rw [foldl_take hc]
        · refine hG.iload_n dX2_change_67 rfl ?_
          refine hG.aload dX2_change_68 rfl ?_
          refine hG.get dX2_change_70 fg_X2_170_X11 (Or.inr hxc) rfl ?_
          refine hG.mmin dX2_change_73 q1892 (Nat.le_of_ble_eq_true rfl) (by decide) ?_
          refine hG.goto (tgt := 80) dX2_change_76 rfl ?_
          refine hG.istore_n dX2_change_80 (by decide) ?_
          refine hG.goto (tgt := 13) dX2_change_81 rfl ?_
          refine hG.lsb [(1, .int at_), (3, .int (chStep at_ acc c)), (4, .ref it)] ⟨rfl, (by first | exact chs_1 c_41 c_64 | exact chs_2 c_41 c_64 | exact chs_3 c_41 c_64 | exact chs_4 c_41 c_64), rfl, trivial⟩ (ih (i + 1) _ _ (by omega) ?_)
          rw [hacc]
          unfold chgV
          rw [foldl_take hc]
      · refine hG.iload_n dX2_change_44 rfl ?_
        refine hG.aload dX2_change_45 rfl ?_
        refine hG.get dX2_change_47 fg_X2_295_X11 (Or.inr hxc) rfl ?_
        refine hG.mmin dX2_change_50 q1892 (Nat.le_of_ble_eq_true rfl) (by decide) ?_
        refine hG.goto (tgt := 57) dX2_change_53 rfl ?_
        refine hG.istore_n dX2_change_57 (by decide) ?_
        refine hG.aload dX2_change_58 rfl ?_
        refine hG.get dX2_change_60 fg_X2_170_X11 (Or.inr hxc) rfl ?_
        refine hG.iload_n dX2_change_63 rfl ?_
        refine hG.icmp_le (tgt := 79) dX2_change_64 rfl (fun c_64 => ?_) (fun c_64 => ?_)
        · refine hG.iload_n dX2_change_79 rfl ?_
          refine hG.istore_n dX2_change_80 (by decide) ?_
          refine hG.goto (tgt := 13) dX2_change_81 rfl ?_
          refine hG.lsb [(1, .int at_), (3, .int (chStep at_ acc c)), (4, .ref it)] ⟨rfl, (by first | exact chs_1 c_41 c_64 | exact chs_2 c_41 c_64 | exact chs_3 c_41 c_64 | exact chs_4 c_41 c_64), rfl, trivial⟩ (ih (i + 1) _ _ (by omega) ?_)
          rw [hacc]
          unfold chgV
          rw [foldl_take hc]
        · refine hG.iload_n dX2_change_67 rfl ?_
          refine hG.aload dX2_change_68 rfl ?_
          refine hG.get dX2_change_70 fg_X2_170_X11 (Or.inr hxc) rfl ?_
          refine hG.mmin dX2_change_73 q1892 (Nat.le_of_ble_eq_true rfl) (by decide) ?_
          refine hG.goto (tgt := 80) dX2_change_76 rfl ?_
          refine hG.istore_n dX2_change_80 (by decide) ?_
          refine hG.goto (tgt := 13) dX2_change_81 rfl ?_
          refine hG.lsb [(1, .int at_), (3, .int (chStep at_ acc c)), (4, .ref it)] ⟨rfl, (by first | exact chs_1 c_41 c_64 | exact chs_2 c_41 c_64 | exact chs_3 c_41 c_64 | exact chs_4 c_41 c_64), rfl, trivial⟩ (ih (i + 1) _ _ (by omega) ?_)
          rw [hacc]
          unfold chgV
          rw [foldl_take hc]
  exact hG.lsb [(1, .int at_), (3, .int last), (4, .ref it)] ⟨rfl, rfl, rfl, trivial⟩ (loop _ 0 _ _ (Nat.zero_add _) rfl)
theorem fg_X2_81_X2 : LkG RX2 81 ciX2 7 := ⟨RX2, TX2, 13, tyX2, _, cls_X2, by decide, Or.inl rfl, Or.inl q266⟩
theorem kv_X2_159 : LkV RX2 159 yX2_drags 2 := ⟨q1901, q1902, q1903, q74, by decide +kernel, by decide +kernel, by decide +kernel⟩
theorem kv_X2_162 : LkV RX2 162 yX8_dragged 2 := ⟨q1914, q1915, q1916, q118, by decide +kernel, by decide +kernel, by decide +kernel⟩
set_option maxHeartbeats 4000000 in
set_option maxRecDepth 100000 in
theorem sp_X2_dragIn {l : Launch} {s0 : State} {D : va_G} {I : AI} {L : AL} {dE ca : Nat} {ad : Nat → Nat} {r : Nat} {R : Rv} {A : RA} (hΓ : Gam l s0 D) (hZ : Std s0 D dE ca ad) (h : RvO dE I L r R A) {x j H : Nat} {a c0 : T3} (hx : I x (t3E ciX8 a)) (ha : a.1 = nI j) (hj : R.ch[j]? = some c0) (hH : H ≤ 199) : Spc l s0 D yX2_dragIn 12 [.ref r, .ref x, .int (nI H)] I L (6 * H) (21 * H) (fun q I' L' => q = some (.int (dItr R c0 a H).2.2) ∧ L = L') noX := by
  refine Spc.of hΓ cX2_dragIn 5 (some FieldType.int) q2514 (by decide +kernel) (by decide) (Nat.le_of_ble_eq_true rfl) (fun G GX hG => ?_)
  refine hG.aload_n dX2_dragIn_0 rfl ?_
  refine hG.astore_n dX2_dragIn_1 (by decide) ?_
  refine hG.iconst (v := 0) dX2_dragIn_2 rfl ?_
  refine hG.istore dX2_dragIn_3 (by decide) ?_
  have loop : ∀ (w k y : Nat) (I1 : AI), k + w = H → ile I I1 → I1 y (t3E ciX8 (dItr R c0 a k)) → G 5 [(0, .ref r), (2, .int (nI H)), (3, .ref y), (4, .int (nI k))] [] I1 L (6 * k) (21 * k) := by
    intro w
    induction w with
    | zero =>
      intro k y I1 hkw hI1 hy
      refine hG.iload dX2_dragIn_5 rfl ?_
      refine hG.iload_n dX2_dragIn_7 rfl ?_
      refine hG.icmp_ge (tgt := 35) dX2_dragIn_8 rfl (fun c_8 => ?_) (fun c_8 => absurd (nI_le (by omega) (by omega)) c_8)
      refine hG.aload_n dX2_dragIn_35 rfl ?_
      refine hG.get dX2_dragIn_36 fg_X2_156_X8 (Or.inr hy) rfl ?_
      refine hG.iret dX2_dragIn_39 rfl ?_ (by omega) (by omega) trivial
      exact ⟨by rw [show k = H by omega], rfl⟩
    | succ w ih =>
      intro k y I1 hkw hI1 hy
      have h' := h.mono hI1 (fun _ _ _ hx => hx)
      refine hG.iload dX2_dragIn_5 rfl ?_
      refine hG.iload_n dX2_dragIn_7 rfl ?_
      refine hG.icmp_ge (tgt := 35) dX2_dragIn_8 rfl (fun c_8 => absurd c_8 (nI_ge (by omega) (by omega))) (fun c_8 => ?_)
      refine hG.aload_n dX2_dragIn_11 rfl ?_
      refine hG.aload_n dX2_dragIn_12 rfl ?_
      refine hG.aload_n dX2_dragIn_13 rfl ?_
      refine hG.aload_n dX2_dragIn_14 rfl ?_
      refine hG.get dX2_dragIn_15 fg_X2_81_X2 (Or.inl h'.h) rfl ?_
      refine hG.iload dX2_dragIn_18 rfl ?_
      refine hG.iadd dX2_dragIn_20 ?_
      refine hG.callV dX2_dragIn_21 kv_X2_159 (Rcv.raw h'.h cl_X2) (sp_X2_drags hΓ hZ h' hy ((dItr_1 k).trans ha) hj) rfl rfl (Nat.le_of_ble_eq_true rfl) (by decide) (by omega) (by omega) (fun r21 I21 L21 hI21 h21 => ?_) (fun _ _ _ _ _ h => h.elim)
      obtain ⟨rfl, rfl⟩ := h21
      refine hG.iconst (v := 1) dX2_dragIn_24 rfl ?_
      refine hG.callV dX2_dragIn_25 kv_X2_162 (Rcv.imm (hI21 _ _ hy) cl_X8) (sp_X8_dragged hΓ (hI21 _ _ hy)) rfl rfl (Nat.le_of_ble_eq_true rfl) (by decide) (by omega) (by omega) (fun r25 I25 L25 hI25 h25 => ?_) (fun _ _ _ _ _ h => h.elim)
      obtain ⟨rfl, y2, rfl, hy2⟩ := h25
      refine hG.astore_n dX2_dragIn_28 (by decide) ?_
      refine hG.iinc dX2_dragIn_29 rfl (by decide) ?_
      refine hG.goto (tgt := 5) dX2_dragIn_32 rfl ?_
      refine hG.lsb [(0, .ref r), (2, .int (nI H)), (3, .ref y2), (4, .int (nI k + Int32.ofInt 1))] ⟨rfl, rfl, rfl, rfl, trivial⟩ ?_
      rw [show nI k + Int32.ofInt 1 = nI (k + 1) from nI_add k 1]
      exact ih (k + 1) y2 _ (by omega) (ile_tr hI1 (ile_tr hI21 hI25)) hy2
  exact hG.lsb [(0, .ref r), (2, .int (nI H)), (3, .ref x), (4, .int (nI 0))] ⟨rfl, rfl, rfl, rfl, trivial⟩ (loop H 0 x I (by omega) ile_rf hx)
theorem kv_X2_298 : LkV RX2 298 yX2_change 2 := ⟨q2526, q2528, qs18, q74, by decide +kernel, by decide +kernel, by decide +kernel⟩
set_option maxHeartbeats 4000000 in
set_option maxRecDepth 100000 in
theorem sp_X2_dragAgain {l : Launch} {s0 : State} {D : va_G} {I : AI} {L : AL} {dE ca : Nat} {ad : Nat → Nat} {r : Nat} {R : Rv} {A : RA} (hΓ : Gam l s0 D) (hZ : Std s0 D dE ca ad) (h : RvO dE I L r R A) {x j H : Nat} {a c0 : T3} (hx : I x (t3E ciX8 a)) (ha : a.1 = nI j) (hj : R.ch[j]? = some c0) (hH : H ≤ 199) (hov : (R.hr + nI H).toInt ≤ R.hr.toInt + H) : Spc l s0 D yX2_dragAgain 12 [.ref r, .ref x, .int (nI H)] I L (7 * H) (25 * H) (fun q I' L' => q = some (.int (dAg R c0 (R.hr + nI H) H R.hr a).2.2) ∧ L = L') noX := by
  refine Spc.of hΓ cX2_dragAgain 6 (some FieldType.int) q2525 (by decide +kernel) (by decide) (Nat.le_of_ble_eq_true rfl) (fun G GX hG => ?_)
  refine hG.aload_n dX2_dragAgain_0 rfl ?_
  refine hG.astore_n dX2_dragAgain_1 (by decide) ?_
  refine hG.aload_n dX2_dragAgain_2 rfl ?_
  refine hG.get dX2_dragAgain_3 fg_X2_81_X2 (Or.inl h.h) rfl ?_
  refine hG.istore dX2_dragAgain_6 (by decide) ?_
  have loop : ∀ (w k y : Nat) (at_ : Int32) (b : T3) (I1 : AI), k + w = H → (R.hr + nI H).toInt ≤ at_.toInt + w → b.1 = nI j → dAg R c0 (R.hr + nI H) w at_ b = dAg R c0 (R.hr + nI H) H R.hr a → ile I I1 → I1 y (t3E ciX8 b) → G 8 [(0, .ref r), (2, .int (nI H)), (3, .ref y), (4, .int at_)] [] I1 L (7 * k) (25 * k) := by
    intro w
    induction w with
    | zero =>
      intro k y at_ b I1 hkw hat hb hres hI1 hy
      have h' := h.mono hI1 (fun _ _ _ hx => hx)
      have hle : R.hr + nI H ≤ at_ := by rw [Int32.le_iff_toInt_le]; omega
      refine hG.iload dX2_dragAgain_8 rfl ?_
      refine hG.aload_n dX2_dragAgain_10 rfl ?_
      refine hG.get dX2_dragAgain_11 fg_X2_81_X2 (Or.inl h'.h) rfl ?_
      refine hG.iload_n dX2_dragAgain_14 rfl ?_
      refine hG.iadd dX2_dragAgain_15 ?_
      refine hG.icmp_ge (tgt := 57) dX2_dragAgain_16 rfl (fun c_16 => ?_) (fun c_16 => absurd hle c_16)
      refine hG.aload_n dX2_dragAgain_57 rfl ?_
      refine hG.get dX2_dragAgain_58 fg_X2_156_X8 (Or.inr hy) rfl ?_
      refine hG.iret dX2_dragAgain_61 rfl ?_ (by omega) (by omega) trivial
      exact ⟨by rw [← hres]; rfl, rfl⟩
    | succ w ih =>
      intro k y at_ b I1 hkw hat hb hres hI1 hy
      have h' := h.mono hI1 (fun _ _ _ hx => hx)
      by_cases hle : R.hr + nI H ≤ at_
      · rw [show dAg R c0 (R.hr + nI H) (w + 1) at_ b = b from if_pos hle] at hres
        refine hG.iload dX2_dragAgain_8 rfl ?_
        refine hG.aload_n dX2_dragAgain_10 rfl ?_
        refine hG.get dX2_dragAgain_11 fg_X2_81_X2 (Or.inl h'.h) rfl ?_
        refine hG.iload_n dX2_dragAgain_14 rfl ?_
        refine hG.iadd dX2_dragAgain_15 ?_
        refine hG.icmp_ge (tgt := 57) dX2_dragAgain_16 rfl (fun c_16 => ?_) (fun c_16 => absurd hle c_16)
        refine hG.aload_n dX2_dragAgain_57 rfl ?_
        refine hG.get dX2_dragAgain_58 fg_X2_156_X8 (Or.inr hy) rfl ?_
        refine hG.iret dX2_dragAgain_61 rfl ?_ (by omega) (by omega) trivial
        exact ⟨by rw [← hres], rfl⟩
      · rw [show dAg R c0 (R.hr + nI H) (w + 1) at_ b = _ from if_neg hle] at hres
        have hgt : at_ < chgV R.fl at_ (R.hr + nI H) := chg_gt (lt_not.mpr hle)
        refine hG.iload dX2_dragAgain_8 rfl ?_
        refine hG.aload_n dX2_dragAgain_10 rfl ?_
        refine hG.get dX2_dragAgain_11 fg_X2_81_X2 (Or.inl h'.h) rfl ?_
        refine hG.iload_n dX2_dragAgain_14 rfl ?_
        refine hG.iadd dX2_dragAgain_15 ?_
        refine hG.icmp_ge (tgt := 57) dX2_dragAgain_16 rfl (fun c_16 => absurd c_16 hle) (fun c_16 => ?_)
        refine hG.aload_n dX2_dragAgain_19 rfl ?_
        refine hG.iload dX2_dragAgain_20 rfl ?_
        refine hG.aload_n dX2_dragAgain_22 rfl ?_
        refine hG.get dX2_dragAgain_23 fg_X2_81_X2 (Or.inl h'.h) rfl ?_
        refine hG.iload_n dX2_dragAgain_26 rfl ?_
        refine hG.iadd dX2_dragAgain_27 ?_
        refine hG.callV dX2_dragAgain_28 kv_X2_298 (Rcv.raw h'.h cl_X2) (sp_X2_change hΓ hZ h') rfl rfl (Nat.le_of_ble_eq_true rfl) (by decide) (by omega) (by omega) (fun r28 I28 L28 hI28 h28 => ?_) (fun _ _ _ _ _ h => h.elim)
        obtain ⟨rfl, rfl, rfl⟩ := h28
        refine hG.istore dX2_dragAgain_31 (by decide) ?_
        refine hG.aload_n dX2_dragAgain_33 rfl ?_
        refine hG.aload_n dX2_dragAgain_34 rfl ?_
        refine hG.aload_n dX2_dragAgain_35 rfl ?_
        refine hG.iload dX2_dragAgain_36 rfl ?_
        refine hG.callV dX2_dragAgain_38 kv_X2_159 (Rcv.raw h'.h cl_X2) (sp_X2_drags hΓ hZ h' hy hb hj) rfl rfl (Nat.le_of_ble_eq_true rfl) (by decide) (by omega) (by omega) (fun r38 I38 L38 hI38 h38 => ?_) (fun _ _ _ _ _ h => h.elim)
        obtain ⟨rfl, rfl⟩ := h38
        refine hG.iload dX2_dragAgain_41 rfl ?_
        refine hG.iload dX2_dragAgain_43 rfl ?_
        refine hG.isub dX2_dragAgain_45 ?_
        refine hG.callV dX2_dragAgain_46 kv_X2_162 (Rcv.imm (hI38 _ _ hy) cl_X8) (sp_X8_dragged hΓ (hI38 _ _ hy)) rfl rfl (Nat.le_of_ble_eq_true rfl) (by decide) (by omega) (by omega) (fun r46 I46 L46 hI46 h46 => ?_) (fun _ _ _ _ _ h => h.elim)
        obtain ⟨rfl, y2, rfl, hy2⟩ := h46
        refine hG.astore_n dX2_dragAgain_49 (by decide) ?_
        refine hG.iload dX2_dragAgain_50 rfl ?_
        refine hG.istore dX2_dragAgain_52 (by decide) ?_
        refine hG.goto (tgt := 8) dX2_dragAgain_54 rfl ?_
        refine hG.lsb [(0, .ref r), (2, .int (nI H)), (3, .ref y2), (4, .int (chgV R.fl at_ (R.hr + nI H)))] ⟨rfl, rfl, rfl, rfl, trivial⟩ ?_
        refine ih (k + 1) y2 _ (drg1 R c0 b at_ (chgV R.fl at_ (R.hr + nI H) - at_)) _ (by omega) ?_ hb hres (ile_tr hI1 (ile_tr hI38 hI46)) hy2
        rw [Int32.lt_iff_toInt_lt] at hgt
        omega
  exact hG.lsb [(0, .ref r), (2, .int (nI H)), (3, .ref x), (4, .int R.hr)] ⟨rfl, rfl, rfl, rfl, trivial⟩ (loop H 0 x R.hr a I (by omega) hov ha rfl ile_rf hx)
