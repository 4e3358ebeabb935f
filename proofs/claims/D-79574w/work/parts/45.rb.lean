/-! pulls and drags, anchors counted -/
theorem stepP {p : Prop} [Decidable p] {acc : Int32} (h : p) : some (Value.int (acc + 1)) = some (Value.int (acc + (if p then 1 else 0))) := by rw [if_pos h]
theorem stepN {p : Prop} [Decidable p] {acc : Int32} (h : ¬ p) : some (Value.int (acc + 0)) = some (Value.int (acc + (if p then 1 else 0))) := by rw [if_neg h]
theorem b2i_0 {b : Bool} (h : b2i b = 0) : b = false := by
  cases b
  · rfl
  · exact absurd h (by decide)
theorem b2i_1 {b : Bool} (h : ¬ b2i b = 0) : b = true := by
  cases b
  · exact absurd rfl h
  · rfl
theorem bTF {b : Bool} (h : b = true) (h2 : b = false) : False := by rw [h] at h2; cases h2
theorem bFT {b : Bool} (h : b = false) (h2 : b = true) : False := by rw [h] at h2; cases h2
abbrev ldR (R : Rv) : Int32 := tsum true R.fo + tsum true R.af
abbrev holdV (a c0 : T3) : Int32 := 2 * c0.2.2 * a.2.1
abbrev flowV (R : Rv) (c0 : T3) (at_ : Int32) : Int32 := minI 30 (flowS R.fl at_ c0.2.1)
abbrev pullV (R : Rv) (a c0 : T3) (at_ : Int32) : Int32 := 10 * flowV R c0 at_ + (if R.st = a.1 ∨ R.st = a.1 + 1 then ldR R else 0)
abbrev drgV (R : Rv) (a c0 : T3) (at_ : Int32) : Int32 := (maxI 0 (pullV R a c0 at_ - holdV a c0) + 9) / 10
theorem fg_X2_128_X8 : LkG RX2 128 ciX8 0 := ⟨RX8, TX8, 3, tyX8, _, cls_X8, by decide, Or.inl rfl, Or.inr ⟨_, q1730⟩⟩
theorem fg_X2_131_X6 : LkG RX2 131 ciX6 2 := ⟨RX6, TX6, 3, tyX6, _, cls_X6, by decide, Or.inl rfl, Or.inr ⟨_, q2124⟩⟩
theorem fg_X2_134_X8 : LkG RX2 134 ciX8 1 := ⟨RX8, TX8, 3, tyX8, _, cls_X8, by decide, Or.inl rfl, Or.inr ⟨_, q1733⟩⟩
set_option maxHeartbeats 4000000 in
set_option maxRecDepth 100000 in
theorem sp_X2_hold {l : Launch} {s0 : State} {D : va_G} {I : AI} {L : AL} {dE ca : Nat} {ad : Nat → Nat} {r : Nat} {R : Rv} {A : RA} (hΓ : Gam l s0 D) (hZ : Std s0 D dE ca ad) (h : RvO dE I L r R A) {x j : Nat} {a c0 : T3} (hx : I x (t3E ciX8 a)) (ha : a.1 = nI j) (hj : R.ch[j]? = some c0) : Spc l s0 D yX2_hold 4 [.ref r, .ref x] I L 0 0 (pV (.int (holdV a c0)) I L) noX := by
  refine Spc.of hΓ cX2_hold 2 (some FieldType.int) q1912 (by decide +kernel) (by decide) (Nat.le_of_ble_eq_true rfl) (fun G GX hG => ?_)
  obtain ⟨x0, hx0, hx0c⟩ := h.e0.get hj
  · refine hG.iconst (v := 2) dX2_hold_0 rfl ?_
    refine hG.aload_n dX2_hold_1 rfl ?_
    refine hG.get dX2_hold_2 fg_X2_12_X2 (Or.inl h.h) rfl ?_
    refine hG.aload_n dX2_hold_5 rfl ?_
    refine hG.get dX2_hold_6 fg_X2_128_X8 (Or.inr hx) rfl ?_
    rw [ha]
    refine hG.callF dX2_hold_9 kf_X2_108_J2 (Rcv.li h.h0) cl_J2 (sp_J2_get hΓ h.h0 hx0) rfl rfl (Nat.le_of_ble_eq_true rfl) (by decide) (by omega) (by omega) (fun r9 I9 L9 hI9 h9 => ?_) (fun _ _ _ _ _ h => h.elim)
    obtain ⟨rfl, rfl, rfl⟩ := h9
    refine hG.castS dX2_hold_14 q556 (Rcv.imm hx0c cl_X6) cl_X6 ?_
    refine hG.get dX2_hold_17 fg_X2_131_X6 (Or.inr hx0c) rfl ?_
    refine hG.imul dX2_hold_20 ?_
    refine hG.aload_n dX2_hold_21 rfl ?_
    refine hG.get dX2_hold_22 fg_X2_134_X8 (Or.inr hx) rfl ?_
    refine hG.imul dX2_hold_25 ?_
    refine hG.iret dX2_hold_26 rfl ?_ (by omega) (by omega) trivial
    exact ⟨rfl, rfl, rfl⟩
theorem kv_X2_137 : LkV RX2 137 yX2_flow 2 := ⟨q1883, q1884, q1885, q74, by decide +kernel, by decide +kernel, by decide +kernel⟩
theorem kv_X2_139 : LkV RX2 139 yX2_load 0 := ⟨q1784, q1785, q1786, q74, by decide +kernel, by decide +kernel, by decide +kernel⟩
set_option maxHeartbeats 4000000 in
set_option maxRecDepth 100000 in
theorem sp_X2_pull {l : Launch} {s0 : State} {D : va_G} {I : AI} {L : AL} {dE ca : Nat} {ad : Nat → Nat} {r : Nat} {R : Rv} {A : RA} (hΓ : Gam l s0 D) (hZ : Std s0 D dE ca ad) (h : RvO dE I L r R A) {x j : Nat} {a c0 : T3} (hx : I x (t3E ciX8 a)) (ha : a.1 = nI j) (hj : R.ch[j]? = some c0) {at_ : Int32} : Spc l s0 D yX2_pull 10 [.ref r, .ref x, .int at_] I L 5 18 (fun q I' L' => q = some (.int (pullV R a c0 at_)) ∧ L = L') noX := by
  refine Spc.of hΓ cX2_pull 4 (some FieldType.int) q1908 (by decide +kernel) (by decide) (Nat.le_of_ble_eq_true rfl) (fun G GX hG => ?_)
  have k30 : ∀ b : Bool, (b = true ↔ (R.st = a.1 ∨ R.st = a.1 + 1)) → G 30 [(0, .ref r), (1, .ref x), (2, .int at_), (3, .int (b2i b))] [] I L 0 0 := by
    intro b hb
    refine hG.bipush (v := 10) dX2_pull_30 rfl ?_
    refine hG.aload_n dX2_pull_32 rfl ?_
    refine hG.aload_n dX2_pull_33 rfl ?_
    refine hG.get dX2_pull_34 fg_X2_128_X8 (Or.inr hx) rfl ?_
    refine hG.iload_n dX2_pull_37 rfl ?_
    rw [ha]
    refine hG.callV dX2_pull_38 kv_X2_137 (Rcv.raw h.h cl_X2) (sp_X2_flow hΓ hZ h hj) rfl rfl (Nat.le_of_ble_eq_true rfl) (by decide) (by omega) (by omega) (fun r38 I38 L38 hI38 h38 => ?_) (fun _ _ _ _ _ h => h.elim)
    obtain ⟨rfl, rfl, rfl⟩ := h38
    refine hG.imul dX2_pull_41 ?_
    refine hG.iload_n dX2_pull_42 rfl ?_
    refine hG.if_eq (tgt := 53) dX2_pull_43 rfl (fun c_43 => ?_) (fun c_43 => ?_)
    · refine hG.iconst (v := 0) dX2_pull_53 rfl ?_
      refine hG.iadd dX2_pull_54 ?_
      refine hG.iret dX2_pull_55 rfl ?_ (by omega) (by omega) trivial
      cases b with
      | false => first | exact absurd rfl c_43 | exact ⟨by rw [pullV, if_neg (fun e => (by cases hb.mpr e))], rfl⟩
      | true => first | exact absurd c_43 (by decide) | exact ⟨by rw [pullV, if_pos (hb.mp rfl)], rfl⟩
    · refine hG.aload_n dX2_pull_46 rfl ?_
      refine hG.callV dX2_pull_47 kv_X2_139 (Rcv.raw h.h cl_X2) (sp_X2_load hΓ hZ h) rfl rfl (Nat.le_of_ble_eq_true rfl) (by decide) (by omega) (by omega) (fun r47 I47 L47 hI47 h47 => ?_) (fun _ _ _ _ _ h => h.elim)
      obtain ⟨rfl, rfl⟩ := h47
      refine hG.goto (tgt := 54) dX2_pull_50 rfl ?_
      refine hG.iadd dX2_pull_54 ?_
      refine hG.iret dX2_pull_55 rfl ?_ (by omega) (by omega) trivial
      cases b with
      | false => first | exact absurd rfl c_43 | exact ⟨by rw [pullV, if_neg (fun e => (by cases hb.mpr e))], rfl⟩
      | true => first | exact absurd c_43 (by decide) | exact ⟨by rw [pullV, if_pos (hb.mp rfl)], rfl⟩
  refine hG.aload_n dX2_pull_0 rfl ?_
  refine hG.get dX2_pull_1 fg_X2_84_X2 (Or.inl h.h) rfl ?_
  refine hG.aload_n dX2_pull_4 rfl ?_
  refine hG.get dX2_pull_5 fg_X2_128_X8 (Or.inr hx) rfl ?_
  refine hG.icmp_eq (tgt := 24) dX2_pull_8 rfl (fun c_8 => ?_) (fun c_8 => ?_)
  · refine hG.iconst (v := 1) dX2_pull_24 rfl ?_
    refine hG.goto (tgt := 29) dX2_pull_25 rfl ?_
    refine hG.istore_n dX2_pull_29 (by decide) ?_
    exact hG.lsb [(0, .ref r), (1, .ref x), (2, .int at_), (3, .int (b2i true))] ⟨rfl, rfl, rfl, rfl, trivial⟩ (k30 true ⟨fun _ => by first | exact Or.inl c_8 | exact Or.inr (by simpa using c_21), fun _ => rfl⟩)
  · refine hG.aload_n dX2_pull_11 rfl ?_
    refine hG.get dX2_pull_12 fg_X2_84_X2 (Or.inl h.h) rfl ?_
    refine hG.aload_n dX2_pull_15 rfl ?_
    refine hG.get dX2_pull_16 fg_X2_128_X8 (Or.inr hx) rfl ?_
    refine hG.iconst (v := 1) dX2_pull_19 rfl ?_
    refine hG.iadd dX2_pull_20 ?_
    refine hG.icmp_ne (tgt := 28) dX2_pull_21 rfl (fun c_21 => ?_) (fun c_21 => ?_)
    · refine hG.iconst (v := 0) dX2_pull_28 rfl ?_
      refine hG.istore_n dX2_pull_29 (by decide) ?_
      exact hG.lsb [(0, .ref r), (1, .ref x), (2, .int at_), (3, .int (b2i false))] ⟨rfl, rfl, rfl, rfl, trivial⟩ (k30 false ⟨fun e => (nomatch e), fun e => absurd e (fun q => q.elim c_8 c_21)⟩)
    · refine hG.iconst (v := 1) dX2_pull_24 rfl ?_
      refine hG.goto (tgt := 29) dX2_pull_25 rfl ?_
      refine hG.istore_n dX2_pull_29 (by decide) ?_
      exact hG.lsb [(0, .ref r), (1, .ref x), (2, .int at_), (3, .int (b2i true))] ⟨rfl, rfl, rfl, rfl, trivial⟩ (k30 true ⟨fun _ => by first | exact Or.inl c_8 | exact Or.inr (by simpa using c_21), fun _ => rfl⟩)
theorem kv_X2_142 : LkV RX2 142 yX2_pull 2 := ⟨q1905, q1906, q1907, q74, by decide +kernel, by decide +kernel, by decide +kernel⟩
theorem kv_X2_146 : LkV RX2 146 yX2_hold 1 := ⟨q1909, q1910, q1911, q74, by decide +kernel, by decide +kernel, by decide +kernel⟩
set_option maxHeartbeats 4000000 in
set_option maxRecDepth 100000 in
theorem sp_X2_drags {l : Launch} {s0 : State} {D : va_G} {I : AI} {L : AL} {dE ca : Nat} {ad : Nat → Nat} {r : Nat} {R : Rv} {A : RA} (hΓ : Gam l s0 D) (hZ : Std s0 D dE ca ad) (h : RvO dE I L r R A) {x j : Nat} {a c0 : T3} (hx : I x (t3E ciX8 a)) (ha : a.1 = nI j) (hj : R.ch[j]? = some c0) {at_ : Int32} : Spc l s0 D yX2_drags 11 [.ref r, .ref x, .int at_] I L 5 18 (fun q I' L' => q = some (.int (drgV R a c0 at_)) ∧ L = L') noX := by
  refine Spc.of hΓ cX2_drags 3 (some FieldType.int) q1904 (by decide +kernel) (by decide) (Nat.le_of_ble_eq_true rfl) (fun G GX hG => ?_)
  refine hG.iconst (v := 0) dX2_drags_0 rfl ?_
  refine hG.aload_n dX2_drags_1 rfl ?_
  refine hG.aload_n dX2_drags_2 rfl ?_
  refine hG.iload_n dX2_drags_3 rfl ?_
  refine hG.callV dX2_drags_4 kv_X2_142 (Rcv.raw h.h cl_X2) (sp_X2_pull hΓ hZ h hx ha hj) rfl rfl (Nat.le_of_ble_eq_true rfl) (by decide) (by omega) (by omega) (fun r4 I4 L4 hI4 h4 => ?_) (fun _ _ _ _ _ h => h.elim)
  obtain ⟨rfl, rfl⟩ := h4
  refine hG.aload_n dX2_drags_7 rfl ?_
  refine hG.aload_n dX2_drags_8 rfl ?_
  refine hG.callV dX2_drags_9 kv_X2_146 (Rcv.raw h.h cl_X2) (sp_X2_hold hΓ hZ (h.mono hI4 (fun _ _ _ hx => hx)) (hI4 _ _ hx) ha hj) rfl rfl (Nat.le_of_ble_eq_true rfl) (by decide) (by omega) (by omega) (fun r9 I9 L9 hI9 h9 => ?_) (fun _ _ _ _ _ h => h.elim)
  obtain ⟨rfl, rfl, rfl⟩ := h9
  refine hG.isub dX2_drags_12 ?_
  refine hG.mmax dX2_drags_13 q1913 (Nat.le_of_ble_eq_true rfl) (by decide) ?_
  refine hG.bipush (v := 9) dX2_drags_16 rfl ?_
  refine hG.iadd dX2_drags_18 ?_
  refine hG.bipush (v := 10) dX2_drags_19 rfl ?_
  refine hG.idiv dX2_drags_21 (by decide) ?_
  refine hG.iret dX2_drags_22 rfl ?_ (by omega) (by omega) trivial
  exact ⟨rfl, rfl⟩
theorem kv_X2_153 : LkV RX2 153 yX8_holds 0 := ⟨q1876, q1877, q1878, q118, by decide +kernel, by decide +kernel, by decide +kernel⟩
set_option maxHeartbeats 4000000 in
set_option maxRecDepth 100000 in
theorem sp_X2_anchorsIn {l : Launch} {s0 : State} {D : va_G} {I : AI} {L : AL} {dE ca : Nat} {ad : Nat → Nat} {r : Nat} {R : Rv} {A : RA} (hΓ : Gam l s0 D) (hZ : Std s0 D dE ca ad) (h : RvO dE I L r R A) {ch : Int32} {hd : Bool} : Spc l s0 D yX2_anchorsIn 6 [.ref r, .int ch, .int (b2i hd)] I L 1 4 (pV (.int (inChan R.an ch hd)) I L) noX := by
  refine Spc.of hΓ cX2_anchorsIn 6 (some FieldType.int) q2421 (by decide +kernel) (by decide) (Nat.le_of_ble_eq_true rfl) (fun G GX hG => ?_)
  refine hG.peek h.h2 (fun J9 S9 _ hli => ?_)
  have hl10 : A.zs.length ≤ 10 := hli.1
  have hll := h.e2.len
  refine hG.iconst (v := 0) dX2_anchorsIn_0 rfl ?_
  refine hG.istore_n dX2_anchorsIn_1 (by decide) ?_
  refine hG.aload_n dX2_anchorsIn_2 rfl ?_
  refine hG.get dX2_anchorsIn_3 fg_X2_21_X2 (Or.inl h.h) rfl ?_
  refine hG.callF dX2_anchorsIn_6 kf_X2_45_J2 (Rcv.li h.h2) cl_J2 (sp_J2_iterator hΓ h.h2) rfl rfl (Nat.le_of_ble_eq_true rfl) (by decide) (by omega) (by omega) (fun r6 I6 L6 hI6 h6 => ?_) (fun _ _ _ _ _ h => h.elim)
  obtain ⟨rfl, it, hita, hit, rfl, rfl⟩ := h6
  refine hG.astore dX2_anchorsIn_11 (by decide) ?_
  have loop : ∀ (w i : Nat) (acc lr : Int32), i + w = R.an.length → acc = inChan (R.an.take i) ch hd → G 13 [(1, .int ch), (2, .int (b2i hd)), (3, .int acc), (4, .ref it)] [] I (up1 L it (some (obC ciJ15 [.int (nI i), .int lr, .int A.m2, .ref A.a2]))) 1 4 := by
    intro w
    induction w with
    | zero =>
      intro i acc lr hiw hacc
      refine hG.aload dX2_anchorsIn_13 rfl ?_
      refine hG.callF dX2_anchorsIn_15 kf_X2_51_J15 (Rcv.raw up1_s cl_J15) cl_J15 (sp_J15_hasNext hΓ (by omega) ((up1_n hita.symm).trans h.h2) up1_s) rfl rfl (Nat.le_of_ble_eq_true rfl) (by decide) (by omega) (by omega) (fun r15 I15 L15 hI15 h15 => ?_) (fun _ _ _ _ _ h => h.elim)
      obtain ⟨rfl, rfl, rfl⟩ := h15
      refine hG.if_eq (tgt := 67) dX2_anchorsIn_20 rfl (fun c_20 => ?_) (fun c_20 => absurd (by rw [decide_eq_false (by omega)]; rfl) c_20)
      refine hG.sub (S := L) (fun q x hq => (up1_n (fun e => by subst e; rw [hit] at hq; cases hq)).trans hq) ?_
      refine hG.iload_n dX2_anchorsIn_67 rfl ?_
      refine hG.iret dX2_anchorsIn_68 rfl ?_ (by omega) (by omega) trivial
      exact ⟨by rw [hacc, List.take_of_length_le (by omega)], rfl, rfl⟩
    | succ w ih =>
      intro i acc lr hiw hacc
      obtain ⟨c, hc, -⟩ := get_lt (show i < R.an.length by omega)
      obtain ⟨x, hx, hxc⟩ := h.e2.get hc
      refine hG.aload dX2_anchorsIn_13 rfl ?_
      refine hG.callF dX2_anchorsIn_15 kf_X2_51_J15 (Rcv.raw up1_s cl_J15) cl_J15 (sp_J15_hasNext hΓ (by omega) ((up1_n hita.symm).trans h.h2) up1_s) rfl rfl (Nat.le_of_ble_eq_true rfl) (by decide) (by omega) (by omega) (fun r15 I15 L15 hI15 h15 => ?_) (fun _ _ _ _ _ h => h.elim)
      obtain ⟨rfl, rfl, rfl⟩ := h15
      refine hG.if_eq (tgt := 67) dX2_anchorsIn_20 rfl (fun c_20 => absurd c_20 (by rw [decide_eq_true (by omega)]; decide)) (fun c_20 => ?_)
      refine hG.aload dX2_anchorsIn_23 rfl ?_
      refine hG.callF dX2_anchorsIn_25 kf_X2_57_J15 (Rcv.raw up1_s cl_J15) cl_J15 (sp_J15_next hΓ hx ((up1_n hita.symm).trans h.h2) up1_s) rfl rfl (Nat.le_of_ble_eq_true rfl) (by decide) (by omega) (by omega) (fun r25 I25 L25 hI25 h25 => ?_) (fun _ _ _ _ _ h => h.elim)
      obtain ⟨rfl, rfl, rfl⟩ := h25
      rw [up1_up1]
      refine hG.castS dX2_anchorsIn_30 q656 (Rcv.imm hxc cl_X8) cl_X8 ?_
      refine hG.astore dX2_anchorsIn_33 (by decide) ?_
      refine hG.iload_n dX2_anchorsIn_35 rfl ?_
      refine hG.aload dX2_anchorsIn_36 rfl ?_
      refine hG.get dX2_anchorsIn_38 fg_X2_128_X8 (Or.inr hxc) rfl ?_
      refine hG.iload_n dX2_anchorsIn_41 rfl ?_
      refine hG.icmp_ne (tgt := 61) dX2_anchorsIn_42 rfl (fun c_42 => ?_) (fun c_42 => ?_)
      · refine hG.iconst (v := 0) dX2_anchorsIn_61 rfl ?_
        refine hG.iadd dX2_anchorsIn_62 ?_
        refine hG.istore_n dX2_anchorsIn_63 (by decide) ?_
        refine hG.goto (tgt := 13) dX2_anchorsIn_64 rfl ?_
        refine hG.lsb [(1, .int ch), (2, .int (b2i hd)), (3, .int (acc + (if c.1 = ch ∧ (hd = false ∨ holdsA c = true) then 1 else 0))), (4, .ref it)] ⟨rfl, rfl, (by first | exact stepN (fun e => c_42 e.1) | exact stepP ⟨c_42, Or.inl (b2i_0 c_46)⟩ | exact stepN (fun e => e.2.elim (bTF (b2i_1 c_46)) (bFT (show holdsA c = false from b2i_0 c_54))) | exact stepP ⟨c_42, Or.inr (b2i_1 c_54)⟩), rfl, trivial⟩ (ih (i + 1) _ _ (by omega) ?_)
        rw [hacc]
        unfold inChan
        rw [foldl_take hc]
      · refine hG.iload_n dX2_anchorsIn_45 rfl ?_
        refine hG.if_eq (tgt := 57) dX2_anchorsIn_46 rfl (fun c_46 => ?_) (fun c_46 => ?_)
        · refine hG.iconst (v := 1) dX2_anchorsIn_57 rfl ?_
          refine hG.goto (tgt := 62) dX2_anchorsIn_58 rfl ?_
          refine hG.iadd dX2_anchorsIn_62 ?_
          refine hG.istore_n dX2_anchorsIn_63 (by decide) ?_
          refine hG.goto (tgt := 13) dX2_anchorsIn_64 rfl ?_
          refine hG.lsb [(1, .int ch), (2, .int (b2i hd)), (3, .int (acc + (if c.1 = ch ∧ (hd = false ∨ holdsA c = true) then 1 else 0))), (4, .ref it)] ⟨rfl, rfl, (by first | exact stepN (fun e => c_42 e.1) | exact stepP ⟨c_42, Or.inl (b2i_0 c_46)⟩ | exact stepN (fun e => e.2.elim (bTF (b2i_1 c_46)) (bFT (show holdsA c = false from b2i_0 c_54))) | exact stepP ⟨c_42, Or.inr (b2i_1 c_54)⟩), rfl, trivial⟩ (ih (i + 1) _ _ (by omega) ?_)
          rw [hacc]
          unfold inChan
          rw [foldl_take hc]
        · refine hG.aload dX2_anchorsIn_49 rfl ?_
          refine hG.callV dX2_anchorsIn_51 kv_X2_153 (Rcv.imm hxc cl_X8) (sp_X8_holds hΓ (Or.inr hxc)) rfl rfl (Nat.le_of_ble_eq_true rfl) (by decide) (by omega) (by omega) (fun r51 I51 L51 hI51 h51 => ?_) (fun _ _ _ _ _ h => h.elim)
          obtain ⟨rfl, rfl, rfl⟩ := h51
          refine hG.if_eq (tgt := 61) dX2_anchorsIn_54 rfl (fun c_54 => ?_) (fun c_54 => ?_)
          · refine hG.iconst (v := 0) dX2_anchorsIn_61 rfl ?_
            refine hG.iadd dX2_anchorsIn_62 ?_
            refine hG.istore_n dX2_anchorsIn_63 (by decide) ?_
            refine hG.goto (tgt := 13) dX2_anchorsIn_64 rfl ?_
            refine hG.lsb [(1, .int ch), (2, .int (b2i hd)), (3, .int (acc + (if c.1 = ch ∧ (hd = false ∨ holdsA c = true) then 1 else 0))), (4, .ref it)] ⟨rfl, rfl, (by first | exact stepN (fun e => c_42 e.1) | exact stepP ⟨c_42, Or.inl (b2i_0 c_46)⟩ | exact stepN (fun e => e.2.elim (bTF (b2i_1 c_46)) (bFT (show holdsA c = false from b2i_0 c_54))) | exact stepP ⟨c_42, Or.inr (b2i_1 c_54)⟩), rfl, trivial⟩ (ih (i + 1) _ _ (by omega) ?_)
            rw [hacc]
            unfold inChan
            rw [foldl_take hc]
          · refine hG.iconst (v := 1) dX2_anchorsIn_57 rfl ?_
            refine hG.goto (tgt := 62) dX2_anchorsIn_58 rfl ?_
            refine hG.iadd dX2_anchorsIn_62 ?_
            refine hG.istore_n dX2_anchorsIn_63 (by decide) ?_
            refine hG.goto (tgt := 13) dX2_anchorsIn_64 rfl ?_
            refine hG.lsb [(1, .int ch), (2, .int (b2i hd)), (3, .int (acc + (if c.1 = ch ∧ (hd = false ∨ holdsA c = true) then 1 else 0))), (4, .ref it)] ⟨rfl, rfl, (by first | exact stepN (fun e => c_42 e.1) | exact stepP ⟨c_42, Or.inl (b2i_0 c_46)⟩ | exact stepN (fun e => e.2.elim (bTF (b2i_1 c_46)) (bFT (show holdsA c = false from b2i_0 c_54))) | exact stepP ⟨c_42, Or.inr (b2i_1 c_54)⟩), rfl, trivial⟩ (ih (i + 1) _ _ (by omega) ?_)
            rw [hacc]
            unfold inChan
            rw [foldl_take hc]
  exact hG.lsb [(1, .int ch), (2, .int (b2i hd)), (3, .int 0), (4, .ref it)] ⟨rfl, rfl, rfl, rfl, trivial⟩ (loop _ 0 _ _ (Nat.zero_add _) rfl)
set_option maxHeartbeats 4000000 in
set_option maxRecDepth 100000 in
theorem sp_X2_holding {l : Launch} {s0 : State} {D : va_G} {I : AI} {L : AL} {dE ca : Nat} {ad : Nat → Nat} {r : Nat} {R : Rv} {A : RA} (hΓ : Gam l s0 D) (hZ : Std s0 D dE ca ad) (h : RvO dE I L r R A) : Spc l s0 D yX2_holding 6 [.ref r] I L 1 4 (pV (.int (holdN R.an)) I L) noX := by
  refine Spc.of hΓ cX2_holding 4 (some FieldType.int) q2071 (by decide +kernel) (by decide) (Nat.le_of_ble_eq_true rfl) (fun G GX hG => ?_)
  refine hG.peek h.h2 (fun J9 S9 _ hli => ?_)
  have hl10 : A.zs.length ≤ 10 := hli.1
  have hll := h.e2.len
  refine hG.iconst (v := 0) dX2_holding_0 rfl ?_
  refine hG.istore_n dX2_holding_1 (by decide) ?_
  refine hG.aload_n dX2_holding_2 rfl ?_
  refine hG.get dX2_holding_3 fg_X2_21_X2 (Or.inl h.h) rfl ?_
  refine hG.callF dX2_holding_6 kf_X2_45_J2 (Rcv.li h.h2) cl_J2 (sp_J2_iterator hΓ h.h2) rfl rfl (Nat.le_of_ble_eq_true rfl) (by decide) (by omega) (by omega) (fun r6 I6 L6 hI6 h6 => ?_) (fun _ _ _ _ _ h => h.elim)
  obtain ⟨rfl, it, hita, hit, rfl, rfl⟩ := h6
  refine hG.astore_n dX2_holding_11 (by decide) ?_
  have loop : ∀ (w i : Nat) (acc lr : Int32), i + w = R.an.length → acc = holdN (R.an.take i) → G 12 [(1, .int acc), (2, .ref it)] [] I (up1 L it (some (obC ciJ15 [.int (nI i), .int lr, .int A.m2, .ref A.a2]))) 1 4 := by
    intro w
    induction w with
    | zero =>
      intro i acc lr hiw hacc
      refine hG.aload_n dX2_holding_12 rfl ?_
      refine hG.callF dX2_holding_13 kf_X2_51_J15 (Rcv.raw up1_s cl_J15) cl_J15 (sp_J15_hasNext hΓ (by omega) ((up1_n hita.symm).trans h.h2) up1_s) rfl rfl (Nat.le_of_ble_eq_true rfl) (by decide) (by omega) (by omega) (fun r13 I13 L13 hI13 h13 => ?_) (fun _ _ _ _ _ h => h.elim)
      obtain ⟨rfl, rfl, rfl⟩ := h13
      refine hG.if_eq (tgt := 49) dX2_holding_18 rfl (fun c_18 => ?_) (fun c_18 => absurd (by rw [decide_eq_false (by omega)]; rfl) c_18)
      refine hG.sub (S := L) (fun q x hq => (up1_n (fun e => by subst e; rw [hit] at hq; cases hq)).trans hq) ?_
      refine hG.iload_n dX2_holding_49 rfl ?_
      refine hG.iret dX2_holding_50 rfl ?_ (by omega) (by omega) trivial
      exact ⟨by rw [hacc, List.take_of_length_le (by omega)], rfl, rfl⟩
    | succ w ih =>
      intro i acc lr hiw hacc
      obtain ⟨c, hc, -⟩ := get_lt (show i < R.an.length by omega)
      obtain ⟨x, hx, hxc⟩ := h.e2.get hc
      refine hG.aload_n dX2_holding_12 rfl ?_
      refine hG.callF dX2_holding_13 kf_X2_51_J15 (Rcv.raw up1_s cl_J15) cl_J15 (sp_J15_hasNext hΓ (by omega) ((up1_n hita.symm).trans h.h2) up1_s) rfl rfl (Nat.le_of_ble_eq_true rfl) (by decide) (by omega) (by omega) (fun r13 I13 L13 hI13 h13 => ?_) (fun _ _ _ _ _ h => h.elim)
      obtain ⟨rfl, rfl, rfl⟩ := h13
      refine hG.if_eq (tgt := 49) dX2_holding_18 rfl (fun c_18 => absurd c_18 (by rw [decide_eq_true (by omega)]; decide)) (fun c_18 => ?_)
      refine hG.aload_n dX2_holding_21 rfl ?_
      refine hG.callF dX2_holding_22 kf_X2_57_J15 (Rcv.raw up1_s cl_J15) cl_J15 (sp_J15_next hΓ hx ((up1_n hita.symm).trans h.h2) up1_s) rfl rfl (Nat.le_of_ble_eq_true rfl) (by decide) (by omega) (by omega) (fun r22 I22 L22 hI22 h22 => ?_) (fun _ _ _ _ _ h => h.elim)
      obtain ⟨rfl, rfl, rfl⟩ := h22
      rw [up1_up1]
      refine hG.castS dX2_holding_27 q656 (Rcv.imm hxc cl_X8) cl_X8 ?_
      refine hG.astore_n dX2_holding_30 (by decide) ?_
      refine hG.iload_n dX2_holding_31 rfl ?_
      refine hG.aload_n dX2_holding_32 rfl ?_
      refine hG.callV dX2_holding_33 kv_X2_153 (Rcv.imm hxc cl_X8) (sp_X8_holds hΓ (Or.inr hxc)) rfl rfl (Nat.le_of_ble_eq_true rfl) (by decide) (by omega) (by omega) (fun r33 I33 L33 hI33 h33 => ?_) (fun _ _ _ _ _ h => h.elim)
      obtain ⟨rfl, rfl, rfl⟩ := h33
      refine hG.if_eq (tgt := 43) dX2_holding_36 rfl (fun c_36 => ?_) (fun c_36 => ?_)
      · refine hG.iconst (v := 0) dX2_holding_43 rfl ?_
        refine hG.iadd dX2_holding_44 ?_
        refine hG.istore_n dX2_holding_45 (by decide) ?_
        refine hG.goto (tgt := 12) dX2_holding_46 rfl ?_
        refine hG.lsb [(1, .int (acc + (if holdsA c = true then 1 else 0))), (2, .ref it)] ⟨(by first | exact stepN (bFT (show holdsA c = false from b2i_0 c_36)) | exact stepP (b2i_1 c_36)), rfl, trivial⟩ (ih (i + 1) _ _ (by omega) ?_)
        rw [hacc]
        unfold holdN
        rw [foldl_take hc]
      · refine hG.iconst (v := 1) dX2_holding_39 rfl ?_
        refine hG.goto (tgt := 44) dX2_holding_40 rfl ?_
        refine hG.iadd dX2_holding_44 ?_
        refine hG.istore_n dX2_holding_45 (by decide) ?_
        refine hG.goto (tgt := 12) dX2_holding_46 rfl ?_
        refine hG.lsb [(1, .int (acc + (if holdsA c = true then 1 else 0))), (2, .ref it)] ⟨(by first | exact stepN (bFT (show holdsA c = false from b2i_0 c_36)) | exact stepP (b2i_1 c_36)), rfl, trivial⟩ (ih (i + 1) _ _ (by omega) ?_)
        rw [hacc]
        unfold holdN
        rw [foldl_take hc]
  exact hG.lsb [(1, .int 0), (2, .ref it)] ⟨rfl, rfl, trivial⟩ (loop _ 0 _ _ (Nat.zero_add _) rfl)
