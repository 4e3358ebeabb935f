theorem ldP {ch s : Int32} {a : T3} (h : a.1 = ch ∧ holdsA a = true ∧ (s = -1 ∨ a.2.2 < s)) : some (Value.int a.2.2) = some (Value.int (ldStep ch s a)) := by rw [ldStep, if_pos h]
theorem ldN {ch s : Int32} {a : T3} (h : ¬ (a.1 = ch ∧ holdsA a = true ∧ (s = -1 ∨ a.2.2 < s))) : some (Value.int s) = some (Value.int (ldStep ch s a)) := by rw [ldStep, if_neg h]
theorem fg_X2_156_X8 : LkG RX2 156 ciX8 2 := ⟨RX8, TX8, 3, tyX8, _, cls_X8, by decide, Or.inl rfl, Or.inr ⟨_, q1736⟩⟩
set_option maxHeartbeats 4000000 in
set_option maxRecDepth 100000 in
theorem sp_X2_leastDrag {l : Launch} {s0 : State} {D : va_G} {I : AI} {L : AL} {dE ca : Nat} {ad : Nat → Nat} {r : Nat} {R : Rv} {A : RA} (hΓ : Gam l s0 D) (hZ : Std s0 D dE ca ad) (h : RvO dE I L r R A) {ch : Int32} : Spc l s0 D yX2_leastDrag 6 [.ref r, .int ch] I L 1 4 (pV (.int (leastD R.an ch)) I L) noX := by
  refine Spc.of hΓ cX2_leastDrag 6 (some FieldType.int) q1875 (by decide +kernel) (by decide) (Nat.le_of_ble_eq_true rfl) (fun G GX hG => ?_)
  refine hG.peek h.h2 (fun J9 S9 _ hli => ?_)
  have hl10 : A.zs.length ≤ 10 := hli.1
  have hll := h.e2.len
  refine hG.iconst (v := -1) dX2_leastDrag_0 rfl ?_
  refine hG.istore_n dX2_leastDrag_1 (by decide) ?_
  refine hG.aload_n dX2_leastDrag_2 rfl ?_
  refine hG.get dX2_leastDrag_3 fg_X2_21_X2 (Or.inl h.h) rfl ?_
  refine hG.callF dX2_leastDrag_6 kf_X2_45_J2 (Rcv.li h.h2) cl_J2 (sp_J2_iterator hΓ h.h2) rfl rfl (Nat.le_of_ble_eq_true rfl) (by decide) (by omega) (by omega) (fun r6 I6 L6 hI6 h6 => ?_) (fun _ _ _ _ _ h => h.elim)
  obtain ⟨rfl, it, hita, hit, rfl, rfl⟩ := h6
  refine hG.astore_n dX2_leastDrag_11 (by decide) ?_
  have loop : ∀ (w i : Nat) (acc lr : Int32), i + w = R.an.length → acc = leastD (R.an.take i) ch → G 12 [(1, .int ch), (2, .int acc), (3, .ref it)] [] I (up1 L it (some (obC ciJ15 [.int (nI i), .int lr, .int A.m2, .ref A.a2]))) 1 4 := by
    intro w
    induction w with
    | zero =>
      intro i acc lr hiw hacc
      refine hG.aload_n dX2_leastDrag_12 rfl ?_
      refine hG.callF dX2_leastDrag_13 kf_X2_51_J15 (Rcv.raw up1_s cl_J15) cl_J15 (sp_J15_hasNext hΓ (by omega) ((up1_n hita.symm).trans h.h2) up1_s) rfl rfl (Nat.le_of_ble_eq_true rfl) (by decide) (by omega) (by omega) (fun r13 I13 L13 hI13 h13 => ?_) (fun _ _ _ _ _ h => h.elim)
      obtain ⟨rfl, rfl, rfl⟩ := h13
      refine hG.if_eq (tgt := 88) dX2_leastDrag_18 rfl (fun c_18 => ?_) (fun c_18 => absurd (by rw [decide_eq_false (by omega)]; rfl) c_18)
      refine hG.sub (S := L) (fun q x hq => (up1_n (fun e => by subst e; rw [hit] at hq; cases hq)).trans hq) ?_
      refine hG.iload_n dX2_leastDrag_88 rfl ?_
      refine hG.iret dX2_leastDrag_89 rfl ?_ (by omega) (by omega) trivial
      exact ⟨by rw [hacc, List.take_of_length_le (by omega)], rfl, rfl⟩
    | succ w ih =>
      intro i acc lr hiw hacc
      obtain ⟨c, hc, -⟩ := get_lt (show i < R.an.length by omega)
      obtain ⟨x, hx, hxc⟩ := h.e2.get hc
      refine hG.aload_n dX2_leastDrag_12 rfl ?_
      refine hG.callF dX2_leastDrag_13 kf_X2_51_J15 (Rcv.raw up1_s cl_J15) cl_J15 (sp_J15_hasNext hΓ (by omega) ((up1_n hita.symm).trans h.h2) up1_s) rfl rfl (Nat.le_of_ble_eq_true rfl) (by decide) (by omega) (by omega) (fun r13 I13 L13 hI13 h13 => ?_) (fun _ _ _ _ _ h => h.elim)
      obtain ⟨rfl, rfl, rfl⟩ := h13
      refine hG.if_eq (tgt := 88) dX2_leastDrag_18 rfl (fun c_18 => absurd c_18 (by rw [decide_eq_true (by omega)]; decide)) (fun c_18 => ?_)
      refine hG.aload_n dX2_leastDrag_21 rfl ?_
      refine hG.callF dX2_leastDrag_22 kf_X2_57_J15 (Rcv.raw up1_s cl_J15) cl_J15 (sp_J15_next hΓ hx ((up1_n hita.symm).trans h.h2) up1_s) rfl rfl (Nat.le_of_ble_eq_true rfl) (by decide) (by omega) (by omega) (fun r22 I22 L22 hI22 h22 => ?_) (fun _ _ _ _ _ h => h.elim)
      obtain ⟨rfl, rfl, rfl⟩ := h22
      rw [up1_up1]
      refine hG.castS dX2_leastDrag_27 q656 (Rcv.imm hxc cl_X8) cl_X8 ?_
      have k68 : ∀ b : Bool, (b = true ↔ (c.1 = ch ∧ holdsA c = true ∧ (acc = -1 ∨ c.2.2 < acc))) → G 68 [(1, .int ch), (2, .int acc), (3, .ref it), (4, .ref x)] [.int (b2i b)] I (up1 L it (some (obC ciJ15 [.int (nI (i + 1)), .int (nI i), .int A.m2, .ref A.a2]))) 1 4 := by
        intro b hb
        cases b with
        | false =>
          refine hG.istore dX2_leastDrag_68 (by decide) ?_
          refine hG.iload dX2_leastDrag_70 rfl ?_
          refine hG.if_eq (tgt := 83) dX2_leastDrag_72 rfl (fun c_72 => ?_) (fun c_72 => absurd rfl c_72)
          refine hG.iload_n dX2_leastDrag_83 rfl ?_
          refine hG.istore_n dX2_leastDrag_84 (by decide) ?_
          refine hG.goto (tgt := 12) dX2_leastDrag_85 rfl ?_
          refine hG.lsb [(1, .int ch), (2, .int (ldStep ch acc c)), (3, .ref it)] ⟨rfl, (by first | exact ldP (hb.mp rfl) | exact ldN (fun q => Bool.noConfusion (hb.mpr q))), rfl, trivial⟩ (ih (i + 1) _ _ (by omega) ?_)
          rw [hacc]
          unfold leastD
          rw [foldl_take hc]
        | true =>
          refine hG.istore dX2_leastDrag_68 (by decide) ?_
          refine hG.iload dX2_leastDrag_70 rfl ?_
          refine hG.if_eq (tgt := 83) dX2_leastDrag_72 rfl (fun c_72 => absurd c_72 (by decide)) (fun c_72 => ?_)
          refine hG.aload dX2_leastDrag_75 rfl ?_
          refine hG.get dX2_leastDrag_77 fg_X2_156_X8 (Or.inr hxc) rfl ?_
          refine hG.goto (tgt := 84) dX2_leastDrag_80 rfl ?_
          refine hG.istore_n dX2_leastDrag_84 (by decide) ?_
          refine hG.goto (tgt := 12) dX2_leastDrag_85 rfl ?_
          refine hG.lsb [(1, .int ch), (2, .int (ldStep ch acc c)), (3, .ref it)] ⟨rfl, (by first | exact ldP (hb.mp rfl) | exact ldN (fun q => Bool.noConfusion (hb.mpr q))), rfl, trivial⟩ (ih (i + 1) _ _ (by omega) ?_)
          rw [hacc]
          unfold leastD
          rw [foldl_take hc]
      refine hG.astore dX2_leastDrag_30 (by decide) ?_
      refine hG.aload dX2_leastDrag_32 rfl ?_
      refine hG.get dX2_leastDrag_34 fg_X2_128_X8 (Or.inr hxc) rfl ?_
      refine hG.iload_n dX2_leastDrag_37 rfl ?_
      refine hG.icmp_ne (tgt := 67) dX2_leastDrag_38 rfl (fun c_38 => ?_) (fun c_38 => ?_)
      · refine hG.iconst (v := 0) dX2_leastDrag_67 rfl ?_
        exact hG.lsb [(1, .int ch), (2, .int acc), (3, .ref it), (4, .ref x)] ⟨rfl, rfl, rfl, rfl, trivial⟩ (by first | exact k68 false ⟨(fun e => nomatch e), fun e => absurd e.1 c_38⟩ | exact k68 false ⟨(fun e => nomatch e), fun e => (bFT (show holdsA c = false from b2i_0 c_46) e.2.1).elim⟩ | exact k68 true ⟨fun _ => ⟨c_38, b2i_1 c_46, Or.inl c_51⟩, fun _ => rfl⟩ | exact k68 false ⟨(fun e => nomatch e), fun e => (e.2.2.elim c_51 (fun q => lt_not.mp q c_60)).elim⟩ | exact k68 true ⟨fun _ => ⟨c_38, b2i_1 c_46, Or.inr (lt_not.mpr c_60)⟩, fun _ => rfl⟩)
      · refine hG.aload dX2_leastDrag_41 rfl ?_
        refine hG.callV dX2_leastDrag_43 kv_X2_153 (Rcv.imm hxc cl_X8) (sp_X8_holds hΓ (Or.inr hxc)) rfl rfl (Nat.le_of_ble_eq_true rfl) (by decide) (by omega) (by omega) (fun r43 I43 L43 hI43 h43 => ?_) (fun _ _ _ _ _ h => h.elim)
        obtain ⟨rfl, rfl, rfl⟩ := h43
        refine hG.if_eq (tgt := 67) dX2_leastDrag_46 rfl (fun c_46 => ?_) (fun c_46 => ?_)
        · refine hG.iconst (v := 0) dX2_leastDrag_67 rfl ?_
          exact hG.lsb [(1, .int ch), (2, .int acc), (3, .ref it), (4, .ref x)] ⟨rfl, rfl, rfl, rfl, trivial⟩ (by first | exact k68 false ⟨(fun e => nomatch e), fun e => absurd e.1 c_38⟩ | exact k68 false ⟨(fun e => nomatch e), fun e => (bFT (show holdsA c = false from b2i_0 c_46) e.2.1).elim⟩ | exact k68 true ⟨fun _ => ⟨c_38, b2i_1 c_46, Or.inl c_51⟩, fun _ => rfl⟩ | exact k68 false ⟨(fun e => nomatch e), fun e => (e.2.2.elim c_51 (fun q => lt_not.mp q c_60)).elim⟩ | exact k68 true ⟨fun _ => ⟨c_38, b2i_1 c_46, Or.inr (lt_not.mpr c_60)⟩, fun _ => rfl⟩)
        · refine hG.iload_n dX2_leastDrag_49 rfl ?_
          refine hG.iconst (v := -1) dX2_leastDrag_50 rfl ?_
          refine hG.icmp_eq (tgt := 63) dX2_leastDrag_51 rfl (fun c_51 => ?_) (fun c_51 => ?_)
          · refine hG.iconst (v := 1) dX2_leastDrag_63 rfl ?_
            refine hG.goto (tgt := 68) dX2_leastDrag_64 rfl ?_
            exact hG.lsb [(1, .int ch), (2, .int acc), (3, .ref it), (4, .ref x)] ⟨rfl, rfl, rfl, rfl, trivial⟩ (by first | exact k68 false ⟨(fun e => nomatch e), fun e => absurd e.1 c_38⟩ | exact k68 false ⟨(fun e => nomatch e), fun e => (bFT (show holdsA c = false from b2i_0 c_46) e.2.1).elim⟩ | exact k68 true ⟨fun _ => ⟨c_38, b2i_1 c_46, Or.inl c_51⟩, fun _ => rfl⟩ | exact k68 false ⟨(fun e => nomatch e), fun e => (e.2.2.elim c_51 (fun q => lt_not.mp q c_60)).elim⟩ | exact k68 true ⟨fun _ => ⟨c_38, b2i_1 c_46, Or.inr (lt_not.mpr c_60)⟩, fun _ => rfl⟩)
          · refine hG.aload dX2_leastDrag_54 rfl ?_
            refine hG.get dX2_leastDrag_56 fg_X2_156_X8 (Or.inr hxc) rfl ?_
            refine hG.iload_n dX2_leastDrag_59 rfl ?_
            refine hG.icmp_ge (tgt := 67) dX2_leastDrag_60 rfl (fun c_60 => ?_) (fun c_60 => ?_)
            · refine hG.iconst (v := 0) dX2_leastDrag_67 rfl ?_
              exact hG.lsb [(1, .int ch), (2, .int acc), (3, .ref it), (4, .ref x)] ⟨rfl, rfl, rfl, rfl, trivial⟩ (by first | exact k68 false ⟨(fun e => nomatch e), fun e => absurd e.1 c_38⟩ | exact k68 false ⟨(fun e => nomatch e), fun e => (bFT (show holdsA c = false from b2i_0 c_46) e.2.1).elim⟩ | exact k68 true ⟨fun _ => ⟨c_38, b2i_1 c_46, Or.inl c_51⟩, fun _ => rfl⟩ | exact k68 false ⟨(fun e => nomatch e), fun e => (e.2.2.elim c_51 (fun q => lt_not.mp q c_60)).elim⟩ | exact k68 true ⟨fun _ => ⟨c_38, b2i_1 c_46, Or.inr (lt_not.mpr c_60)⟩, fun _ => rfl⟩)
            · refine hG.iconst (v := 1) dX2_leastDrag_63 rfl ?_
              refine hG.goto (tgt := 68) dX2_leastDrag_64 rfl ?_
              exact hG.lsb [(1, .int ch), (2, .int acc), (3, .ref it), (4, .ref x)] ⟨rfl, rfl, rfl, rfl, trivial⟩ (by first | exact k68 false ⟨(fun e => nomatch e), fun e => absurd e.1 c_38⟩ | exact k68 false ⟨(fun e => nomatch e), fun e => (bFT (show holdsA c = false from b2i_0 c_46) e.2.1).elim⟩ | exact k68 true ⟨fun _ => ⟨c_38, b2i_1 c_46, Or.inl c_51⟩, fun _ => rfl⟩ | exact k68 false ⟨(fun e => nomatch e), fun e => (e.2.2.elim c_51 (fun q => lt_not.mp q c_60)).elim⟩ | exact k68 true ⟨fun _ => ⟨c_38, b2i_1 c_46, Or.inr (lt_not.mpr c_60)⟩, fun _ => rfl⟩)
  exact hG.lsb [(1, .int ch), (2, .int (-1)), (3, .ref it)] ⟨rfl, rfl, rfl, trivial⟩ (loop _ 0 _ _ (Nat.zero_add _) rfl)
