theorem fg_X2_301_X9 : LkG RX2 301 ciX9 1 := ⟨RX9, TX9, 3, tyX9, _, cls_X9, by decide, Or.inl rfl, Or.inr ⟨_, q1768⟩⟩
theorem fg_X2_27_X2 : LkG RX2 27 ciX2 3 := ⟨RX2, TX2, 13, tyX2, _, cls_X2, by decide, Or.inl rfl, Or.inl q259⟩
set_option maxHeartbeats 4000000 in
set_option maxRecDepth 100000 in
theorem sp_X2_waitingAt {l : Launch} {s0 : State} {D : va_G} {I : AI} {L : AL} {dE ca : Nat} {ad : Nat → Nat} {r b : Nat} {u : Tal} {f0 f1 f2 f4 f5 f6 f7 f8 f9 f10 f11 f12 : Value} {st : Int32} (hΓ : Gam l s0 D) (hZ : Std s0 D dE ca ad) (h0 : L r = some (obC ciX2 [f0, f1, f2, .ref b, f4, f5, f6, f7, f8, f9, f10, f11, f12])) (h1 : L b = some (taC u)) : Spc l s0 D yX2_waitingAt 7 [.ref r, .int st] I L 2 7 (fun q I' L' => q = some (.int (wsum st u)) ∧ L = L') noX := by
  refine Spc.of hΓ cX2_waitingAt 5 (some FieldType.int) q2807 (by decide +kernel) (by decide) (Nat.le_of_ble_eq_true rfl) (fun G GX hG => ?_)
  refine hG.iconst (v := 0) dX2_waitingAt_0 rfl ?_
  refine hG.istore_n dX2_waitingAt_1 (by decide) ?_
  refine hG.aload_n dX2_waitingAt_2 rfl ?_
  refine hG.get dX2_waitingAt_3 fg_X2_27_X2 (Or.inl h0) rfl ?_
  refine hG.opT h1 (fun mp mo es M hne hMa hMm ht hnc hlt hf => ?_)
  subst ht
  refine hG.get dX2_waitingAt_6 fg_X2_190_X3 (Or.inl hMa) rfl ?_
  refine hG.callV dX2_waitingAt_9 kv_X2_194 (Rcv.mp hMm) (sp_J5_entrySet hΓ hMm) rfl rfl (Nat.le_of_ble_eq_true rfl) (by decide) (by omega) (by omega) (fun r9 I9 L9 hI9 h9 => ?_) (fun _ _ _ _ _ h => h.elim)
  obtain ⟨rfl, q, rfl, hq⟩ := h9
  refine hG.callF dX2_waitingAt_12 kf_X2_200_J21 (Rcv.imm hq cl_J21) cl_J21 (sp_J21_iterator hΓ hq hMm) rfl rfl (Nat.le_of_ble_eq_true rfl) (by decide) (by omega) (by omega) (fun r12 I12 L12 hI12 h12 => ?_) (fun _ _ _ _ _ h => h.elim)
  obtain ⟨rfl, it, hit, hitm, rfl, rfl⟩ := h12
  refine hG.astore_n dX2_waitingAt_17 (by decide) ?_
  obtain ⟨I2, hI2⟩ : ∃ I2, I2 = I9 := ⟨_, rfl⟩
  rw [← hI2]
  have loop : ∀ (r i : Nat) (acc : Int32) (cv : Value), i + r = es.length → acc = wsum st (tal (es.take i)) → G 18 [(1, .int st), (2, .int acc), (3, .ref it)] [] I2 (up1 M it (some (obC ciJ23 [va_rf (ads es)[i]?, cv, .int (mo), .int 0, .ref mp]))) 2 7 := by
    intro r
    induction r with
    | zero =>
      intro i acc cv hir hacc
      have hi : es.length = i := by omega
      rw [ads_end (by omega)]
      refine hG.aload_n dX2_waitingAt_18 rfl ?_
      refine hG.callF dX2_waitingAt_19 kf_X2_51_J23 (Rcv.raw up1_s cl_J23) cl_J23 (sp_J22_hasNext hΓ up1_s) rfl rfl (Nat.le_of_ble_eq_true rfl) (by decide) (by omega) (by omega) (fun r19 I19 L19 hI19 h19 => ?_) (fun _ _ _ _ _ h => h.elim)
      obtain ⟨rfl, rfl, rfl⟩ := h19
      refine hG.if_eq (tgt := 92) dX2_waitingAt_24 rfl (fun c_24 => ?_) (fun c_24 => absurd rfl c_24)
      refine hG.sub (S := M) (fun q x hq => (up1_n (fun e => by subst e; rw [hit] at hq; cases hq)).trans hq) ?_
      refine hG.clT L _ hne hMa hMm rfl hf ?_
      rw [← h1, up1_self]
      refine hG.iload_n dX2_waitingAt_92 rfl ?_
      refine hG.iret dX2_waitingAt_93 rfl ?_ (by omega) (by omega) trivial
      exact ⟨by rw [hacc, List.take_of_length_le (by omega)], rfl⟩
    | succ r ih =>
      intro i acc cv hir hacc
      obtain ⟨x, hx, hxm⟩ := get_lt (show i < es.length by omega)
      refine hG.aload_n dX2_waitingAt_18 rfl ?_
      refine hG.callF dX2_waitingAt_19 kf_X2_51_J23 (Rcv.raw up1_s cl_J23) cl_J23 (sp_J22_hasNext hΓ up1_s) rfl rfl (Nat.le_of_ble_eq_true rfl) (by decide) (by omega) (by omega) (fun r19 I19 L19 hI19 h19 => ?_) (fun _ _ _ _ _ h => h.elim)
      obtain ⟨rfl, rfl, rfl⟩ := h19
      refine hG.if_eq (tgt := 92) dX2_waitingAt_24 rfl (fun c_24 => absurd c_24 (by rw [ads_get hx]; exact (by decide : ¬ b2i true = 0))) (fun c_24 => ?_)
      refine hG.aload_n dX2_waitingAt_27 rfl ?_
      refine hG.callF dX2_waitingAt_28 kf_X2_57_J23 (Rcv.raw up1_s cl_J23) cl_J23 (sp_J23_next hΓ hx ((up1_n hitm.symm).trans hMm) up1_s) rfl rfl (Nat.le_of_ble_eq_true rfl) (by decide) (by omega) (by omega) (fun r28 I28 L28 hI28 h28 => ?_) (fun _ _ _ _ _ h => h.elim)
      obtain ⟨rfl, rfl, rfl⟩ := h28
      rw [up1_up1]
      have h0m : ∀ c, (up1 M it c) mp = _ := fun c => (up1_n hitm.symm).trans hMm
      refine hG.castY dX2_waitingAt_33 q2043 (Rcv.en (h0m _) hxm) q739 ?_
      refine hG.astore dX2_waitingAt_36 (by decide) ?_
      refine hG.iload_n dX2_waitingAt_38 rfl ?_
      refine hG.aload dX2_waitingAt_39 rfl ?_
      refine hG.callF dX2_waitingAt_41 kf_X2_205_J31 (Rcv.en (h0m _) hxm) cl_J31 (sp_J30_getKey hΓ (h0m _) hxm) rfl rfl (Nat.le_of_ble_eq_true rfl) (by decide) (by omega) (by omega) (fun r41 I41 L41 hI41 h41 => ?_) (fun _ _ _ _ _ h => h.elim)
      obtain ⟨rfl, rfl, g, rfl, hg⟩ := h41
      refine hG.castS dX2_waitingAt_46 q2046 (Rcv.imm hg cl_X9) cl_X9 ?_
      refine hG.get dX2_waitingAt_49 fg_X2_301_X9 (Or.inr hg) rfl ?_
      refine hG.iload_n dX2_waitingAt_52 rfl ?_
      refine hG.icmp_ne (tgt := 86) dX2_waitingAt_53 rfl (fun c_53 => ?_) (fun c_53 => ?_)
      · refine hG.iconst (v := 0) dX2_waitingAt_86 rfl ?_
        refine hG.iadd dX2_waitingAt_87 ?_
        refine hG.istore_n dX2_waitingAt_88 (by decide) ?_
        refine hG.goto (tgt := 18) dX2_waitingAt_89 rfl ?_
        refine hG.lsb [(1, .int st), (2, .int (acc + (if nI (x.2.1 / 7 % 7) = st then x.2.2 * wgt x.2.1 else 0))), (3, .ref it)] ⟨rfl, by first | (rw [if_neg c_53]; rfl) | (rw [if_pos (by simpa using c_53)]; rfl), rfl, trivial⟩ (ih (i + 1) _ _ (by omega) ?_)
        rw [hacc, take_next hx]
        show _ = wsum st (List.map (·.2) (es.take i ++ [x]))
        rw [List.map_append]
        exact (wsum_app st _ _).symm
      · refine hG.aload dX2_waitingAt_56 rfl ?_
        refine hG.callF dX2_waitingAt_58 kf_X2_214_J31 (Rcv.en (h0m _) hxm) cl_J31 (sp_J30_getValue hΓ (h0m _) hxm) rfl rfl (Nat.le_of_ble_eq_true rfl) (by decide) (by omega) (by omega) (fun r58 I58 L58 hI58 h58 => ?_) (fun _ _ _ _ _ h => h.elim)
        obtain ⟨rfl, rfl, v, rfl, hv⟩ := h58
        refine hG.castS dX2_waitingAt_63 q2049 (Rcv.imm hv cl_J25) cl_J25 ?_
        refine hG.callV dX2_waitingAt_66 kv_X2_219 (Rcv.imm hv cl_J25) (sp_J25_intValue hΓ (Or.inr hv)) rfl rfl (Nat.le_of_ble_eq_true rfl) (by decide) (by omega) (by omega) (fun r66 I66 L66 hI66 h66 => ?_) (fun _ _ _ _ _ h => h.elim)
        obtain ⟨rfl, rfl, rfl⟩ := h66
        refine hG.aload dX2_waitingAt_69 rfl ?_
        refine hG.callF dX2_waitingAt_71 kf_X2_205_J31 (Rcv.en (h0m _) hxm) cl_J31 (sp_J30_getKey hΓ (h0m _) hxm) rfl rfl (Nat.le_of_ble_eq_true rfl) (by decide) (by omega) (by omega) (fun r71 I71 L71 hI71 h71 => ?_) (fun _ _ _ _ _ h => h.elim)
        obtain ⟨rfl, rfl, g2, rfl, hg2⟩ := h71
        refine hG.castS dX2_waitingAt_76 q2046 (Rcv.imm hg2 cl_X9) cl_X9 ?_
        refine hG.callUD dX2_waitingAt_79 rfl hZ.wt (Rcv.imm hg2 cl_X9) (sp_X10_weight hΓ (Or.inr hg2)) rfl (Nat.le_of_ble_eq_true rfl) (by decide) (by omega) (by omega) (fun r79 I79 L79 hI79 h79 => ?_) (fun _ _ _ _ _ h => h.elim)
        obtain ⟨rfl, rfl, rfl⟩ := h79
        refine hG.imul dX2_waitingAt_82 ?_
        refine hG.goto (tgt := 87) dX2_waitingAt_83 rfl ?_
        refine hG.iadd dX2_waitingAt_87 ?_
        refine hG.istore_n dX2_waitingAt_88 (by decide) ?_
        refine hG.goto (tgt := 18) dX2_waitingAt_89 rfl ?_
        refine hG.lsb [(1, .int st), (2, .int (acc + (if nI (x.2.1 / 7 % 7) = st then x.2.2 * wgt x.2.1 else 0))), (3, .ref it)] ⟨rfl, by first | (rw [if_neg c_53]; rfl) | (rw [if_pos (by simpa using c_53)]; rfl), rfl, trivial⟩ (ih (i + 1) _ _ (by omega) ?_)
        rw [hacc, take_next hx]
        show _ = wsum st (List.map (·.2) (es.take i ++ [x]))
        rw [List.map_append]
        exact (wsum_app st _ _).symm
  exact hG.lsb [(1, .int st), (2, .int 0), (3, .ref it)] ⟨rfl, rfl, rfl, trivial⟩ (loop es.length 0 0 .null (by omega) rfl)
